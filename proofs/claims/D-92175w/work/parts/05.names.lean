/-! SharedNightsModel -/
set_option maxRecDepth 100000
def RX9 : String := "SharedNightsModel"
def TX9 : u_T := fun k => match k with
  | 0 => ("SharedNightsModel", "n", "I", false)
  | 1 => ("SharedNightsModel", "tonight", "I", false)
  | 2 => ("SharedNightsModel", "targets", "I", false)
  | 3 => ("SharedNightsModel", "meridian", "[I", true)
  | 4 => ("SharedNightsModel", "reach", "[I", true)
  | 5 => ("SharedNightsModel", "region", "[I", true)
  | 6 => ("SharedNightsModel", "moonRegion", "I", false)
  | 7 => ("SharedNightsModel", "moonFrom", "I", false)
  | 8 => ("SharedNightsModel", "moonTo", "I", false)
  | 9 => ("SharedNightsModel", "sky", "[I", true)
  | 10 => ("SharedNightsModel", "worlds", "I", false)
  | 11 => ("SharedNightsModel", "weight", "[I", true)
  | 12 => ("SharedNightsModel", "bytes", "I", false)
  | 13 => ("SharedNightsModel", "text", "[I", true)
  | 14 => ("SharedNightsModel", "tokens", "I", false)
  | 15 => ("SharedNightsModel", "kind", "[I", true)
  | 16 => ("SharedNightsModel", "value", "[I", true)
  | 17 => ("SharedNightsModel", "place", "[I", true)
  | 18 => ("SharedNightsModel", "faultAt", "I", false)
  | 19 => ("SharedNightsModel", "canStand", "I", false)
  | 20 => ("SharedNightsModel", "read", "[I", true)
  | 21 => ("SharedNightsModel", "plans", "I", false)
  | 22 => ("SharedNightsModel", "plan", "[I", true)
  | 23 => ("SharedNightsModel", "many", "[I", true)
  | 24 => ("SharedNightsModel", "slotsOf", "[I", true)
  | 25 => ("SharedNightsModel", "nextTo", "[I", true)
  | 26 => ("SharedNightsModel", "isBarred", "[Z", true)
  | 27 => ("SharedNightsModel", "bestWorth", "I", false)
  | 28 => ("SharedNightsModel", "bestSlots", "I", false)
  | 29 => ("SharedNightsModel", "choice", "[I", true)
  | 30 => ("SharedNightsModel", "best", "[I", true)
  | 31 => ("SharedNightsModel", "againIs", "I", false)
  | 32 => ("SharedNightsModel", "step", "[I", true)
  | 33 => ("SharedNightsModel", "ended", "[I", true)
  | 34 => ("SharedNightsModel", "wasBroken", "[Z", true)
  | 35 => ("SharedNightsModel", "logOf", "[I", true)
  | 36 => ("SharedNightsModel", "score", "I", false)
  | 37 => ("SharedNightsModel", "shares", "[I", true)
  | 38 => ("SharedNightsModel", "used", "[I", true)
  | 39 => ("SharedNightsModel", "allDone", "I", false)
  | 40 => ("SharedNightsModel", "alertBegin", "I", false)
  | 41 => ("SharedNightsModel", "alertLoss", "I", false)
  | 42 => ("SharedNightsModel", "valueUp", "J", false)
  | _ => ("SharedNightsModel", "valueDown", "J", false)
def tyX9 : Nat → FieldType := fun k => match k with
  | 0 => .int
  | 1 => .int
  | 2 => .int
  | 3 => .array .int
  | 4 => .array .int
  | 5 => .array .int
  | 6 => .int
  | 7 => .int
  | 8 => .int
  | 9 => .array .int
  | 10 => .int
  | 11 => .array .int
  | 12 => .int
  | 13 => .array .int
  | 14 => .int
  | 15 => .array .int
  | 16 => .array .int
  | 17 => .array .int
  | 18 => .int
  | 19 => .int
  | 20 => .array .int
  | 21 => .int
  | 22 => .array .int
  | 23 => .array .int
  | 24 => .array .int
  | 25 => .array .int
  | 26 => .array .boolean
  | 27 => .int
  | 28 => .int
  | 29 => .array .int
  | 30 => .array .int
  | 31 => .int
  | 32 => .array .int
  | 33 => .array .int
  | 34 => .array .boolean
  | 35 => .array .int
  | 36 => .int
  | 37 => .array .int
  | 38 => .array .int
  | 39 => .int
  | 40 => .int
  | 41 => .int
  | 42 => .long
  | _ => .long
abbrev wsX90 : List Cond := u_ws RX9 TX9 44
set_option maxRecDepth 100000 in
theorem nmX9 : ∀ a, a < 44 → ∀ b, b < 44 → a ≠ b → (TX9 a).2.1 ≠ (TX9 b).2.1 := by decide +kernel
set_option maxRecDepth 100000 in
theorem tyX9_ok : ∀ k, k < 44 → parseFieldDescriptor (TX9 k).2.2.1 = some (tyX9 k) := by decide +kernel
abbrev cX9_init : ByteArray := prog_16_method_1_code
def yX9_init : MethodName := ⟨RX9, "<init>", "()V"⟩
def dkwX9_init_10 : List UInt8 := [180, 0, 81, 27, 4, 79, 132, 1, 1, 167, 255, 241, 177]
abbrev dktX9_init_10 : List UInt8 := dkwX9_init_10 ++ []
def dkwX9_init_9 : List UInt8 := [162, 0, 16, 42, 180, 0, 26, 27, 4, 79, 132, 1, 1, 167, 255, 240, 3, 60, 27, 7, 162, 0, 16, 42]
abbrev dktX9_init_9 : List UInt8 := dkwX9_init_9 ++ dktX9_init_10
def dkwX9_init_8 : List UInt8 := [181, 0, 78, 42, 7, 188, 10, 181, 0, 81, 42, 16, 8, 188, 10, 181, 0, 84, 3, 60, 27, 16, 72]
abbrev dktX9_init_8 : List UInt8 := dkwX9_init_8 ++ dktX9_init_9
def dkwX9_init_7 : List UInt8 := [181, 0, 69, 42, 8, 188, 10, 181, 0, 72, 42, 8, 188, 4, 181, 0, 75, 42, 16, 12, 188, 10]
abbrev dktX9_init_7 : List UInt8 := dkwX9_init_7 ++ dktX9_init_8
def dkwX9_init_6 : List UInt8 := [181, 0, 59, 42, 16, 6, 188, 10, 181, 0, 63, 42, 8, 188, 10, 181, 0, 66, 42, 8, 188, 10]
abbrev dktX9_init_6 : List UInt8 := dkwX9_init_6 ++ dktX9_init_7
def dkwX9_init_5 : List UInt8 := [17, 3, 232, 188, 10, 181, 0, 53, 42, 17, 3, 232, 188, 10, 181, 0, 56, 42, 17, 3, 232, 188, 4]
abbrev dktX9_init_5 : List UInt8 := dkwX9_init_5 ++ dktX9_init_6
def dkwX9_init_4 : List UInt8 := [188, 10, 181, 0, 44, 42, 17, 0, 138, 188, 10, 181, 0, 47, 42, 8, 188, 10, 181, 0, 50, 42]
abbrev dktX9_init_4 : List UInt8 := dkwX9_init_4 ++ dktX9_init_5
def dkwX9_init_3 : List UInt8 := [181, 0, 35, 42, 17, 0, 161, 188, 10, 181, 0, 38, 42, 17, 0, 161, 188, 10, 181, 0, 41, 42, 16, 23]
abbrev dktX9_init_3 : List UInt8 := dkwX9_init_3 ++ dktX9_init_4
def dkwX9_init_2 : List UInt8 := [42, 7, 188, 10, 181, 0, 29, 42, 17, 0, 160, 188, 10, 181, 0, 32, 42, 17, 0, 161, 188, 10]
abbrev dktX9_init_2 : List UInt8 := dkwX9_init_2 ++ dktX9_init_3
def dkwX9_init_1 : List UInt8 := [181, 0, 17, 42, 16, 8, 188, 10, 181, 0, 20, 42, 2, 181, 0, 23, 42, 16, 72, 188, 10, 181, 0, 26]
abbrev dktX9_init_1 : List UInt8 := dkwX9_init_1 ++ dktX9_init_2
def dkwX9_init_0 : List UInt8 := [42, 183, 0, 1, 42, 16, 10, 181, 0, 7, 42, 16, 8, 188, 10, 181, 0, 13, 42, 16, 8, 188, 10]
abbrev dktX9_init_0 : List UInt8 := dkwX9_init_0 ++ dktX9_init_1
theorem dksX9_init_0 : cX9_init.data.toList.drop 0 = dktX9_init_0 := by decide +kernel
theorem dksX9_init_1 : cX9_init.data.toList.drop 23 = dktX9_init_1 := dk_seg dksX9_init_0 23 rfl rfl
theorem dksX9_init_2 : cX9_init.data.toList.drop 47 = dktX9_init_2 := dk_seg dksX9_init_1 24 rfl rfl
theorem dksX9_init_3 : cX9_init.data.toList.drop 69 = dktX9_init_3 := dk_seg dksX9_init_2 22 rfl rfl
theorem dksX9_init_4 : cX9_init.data.toList.drop 93 = dktX9_init_4 := dk_seg dksX9_init_3 24 rfl rfl
theorem dksX9_init_5 : cX9_init.data.toList.drop 115 = dktX9_init_5 := dk_seg dksX9_init_4 22 rfl rfl
theorem dksX9_init_6 : cX9_init.data.toList.drop 138 = dktX9_init_6 := dk_seg dksX9_init_5 23 rfl rfl
theorem dksX9_init_7 : cX9_init.data.toList.drop 160 = dktX9_init_7 := dk_seg dksX9_init_6 22 rfl rfl
theorem dksX9_init_8 : cX9_init.data.toList.drop 182 = dktX9_init_8 := dk_seg dksX9_init_7 22 rfl rfl
theorem dksX9_init_9 : cX9_init.data.toList.drop 205 = dktX9_init_9 := dk_seg dksX9_init_8 23 rfl rfl
theorem dksX9_init_10 : cX9_init.data.toList.drop 229 = dktX9_init_10 := dk_seg dksX9_init_9 24 rfl rfl
theorem dX9_init_0 : decode cX9_init 0 = .ok (.aload_n 0, 1) := dk_42 (dk_at dksX9_init_0 0 rfl rfl)
theorem dX9_init_1 : decode cX9_init 1 = .ok (.invokespecial 1, 3) := dk_183 0 1 (dk_at dksX9_init_0 1 rfl rfl)
theorem dX9_init_4 : decode cX9_init 4 = .ok (.aload_n 0, 1) := dk_42 (dk_at dksX9_init_0 4 rfl rfl)
theorem dX9_init_5 : decode cX9_init 5 = .ok (.bipush 10, 2) := dk_16 10 (dk_at dksX9_init_0 5 rfl rfl)
theorem dX9_init_7 : decode cX9_init 7 = .ok (.putfield 7, 3) := dk_181 0 7 (dk_at dksX9_init_0 7 rfl rfl)
theorem dX9_init_10 : decode cX9_init 10 = .ok (.aload_n 0, 1) := dk_42 (dk_at dksX9_init_0 10 rfl rfl)
theorem dX9_init_11 : decode cX9_init 11 = .ok (.bipush 8, 2) := dk_16 8 (dk_at dksX9_init_0 11 rfl rfl)
theorem dX9_init_13 : decode cX9_init 13 = .ok (.newarray .int, 2) := dk_188_10 (dk_at dksX9_init_0 13 rfl rfl)
theorem dX9_init_15 : decode cX9_init 15 = .ok (.putfield 13, 3) := dk_181 0 13 (dk_at dksX9_init_0 15 rfl rfl)
theorem dX9_init_18 : decode cX9_init 18 = .ok (.aload_n 0, 1) := dk_42 (dk_at dksX9_init_0 18 rfl rfl)
theorem dX9_init_19 : decode cX9_init 19 = .ok (.bipush 8, 2) := dk_16 8 (dk_at dksX9_init_0 19 rfl rfl)
theorem dX9_init_21 : decode cX9_init 21 = .ok (.newarray .int, 2) := dk_188_10 (dk_at dksX9_init_0 21 rfl rfl)
theorem dX9_init_23 : decode cX9_init 23 = .ok (.putfield 17, 3) := dk_181 0 17 (dk_at dksX9_init_1 0 rfl rfl)
theorem dX9_init_26 : decode cX9_init 26 = .ok (.aload_n 0, 1) := dk_42 (dk_at dksX9_init_1 3 rfl rfl)
theorem dX9_init_27 : decode cX9_init 27 = .ok (.bipush 8, 2) := dk_16 8 (dk_at dksX9_init_1 4 rfl rfl)
theorem dX9_init_29 : decode cX9_init 29 = .ok (.newarray .int, 2) := dk_188_10 (dk_at dksX9_init_1 6 rfl rfl)
theorem dX9_init_31 : decode cX9_init 31 = .ok (.putfield 20, 3) := dk_181 0 20 (dk_at dksX9_init_1 8 rfl rfl)
theorem dX9_init_34 : decode cX9_init 34 = .ok (.aload_n 0, 1) := dk_42 (dk_at dksX9_init_1 11 rfl rfl)
theorem dX9_init_35 : decode cX9_init 35 = .ok (.iconst (-1), 1) := dk_2 (dk_at dksX9_init_1 12 rfl rfl)
theorem dX9_init_36 : decode cX9_init 36 = .ok (.putfield 23, 3) := dk_181 0 23 (dk_at dksX9_init_1 13 rfl rfl)
theorem dX9_init_39 : decode cX9_init 39 = .ok (.aload_n 0, 1) := dk_42 (dk_at dksX9_init_1 16 rfl rfl)
theorem dX9_init_40 : decode cX9_init 40 = .ok (.bipush 72, 2) := dk_16 72 (dk_at dksX9_init_1 17 rfl rfl)
theorem dX9_init_42 : decode cX9_init 42 = .ok (.newarray .int, 2) := dk_188_10 (dk_at dksX9_init_1 19 rfl rfl)
theorem dX9_init_44 : decode cX9_init 44 = .ok (.putfield 26, 3) := dk_181 0 26 (dk_at dksX9_init_1 21 rfl rfl)
theorem dX9_init_47 : decode cX9_init 47 = .ok (.aload_n 0, 1) := dk_42 (dk_at dksX9_init_2 0 rfl rfl)
theorem dX9_init_48 : decode cX9_init 48 = .ok (.iconst 4, 1) := dk_7 (dk_at dksX9_init_2 1 rfl rfl)
theorem dX9_init_49 : decode cX9_init 49 = .ok (.newarray .int, 2) := dk_188_10 (dk_at dksX9_init_2 2 rfl rfl)
theorem dX9_init_51 : decode cX9_init 51 = .ok (.putfield 29, 3) := dk_181 0 29 (dk_at dksX9_init_2 4 rfl rfl)
theorem dX9_init_54 : decode cX9_init 54 = .ok (.aload_n 0, 1) := dk_42 (dk_at dksX9_init_2 7 rfl rfl)
theorem dX9_init_55 : decode cX9_init 55 = .ok (.sipush 160, 3) := dk_17 0 160 (dk_at dksX9_init_2 8 rfl rfl)
theorem dX9_init_58 : decode cX9_init 58 = .ok (.newarray .int, 2) := dk_188_10 (dk_at dksX9_init_2 11 rfl rfl)
theorem dX9_init_60 : decode cX9_init 60 = .ok (.putfield 32, 3) := dk_181 0 32 (dk_at dksX9_init_2 13 rfl rfl)
theorem dX9_init_63 : decode cX9_init 63 = .ok (.aload_n 0, 1) := dk_42 (dk_at dksX9_init_2 16 rfl rfl)
theorem dX9_init_64 : decode cX9_init 64 = .ok (.sipush 161, 3) := dk_17 0 161 (dk_at dksX9_init_2 17 rfl rfl)
theorem dX9_init_67 : decode cX9_init 67 = .ok (.newarray .int, 2) := dk_188_10 (dk_at dksX9_init_2 20 rfl rfl)
theorem dX9_init_69 : decode cX9_init 69 = .ok (.putfield 35, 3) := dk_181 0 35 (dk_at dksX9_init_3 0 rfl rfl)
theorem dX9_init_72 : decode cX9_init 72 = .ok (.aload_n 0, 1) := dk_42 (dk_at dksX9_init_3 3 rfl rfl)
theorem dX9_init_73 : decode cX9_init 73 = .ok (.sipush 161, 3) := dk_17 0 161 (dk_at dksX9_init_3 4 rfl rfl)
theorem dX9_init_76 : decode cX9_init 76 = .ok (.newarray .int, 2) := dk_188_10 (dk_at dksX9_init_3 7 rfl rfl)
theorem dX9_init_78 : decode cX9_init 78 = .ok (.putfield 38, 3) := dk_181 0 38 (dk_at dksX9_init_3 9 rfl rfl)
theorem dX9_init_81 : decode cX9_init 81 = .ok (.aload_n 0, 1) := dk_42 (dk_at dksX9_init_3 12 rfl rfl)
theorem dX9_init_82 : decode cX9_init 82 = .ok (.sipush 161, 3) := dk_17 0 161 (dk_at dksX9_init_3 13 rfl rfl)
theorem dX9_init_85 : decode cX9_init 85 = .ok (.newarray .int, 2) := dk_188_10 (dk_at dksX9_init_3 16 rfl rfl)
theorem dX9_init_87 : decode cX9_init 87 = .ok (.putfield 41, 3) := dk_181 0 41 (dk_at dksX9_init_3 18 rfl rfl)
theorem dX9_init_90 : decode cX9_init 90 = .ok (.aload_n 0, 1) := dk_42 (dk_at dksX9_init_3 21 rfl rfl)
theorem dX9_init_91 : decode cX9_init 91 = .ok (.bipush 23, 2) := dk_16 23 (dk_at dksX9_init_3 22 rfl rfl)
theorem dX9_init_93 : decode cX9_init 93 = .ok (.newarray .int, 2) := dk_188_10 (dk_at dksX9_init_4 0 rfl rfl)
theorem dX9_init_95 : decode cX9_init 95 = .ok (.putfield 44, 3) := dk_181 0 44 (dk_at dksX9_init_4 2 rfl rfl)
theorem dX9_init_98 : decode cX9_init 98 = .ok (.aload_n 0, 1) := dk_42 (dk_at dksX9_init_4 5 rfl rfl)
theorem dX9_init_99 : decode cX9_init 99 = .ok (.sipush 138, 3) := dk_17 0 138 (dk_at dksX9_init_4 6 rfl rfl)
theorem dX9_init_102 : decode cX9_init 102 = .ok (.newarray .int, 2) := dk_188_10 (dk_at dksX9_init_4 9 rfl rfl)
theorem dX9_init_104 : decode cX9_init 104 = .ok (.putfield 47, 3) := dk_181 0 47 (dk_at dksX9_init_4 11 rfl rfl)
theorem dX9_init_107 : decode cX9_init 107 = .ok (.aload_n 0, 1) := dk_42 (dk_at dksX9_init_4 14 rfl rfl)
theorem dX9_init_108 : decode cX9_init 108 = .ok (.iconst 5, 1) := dk_8 (dk_at dksX9_init_4 15 rfl rfl)
theorem dX9_init_109 : decode cX9_init 109 = .ok (.newarray .int, 2) := dk_188_10 (dk_at dksX9_init_4 16 rfl rfl)
theorem dX9_init_111 : decode cX9_init 111 = .ok (.putfield 50, 3) := dk_181 0 50 (dk_at dksX9_init_4 18 rfl rfl)
theorem dX9_init_114 : decode cX9_init 114 = .ok (.aload_n 0, 1) := dk_42 (dk_at dksX9_init_4 21 rfl rfl)
theorem dX9_init_115 : decode cX9_init 115 = .ok (.sipush 1000, 3) := dk_17 3 232 (dk_at dksX9_init_5 0 rfl rfl)
theorem dX9_init_118 : decode cX9_init 118 = .ok (.newarray .int, 2) := dk_188_10 (dk_at dksX9_init_5 3 rfl rfl)
theorem dX9_init_120 : decode cX9_init 120 = .ok (.putfield 53, 3) := dk_181 0 53 (dk_at dksX9_init_5 5 rfl rfl)
theorem dX9_init_123 : decode cX9_init 123 = .ok (.aload_n 0, 1) := dk_42 (dk_at dksX9_init_5 8 rfl rfl)
theorem dX9_init_124 : decode cX9_init 124 = .ok (.sipush 1000, 3) := dk_17 3 232 (dk_at dksX9_init_5 9 rfl rfl)
theorem dX9_init_127 : decode cX9_init 127 = .ok (.newarray .int, 2) := dk_188_10 (dk_at dksX9_init_5 12 rfl rfl)
theorem dX9_init_129 : decode cX9_init 129 = .ok (.putfield 56, 3) := dk_181 0 56 (dk_at dksX9_init_5 14 rfl rfl)
theorem dX9_init_132 : decode cX9_init 132 = .ok (.aload_n 0, 1) := dk_42 (dk_at dksX9_init_5 17 rfl rfl)
theorem dX9_init_133 : decode cX9_init 133 = .ok (.sipush 1000, 3) := dk_17 3 232 (dk_at dksX9_init_5 18 rfl rfl)
theorem dX9_init_136 : decode cX9_init 136 = .ok (.newarray .boolean, 2) := dk_188_4 (dk_at dksX9_init_5 21 rfl rfl)
theorem dX9_init_138 : decode cX9_init 138 = .ok (.putfield 59, 3) := dk_181 0 59 (dk_at dksX9_init_6 0 rfl rfl)
theorem dX9_init_141 : decode cX9_init 141 = .ok (.aload_n 0, 1) := dk_42 (dk_at dksX9_init_6 3 rfl rfl)
theorem dX9_init_142 : decode cX9_init 142 = .ok (.bipush 6, 2) := dk_16 6 (dk_at dksX9_init_6 4 rfl rfl)
theorem dX9_init_144 : decode cX9_init 144 = .ok (.newarray .int, 2) := dk_188_10 (dk_at dksX9_init_6 6 rfl rfl)
theorem dX9_init_146 : decode cX9_init 146 = .ok (.putfield 63, 3) := dk_181 0 63 (dk_at dksX9_init_6 8 rfl rfl)
theorem dX9_init_149 : decode cX9_init 149 = .ok (.aload_n 0, 1) := dk_42 (dk_at dksX9_init_6 11 rfl rfl)
theorem dX9_init_150 : decode cX9_init 150 = .ok (.iconst 5, 1) := dk_8 (dk_at dksX9_init_6 12 rfl rfl)
theorem dX9_init_151 : decode cX9_init 151 = .ok (.newarray .int, 2) := dk_188_10 (dk_at dksX9_init_6 13 rfl rfl)
theorem dX9_init_153 : decode cX9_init 153 = .ok (.putfield 66, 3) := dk_181 0 66 (dk_at dksX9_init_6 15 rfl rfl)
theorem dX9_init_156 : decode cX9_init 156 = .ok (.aload_n 0, 1) := dk_42 (dk_at dksX9_init_6 18 rfl rfl)
theorem dX9_init_157 : decode cX9_init 157 = .ok (.iconst 5, 1) := dk_8 (dk_at dksX9_init_6 19 rfl rfl)
theorem dX9_init_158 : decode cX9_init 158 = .ok (.newarray .int, 2) := dk_188_10 (dk_at dksX9_init_6 20 rfl rfl)
theorem dX9_init_160 : decode cX9_init 160 = .ok (.putfield 69, 3) := dk_181 0 69 (dk_at dksX9_init_7 0 rfl rfl)
theorem dX9_init_163 : decode cX9_init 163 = .ok (.aload_n 0, 1) := dk_42 (dk_at dksX9_init_7 3 rfl rfl)
theorem dX9_init_164 : decode cX9_init 164 = .ok (.iconst 5, 1) := dk_8 (dk_at dksX9_init_7 4 rfl rfl)
theorem dX9_init_165 : decode cX9_init 165 = .ok (.newarray .int, 2) := dk_188_10 (dk_at dksX9_init_7 5 rfl rfl)
theorem dX9_init_167 : decode cX9_init 167 = .ok (.putfield 72, 3) := dk_181 0 72 (dk_at dksX9_init_7 7 rfl rfl)
theorem dX9_init_170 : decode cX9_init 170 = .ok (.aload_n 0, 1) := dk_42 (dk_at dksX9_init_7 10 rfl rfl)
theorem dX9_init_171 : decode cX9_init 171 = .ok (.iconst 5, 1) := dk_8 (dk_at dksX9_init_7 11 rfl rfl)
theorem dX9_init_172 : decode cX9_init 172 = .ok (.newarray .boolean, 2) := dk_188_4 (dk_at dksX9_init_7 12 rfl rfl)
theorem dX9_init_174 : decode cX9_init 174 = .ok (.putfield 75, 3) := dk_181 0 75 (dk_at dksX9_init_7 14 rfl rfl)
theorem dX9_init_177 : decode cX9_init 177 = .ok (.aload_n 0, 1) := dk_42 (dk_at dksX9_init_7 17 rfl rfl)
theorem dX9_init_178 : decode cX9_init 178 = .ok (.bipush 12, 2) := dk_16 12 (dk_at dksX9_init_7 18 rfl rfl)
theorem dX9_init_180 : decode cX9_init 180 = .ok (.newarray .int, 2) := dk_188_10 (dk_at dksX9_init_7 20 rfl rfl)
theorem dX9_init_182 : decode cX9_init 182 = .ok (.putfield 78, 3) := dk_181 0 78 (dk_at dksX9_init_8 0 rfl rfl)
theorem dX9_init_185 : decode cX9_init 185 = .ok (.aload_n 0, 1) := dk_42 (dk_at dksX9_init_8 3 rfl rfl)
theorem dX9_init_186 : decode cX9_init 186 = .ok (.iconst 4, 1) := dk_7 (dk_at dksX9_init_8 4 rfl rfl)
theorem dX9_init_187 : decode cX9_init 187 = .ok (.newarray .int, 2) := dk_188_10 (dk_at dksX9_init_8 5 rfl rfl)
theorem dX9_init_189 : decode cX9_init 189 = .ok (.putfield 81, 3) := dk_181 0 81 (dk_at dksX9_init_8 7 rfl rfl)
theorem dX9_init_192 : decode cX9_init 192 = .ok (.aload_n 0, 1) := dk_42 (dk_at dksX9_init_8 10 rfl rfl)
theorem dX9_init_193 : decode cX9_init 193 = .ok (.bipush 8, 2) := dk_16 8 (dk_at dksX9_init_8 11 rfl rfl)
theorem dX9_init_195 : decode cX9_init 195 = .ok (.newarray .int, 2) := dk_188_10 (dk_at dksX9_init_8 13 rfl rfl)
theorem dX9_init_197 : decode cX9_init 197 = .ok (.putfield 84, 3) := dk_181 0 84 (dk_at dksX9_init_8 15 rfl rfl)
theorem dX9_init_200 : decode cX9_init 200 = .ok (.iconst 0, 1) := dk_3 (dk_at dksX9_init_8 18 rfl rfl)
theorem dX9_init_201 : decode cX9_init 201 = .ok (.istore_n 1, 1) := dk_60 (dk_at dksX9_init_8 19 rfl rfl)
theorem dX9_init_202 : decode cX9_init 202 = .ok (.iload_n 1, 1) := dk_27 (dk_at dksX9_init_8 20 rfl rfl)
theorem dX9_init_203 : decode cX9_init 203 = .ok (.bipush 72, 2) := dk_16 72 (dk_at dksX9_init_8 21 rfl rfl)
theorem dX9_init_205 : decode cX9_init 205 = .ok (.if_icmp .ge 16, 3) := dk_162 0 16 (dk_at dksX9_init_9 0 rfl rfl)
theorem dX9_init_208 : decode cX9_init 208 = .ok (.aload_n 0, 1) := dk_42 (dk_at dksX9_init_9 3 rfl rfl)
theorem dX9_init_209 : decode cX9_init 209 = .ok (.getfield 26, 3) := dk_180 0 26 (dk_at dksX9_init_9 4 rfl rfl)
theorem dX9_init_212 : decode cX9_init 212 = .ok (.iload_n 1, 1) := dk_27 (dk_at dksX9_init_9 7 rfl rfl)
theorem dX9_init_213 : decode cX9_init 213 = .ok (.iconst 1, 1) := dk_4 (dk_at dksX9_init_9 8 rfl rfl)
theorem dX9_init_214 : decode cX9_init 214 = .ok (.iastore, 1) := dk_79 (dk_at dksX9_init_9 9 rfl rfl)
theorem dX9_init_215 : decode cX9_init 215 = .ok (.iinc 1 1, 3) := dk_132 1 1 (dk_at dksX9_init_9 10 rfl rfl)
theorem dX9_init_218 : decode cX9_init 218 = .ok (.goto (-16), 3) := dk_167 255 240 (dk_at dksX9_init_9 13 rfl rfl)
theorem dX9_init_221 : decode cX9_init 221 = .ok (.iconst 0, 1) := dk_3 (dk_at dksX9_init_9 16 rfl rfl)
theorem dX9_init_222 : decode cX9_init 222 = .ok (.istore_n 1, 1) := dk_60 (dk_at dksX9_init_9 17 rfl rfl)
theorem dX9_init_223 : decode cX9_init 223 = .ok (.iload_n 1, 1) := dk_27 (dk_at dksX9_init_9 18 rfl rfl)
theorem dX9_init_224 : decode cX9_init 224 = .ok (.iconst 4, 1) := dk_7 (dk_at dksX9_init_9 19 rfl rfl)
theorem dX9_init_225 : decode cX9_init 225 = .ok (.if_icmp .ge 16, 3) := dk_162 0 16 (dk_at dksX9_init_9 20 rfl rfl)
theorem dX9_init_228 : decode cX9_init 228 = .ok (.aload_n 0, 1) := dk_42 (dk_at dksX9_init_9 23 rfl rfl)
theorem dX9_init_229 : decode cX9_init 229 = .ok (.getfield 81, 3) := dk_180 0 81 (dk_at dksX9_init_10 0 rfl rfl)
theorem dX9_init_232 : decode cX9_init 232 = .ok (.iload_n 1, 1) := dk_27 (dk_at dksX9_init_10 3 rfl rfl)
theorem dX9_init_233 : decode cX9_init 233 = .ok (.iconst 1, 1) := dk_4 (dk_at dksX9_init_10 4 rfl rfl)
theorem dX9_init_234 : decode cX9_init 234 = .ok (.iastore, 1) := dk_79 (dk_at dksX9_init_10 5 rfl rfl)
theorem dX9_init_235 : decode cX9_init 235 = .ok (.iinc 1 1, 3) := dk_132 1 1 (dk_at dksX9_init_10 6 rfl rfl)
theorem dX9_init_238 : decode cX9_init 238 = .ok (.goto (-15), 3) := dk_167 255 241 (dk_at dksX9_init_10 9 rfl rfl)
theorem dX9_init_241 : decode cX9_init 241 = .ok (.return_, 1) := dk_177 (dk_at dksX9_init_10 12 rfl rfl)
abbrev cX9_slots : ByteArray := prog_16_method_7_code
def yX9_slots : MethodName := ⟨RX9, "slots", "(I)I"⟩
def dkwX9_slots_2 : List UInt8 := [181, 0, 23, 42, 3, 181, 0, 97, 28, 172]
abbrev dktX9_slots_2 : List UInt8 := dkwX9_slots_2 ++ []
def dkwX9_slots_1 : List UInt8 := [62, 29, 16, 24, 162, 0, 16, 42, 180, 0, 26, 29, 4, 79, 132, 3, 1, 167, 255, 240, 42, 2]
abbrev dktX9_slots_1 : List UInt8 := dkwX9_slots_1 ++ dktX9_slots_2
def dkwX9_slots_0 : List UInt8 := [27, 7, 16, 12, 184, 0, 87, 154, 0, 6, 16, 253, 172, 42, 180, 0, 7, 61, 42, 27, 181, 0, 7, 3]
abbrev dktX9_slots_0 : List UInt8 := dkwX9_slots_0 ++ dktX9_slots_1
theorem dksX9_slots_0 : cX9_slots.data.toList.drop 0 = dktX9_slots_0 := by decide +kernel
theorem dksX9_slots_1 : cX9_slots.data.toList.drop 24 = dktX9_slots_1 := dk_seg dksX9_slots_0 24 rfl rfl
theorem dksX9_slots_2 : cX9_slots.data.toList.drop 46 = dktX9_slots_2 := dk_seg dksX9_slots_1 22 rfl rfl
theorem dX9_slots_0 : decode cX9_slots 0 = .ok (.iload_n 1, 1) := dk_27 (dk_at dksX9_slots_0 0 rfl rfl)
theorem dX9_slots_1 : decode cX9_slots 1 = .ok (.iconst 4, 1) := dk_7 (dk_at dksX9_slots_0 1 rfl rfl)
theorem dX9_slots_2 : decode cX9_slots 2 = .ok (.bipush 12, 2) := dk_16 12 (dk_at dksX9_slots_0 2 rfl rfl)
theorem dX9_slots_4 : decode cX9_slots 4 = .ok (.invokestatic 87, 3) := dk_184 0 87 (dk_at dksX9_slots_0 4 rfl rfl)
theorem dX9_slots_7 : decode cX9_slots 7 = .ok (.ifCond .ne 6, 3) := dk_154 0 6 (dk_at dksX9_slots_0 7 rfl rfl)
theorem dX9_slots_10 : decode cX9_slots 10 = .ok (.bipush (-3), 2) := dk_16 253 (dk_at dksX9_slots_0 10 rfl rfl)
theorem dX9_slots_12 : decode cX9_slots 12 = .ok (.ireturn, 1) := dk_172 (dk_at dksX9_slots_0 12 rfl rfl)
theorem dX9_slots_13 : decode cX9_slots 13 = .ok (.aload_n 0, 1) := dk_42 (dk_at dksX9_slots_0 13 rfl rfl)
theorem dX9_slots_14 : decode cX9_slots 14 = .ok (.getfield 7, 3) := dk_180 0 7 (dk_at dksX9_slots_0 14 rfl rfl)
theorem dX9_slots_17 : decode cX9_slots 17 = .ok (.istore_n 2, 1) := dk_61 (dk_at dksX9_slots_0 17 rfl rfl)
theorem dX9_slots_18 : decode cX9_slots 18 = .ok (.aload_n 0, 1) := dk_42 (dk_at dksX9_slots_0 18 rfl rfl)
theorem dX9_slots_19 : decode cX9_slots 19 = .ok (.iload_n 1, 1) := dk_27 (dk_at dksX9_slots_0 19 rfl rfl)
theorem dX9_slots_20 : decode cX9_slots 20 = .ok (.putfield 7, 3) := dk_181 0 7 (dk_at dksX9_slots_0 20 rfl rfl)
theorem dX9_slots_23 : decode cX9_slots 23 = .ok (.iconst 0, 1) := dk_3 (dk_at dksX9_slots_0 23 rfl rfl)
theorem dX9_slots_24 : decode cX9_slots 24 = .ok (.istore_n 3, 1) := dk_62 (dk_at dksX9_slots_1 0 rfl rfl)
theorem dX9_slots_25 : decode cX9_slots 25 = .ok (.iload_n 3, 1) := dk_29 (dk_at dksX9_slots_1 1 rfl rfl)
theorem dX9_slots_26 : decode cX9_slots 26 = .ok (.bipush 24, 2) := dk_16 24 (dk_at dksX9_slots_1 2 rfl rfl)
theorem dX9_slots_28 : decode cX9_slots 28 = .ok (.if_icmp .ge 16, 3) := dk_162 0 16 (dk_at dksX9_slots_1 4 rfl rfl)
theorem dX9_slots_31 : decode cX9_slots 31 = .ok (.aload_n 0, 1) := dk_42 (dk_at dksX9_slots_1 7 rfl rfl)
theorem dX9_slots_32 : decode cX9_slots 32 = .ok (.getfield 26, 3) := dk_180 0 26 (dk_at dksX9_slots_1 8 rfl rfl)
theorem dX9_slots_35 : decode cX9_slots 35 = .ok (.iload_n 3, 1) := dk_29 (dk_at dksX9_slots_1 11 rfl rfl)
theorem dX9_slots_36 : decode cX9_slots 36 = .ok (.iconst 1, 1) := dk_4 (dk_at dksX9_slots_1 12 rfl rfl)
theorem dX9_slots_37 : decode cX9_slots 37 = .ok (.iastore, 1) := dk_79 (dk_at dksX9_slots_1 13 rfl rfl)
theorem dX9_slots_38 : decode cX9_slots 38 = .ok (.iinc 3 1, 3) := dk_132 3 1 (dk_at dksX9_slots_1 14 rfl rfl)
theorem dX9_slots_41 : decode cX9_slots 41 = .ok (.goto (-16), 3) := dk_167 255 240 (dk_at dksX9_slots_1 17 rfl rfl)
theorem dX9_slots_44 : decode cX9_slots 44 = .ok (.aload_n 0, 1) := dk_42 (dk_at dksX9_slots_1 20 rfl rfl)
theorem dX9_slots_45 : decode cX9_slots 45 = .ok (.iconst (-1), 1) := dk_2 (dk_at dksX9_slots_1 21 rfl rfl)
theorem dX9_slots_46 : decode cX9_slots 46 = .ok (.putfield 23, 3) := dk_181 0 23 (dk_at dksX9_slots_2 0 rfl rfl)
theorem dX9_slots_49 : decode cX9_slots 49 = .ok (.aload_n 0, 1) := dk_42 (dk_at dksX9_slots_2 3 rfl rfl)
theorem dX9_slots_50 : decode cX9_slots 50 = .ok (.iconst 0, 1) := dk_3 (dk_at dksX9_slots_2 4 rfl rfl)
theorem dX9_slots_51 : decode cX9_slots 51 = .ok (.putfield 97, 3) := dk_181 0 97 (dk_at dksX9_slots_2 5 rfl rfl)
theorem dX9_slots_54 : decode cX9_slots 54 = .ok (.iload_n 2, 1) := dk_28 (dk_at dksX9_slots_2 8 rfl rfl)
theorem dX9_slots_55 : decode cX9_slots 55 = .ok (.ireturn, 1) := dk_172 (dk_at dksX9_slots_2 9 rfl rfl)
abbrev cX9_in : ByteArray := prog_16_method_2_code
def yX9_in : MethodName := ⟨RX9, "in", "(III)Z"⟩
def dkwX9_in_0 : List UInt8 := [26, 27, 161, 0, 12, 26, 28, 163, 0, 7, 4, 167, 0, 4, 3, 172]
abbrev dktX9_in_0 : List UInt8 := dkwX9_in_0 ++ []
theorem dksX9_in_0 : cX9_in.data.toList.drop 0 = dktX9_in_0 := by decide +kernel
theorem dX9_in_0 : decode cX9_in 0 = .ok (.iload_n 0, 1) := dk_26 (dk_at dksX9_in_0 0 rfl rfl)
theorem dX9_in_1 : decode cX9_in 1 = .ok (.iload_n 1, 1) := dk_27 (dk_at dksX9_in_0 1 rfl rfl)
theorem dX9_in_2 : decode cX9_in 2 = .ok (.if_icmp .lt 12, 3) := dk_161 0 12 (dk_at dksX9_in_0 2 rfl rfl)
theorem dX9_in_5 : decode cX9_in 5 = .ok (.iload_n 0, 1) := dk_26 (dk_at dksX9_in_0 5 rfl rfl)
theorem dX9_in_6 : decode cX9_in 6 = .ok (.iload_n 2, 1) := dk_28 (dk_at dksX9_in_0 6 rfl rfl)
theorem dX9_in_7 : decode cX9_in 7 = .ok (.if_icmp .gt 7, 3) := dk_163 0 7 (dk_at dksX9_in_0 7 rfl rfl)
theorem dX9_in_10 : decode cX9_in 10 = .ok (.iconst 1, 1) := dk_4 (dk_at dksX9_in_0 10 rfl rfl)
theorem dX9_in_11 : decode cX9_in 11 = .ok (.goto 4, 3) := dk_167 0 4 (dk_at dksX9_in_0 11 rfl rfl)
theorem dX9_in_14 : decode cX9_in 14 = .ok (.iconst 0, 1) := dk_3 (dk_at dksX9_in_0 14 rfl rfl)
theorem dX9_in_15 : decode cX9_in 15 = .ok (.ireturn, 1) := dk_172 (dk_at dksX9_in_0 15 rfl rfl)
abbrev cX9_target : ByteArray := prog_16_method_8_code
def yX9_target : MethodName := ⟨RX9, "target", "(III)I"⟩
def dkwX9_target_3 : List UInt8 := [180, 0, 91, 29, 79, 42, 89, 180, 0, 91, 4, 96, 181, 0, 91, 42, 180, 0, 91, 4, 100, 172]
abbrev dktX9_target_3 : List UInt8 := dkwX9_target_3 ++ []
def dkwX9_target_2 : List UInt8 := [180, 0, 13, 42, 180, 0, 91, 27, 79, 42, 180, 0, 17, 42, 180, 0, 91, 28, 79, 42, 180, 0, 20, 42]
abbrev dktX9_target_2 : List UInt8 := dkwX9_target_2 ++ dktX9_target_3
def dkwX9_target_1 : List UInt8 := [184, 0, 87, 154, 0, 6, 16, 253, 172, 42, 180, 0, 91, 16, 8, 160, 0, 6, 16, 251, 172, 42]
abbrev dktX9_target_1 : List UInt8 := dkwX9_target_1 ++ dktX9_target_2
def dkwX9_target_0 : List UInt8 := [27, 3, 16, 40, 184, 0, 87, 153, 0, 22, 28, 3, 16, 8, 184, 0, 87, 153, 0, 12, 29, 3, 6]
abbrev dktX9_target_0 : List UInt8 := dkwX9_target_0 ++ dktX9_target_1
theorem dksX9_target_0 : cX9_target.data.toList.drop 0 = dktX9_target_0 := by decide +kernel
theorem dksX9_target_1 : cX9_target.data.toList.drop 23 = dktX9_target_1 := dk_seg dksX9_target_0 23 rfl rfl
theorem dksX9_target_2 : cX9_target.data.toList.drop 45 = dktX9_target_2 := dk_seg dksX9_target_1 22 rfl rfl
theorem dksX9_target_3 : cX9_target.data.toList.drop 69 = dktX9_target_3 := dk_seg dksX9_target_2 24 rfl rfl
theorem dX9_target_0 : decode cX9_target 0 = .ok (.iload_n 1, 1) := dk_27 (dk_at dksX9_target_0 0 rfl rfl)
theorem dX9_target_1 : decode cX9_target 1 = .ok (.iconst 0, 1) := dk_3 (dk_at dksX9_target_0 1 rfl rfl)
theorem dX9_target_2 : decode cX9_target 2 = .ok (.bipush 40, 2) := dk_16 40 (dk_at dksX9_target_0 2 rfl rfl)
theorem dX9_target_4 : decode cX9_target 4 = .ok (.invokestatic 87, 3) := dk_184 0 87 (dk_at dksX9_target_0 4 rfl rfl)
theorem dX9_target_7 : decode cX9_target 7 = .ok (.ifCond .eq 22, 3) := dk_153 0 22 (dk_at dksX9_target_0 7 rfl rfl)
theorem dX9_target_10 : decode cX9_target 10 = .ok (.iload_n 2, 1) := dk_28 (dk_at dksX9_target_0 10 rfl rfl)
theorem dX9_target_11 : decode cX9_target 11 = .ok (.iconst 0, 1) := dk_3 (dk_at dksX9_target_0 11 rfl rfl)
theorem dX9_target_12 : decode cX9_target 12 = .ok (.bipush 8, 2) := dk_16 8 (dk_at dksX9_target_0 12 rfl rfl)
theorem dX9_target_14 : decode cX9_target 14 = .ok (.invokestatic 87, 3) := dk_184 0 87 (dk_at dksX9_target_0 14 rfl rfl)
theorem dX9_target_17 : decode cX9_target 17 = .ok (.ifCond .eq 12, 3) := dk_153 0 12 (dk_at dksX9_target_0 17 rfl rfl)
theorem dX9_target_20 : decode cX9_target 20 = .ok (.iload_n 3, 1) := dk_29 (dk_at dksX9_target_0 20 rfl rfl)
theorem dX9_target_21 : decode cX9_target 21 = .ok (.iconst 0, 1) := dk_3 (dk_at dksX9_target_0 21 rfl rfl)
theorem dX9_target_22 : decode cX9_target 22 = .ok (.iconst 3, 1) := dk_6 (dk_at dksX9_target_0 22 rfl rfl)
theorem dX9_target_23 : decode cX9_target 23 = .ok (.invokestatic 87, 3) := dk_184 0 87 (dk_at dksX9_target_1 0 rfl rfl)
theorem dX9_target_26 : decode cX9_target 26 = .ok (.ifCond .ne 6, 3) := dk_154 0 6 (dk_at dksX9_target_1 3 rfl rfl)
theorem dX9_target_29 : decode cX9_target 29 = .ok (.bipush (-3), 2) := dk_16 253 (dk_at dksX9_target_1 6 rfl rfl)
theorem dX9_target_31 : decode cX9_target 31 = .ok (.ireturn, 1) := dk_172 (dk_at dksX9_target_1 8 rfl rfl)
theorem dX9_target_32 : decode cX9_target 32 = .ok (.aload_n 0, 1) := dk_42 (dk_at dksX9_target_1 9 rfl rfl)
theorem dX9_target_33 : decode cX9_target 33 = .ok (.getfield 91, 3) := dk_180 0 91 (dk_at dksX9_target_1 10 rfl rfl)
theorem dX9_target_36 : decode cX9_target 36 = .ok (.bipush 8, 2) := dk_16 8 (dk_at dksX9_target_1 13 rfl rfl)
theorem dX9_target_38 : decode cX9_target 38 = .ok (.if_icmp .ne 6, 3) := dk_160 0 6 (dk_at dksX9_target_1 15 rfl rfl)
theorem dX9_target_41 : decode cX9_target 41 = .ok (.bipush (-5), 2) := dk_16 251 (dk_at dksX9_target_1 18 rfl rfl)
theorem dX9_target_43 : decode cX9_target 43 = .ok (.ireturn, 1) := dk_172 (dk_at dksX9_target_1 20 rfl rfl)
theorem dX9_target_44 : decode cX9_target 44 = .ok (.aload_n 0, 1) := dk_42 (dk_at dksX9_target_1 21 rfl rfl)
theorem dX9_target_45 : decode cX9_target 45 = .ok (.getfield 13, 3) := dk_180 0 13 (dk_at dksX9_target_2 0 rfl rfl)
theorem dX9_target_48 : decode cX9_target 48 = .ok (.aload_n 0, 1) := dk_42 (dk_at dksX9_target_2 3 rfl rfl)
theorem dX9_target_49 : decode cX9_target 49 = .ok (.getfield 91, 3) := dk_180 0 91 (dk_at dksX9_target_2 4 rfl rfl)
theorem dX9_target_52 : decode cX9_target 52 = .ok (.iload_n 1, 1) := dk_27 (dk_at dksX9_target_2 7 rfl rfl)
theorem dX9_target_53 : decode cX9_target 53 = .ok (.iastore, 1) := dk_79 (dk_at dksX9_target_2 8 rfl rfl)
theorem dX9_target_54 : decode cX9_target 54 = .ok (.aload_n 0, 1) := dk_42 (dk_at dksX9_target_2 9 rfl rfl)
theorem dX9_target_55 : decode cX9_target 55 = .ok (.getfield 17, 3) := dk_180 0 17 (dk_at dksX9_target_2 10 rfl rfl)
theorem dX9_target_58 : decode cX9_target 58 = .ok (.aload_n 0, 1) := dk_42 (dk_at dksX9_target_2 13 rfl rfl)
theorem dX9_target_59 : decode cX9_target 59 = .ok (.getfield 91, 3) := dk_180 0 91 (dk_at dksX9_target_2 14 rfl rfl)
theorem dX9_target_62 : decode cX9_target 62 = .ok (.iload_n 2, 1) := dk_28 (dk_at dksX9_target_2 17 rfl rfl)
theorem dX9_target_63 : decode cX9_target 63 = .ok (.iastore, 1) := dk_79 (dk_at dksX9_target_2 18 rfl rfl)
theorem dX9_target_64 : decode cX9_target 64 = .ok (.aload_n 0, 1) := dk_42 (dk_at dksX9_target_2 19 rfl rfl)
theorem dX9_target_65 : decode cX9_target 65 = .ok (.getfield 20, 3) := dk_180 0 20 (dk_at dksX9_target_2 20 rfl rfl)
theorem dX9_target_68 : decode cX9_target 68 = .ok (.aload_n 0, 1) := dk_42 (dk_at dksX9_target_2 23 rfl rfl)
theorem dX9_target_69 : decode cX9_target 69 = .ok (.getfield 91, 3) := dk_180 0 91 (dk_at dksX9_target_3 0 rfl rfl)
theorem dX9_target_72 : decode cX9_target 72 = .ok (.iload_n 3, 1) := dk_29 (dk_at dksX9_target_3 3 rfl rfl)
theorem dX9_target_73 : decode cX9_target 73 = .ok (.iastore, 1) := dk_79 (dk_at dksX9_target_3 4 rfl rfl)
theorem dX9_target_74 : decode cX9_target 74 = .ok (.aload_n 0, 1) := dk_42 (dk_at dksX9_target_3 5 rfl rfl)
theorem dX9_target_75 : decode cX9_target 75 = .ok (.dup, 1) := dk_89 (dk_at dksX9_target_3 6 rfl rfl)
theorem dX9_target_76 : decode cX9_target 76 = .ok (.getfield 91, 3) := dk_180 0 91 (dk_at dksX9_target_3 7 rfl rfl)
theorem dX9_target_79 : decode cX9_target 79 = .ok (.iconst 1, 1) := dk_4 (dk_at dksX9_target_3 10 rfl rfl)
theorem dX9_target_80 : decode cX9_target 80 = .ok (.iadd, 1) := dk_96 (dk_at dksX9_target_3 11 rfl rfl)
theorem dX9_target_81 : decode cX9_target 81 = .ok (.putfield 91, 3) := dk_181 0 91 (dk_at dksX9_target_3 12 rfl rfl)
theorem dX9_target_84 : decode cX9_target 84 = .ok (.aload_n 0, 1) := dk_42 (dk_at dksX9_target_3 15 rfl rfl)
theorem dX9_target_85 : decode cX9_target 85 = .ok (.getfield 91, 3) := dk_180 0 91 (dk_at dksX9_target_3 16 rfl rfl)
theorem dX9_target_88 : decode cX9_target 88 = .ok (.iconst 1, 1) := dk_4 (dk_at dksX9_target_3 19 rfl rfl)
theorem dX9_target_89 : decode cX9_target 89 = .ok (.isub, 1) := dk_100 (dk_at dksX9_target_3 20 rfl rfl)
theorem dX9_target_90 : decode cX9_target 90 = .ok (.ireturn, 1) := dk_172 (dk_at dksX9_target_3 21 rfl rfl)
abbrev cX9_air : ByteArray := prog_16_method_11_code
def yX9_air : MethodName := ⟨RX9, "air", "(II)I"⟩
def dkwX9_air_1 : List UInt8 := [182, 0, 114, 153, 0, 12, 42, 27, 28, 182, 0, 103, 167, 0, 4, 2, 172]
abbrev dktX9_air_1 : List UInt8 := dkwX9_air_1 ++ []
def dkwX9_air_0 : List UInt8 := [42, 27, 182, 0, 107, 153, 0, 11, 42, 28, 182, 0, 111, 154, 0, 6, 16, 254, 172, 42, 27, 28]
abbrev dktX9_air_0 : List UInt8 := dkwX9_air_0 ++ dktX9_air_1
theorem dksX9_air_0 : cX9_air.data.toList.drop 0 = dktX9_air_0 := by decide +kernel
theorem dksX9_air_1 : cX9_air.data.toList.drop 22 = dktX9_air_1 := dk_seg dksX9_air_0 22 rfl rfl
theorem dX9_air_0 : decode cX9_air 0 = .ok (.aload_n 0, 1) := dk_42 (dk_at dksX9_air_0 0 rfl rfl)
theorem dX9_air_1 : decode cX9_air 1 = .ok (.iload_n 1, 1) := dk_27 (dk_at dksX9_air_0 1 rfl rfl)
theorem dX9_air_2 : decode cX9_air 2 = .ok (.invokevirtual 107, 3) := dk_182 0 107 (dk_at dksX9_air_0 2 rfl rfl)
theorem dX9_air_5 : decode cX9_air 5 = .ok (.ifCond .eq 11, 3) := dk_153 0 11 (dk_at dksX9_air_0 5 rfl rfl)
theorem dX9_air_8 : decode cX9_air 8 = .ok (.aload_n 0, 1) := dk_42 (dk_at dksX9_air_0 8 rfl rfl)
theorem dX9_air_9 : decode cX9_air 9 = .ok (.iload_n 2, 1) := dk_28 (dk_at dksX9_air_0 9 rfl rfl)
theorem dX9_air_10 : decode cX9_air 10 = .ok (.invokevirtual 111, 3) := dk_182 0 111 (dk_at dksX9_air_0 10 rfl rfl)
theorem dX9_air_13 : decode cX9_air 13 = .ok (.ifCond .ne 6, 3) := dk_154 0 6 (dk_at dksX9_air_0 13 rfl rfl)
theorem dX9_air_16 : decode cX9_air 16 = .ok (.bipush (-2), 2) := dk_16 254 (dk_at dksX9_air_0 16 rfl rfl)
theorem dX9_air_18 : decode cX9_air 18 = .ok (.ireturn, 1) := dk_172 (dk_at dksX9_air_0 18 rfl rfl)
theorem dX9_air_19 : decode cX9_air 19 = .ok (.aload_n 0, 1) := dk_42 (dk_at dksX9_air_0 19 rfl rfl)
theorem dX9_air_20 : decode cX9_air 20 = .ok (.iload_n 1, 1) := dk_27 (dk_at dksX9_air_0 20 rfl rfl)
theorem dX9_air_21 : decode cX9_air 21 = .ok (.iload_n 2, 1) := dk_28 (dk_at dksX9_air_0 21 rfl rfl)
theorem dX9_air_22 : decode cX9_air 22 = .ok (.invokevirtual 114, 3) := dk_182 0 114 (dk_at dksX9_air_1 0 rfl rfl)
theorem dX9_air_25 : decode cX9_air 25 = .ok (.ifCond .eq 12, 3) := dk_153 0 12 (dk_at dksX9_air_1 3 rfl rfl)
theorem dX9_air_28 : decode cX9_air 28 = .ok (.aload_n 0, 1) := dk_42 (dk_at dksX9_air_1 6 rfl rfl)
theorem dX9_air_29 : decode cX9_air 29 = .ok (.iload_n 1, 1) := dk_27 (dk_at dksX9_air_1 7 rfl rfl)
theorem dX9_air_30 : decode cX9_air 30 = .ok (.iload_n 2, 1) := dk_28 (dk_at dksX9_air_1 8 rfl rfl)
theorem dX9_air_31 : decode cX9_air 31 = .ok (.invokevirtual 103, 3) := dk_182 0 103 (dk_at dksX9_air_1 9 rfl rfl)
theorem dX9_air_34 : decode cX9_air 34 = .ok (.goto 4, 3) := dk_167 0 4 (dk_at dksX9_air_1 12 rfl rfl)
theorem dX9_air_37 : decode cX9_air 37 = .ok (.iconst (-1), 1) := dk_2 (dk_at dksX9_air_1 15 rfl rfl)
theorem dX9_air_38 : decode cX9_air 38 = .ok (.ireturn, 1) := dk_172 (dk_at dksX9_air_1 16 rfl rfl)
abbrev cX9_isTarget : ByteArray := prog_16_method_4_code
def yX9_isTarget : MethodName := ⟨RX9, "isTarget", "(I)Z"⟩
def dkwX9_isTarget_0 : List UInt8 := [27, 3, 42, 180, 0, 91, 4, 100, 184, 0, 87, 172]
abbrev dktX9_isTarget_0 : List UInt8 := dkwX9_isTarget_0 ++ []
theorem dksX9_isTarget_0 : cX9_isTarget.data.toList.drop 0 = dktX9_isTarget_0 := by decide +kernel
theorem dX9_isTarget_0 : decode cX9_isTarget 0 = .ok (.iload_n 1, 1) := dk_27 (dk_at dksX9_isTarget_0 0 rfl rfl)
theorem dX9_isTarget_1 : decode cX9_isTarget 1 = .ok (.iconst 0, 1) := dk_3 (dk_at dksX9_isTarget_0 1 rfl rfl)
theorem dX9_isTarget_2 : decode cX9_isTarget 2 = .ok (.aload_n 0, 1) := dk_42 (dk_at dksX9_isTarget_0 2 rfl rfl)
theorem dX9_isTarget_3 : decode cX9_isTarget 3 = .ok (.getfield 91, 3) := dk_180 0 91 (dk_at dksX9_isTarget_0 3 rfl rfl)
theorem dX9_isTarget_6 : decode cX9_isTarget 6 = .ok (.iconst 1, 1) := dk_4 (dk_at dksX9_isTarget_0 6 rfl rfl)
theorem dX9_isTarget_7 : decode cX9_isTarget 7 = .ok (.isub, 1) := dk_100 (dk_at dksX9_isTarget_0 7 rfl rfl)
theorem dX9_isTarget_8 : decode cX9_isTarget 8 = .ok (.invokestatic 87, 3) := dk_184 0 87 (dk_at dksX9_isTarget_0 8 rfl rfl)
theorem dX9_isTarget_11 : decode cX9_isTarget 11 = .ok (.ireturn, 1) := dk_172 (dk_at dksX9_isTarget_0 11 rfl rfl)
abbrev cX9_isSlot : ByteArray := prog_16_method_3_code
def yX9_isSlot : MethodName := ⟨RX9, "isSlot", "(I)Z"⟩
def dkwX9_isSlot_0 : List UInt8 := [27, 3, 42, 180, 0, 7, 4, 100, 184, 0, 87, 172]
abbrev dktX9_isSlot_0 : List UInt8 := dkwX9_isSlot_0 ++ []
theorem dksX9_isSlot_0 : cX9_isSlot.data.toList.drop 0 = dktX9_isSlot_0 := by decide +kernel
theorem dX9_isSlot_0 : decode cX9_isSlot 0 = .ok (.iload_n 1, 1) := dk_27 (dk_at dksX9_isSlot_0 0 rfl rfl)
theorem dX9_isSlot_1 : decode cX9_isSlot 1 = .ok (.iconst 0, 1) := dk_3 (dk_at dksX9_isSlot_0 1 rfl rfl)
theorem dX9_isSlot_2 : decode cX9_isSlot 2 = .ok (.aload_n 0, 1) := dk_42 (dk_at dksX9_isSlot_0 2 rfl rfl)
theorem dX9_isSlot_3 : decode cX9_isSlot 3 = .ok (.getfield 7, 3) := dk_180 0 7 (dk_at dksX9_isSlot_0 3 rfl rfl)
theorem dX9_isSlot_6 : decode cX9_isSlot 6 = .ok (.iconst 1, 1) := dk_4 (dk_at dksX9_isSlot_0 6 rfl rfl)
theorem dX9_isSlot_7 : decode cX9_isSlot 7 = .ok (.isub, 1) := dk_100 (dk_at dksX9_isSlot_0 7 rfl rfl)
theorem dX9_isSlot_8 : decode cX9_isSlot 8 = .ok (.invokestatic 87, 3) := dk_184 0 87 (dk_at dksX9_isSlot_0 8 rfl rfl)
theorem dX9_isSlot_11 : decode cX9_isSlot 11 = .ok (.ireturn, 1) := dk_172 (dk_at dksX9_isSlot_0 11 rfl rfl)
abbrev cX9_isVisible : ByteArray := prog_16_method_10_code
def yX9_isVisible : MethodName := ⟨RX9, "isVisible", "(II)Z"⟩
def dkwX9_isVisible_0 : List UInt8 := [42, 27, 28, 182, 0, 103, 42, 180, 0, 17, 27, 46, 163, 0, 7, 4, 167, 0, 4, 3, 172]
abbrev dktX9_isVisible_0 : List UInt8 := dkwX9_isVisible_0 ++ []
theorem dksX9_isVisible_0 : cX9_isVisible.data.toList.drop 0 = dktX9_isVisible_0 := by decide +kernel
theorem dX9_isVisible_0 : decode cX9_isVisible 0 = .ok (.aload_n 0, 1) := dk_42 (dk_at dksX9_isVisible_0 0 rfl rfl)
theorem dX9_isVisible_1 : decode cX9_isVisible 1 = .ok (.iload_n 1, 1) := dk_27 (dk_at dksX9_isVisible_0 1 rfl rfl)
theorem dX9_isVisible_2 : decode cX9_isVisible 2 = .ok (.iload_n 2, 1) := dk_28 (dk_at dksX9_isVisible_0 2 rfl rfl)
theorem dX9_isVisible_3 : decode cX9_isVisible 3 = .ok (.invokevirtual 103, 3) := dk_182 0 103 (dk_at dksX9_isVisible_0 3 rfl rfl)
theorem dX9_isVisible_6 : decode cX9_isVisible 6 = .ok (.aload_n 0, 1) := dk_42 (dk_at dksX9_isVisible_0 6 rfl rfl)
theorem dX9_isVisible_7 : decode cX9_isVisible 7 = .ok (.getfield 17, 3) := dk_180 0 17 (dk_at dksX9_isVisible_0 7 rfl rfl)
theorem dX9_isVisible_10 : decode cX9_isVisible 10 = .ok (.iload_n 1, 1) := dk_27 (dk_at dksX9_isVisible_0 10 rfl rfl)
theorem dX9_isVisible_11 : decode cX9_isVisible 11 = .ok (.iaload, 1) := dk_46 (dk_at dksX9_isVisible_0 11 rfl rfl)
theorem dX9_isVisible_12 : decode cX9_isVisible 12 = .ok (.if_icmp .gt 7, 3) := dk_163 0 7 (dk_at dksX9_isVisible_0 12 rfl rfl)
theorem dX9_isVisible_15 : decode cX9_isVisible 15 = .ok (.iconst 1, 1) := dk_4 (dk_at dksX9_isVisible_0 15 rfl rfl)
theorem dX9_isVisible_16 : decode cX9_isVisible 16 = .ok (.goto 4, 3) := dk_167 0 4 (dk_at dksX9_isVisible_0 16 rfl rfl)
theorem dX9_isVisible_19 : decode cX9_isVisible 19 = .ok (.iconst 0, 1) := dk_3 (dk_at dksX9_isVisible_0 19 rfl rfl)
theorem dX9_isVisible_20 : decode cX9_isVisible 20 = .ok (.ireturn, 1) := dk_172 (dk_at dksX9_isVisible_0 20 rfl rfl)
abbrev cX9_airOf : ByteArray := prog_16_method_9_code
def yX9_airOf : MethodName := ⟨RX9, "airOf", "(II)I"⟩
def dkwX9_airOf_1 : List UInt8 := [172]
abbrev dktX9_airOf_1 : List UInt8 := dkwX9_airOf_1 ++ []
def dkwX9_airOf_0 : List UInt8 := [28, 42, 180, 0, 13, 27, 46, 100, 42, 180, 0, 100, 96, 62, 29, 156, 0, 8, 29, 116, 167, 0, 4, 29]
abbrev dktX9_airOf_0 : List UInt8 := dkwX9_airOf_0 ++ dktX9_airOf_1
theorem dksX9_airOf_0 : cX9_airOf.data.toList.drop 0 = dktX9_airOf_0 := by decide +kernel
theorem dksX9_airOf_1 : cX9_airOf.data.toList.drop 24 = dktX9_airOf_1 := dk_seg dksX9_airOf_0 24 rfl rfl
theorem dX9_airOf_0 : decode cX9_airOf 0 = .ok (.iload_n 2, 1) := dk_28 (dk_at dksX9_airOf_0 0 rfl rfl)
theorem dX9_airOf_1 : decode cX9_airOf 1 = .ok (.aload_n 0, 1) := dk_42 (dk_at dksX9_airOf_0 1 rfl rfl)
theorem dX9_airOf_2 : decode cX9_airOf 2 = .ok (.getfield 13, 3) := dk_180 0 13 (dk_at dksX9_airOf_0 2 rfl rfl)
theorem dX9_airOf_5 : decode cX9_airOf 5 = .ok (.iload_n 1, 1) := dk_27 (dk_at dksX9_airOf_0 5 rfl rfl)
theorem dX9_airOf_6 : decode cX9_airOf 6 = .ok (.iaload, 1) := dk_46 (dk_at dksX9_airOf_0 6 rfl rfl)
theorem dX9_airOf_7 : decode cX9_airOf 7 = .ok (.isub, 1) := dk_100 (dk_at dksX9_airOf_0 7 rfl rfl)
theorem dX9_airOf_8 : decode cX9_airOf 8 = .ok (.aload_n 0, 1) := dk_42 (dk_at dksX9_airOf_0 8 rfl rfl)
theorem dX9_airOf_9 : decode cX9_airOf 9 = .ok (.getfield 100, 3) := dk_180 0 100 (dk_at dksX9_airOf_0 9 rfl rfl)
theorem dX9_airOf_12 : decode cX9_airOf 12 = .ok (.iadd, 1) := dk_96 (dk_at dksX9_airOf_0 12 rfl rfl)
theorem dX9_airOf_13 : decode cX9_airOf 13 = .ok (.istore_n 3, 1) := dk_62 (dk_at dksX9_airOf_0 13 rfl rfl)
theorem dX9_airOf_14 : decode cX9_airOf 14 = .ok (.iload_n 3, 1) := dk_29 (dk_at dksX9_airOf_0 14 rfl rfl)
theorem dX9_airOf_15 : decode cX9_airOf 15 = .ok (.ifCond .ge 8, 3) := dk_156 0 8 (dk_at dksX9_airOf_0 15 rfl rfl)
theorem dX9_airOf_18 : decode cX9_airOf 18 = .ok (.iload_n 3, 1) := dk_29 (dk_at dksX9_airOf_0 18 rfl rfl)
theorem dX9_airOf_19 : decode cX9_airOf 19 = .ok (.ineg, 1) := dk_116 (dk_at dksX9_airOf_0 19 rfl rfl)
theorem dX9_airOf_20 : decode cX9_airOf 20 = .ok (.goto 4, 3) := dk_167 0 4 (dk_at dksX9_airOf_0 20 rfl rfl)
theorem dX9_airOf_23 : decode cX9_airOf 23 = .ok (.iload_n 3, 1) := dk_29 (dk_at dksX9_airOf_0 23 rfl rfl)
theorem dX9_airOf_24 : decode cX9_airOf 24 = .ok (.ireturn, 1) := dk_172 (dk_at dksX9_airOf_1 0 rfl rfl)
abbrev cX9_moon : ByteArray := prog_16_method_12_code
def yX9_moon : MethodName := ⟨RX9, "moon", "(III)I"⟩
def dkwX9_moon_2 : List UInt8 := [181, 0, 121, 4, 172]
abbrev dktX9_moon_2 : List UInt8 := dkwX9_moon_2 ++ []
def dkwX9_moon_1 : List UInt8 := [153, 0, 8, 28, 29, 164, 0, 6, 16, 253, 172, 42, 27, 181, 0, 23, 42, 28, 181, 0, 118, 42, 29]
abbrev dktX9_moon_1 : List UInt8 := dkwX9_moon_1 ++ dktX9_moon_2
def dkwX9_moon_0 : List UInt8 := [27, 3, 6, 184, 0, 87, 153, 0, 24, 42, 28, 182, 0, 111, 153, 0, 16, 42, 29, 182, 0, 111]
abbrev dktX9_moon_0 : List UInt8 := dkwX9_moon_0 ++ dktX9_moon_1
theorem dksX9_moon_0 : cX9_moon.data.toList.drop 0 = dktX9_moon_0 := by decide +kernel
theorem dksX9_moon_1 : cX9_moon.data.toList.drop 22 = dktX9_moon_1 := dk_seg dksX9_moon_0 22 rfl rfl
theorem dksX9_moon_2 : cX9_moon.data.toList.drop 45 = dktX9_moon_2 := dk_seg dksX9_moon_1 23 rfl rfl
theorem dX9_moon_0 : decode cX9_moon 0 = .ok (.iload_n 1, 1) := dk_27 (dk_at dksX9_moon_0 0 rfl rfl)
theorem dX9_moon_1 : decode cX9_moon 1 = .ok (.iconst 0, 1) := dk_3 (dk_at dksX9_moon_0 1 rfl rfl)
theorem dX9_moon_2 : decode cX9_moon 2 = .ok (.iconst 3, 1) := dk_6 (dk_at dksX9_moon_0 2 rfl rfl)
theorem dX9_moon_3 : decode cX9_moon 3 = .ok (.invokestatic 87, 3) := dk_184 0 87 (dk_at dksX9_moon_0 3 rfl rfl)
theorem dX9_moon_6 : decode cX9_moon 6 = .ok (.ifCond .eq 24, 3) := dk_153 0 24 (dk_at dksX9_moon_0 6 rfl rfl)
theorem dX9_moon_9 : decode cX9_moon 9 = .ok (.aload_n 0, 1) := dk_42 (dk_at dksX9_moon_0 9 rfl rfl)
theorem dX9_moon_10 : decode cX9_moon 10 = .ok (.iload_n 2, 1) := dk_28 (dk_at dksX9_moon_0 10 rfl rfl)
theorem dX9_moon_11 : decode cX9_moon 11 = .ok (.invokevirtual 111, 3) := dk_182 0 111 (dk_at dksX9_moon_0 11 rfl rfl)
theorem dX9_moon_14 : decode cX9_moon 14 = .ok (.ifCond .eq 16, 3) := dk_153 0 16 (dk_at dksX9_moon_0 14 rfl rfl)
theorem dX9_moon_17 : decode cX9_moon 17 = .ok (.aload_n 0, 1) := dk_42 (dk_at dksX9_moon_0 17 rfl rfl)
theorem dX9_moon_18 : decode cX9_moon 18 = .ok (.iload_n 3, 1) := dk_29 (dk_at dksX9_moon_0 18 rfl rfl)
theorem dX9_moon_19 : decode cX9_moon 19 = .ok (.invokevirtual 111, 3) := dk_182 0 111 (dk_at dksX9_moon_0 19 rfl rfl)
theorem dX9_moon_22 : decode cX9_moon 22 = .ok (.ifCond .eq 8, 3) := dk_153 0 8 (dk_at dksX9_moon_1 0 rfl rfl)
theorem dX9_moon_25 : decode cX9_moon 25 = .ok (.iload_n 2, 1) := dk_28 (dk_at dksX9_moon_1 3 rfl rfl)
theorem dX9_moon_26 : decode cX9_moon 26 = .ok (.iload_n 3, 1) := dk_29 (dk_at dksX9_moon_1 4 rfl rfl)
theorem dX9_moon_27 : decode cX9_moon 27 = .ok (.if_icmp .le 6, 3) := dk_164 0 6 (dk_at dksX9_moon_1 5 rfl rfl)
theorem dX9_moon_30 : decode cX9_moon 30 = .ok (.bipush (-3), 2) := dk_16 253 (dk_at dksX9_moon_1 8 rfl rfl)
theorem dX9_moon_32 : decode cX9_moon 32 = .ok (.ireturn, 1) := dk_172 (dk_at dksX9_moon_1 10 rfl rfl)
theorem dX9_moon_33 : decode cX9_moon 33 = .ok (.aload_n 0, 1) := dk_42 (dk_at dksX9_moon_1 11 rfl rfl)
theorem dX9_moon_34 : decode cX9_moon 34 = .ok (.iload_n 1, 1) := dk_27 (dk_at dksX9_moon_1 12 rfl rfl)
theorem dX9_moon_35 : decode cX9_moon 35 = .ok (.putfield 23, 3) := dk_181 0 23 (dk_at dksX9_moon_1 13 rfl rfl)
theorem dX9_moon_38 : decode cX9_moon 38 = .ok (.aload_n 0, 1) := dk_42 (dk_at dksX9_moon_1 16 rfl rfl)
theorem dX9_moon_39 : decode cX9_moon 39 = .ok (.iload_n 2, 1) := dk_28 (dk_at dksX9_moon_1 17 rfl rfl)
theorem dX9_moon_40 : decode cX9_moon 40 = .ok (.putfield 118, 3) := dk_181 0 118 (dk_at dksX9_moon_1 18 rfl rfl)
theorem dX9_moon_43 : decode cX9_moon 43 = .ok (.aload_n 0, 1) := dk_42 (dk_at dksX9_moon_1 21 rfl rfl)
theorem dX9_moon_44 : decode cX9_moon 44 = .ok (.iload_n 3, 1) := dk_29 (dk_at dksX9_moon_1 22 rfl rfl)
theorem dX9_moon_45 : decode cX9_moon 45 = .ok (.putfield 121, 3) := dk_181 0 121 (dk_at dksX9_moon_2 0 rfl rfl)
theorem dX9_moon_48 : decode cX9_moon 48 = .ok (.iconst 1, 1) := dk_4 (dk_at dksX9_moon_2 3 rfl rfl)
theorem dX9_moon_49 : decode cX9_moon 49 = .ok (.ireturn, 1) := dk_172 (dk_at dksX9_moon_2 4 rfl rfl)
abbrev cX9_seeing : ByteArray := prog_16_method_13_code
def yX9_seeing : MethodName := ⟨RX9, "seeing", "(III)I"⟩
def dkwX9_seeing_2 : List UInt8 := [180, 0, 26, 16, 12, 27, 104, 28, 96, 29, 79, 21, 4, 172]
abbrev dktX9_seeing_2 : List UInt8 := dkwX9_seeing_2 ++ []
def dkwX9_seeing_1 : List UInt8 := [184, 0, 87, 154, 0, 6, 16, 253, 172, 42, 180, 0, 26, 16, 12, 27, 104, 28, 96, 46, 54, 4, 42]
abbrev dktX9_seeing_1 : List UInt8 := dkwX9_seeing_1 ++ dktX9_seeing_2
def dkwX9_seeing_0 : List UInt8 := [42, 27, 182, 0, 124, 153, 0, 11, 42, 28, 182, 0, 111, 154, 0, 6, 16, 254, 172, 29, 3, 7]
abbrev dktX9_seeing_0 : List UInt8 := dkwX9_seeing_0 ++ dktX9_seeing_1
theorem dksX9_seeing_0 : cX9_seeing.data.toList.drop 0 = dktX9_seeing_0 := by decide +kernel
theorem dksX9_seeing_1 : cX9_seeing.data.toList.drop 22 = dktX9_seeing_1 := dk_seg dksX9_seeing_0 22 rfl rfl
theorem dksX9_seeing_2 : cX9_seeing.data.toList.drop 45 = dktX9_seeing_2 := dk_seg dksX9_seeing_1 23 rfl rfl
theorem dX9_seeing_0 : decode cX9_seeing 0 = .ok (.aload_n 0, 1) := dk_42 (dk_at dksX9_seeing_0 0 rfl rfl)
theorem dX9_seeing_1 : decode cX9_seeing 1 = .ok (.iload_n 1, 1) := dk_27 (dk_at dksX9_seeing_0 1 rfl rfl)
theorem dX9_seeing_2 : decode cX9_seeing 2 = .ok (.invokevirtual 124, 3) := dk_182 0 124 (dk_at dksX9_seeing_0 2 rfl rfl)
theorem dX9_seeing_5 : decode cX9_seeing 5 = .ok (.ifCond .eq 11, 3) := dk_153 0 11 (dk_at dksX9_seeing_0 5 rfl rfl)
theorem dX9_seeing_8 : decode cX9_seeing 8 = .ok (.aload_n 0, 1) := dk_42 (dk_at dksX9_seeing_0 8 rfl rfl)
theorem dX9_seeing_9 : decode cX9_seeing 9 = .ok (.iload_n 2, 1) := dk_28 (dk_at dksX9_seeing_0 9 rfl rfl)
theorem dX9_seeing_10 : decode cX9_seeing 10 = .ok (.invokevirtual 111, 3) := dk_182 0 111 (dk_at dksX9_seeing_0 10 rfl rfl)
theorem dX9_seeing_13 : decode cX9_seeing 13 = .ok (.ifCond .ne 6, 3) := dk_154 0 6 (dk_at dksX9_seeing_0 13 rfl rfl)
theorem dX9_seeing_16 : decode cX9_seeing 16 = .ok (.bipush (-2), 2) := dk_16 254 (dk_at dksX9_seeing_0 16 rfl rfl)
theorem dX9_seeing_18 : decode cX9_seeing 18 = .ok (.ireturn, 1) := dk_172 (dk_at dksX9_seeing_0 18 rfl rfl)
theorem dX9_seeing_19 : decode cX9_seeing 19 = .ok (.iload_n 3, 1) := dk_29 (dk_at dksX9_seeing_0 19 rfl rfl)
theorem dX9_seeing_20 : decode cX9_seeing 20 = .ok (.iconst 0, 1) := dk_3 (dk_at dksX9_seeing_0 20 rfl rfl)
theorem dX9_seeing_21 : decode cX9_seeing 21 = .ok (.iconst 4, 1) := dk_7 (dk_at dksX9_seeing_0 21 rfl rfl)
theorem dX9_seeing_22 : decode cX9_seeing 22 = .ok (.invokestatic 87, 3) := dk_184 0 87 (dk_at dksX9_seeing_1 0 rfl rfl)
theorem dX9_seeing_25 : decode cX9_seeing 25 = .ok (.ifCond .ne 6, 3) := dk_154 0 6 (dk_at dksX9_seeing_1 3 rfl rfl)
theorem dX9_seeing_28 : decode cX9_seeing 28 = .ok (.bipush (-3), 2) := dk_16 253 (dk_at dksX9_seeing_1 6 rfl rfl)
theorem dX9_seeing_30 : decode cX9_seeing 30 = .ok (.ireturn, 1) := dk_172 (dk_at dksX9_seeing_1 8 rfl rfl)
theorem dX9_seeing_31 : decode cX9_seeing 31 = .ok (.aload_n 0, 1) := dk_42 (dk_at dksX9_seeing_1 9 rfl rfl)
theorem dX9_seeing_32 : decode cX9_seeing 32 = .ok (.getfield 26, 3) := dk_180 0 26 (dk_at dksX9_seeing_1 10 rfl rfl)
theorem dX9_seeing_35 : decode cX9_seeing 35 = .ok (.bipush 12, 2) := dk_16 12 (dk_at dksX9_seeing_1 13 rfl rfl)
theorem dX9_seeing_37 : decode cX9_seeing 37 = .ok (.iload_n 1, 1) := dk_27 (dk_at dksX9_seeing_1 15 rfl rfl)
theorem dX9_seeing_38 : decode cX9_seeing 38 = .ok (.imul, 1) := dk_104 (dk_at dksX9_seeing_1 16 rfl rfl)
theorem dX9_seeing_39 : decode cX9_seeing 39 = .ok (.iload_n 2, 1) := dk_28 (dk_at dksX9_seeing_1 17 rfl rfl)
theorem dX9_seeing_40 : decode cX9_seeing 40 = .ok (.iadd, 1) := dk_96 (dk_at dksX9_seeing_1 18 rfl rfl)
theorem dX9_seeing_41 : decode cX9_seeing 41 = .ok (.iaload, 1) := dk_46 (dk_at dksX9_seeing_1 19 rfl rfl)
theorem dX9_seeing_42 : decode cX9_seeing 42 = .ok (.istore 4, 2) := dk_54 4 (dk_at dksX9_seeing_1 20 rfl rfl)
theorem dX9_seeing_44 : decode cX9_seeing 44 = .ok (.aload_n 0, 1) := dk_42 (dk_at dksX9_seeing_1 22 rfl rfl)
theorem dX9_seeing_45 : decode cX9_seeing 45 = .ok (.getfield 26, 3) := dk_180 0 26 (dk_at dksX9_seeing_2 0 rfl rfl)
theorem dX9_seeing_48 : decode cX9_seeing 48 = .ok (.bipush 12, 2) := dk_16 12 (dk_at dksX9_seeing_2 3 rfl rfl)
theorem dX9_seeing_50 : decode cX9_seeing 50 = .ok (.iload_n 1, 1) := dk_27 (dk_at dksX9_seeing_2 5 rfl rfl)
theorem dX9_seeing_51 : decode cX9_seeing 51 = .ok (.imul, 1) := dk_104 (dk_at dksX9_seeing_2 6 rfl rfl)
theorem dX9_seeing_52 : decode cX9_seeing 52 = .ok (.iload_n 2, 1) := dk_28 (dk_at dksX9_seeing_2 7 rfl rfl)
theorem dX9_seeing_53 : decode cX9_seeing 53 = .ok (.iadd, 1) := dk_96 (dk_at dksX9_seeing_2 8 rfl rfl)
theorem dX9_seeing_54 : decode cX9_seeing 54 = .ok (.iload_n 3, 1) := dk_29 (dk_at dksX9_seeing_2 9 rfl rfl)
theorem dX9_seeing_55 : decode cX9_seeing 55 = .ok (.iastore, 1) := dk_79 (dk_at dksX9_seeing_2 10 rfl rfl)
theorem dX9_seeing_56 : decode cX9_seeing 56 = .ok (.iload 4, 2) := dk_21 4 (dk_at dksX9_seeing_2 11 rfl rfl)
theorem dX9_seeing_58 : decode cX9_seeing 58 = .ok (.ireturn, 1) := dk_172 (dk_at dksX9_seeing_2 13 rfl rfl)
abbrev cX9_isSky : ByteArray := prog_16_method_6_code
def yX9_isSky : MethodName := ⟨RX9, "isSky", "(I)Z"⟩
def dkwX9_isSky_0 : List UInt8 := [27, 3, 4, 42, 180, 0, 97, 96, 184, 0, 87, 172]
abbrev dktX9_isSky_0 : List UInt8 := dkwX9_isSky_0 ++ []
theorem dksX9_isSky_0 : cX9_isSky.data.toList.drop 0 = dktX9_isSky_0 := by decide +kernel
theorem dX9_isSky_0 : decode cX9_isSky 0 = .ok (.iload_n 1, 1) := dk_27 (dk_at dksX9_isSky_0 0 rfl rfl)
theorem dX9_isSky_1 : decode cX9_isSky 1 = .ok (.iconst 0, 1) := dk_3 (dk_at dksX9_isSky_0 1 rfl rfl)
theorem dX9_isSky_2 : decode cX9_isSky 2 = .ok (.iconst 1, 1) := dk_4 (dk_at dksX9_isSky_0 2 rfl rfl)
theorem dX9_isSky_3 : decode cX9_isSky 3 = .ok (.aload_n 0, 1) := dk_42 (dk_at dksX9_isSky_0 3 rfl rfl)
theorem dX9_isSky_4 : decode cX9_isSky 4 = .ok (.getfield 97, 3) := dk_180 0 97 (dk_at dksX9_isSky_0 4 rfl rfl)
theorem dX9_isSky_7 : decode cX9_isSky 7 = .ok (.iadd, 1) := dk_96 (dk_at dksX9_isSky_0 7 rfl rfl)
theorem dX9_isSky_8 : decode cX9_isSky 8 = .ok (.invokestatic 87, 3) := dk_184 0 87 (dk_at dksX9_isSky_0 8 rfl rfl)
theorem dX9_isSky_11 : decode cX9_isSky 11 = .ok (.ireturn, 1) := dk_172 (dk_at dksX9_isSky_0 11 rfl rfl)
abbrev cX9_world : ByteArray := prog_16_method_14_code
def yX9_world : MethodName := ⟨RX9, "world", "(I)I"⟩
def dkwX9_world_3 : List UInt8 := [89, 180, 0, 97, 4, 96, 181, 0, 97, 42, 180, 0, 97, 4, 100, 172]
abbrev dktX9_world_3 : List UInt8 := dkwX9_world_3 ++ []
def dkwX9_world_2 : List UInt8 := [42, 180, 0, 26, 28, 46, 79, 132, 2, 1, 167, 255, 224, 42, 180, 0, 29, 42, 180, 0, 97, 27, 79, 42]
abbrev dktX9_world_2 : List UInt8 := dkwX9_world_2 ++ dktX9_world_3
def dkwX9_world_1 : List UInt8 := [3, 61, 28, 16, 12, 162, 0, 32, 42, 180, 0, 26, 16, 24, 16, 12, 42, 180, 0, 97, 104, 96, 28, 96]
abbrev dktX9_world_1 : List UInt8 := dkwX9_world_1 ++ dktX9_world_2
def dkwX9_world_0 : List UInt8 := [27, 4, 16, 9, 184, 0, 87, 154, 0, 6, 16, 253, 172, 42, 180, 0, 97, 7, 160, 0, 6, 16, 251, 172]
abbrev dktX9_world_0 : List UInt8 := dkwX9_world_0 ++ dktX9_world_1
theorem dksX9_world_0 : cX9_world.data.toList.drop 0 = dktX9_world_0 := by decide +kernel
theorem dksX9_world_1 : cX9_world.data.toList.drop 24 = dktX9_world_1 := dk_seg dksX9_world_0 24 rfl rfl
theorem dksX9_world_2 : cX9_world.data.toList.drop 48 = dktX9_world_2 := dk_seg dksX9_world_1 24 rfl rfl
theorem dksX9_world_3 : cX9_world.data.toList.drop 72 = dktX9_world_3 := dk_seg dksX9_world_2 24 rfl rfl
theorem dX9_world_0 : decode cX9_world 0 = .ok (.iload_n 1, 1) := dk_27 (dk_at dksX9_world_0 0 rfl rfl)
theorem dX9_world_1 : decode cX9_world 1 = .ok (.iconst 1, 1) := dk_4 (dk_at dksX9_world_0 1 rfl rfl)
theorem dX9_world_2 : decode cX9_world 2 = .ok (.bipush 9, 2) := dk_16 9 (dk_at dksX9_world_0 2 rfl rfl)
theorem dX9_world_4 : decode cX9_world 4 = .ok (.invokestatic 87, 3) := dk_184 0 87 (dk_at dksX9_world_0 4 rfl rfl)
theorem dX9_world_7 : decode cX9_world 7 = .ok (.ifCond .ne 6, 3) := dk_154 0 6 (dk_at dksX9_world_0 7 rfl rfl)
theorem dX9_world_10 : decode cX9_world 10 = .ok (.bipush (-3), 2) := dk_16 253 (dk_at dksX9_world_0 10 rfl rfl)
theorem dX9_world_12 : decode cX9_world 12 = .ok (.ireturn, 1) := dk_172 (dk_at dksX9_world_0 12 rfl rfl)
theorem dX9_world_13 : decode cX9_world 13 = .ok (.aload_n 0, 1) := dk_42 (dk_at dksX9_world_0 13 rfl rfl)
theorem dX9_world_14 : decode cX9_world 14 = .ok (.getfield 97, 3) := dk_180 0 97 (dk_at dksX9_world_0 14 rfl rfl)
theorem dX9_world_17 : decode cX9_world 17 = .ok (.iconst 4, 1) := dk_7 (dk_at dksX9_world_0 17 rfl rfl)
theorem dX9_world_18 : decode cX9_world 18 = .ok (.if_icmp .ne 6, 3) := dk_160 0 6 (dk_at dksX9_world_0 18 rfl rfl)
theorem dX9_world_21 : decode cX9_world 21 = .ok (.bipush (-5), 2) := dk_16 251 (dk_at dksX9_world_0 21 rfl rfl)
theorem dX9_world_23 : decode cX9_world 23 = .ok (.ireturn, 1) := dk_172 (dk_at dksX9_world_0 23 rfl rfl)
theorem dX9_world_24 : decode cX9_world 24 = .ok (.iconst 0, 1) := dk_3 (dk_at dksX9_world_1 0 rfl rfl)
theorem dX9_world_25 : decode cX9_world 25 = .ok (.istore_n 2, 1) := dk_61 (dk_at dksX9_world_1 1 rfl rfl)
theorem dX9_world_26 : decode cX9_world 26 = .ok (.iload_n 2, 1) := dk_28 (dk_at dksX9_world_1 2 rfl rfl)
theorem dX9_world_27 : decode cX9_world 27 = .ok (.bipush 12, 2) := dk_16 12 (dk_at dksX9_world_1 3 rfl rfl)
theorem dX9_world_29 : decode cX9_world 29 = .ok (.if_icmp .ge 32, 3) := dk_162 0 32 (dk_at dksX9_world_1 5 rfl rfl)
theorem dX9_world_32 : decode cX9_world 32 = .ok (.aload_n 0, 1) := dk_42 (dk_at dksX9_world_1 8 rfl rfl)
theorem dX9_world_33 : decode cX9_world 33 = .ok (.getfield 26, 3) := dk_180 0 26 (dk_at dksX9_world_1 9 rfl rfl)
theorem dX9_world_36 : decode cX9_world 36 = .ok (.bipush 24, 2) := dk_16 24 (dk_at dksX9_world_1 12 rfl rfl)
theorem dX9_world_38 : decode cX9_world 38 = .ok (.bipush 12, 2) := dk_16 12 (dk_at dksX9_world_1 14 rfl rfl)
theorem dX9_world_40 : decode cX9_world 40 = .ok (.aload_n 0, 1) := dk_42 (dk_at dksX9_world_1 16 rfl rfl)
theorem dX9_world_41 : decode cX9_world 41 = .ok (.getfield 97, 3) := dk_180 0 97 (dk_at dksX9_world_1 17 rfl rfl)
theorem dX9_world_44 : decode cX9_world 44 = .ok (.imul, 1) := dk_104 (dk_at dksX9_world_1 20 rfl rfl)
theorem dX9_world_45 : decode cX9_world 45 = .ok (.iadd, 1) := dk_96 (dk_at dksX9_world_1 21 rfl rfl)
theorem dX9_world_46 : decode cX9_world 46 = .ok (.iload_n 2, 1) := dk_28 (dk_at dksX9_world_1 22 rfl rfl)
theorem dX9_world_47 : decode cX9_world 47 = .ok (.iadd, 1) := dk_96 (dk_at dksX9_world_1 23 rfl rfl)
theorem dX9_world_48 : decode cX9_world 48 = .ok (.aload_n 0, 1) := dk_42 (dk_at dksX9_world_2 0 rfl rfl)
theorem dX9_world_49 : decode cX9_world 49 = .ok (.getfield 26, 3) := dk_180 0 26 (dk_at dksX9_world_2 1 rfl rfl)
theorem dX9_world_52 : decode cX9_world 52 = .ok (.iload_n 2, 1) := dk_28 (dk_at dksX9_world_2 4 rfl rfl)
theorem dX9_world_53 : decode cX9_world 53 = .ok (.iaload, 1) := dk_46 (dk_at dksX9_world_2 5 rfl rfl)
theorem dX9_world_54 : decode cX9_world 54 = .ok (.iastore, 1) := dk_79 (dk_at dksX9_world_2 6 rfl rfl)
theorem dX9_world_55 : decode cX9_world 55 = .ok (.iinc 2 1, 3) := dk_132 2 1 (dk_at dksX9_world_2 7 rfl rfl)
theorem dX9_world_58 : decode cX9_world 58 = .ok (.goto (-32), 3) := dk_167 255 224 (dk_at dksX9_world_2 10 rfl rfl)
theorem dX9_world_61 : decode cX9_world 61 = .ok (.aload_n 0, 1) := dk_42 (dk_at dksX9_world_2 13 rfl rfl)
theorem dX9_world_62 : decode cX9_world 62 = .ok (.getfield 29, 3) := dk_180 0 29 (dk_at dksX9_world_2 14 rfl rfl)
theorem dX9_world_65 : decode cX9_world 65 = .ok (.aload_n 0, 1) := dk_42 (dk_at dksX9_world_2 17 rfl rfl)
theorem dX9_world_66 : decode cX9_world 66 = .ok (.getfield 97, 3) := dk_180 0 97 (dk_at dksX9_world_2 18 rfl rfl)
theorem dX9_world_69 : decode cX9_world 69 = .ok (.iload_n 1, 1) := dk_27 (dk_at dksX9_world_2 21 rfl rfl)
theorem dX9_world_70 : decode cX9_world 70 = .ok (.iastore, 1) := dk_79 (dk_at dksX9_world_2 22 rfl rfl)
theorem dX9_world_71 : decode cX9_world 71 = .ok (.aload_n 0, 1) := dk_42 (dk_at dksX9_world_2 23 rfl rfl)
theorem dX9_world_72 : decode cX9_world 72 = .ok (.dup, 1) := dk_89 (dk_at dksX9_world_3 0 rfl rfl)
theorem dX9_world_73 : decode cX9_world 73 = .ok (.getfield 97, 3) := dk_180 0 97 (dk_at dksX9_world_3 1 rfl rfl)
theorem dX9_world_76 : decode cX9_world 76 = .ok (.iconst 1, 1) := dk_4 (dk_at dksX9_world_3 4 rfl rfl)
theorem dX9_world_77 : decode cX9_world 77 = .ok (.iadd, 1) := dk_96 (dk_at dksX9_world_3 5 rfl rfl)
theorem dX9_world_78 : decode cX9_world 78 = .ok (.putfield 97, 3) := dk_181 0 97 (dk_at dksX9_world_3 6 rfl rfl)
theorem dX9_world_81 : decode cX9_world 81 = .ok (.aload_n 0, 1) := dk_42 (dk_at dksX9_world_3 9 rfl rfl)
theorem dX9_world_82 : decode cX9_world 82 = .ok (.getfield 97, 3) := dk_180 0 97 (dk_at dksX9_world_3 10 rfl rfl)
theorem dX9_world_85 : decode cX9_world 85 = .ok (.iconst 1, 1) := dk_4 (dk_at dksX9_world_3 13 rfl rfl)
theorem dX9_world_86 : decode cX9_world 86 = .ok (.isub, 1) := dk_100 (dk_at dksX9_world_3 14 rfl rfl)
theorem dX9_world_87 : decode cX9_world 87 = .ok (.ireturn, 1) := dk_172 (dk_at dksX9_world_3 15 rfl rfl)
abbrev cX9_unworld : ByteArray := prog_16_method_15_code
def yX9_unworld : MethodName := ⟨RX9, "unworld", "()I"⟩
def dkwX9_unworld_0 : List UInt8 := [42, 180, 0, 97, 60, 42, 3, 181, 0, 97, 27, 172]
abbrev dktX9_unworld_0 : List UInt8 := dkwX9_unworld_0 ++ []
theorem dksX9_unworld_0 : cX9_unworld.data.toList.drop 0 = dktX9_unworld_0 := by decide +kernel
theorem dX9_unworld_0 : decode cX9_unworld 0 = .ok (.aload_n 0, 1) := dk_42 (dk_at dksX9_unworld_0 0 rfl rfl)
theorem dX9_unworld_1 : decode cX9_unworld 1 = .ok (.getfield 97, 3) := dk_180 0 97 (dk_at dksX9_unworld_0 1 rfl rfl)
theorem dX9_unworld_4 : decode cX9_unworld 4 = .ok (.istore_n 1, 1) := dk_60 (dk_at dksX9_unworld_0 4 rfl rfl)
theorem dX9_unworld_5 : decode cX9_unworld 5 = .ok (.aload_n 0, 1) := dk_42 (dk_at dksX9_unworld_0 5 rfl rfl)
theorem dX9_unworld_6 : decode cX9_unworld 6 = .ok (.iconst 0, 1) := dk_3 (dk_at dksX9_unworld_0 6 rfl rfl)
theorem dX9_unworld_7 : decode cX9_unworld 7 = .ok (.putfield 97, 3) := dk_181 0 97 (dk_at dksX9_unworld_0 7 rfl rfl)
theorem dX9_unworld_10 : decode cX9_unworld 10 = .ok (.iload_n 1, 1) := dk_27 (dk_at dksX9_unworld_0 10 rfl rfl)
theorem dX9_unworld_11 : decode cX9_unworld 11 = .ok (.ireturn, 1) := dk_172 (dk_at dksX9_unworld_0 11 rfl rfl)
abbrev cX9_write : ByteArray := prog_16_method_16_code
def yX9_write : MethodName := ⟨RX9, "write", "(JI)I"⟩
def dkwX9_write_3 : List UInt8 := [180, 0, 127, 29, 96, 181, 0, 127, 42, 180, 0, 127, 172]
abbrev dktX9_write_3 : List UInt8 := dkwX9_write_3 ++ []
def dkwX9_write_2 : List UInt8 := [21, 4, 96, 31, 16, 8, 21, 4, 104, 123, 20, 0, 130, 127, 136, 79, 132, 4, 1, 167, 255, 223, 42, 89]
abbrev dktX9_write_2 : List UInt8 := dkwX9_write_2 ++ dktX9_write_3
def dkwX9_write_1 : List UInt8 := [164, 0, 6, 16, 251, 172, 3, 54, 4, 21, 4, 29, 162, 0, 33, 42, 180, 0, 32, 42, 180, 0, 127]
abbrev dktX9_write_1 : List UInt8 := dkwX9_write_1 ++ dktX9_write_2
def dkwX9_write_0 : List UInt8 := [29, 4, 16, 8, 184, 0, 87, 154, 0, 6, 16, 253, 172, 42, 180, 0, 127, 29, 96, 17, 0, 160]
abbrev dktX9_write_0 : List UInt8 := dkwX9_write_0 ++ dktX9_write_1
theorem dksX9_write_0 : cX9_write.data.toList.drop 0 = dktX9_write_0 := by decide +kernel
theorem dksX9_write_1 : cX9_write.data.toList.drop 22 = dktX9_write_1 := dk_seg dksX9_write_0 22 rfl rfl
theorem dksX9_write_2 : cX9_write.data.toList.drop 45 = dktX9_write_2 := dk_seg dksX9_write_1 23 rfl rfl
theorem dksX9_write_3 : cX9_write.data.toList.drop 69 = dktX9_write_3 := dk_seg dksX9_write_2 24 rfl rfl
theorem dX9_write_0 : decode cX9_write 0 = .ok (.iload_n 3, 1) := dk_29 (dk_at dksX9_write_0 0 rfl rfl)
theorem dX9_write_1 : decode cX9_write 1 = .ok (.iconst 1, 1) := dk_4 (dk_at dksX9_write_0 1 rfl rfl)
theorem dX9_write_2 : decode cX9_write 2 = .ok (.bipush 8, 2) := dk_16 8 (dk_at dksX9_write_0 2 rfl rfl)
theorem dX9_write_4 : decode cX9_write 4 = .ok (.invokestatic 87, 3) := dk_184 0 87 (dk_at dksX9_write_0 4 rfl rfl)
theorem dX9_write_7 : decode cX9_write 7 = .ok (.ifCond .ne 6, 3) := dk_154 0 6 (dk_at dksX9_write_0 7 rfl rfl)
theorem dX9_write_10 : decode cX9_write 10 = .ok (.bipush (-3), 2) := dk_16 253 (dk_at dksX9_write_0 10 rfl rfl)
theorem dX9_write_12 : decode cX9_write 12 = .ok (.ireturn, 1) := dk_172 (dk_at dksX9_write_0 12 rfl rfl)
theorem dX9_write_13 : decode cX9_write 13 = .ok (.aload_n 0, 1) := dk_42 (dk_at dksX9_write_0 13 rfl rfl)
theorem dX9_write_14 : decode cX9_write 14 = .ok (.getfield 127, 3) := dk_180 0 127 (dk_at dksX9_write_0 14 rfl rfl)
theorem dX9_write_17 : decode cX9_write 17 = .ok (.iload_n 3, 1) := dk_29 (dk_at dksX9_write_0 17 rfl rfl)
theorem dX9_write_18 : decode cX9_write 18 = .ok (.iadd, 1) := dk_96 (dk_at dksX9_write_0 18 rfl rfl)
theorem dX9_write_19 : decode cX9_write 19 = .ok (.sipush 160, 3) := dk_17 0 160 (dk_at dksX9_write_0 19 rfl rfl)
theorem dX9_write_22 : decode cX9_write 22 = .ok (.if_icmp .le 6, 3) := dk_164 0 6 (dk_at dksX9_write_1 0 rfl rfl)
theorem dX9_write_25 : decode cX9_write 25 = .ok (.bipush (-5), 2) := dk_16 251 (dk_at dksX9_write_1 3 rfl rfl)
theorem dX9_write_27 : decode cX9_write 27 = .ok (.ireturn, 1) := dk_172 (dk_at dksX9_write_1 5 rfl rfl)
theorem dX9_write_28 : decode cX9_write 28 = .ok (.iconst 0, 1) := dk_3 (dk_at dksX9_write_1 6 rfl rfl)
theorem dX9_write_29 : decode cX9_write 29 = .ok (.istore 4, 2) := dk_54 4 (dk_at dksX9_write_1 7 rfl rfl)
theorem dX9_write_31 : decode cX9_write 31 = .ok (.iload 4, 2) := dk_21 4 (dk_at dksX9_write_1 9 rfl rfl)
theorem dX9_write_33 : decode cX9_write 33 = .ok (.iload_n 3, 1) := dk_29 (dk_at dksX9_write_1 11 rfl rfl)
theorem dX9_write_34 : decode cX9_write 34 = .ok (.if_icmp .ge 33, 3) := dk_162 0 33 (dk_at dksX9_write_1 12 rfl rfl)
theorem dX9_write_37 : decode cX9_write 37 = .ok (.aload_n 0, 1) := dk_42 (dk_at dksX9_write_1 15 rfl rfl)
theorem dX9_write_38 : decode cX9_write 38 = .ok (.getfield 32, 3) := dk_180 0 32 (dk_at dksX9_write_1 16 rfl rfl)
theorem dX9_write_41 : decode cX9_write 41 = .ok (.aload_n 0, 1) := dk_42 (dk_at dksX9_write_1 19 rfl rfl)
theorem dX9_write_42 : decode cX9_write 42 = .ok (.getfield 127, 3) := dk_180 0 127 (dk_at dksX9_write_1 20 rfl rfl)
theorem dX9_write_45 : decode cX9_write 45 = .ok (.iload 4, 2) := dk_21 4 (dk_at dksX9_write_2 0 rfl rfl)
theorem dX9_write_47 : decode cX9_write 47 = .ok (.iadd, 1) := dk_96 (dk_at dksX9_write_2 2 rfl rfl)
theorem dX9_write_48 : decode cX9_write 48 = .ok (.lload_n 1, 1) := dk_31 (dk_at dksX9_write_2 3 rfl rfl)
theorem dX9_write_49 : decode cX9_write 49 = .ok (.bipush 8, 2) := dk_16 8 (dk_at dksX9_write_2 4 rfl rfl)
theorem dX9_write_51 : decode cX9_write 51 = .ok (.iload 4, 2) := dk_21 4 (dk_at dksX9_write_2 6 rfl rfl)
theorem dX9_write_53 : decode cX9_write 53 = .ok (.imul, 1) := dk_104 (dk_at dksX9_write_2 8 rfl rfl)
theorem dX9_write_54 : decode cX9_write 54 = .ok (.lshr, 1) := dk_123 (dk_at dksX9_write_2 9 rfl rfl)
theorem dX9_write_55 : decode cX9_write 55 = .ok (.ldc2_w 130, 3) := dk_20 0 130 (dk_at dksX9_write_2 10 rfl rfl)
theorem dX9_write_58 : decode cX9_write 58 = .ok (.land, 1) := dk_127 (dk_at dksX9_write_2 13 rfl rfl)
theorem dX9_write_59 : decode cX9_write 59 = .ok (.l2i, 1) := dk_136 (dk_at dksX9_write_2 14 rfl rfl)
theorem dX9_write_60 : decode cX9_write 60 = .ok (.iastore, 1) := dk_79 (dk_at dksX9_write_2 15 rfl rfl)
theorem dX9_write_61 : decode cX9_write 61 = .ok (.iinc 4 1, 3) := dk_132 4 1 (dk_at dksX9_write_2 16 rfl rfl)
theorem dX9_write_64 : decode cX9_write 64 = .ok (.goto (-33), 3) := dk_167 255 223 (dk_at dksX9_write_2 19 rfl rfl)
theorem dX9_write_67 : decode cX9_write 67 = .ok (.aload_n 0, 1) := dk_42 (dk_at dksX9_write_2 22 rfl rfl)
theorem dX9_write_68 : decode cX9_write 68 = .ok (.dup, 1) := dk_89 (dk_at dksX9_write_2 23 rfl rfl)
theorem dX9_write_69 : decode cX9_write 69 = .ok (.getfield 127, 3) := dk_180 0 127 (dk_at dksX9_write_3 0 rfl rfl)
theorem dX9_write_72 : decode cX9_write 72 = .ok (.iload_n 3, 1) := dk_29 (dk_at dksX9_write_3 3 rfl rfl)
theorem dX9_write_73 : decode cX9_write 73 = .ok (.iadd, 1) := dk_96 (dk_at dksX9_write_3 4 rfl rfl)
theorem dX9_write_74 : decode cX9_write 74 = .ok (.putfield 127, 3) := dk_181 0 127 (dk_at dksX9_write_3 5 rfl rfl)
theorem dX9_write_77 : decode cX9_write 77 = .ok (.aload_n 0, 1) := dk_42 (dk_at dksX9_write_3 8 rfl rfl)
theorem dX9_write_78 : decode cX9_write 78 = .ok (.getfield 127, 3) := dk_180 0 127 (dk_at dksX9_write_3 9 rfl rfl)
theorem dX9_write_81 : decode cX9_write 81 = .ok (.ireturn, 1) := dk_172 (dk_at dksX9_write_3 12 rfl rfl)
abbrev cX9_erase : ByteArray := prog_16_method_17_code
def yX9_erase : MethodName := ⟨RX9, "erase", "()I"⟩
def dkwX9_erase_0 : List UInt8 := [42, 180, 0, 127, 60, 42, 3, 181, 0, 127, 27, 172]
abbrev dktX9_erase_0 : List UInt8 := dkwX9_erase_0 ++ []
theorem dksX9_erase_0 : cX9_erase.data.toList.drop 0 = dktX9_erase_0 := by decide +kernel
theorem dX9_erase_0 : decode cX9_erase 0 = .ok (.aload_n 0, 1) := dk_42 (dk_at dksX9_erase_0 0 rfl rfl)
theorem dX9_erase_1 : decode cX9_erase 1 = .ok (.getfield 127, 3) := dk_180 0 127 (dk_at dksX9_erase_0 1 rfl rfl)
theorem dX9_erase_4 : decode cX9_erase 4 = .ok (.istore_n 1, 1) := dk_60 (dk_at dksX9_erase_0 4 rfl rfl)
theorem dX9_erase_5 : decode cX9_erase 5 = .ok (.aload_n 0, 1) := dk_42 (dk_at dksX9_erase_0 5 rfl rfl)
theorem dX9_erase_6 : decode cX9_erase 6 = .ok (.iconst 0, 1) := dk_3 (dk_at dksX9_erase_0 6 rfl rfl)
theorem dX9_erase_7 : decode cX9_erase 7 = .ok (.putfield 127, 3) := dk_181 0 127 (dk_at dksX9_erase_0 7 rfl rfl)
theorem dX9_erase_10 : decode cX9_erase 10 = .ok (.iload_n 1, 1) := dk_27 (dk_at dksX9_erase_0 10 rfl rfl)
theorem dX9_erase_11 : decode cX9_erase 11 = .ok (.ireturn, 1) := dk_172 (dk_at dksX9_erase_0 11 rfl rfl)
abbrev cX9_fault : ByteArray := prog_16_method_24_code
def yX9_fault : MethodName := ⟨RX9, "fault", "()I"⟩
def dkwX9_fault_0 : List UInt8 := [42, 182, 0, 183, 153, 0, 7, 2, 167, 0, 7, 42, 180, 0, 169, 172]
abbrev dktX9_fault_0 : List UInt8 := dkwX9_fault_0 ++ []
theorem dksX9_fault_0 : cX9_fault.data.toList.drop 0 = dktX9_fault_0 := by decide +kernel
theorem dX9_fault_0 : decode cX9_fault 0 = .ok (.aload_n 0, 1) := dk_42 (dk_at dksX9_fault_0 0 rfl rfl)
theorem dX9_fault_1 : decode cX9_fault 1 = .ok (.invokevirtual 183, 3) := dk_182 0 183 (dk_at dksX9_fault_0 1 rfl rfl)
theorem dX9_fault_4 : decode cX9_fault 4 = .ok (.ifCond .eq 7, 3) := dk_153 0 7 (dk_at dksX9_fault_0 4 rfl rfl)
theorem dX9_fault_7 : decode cX9_fault 7 = .ok (.iconst (-1), 1) := dk_2 (dk_at dksX9_fault_0 7 rfl rfl)
theorem dX9_fault_8 : decode cX9_fault 8 = .ok (.goto 7, 3) := dk_167 0 7 (dk_at dksX9_fault_0 8 rfl rfl)
theorem dX9_fault_11 : decode cX9_fault 11 = .ok (.aload_n 0, 1) := dk_42 (dk_at dksX9_fault_0 11 rfl rfl)
theorem dX9_fault_12 : decode cX9_fault 12 = .ok (.getfield 169, 3) := dk_180 0 169 (dk_at dksX9_fault_0 12 rfl rfl)
theorem dX9_fault_15 : decode cX9_fault 15 = .ok (.ireturn, 1) := dk_172 (dk_at dksX9_fault_0 15 rfl rfl)
abbrev cX9_isRead : ByteArray := prog_16_method_23_code
def yX9_isRead : MethodName := ⟨RX9, "isRead", "()Z"⟩
def dkwX9_isRead_14 : List UInt8 := [180, 0, 44, 7, 28, 4, 96, 79, 4, 172]
abbrev dktX9_isRead_14 : List UInt8 := dkwX9_isRead_14 ++ []
def dkwX9_isRead_13 : List UInt8 := [79, 27, 16, 20, 160, 0, 8, 16, 9, 167, 0, 6, 27, 4, 96, 60, 132, 3, 1, 167, 254, 222, 42]
abbrev dktX9_isRead_13 : List UInt8 := dkwX9_isRead_13 ++ dktX9_isRead_14
def dkwX9_isRead_12 : List UInt8 := [29, 46, 182, 0, 179, 27, 16, 14, 160, 0, 17, 42, 180, 0, 44, 8, 16, 6, 28, 104, 96, 6, 96, 3]
abbrev dktX9_isRead_12 : List UInt8 := dkwX9_isRead_12 ++ dktX9_isRead_13
def dkwX9_isRead_11 : List UInt8 := [180, 0, 41, 29, 46, 181, 0, 169, 3, 172, 21, 4, 16, 40, 160, 0, 15, 42, 27, 28, 42, 180, 0, 38]
abbrev dktX9_isRead_11 : List UInt8 := dkwX9_isRead_11 ++ dktX9_isRead_12
def dkwX9_isRead_10 : List UInt8 := [16, 40, 160, 0, 30, 42, 27, 28, 42, 180, 0, 38, 29, 46, 182, 0, 176, 154, 0, 15, 42, 42]
abbrev dktX9_isRead_10 : List UInt8 := dkwX9_isRead_10 ++ dktX9_isRead_11
def dkwX9_isRead_9 : List UInt8 := [161, 0, 7, 7, 167, 0, 4, 4, 181, 0, 166, 42, 180, 0, 35, 29, 46, 21, 4, 160, 0, 25, 21, 4]
abbrev dktX9_isRead_9 : List UInt8 := dkwX9_isRead_9 ++ dktX9_isRead_10
def dkwX9_isRead_8 : List UInt8 := [27, 184, 0, 172, 54, 4, 42, 21, 4, 16, 40, 160, 0, 7, 5, 167, 0, 15, 21, 4, 16, 30]
abbrev dktX9_isRead_8 : List UInt8 := dkwX9_isRead_8 ++ dktX9_isRead_9
def dkwX9_isRead_7 : List UInt8 := [160, 0, 9, 16, 50, 60, 167, 0, 15, 42, 42, 180, 0, 41, 29, 46, 181, 0, 169, 3, 172, 167, 0, 135]
abbrev dktX9_isRead_7 : List UInt8 := dkwX9_isRead_7 ++ dktX9_isRead_8
def dkwX9_isRead_6 : List UInt8 := [28, 5, 162, 0, 12, 132, 2, 1, 16, 16, 60, 167, 0, 32, 42, 180, 0, 35, 29, 46, 16, 50]
abbrev dktX9_isRead_6 : List UInt8 := dkwX9_isRead_6 ++ dktX9_isRead_7
def dkwX9_isRead_5 : List UInt8 := [8, 16, 6, 28, 104, 96, 6, 96, 4, 79, 167, 0, 57, 42, 180, 0, 35, 29, 46, 16, 31, 160, 0, 17]
abbrev dktX9_isRead_5 : List UInt8 := dkwX9_isRead_5 ++ dktX9_isRead_6
def dkwX9_isRead_4 : List UInt8 := [96, 181, 0, 166, 42, 180, 0, 35, 29, 46, 16, 20, 160, 0, 25, 21, 4, 154, 0, 20, 42, 180, 0, 44]
abbrev dktX9_isRead_4 : List UInt8 := dkwX9_isRead_4 ++ dktX9_isRead_5
def dkwX9_isRead_3 : List UInt8 := [16, 8, 21, 4, 153, 0, 7, 3, 167, 0, 5, 16, 16, 96, 28, 5, 162, 0, 7, 7, 167, 0, 4, 3]
abbrev dktX9_isRead_3 : List UInt8 := dkwX9_isRead_3 ++ dktX9_isRead_4
def dkwX9_isRead_2 : List UInt8 := [180, 0, 44, 8, 16, 6, 28, 104, 96, 6, 96, 46, 4, 160, 0, 7, 4, 167, 0, 4, 3, 54, 4, 42]
abbrev dktX9_isRead_2 : List UInt8 := dkwX9_isRead_2 ++ dktX9_isRead_3
def dkwX9_isRead_1 : List UInt8 := [167, 255, 240, 3, 60, 3, 61, 3, 62, 27, 16, 50, 159, 1, 34, 27, 16, 15, 160, 0, 146, 42]
abbrev dktX9_isRead_1 : List UInt8 := dkwX9_isRead_1 ++ dktX9_isRead_2
def dkwX9_isRead_0 : List UInt8 := [42, 182, 0, 163, 3, 60, 27, 16, 23, 162, 0, 16, 42, 180, 0, 44, 27, 2, 79, 132, 1, 1]
abbrev dktX9_isRead_0 : List UInt8 := dkwX9_isRead_0 ++ dktX9_isRead_1
theorem dksX9_isRead_0 : cX9_isRead.data.toList.drop 0 = dktX9_isRead_0 := by decide +kernel
theorem dksX9_isRead_1 : cX9_isRead.data.toList.drop 22 = dktX9_isRead_1 := dk_seg dksX9_isRead_0 22 rfl rfl
theorem dksX9_isRead_2 : cX9_isRead.data.toList.drop 44 = dktX9_isRead_2 := dk_seg dksX9_isRead_1 22 rfl rfl
theorem dksX9_isRead_3 : cX9_isRead.data.toList.drop 68 = dktX9_isRead_3 := dk_seg dksX9_isRead_2 24 rfl rfl
theorem dksX9_isRead_4 : cX9_isRead.data.toList.drop 92 = dktX9_isRead_4 := dk_seg dksX9_isRead_3 24 rfl rfl
theorem dksX9_isRead_5 : cX9_isRead.data.toList.drop 116 = dktX9_isRead_5 := dk_seg dksX9_isRead_4 24 rfl rfl
theorem dksX9_isRead_6 : cX9_isRead.data.toList.drop 140 = dktX9_isRead_6 := dk_seg dksX9_isRead_5 24 rfl rfl
theorem dksX9_isRead_7 : cX9_isRead.data.toList.drop 162 = dktX9_isRead_7 := dk_seg dksX9_isRead_6 22 rfl rfl
theorem dksX9_isRead_8 : cX9_isRead.data.toList.drop 186 = dktX9_isRead_8 := dk_seg dksX9_isRead_7 24 rfl rfl
theorem dksX9_isRead_9 : cX9_isRead.data.toList.drop 208 = dktX9_isRead_9 := dk_seg dksX9_isRead_8 22 rfl rfl
theorem dksX9_isRead_10 : cX9_isRead.data.toList.drop 232 = dktX9_isRead_10 := dk_seg dksX9_isRead_9 24 rfl rfl
theorem dksX9_isRead_11 : cX9_isRead.data.toList.drop 254 = dktX9_isRead_11 := dk_seg dksX9_isRead_10 22 rfl rfl
theorem dksX9_isRead_12 : cX9_isRead.data.toList.drop 278 = dktX9_isRead_12 := dk_seg dksX9_isRead_11 24 rfl rfl
theorem dksX9_isRead_13 : cX9_isRead.data.toList.drop 302 = dktX9_isRead_13 := dk_seg dksX9_isRead_12 24 rfl rfl
theorem dksX9_isRead_14 : cX9_isRead.data.toList.drop 325 = dktX9_isRead_14 := dk_seg dksX9_isRead_13 23 rfl rfl
theorem dX9_isRead_0 : decode cX9_isRead 0 = .ok (.aload_n 0, 1) := dk_42 (dk_at dksX9_isRead_0 0 rfl rfl)
theorem dX9_isRead_1 : decode cX9_isRead 1 = .ok (.invokevirtual 163, 3) := dk_182 0 163 (dk_at dksX9_isRead_0 1 rfl rfl)
theorem dX9_isRead_4 : decode cX9_isRead 4 = .ok (.iconst 0, 1) := dk_3 (dk_at dksX9_isRead_0 4 rfl rfl)
theorem dX9_isRead_5 : decode cX9_isRead 5 = .ok (.istore_n 1, 1) := dk_60 (dk_at dksX9_isRead_0 5 rfl rfl)
theorem dX9_isRead_6 : decode cX9_isRead 6 = .ok (.iload_n 1, 1) := dk_27 (dk_at dksX9_isRead_0 6 rfl rfl)
theorem dX9_isRead_7 : decode cX9_isRead 7 = .ok (.bipush 23, 2) := dk_16 23 (dk_at dksX9_isRead_0 7 rfl rfl)
theorem dX9_isRead_9 : decode cX9_isRead 9 = .ok (.if_icmp .ge 16, 3) := dk_162 0 16 (dk_at dksX9_isRead_0 9 rfl rfl)
theorem dX9_isRead_12 : decode cX9_isRead 12 = .ok (.aload_n 0, 1) := dk_42 (dk_at dksX9_isRead_0 12 rfl rfl)
theorem dX9_isRead_13 : decode cX9_isRead 13 = .ok (.getfield 44, 3) := dk_180 0 44 (dk_at dksX9_isRead_0 13 rfl rfl)
theorem dX9_isRead_16 : decode cX9_isRead 16 = .ok (.iload_n 1, 1) := dk_27 (dk_at dksX9_isRead_0 16 rfl rfl)
theorem dX9_isRead_17 : decode cX9_isRead 17 = .ok (.iconst (-1), 1) := dk_2 (dk_at dksX9_isRead_0 17 rfl rfl)
theorem dX9_isRead_18 : decode cX9_isRead 18 = .ok (.iastore, 1) := dk_79 (dk_at dksX9_isRead_0 18 rfl rfl)
theorem dX9_isRead_19 : decode cX9_isRead 19 = .ok (.iinc 1 1, 3) := dk_132 1 1 (dk_at dksX9_isRead_0 19 rfl rfl)
theorem dX9_isRead_22 : decode cX9_isRead 22 = .ok (.goto (-16), 3) := dk_167 255 240 (dk_at dksX9_isRead_1 0 rfl rfl)
theorem dX9_isRead_25 : decode cX9_isRead 25 = .ok (.iconst 0, 1) := dk_3 (dk_at dksX9_isRead_1 3 rfl rfl)
theorem dX9_isRead_26 : decode cX9_isRead 26 = .ok (.istore_n 1, 1) := dk_60 (dk_at dksX9_isRead_1 4 rfl rfl)
theorem dX9_isRead_27 : decode cX9_isRead 27 = .ok (.iconst 0, 1) := dk_3 (dk_at dksX9_isRead_1 5 rfl rfl)
theorem dX9_isRead_28 : decode cX9_isRead 28 = .ok (.istore_n 2, 1) := dk_61 (dk_at dksX9_isRead_1 6 rfl rfl)
theorem dX9_isRead_29 : decode cX9_isRead 29 = .ok (.iconst 0, 1) := dk_3 (dk_at dksX9_isRead_1 7 rfl rfl)
theorem dX9_isRead_30 : decode cX9_isRead 30 = .ok (.istore_n 3, 1) := dk_62 (dk_at dksX9_isRead_1 8 rfl rfl)
theorem dX9_isRead_31 : decode cX9_isRead 31 = .ok (.iload_n 1, 1) := dk_27 (dk_at dksX9_isRead_1 9 rfl rfl)
theorem dX9_isRead_32 : decode cX9_isRead 32 = .ok (.bipush 50, 2) := dk_16 50 (dk_at dksX9_isRead_1 10 rfl rfl)
theorem dX9_isRead_34 : decode cX9_isRead 34 = .ok (.if_icmp .eq 290, 3) := dk_159 1 34 (dk_at dksX9_isRead_1 12 rfl rfl)
theorem dX9_isRead_37 : decode cX9_isRead 37 = .ok (.iload_n 1, 1) := dk_27 (dk_at dksX9_isRead_1 15 rfl rfl)
theorem dX9_isRead_38 : decode cX9_isRead 38 = .ok (.bipush 15, 2) := dk_16 15 (dk_at dksX9_isRead_1 16 rfl rfl)
theorem dX9_isRead_40 : decode cX9_isRead 40 = .ok (.if_icmp .ne 146, 3) := dk_160 0 146 (dk_at dksX9_isRead_1 18 rfl rfl)
theorem dX9_isRead_43 : decode cX9_isRead 43 = .ok (.aload_n 0, 1) := dk_42 (dk_at dksX9_isRead_1 21 rfl rfl)
theorem dX9_isRead_44 : decode cX9_isRead 44 = .ok (.getfield 44, 3) := dk_180 0 44 (dk_at dksX9_isRead_2 0 rfl rfl)
theorem dX9_isRead_47 : decode cX9_isRead 47 = .ok (.iconst 5, 1) := dk_8 (dk_at dksX9_isRead_2 3 rfl rfl)
theorem dX9_isRead_48 : decode cX9_isRead 48 = .ok (.bipush 6, 2) := dk_16 6 (dk_at dksX9_isRead_2 4 rfl rfl)
theorem dX9_isRead_50 : decode cX9_isRead 50 = .ok (.iload_n 2, 1) := dk_28 (dk_at dksX9_isRead_2 6 rfl rfl)
theorem dX9_isRead_51 : decode cX9_isRead 51 = .ok (.imul, 1) := dk_104 (dk_at dksX9_isRead_2 7 rfl rfl)
theorem dX9_isRead_52 : decode cX9_isRead 52 = .ok (.iadd, 1) := dk_96 (dk_at dksX9_isRead_2 8 rfl rfl)
theorem dX9_isRead_53 : decode cX9_isRead 53 = .ok (.iconst 3, 1) := dk_6 (dk_at dksX9_isRead_2 9 rfl rfl)
theorem dX9_isRead_54 : decode cX9_isRead 54 = .ok (.iadd, 1) := dk_96 (dk_at dksX9_isRead_2 10 rfl rfl)
theorem dX9_isRead_55 : decode cX9_isRead 55 = .ok (.iaload, 1) := dk_46 (dk_at dksX9_isRead_2 11 rfl rfl)
theorem dX9_isRead_56 : decode cX9_isRead 56 = .ok (.iconst 1, 1) := dk_4 (dk_at dksX9_isRead_2 12 rfl rfl)
theorem dX9_isRead_57 : decode cX9_isRead 57 = .ok (.if_icmp .ne 7, 3) := dk_160 0 7 (dk_at dksX9_isRead_2 13 rfl rfl)
theorem dX9_isRead_60 : decode cX9_isRead 60 = .ok (.iconst 1, 1) := dk_4 (dk_at dksX9_isRead_2 16 rfl rfl)
theorem dX9_isRead_61 : decode cX9_isRead 61 = .ok (.goto 4, 3) := dk_167 0 4 (dk_at dksX9_isRead_2 17 rfl rfl)
theorem dX9_isRead_64 : decode cX9_isRead 64 = .ok (.iconst 0, 1) := dk_3 (dk_at dksX9_isRead_2 20 rfl rfl)
theorem dX9_isRead_65 : decode cX9_isRead 65 = .ok (.istore 4, 2) := dk_54 4 (dk_at dksX9_isRead_2 21 rfl rfl)
theorem dX9_isRead_67 : decode cX9_isRead 67 = .ok (.aload_n 0, 1) := dk_42 (dk_at dksX9_isRead_2 23 rfl rfl)
theorem dX9_isRead_68 : decode cX9_isRead 68 = .ok (.bipush 8, 2) := dk_16 8 (dk_at dksX9_isRead_3 0 rfl rfl)
theorem dX9_isRead_70 : decode cX9_isRead 70 = .ok (.iload 4, 2) := dk_21 4 (dk_at dksX9_isRead_3 2 rfl rfl)
theorem dX9_isRead_72 : decode cX9_isRead 72 = .ok (.ifCond .eq 7, 3) := dk_153 0 7 (dk_at dksX9_isRead_3 4 rfl rfl)
theorem dX9_isRead_75 : decode cX9_isRead 75 = .ok (.iconst 0, 1) := dk_3 (dk_at dksX9_isRead_3 7 rfl rfl)
theorem dX9_isRead_76 : decode cX9_isRead 76 = .ok (.goto 5, 3) := dk_167 0 5 (dk_at dksX9_isRead_3 8 rfl rfl)
theorem dX9_isRead_79 : decode cX9_isRead 79 = .ok (.bipush 16, 2) := dk_16 16 (dk_at dksX9_isRead_3 11 rfl rfl)
theorem dX9_isRead_81 : decode cX9_isRead 81 = .ok (.iadd, 1) := dk_96 (dk_at dksX9_isRead_3 13 rfl rfl)
theorem dX9_isRead_82 : decode cX9_isRead 82 = .ok (.iload_n 2, 1) := dk_28 (dk_at dksX9_isRead_3 14 rfl rfl)
theorem dX9_isRead_83 : decode cX9_isRead 83 = .ok (.iconst 2, 1) := dk_5 (dk_at dksX9_isRead_3 15 rfl rfl)
theorem dX9_isRead_84 : decode cX9_isRead 84 = .ok (.if_icmp .ge 7, 3) := dk_162 0 7 (dk_at dksX9_isRead_3 16 rfl rfl)
theorem dX9_isRead_87 : decode cX9_isRead 87 = .ok (.iconst 4, 1) := dk_7 (dk_at dksX9_isRead_3 19 rfl rfl)
theorem dX9_isRead_88 : decode cX9_isRead 88 = .ok (.goto 4, 3) := dk_167 0 4 (dk_at dksX9_isRead_3 20 rfl rfl)
theorem dX9_isRead_91 : decode cX9_isRead 91 = .ok (.iconst 0, 1) := dk_3 (dk_at dksX9_isRead_3 23 rfl rfl)
theorem dX9_isRead_92 : decode cX9_isRead 92 = .ok (.iadd, 1) := dk_96 (dk_at dksX9_isRead_4 0 rfl rfl)
theorem dX9_isRead_93 : decode cX9_isRead 93 = .ok (.putfield 166, 3) := dk_181 0 166 (dk_at dksX9_isRead_4 1 rfl rfl)
theorem dX9_isRead_96 : decode cX9_isRead 96 = .ok (.aload_n 0, 1) := dk_42 (dk_at dksX9_isRead_4 4 rfl rfl)
theorem dX9_isRead_97 : decode cX9_isRead 97 = .ok (.getfield 35, 3) := dk_180 0 35 (dk_at dksX9_isRead_4 5 rfl rfl)
theorem dX9_isRead_100 : decode cX9_isRead 100 = .ok (.iload_n 3, 1) := dk_29 (dk_at dksX9_isRead_4 8 rfl rfl)
theorem dX9_isRead_101 : decode cX9_isRead 101 = .ok (.iaload, 1) := dk_46 (dk_at dksX9_isRead_4 9 rfl rfl)
theorem dX9_isRead_102 : decode cX9_isRead 102 = .ok (.bipush 20, 2) := dk_16 20 (dk_at dksX9_isRead_4 10 rfl rfl)
theorem dX9_isRead_104 : decode cX9_isRead 104 = .ok (.if_icmp .ne 25, 3) := dk_160 0 25 (dk_at dksX9_isRead_4 12 rfl rfl)
theorem dX9_isRead_107 : decode cX9_isRead 107 = .ok (.iload 4, 2) := dk_21 4 (dk_at dksX9_isRead_4 15 rfl rfl)
theorem dX9_isRead_109 : decode cX9_isRead 109 = .ok (.ifCond .ne 20, 3) := dk_154 0 20 (dk_at dksX9_isRead_4 17 rfl rfl)
theorem dX9_isRead_112 : decode cX9_isRead 112 = .ok (.aload_n 0, 1) := dk_42 (dk_at dksX9_isRead_4 20 rfl rfl)
theorem dX9_isRead_113 : decode cX9_isRead 113 = .ok (.getfield 44, 3) := dk_180 0 44 (dk_at dksX9_isRead_4 21 rfl rfl)
theorem dX9_isRead_116 : decode cX9_isRead 116 = .ok (.iconst 5, 1) := dk_8 (dk_at dksX9_isRead_5 0 rfl rfl)
theorem dX9_isRead_117 : decode cX9_isRead 117 = .ok (.bipush 6, 2) := dk_16 6 (dk_at dksX9_isRead_5 1 rfl rfl)
theorem dX9_isRead_119 : decode cX9_isRead 119 = .ok (.iload_n 2, 1) := dk_28 (dk_at dksX9_isRead_5 3 rfl rfl)
theorem dX9_isRead_120 : decode cX9_isRead 120 = .ok (.imul, 1) := dk_104 (dk_at dksX9_isRead_5 4 rfl rfl)
theorem dX9_isRead_121 : decode cX9_isRead 121 = .ok (.iadd, 1) := dk_96 (dk_at dksX9_isRead_5 5 rfl rfl)
theorem dX9_isRead_122 : decode cX9_isRead 122 = .ok (.iconst 3, 1) := dk_6 (dk_at dksX9_isRead_5 6 rfl rfl)
theorem dX9_isRead_123 : decode cX9_isRead 123 = .ok (.iadd, 1) := dk_96 (dk_at dksX9_isRead_5 7 rfl rfl)
theorem dX9_isRead_124 : decode cX9_isRead 124 = .ok (.iconst 1, 1) := dk_4 (dk_at dksX9_isRead_5 8 rfl rfl)
theorem dX9_isRead_125 : decode cX9_isRead 125 = .ok (.iastore, 1) := dk_79 (dk_at dksX9_isRead_5 9 rfl rfl)
theorem dX9_isRead_126 : decode cX9_isRead 126 = .ok (.goto 57, 3) := dk_167 0 57 (dk_at dksX9_isRead_5 10 rfl rfl)
theorem dX9_isRead_129 : decode cX9_isRead 129 = .ok (.aload_n 0, 1) := dk_42 (dk_at dksX9_isRead_5 13 rfl rfl)
theorem dX9_isRead_130 : decode cX9_isRead 130 = .ok (.getfield 35, 3) := dk_180 0 35 (dk_at dksX9_isRead_5 14 rfl rfl)
theorem dX9_isRead_133 : decode cX9_isRead 133 = .ok (.iload_n 3, 1) := dk_29 (dk_at dksX9_isRead_5 17 rfl rfl)
theorem dX9_isRead_134 : decode cX9_isRead 134 = .ok (.iaload, 1) := dk_46 (dk_at dksX9_isRead_5 18 rfl rfl)
theorem dX9_isRead_135 : decode cX9_isRead 135 = .ok (.bipush 31, 2) := dk_16 31 (dk_at dksX9_isRead_5 19 rfl rfl)
theorem dX9_isRead_137 : decode cX9_isRead 137 = .ok (.if_icmp .ne 17, 3) := dk_160 0 17 (dk_at dksX9_isRead_5 21 rfl rfl)
theorem dX9_isRead_140 : decode cX9_isRead 140 = .ok (.iload_n 2, 1) := dk_28 (dk_at dksX9_isRead_6 0 rfl rfl)
theorem dX9_isRead_141 : decode cX9_isRead 141 = .ok (.iconst 2, 1) := dk_5 (dk_at dksX9_isRead_6 1 rfl rfl)
theorem dX9_isRead_142 : decode cX9_isRead 142 = .ok (.if_icmp .ge 12, 3) := dk_162 0 12 (dk_at dksX9_isRead_6 2 rfl rfl)
theorem dX9_isRead_145 : decode cX9_isRead 145 = .ok (.iinc 2 1, 3) := dk_132 2 1 (dk_at dksX9_isRead_6 5 rfl rfl)
theorem dX9_isRead_148 : decode cX9_isRead 148 = .ok (.bipush 16, 2) := dk_16 16 (dk_at dksX9_isRead_6 8 rfl rfl)
theorem dX9_isRead_150 : decode cX9_isRead 150 = .ok (.istore_n 1, 1) := dk_60 (dk_at dksX9_isRead_6 10 rfl rfl)
theorem dX9_isRead_151 : decode cX9_isRead 151 = .ok (.goto 32, 3) := dk_167 0 32 (dk_at dksX9_isRead_6 11 rfl rfl)
theorem dX9_isRead_154 : decode cX9_isRead 154 = .ok (.aload_n 0, 1) := dk_42 (dk_at dksX9_isRead_6 14 rfl rfl)
theorem dX9_isRead_155 : decode cX9_isRead 155 = .ok (.getfield 35, 3) := dk_180 0 35 (dk_at dksX9_isRead_6 15 rfl rfl)
theorem dX9_isRead_158 : decode cX9_isRead 158 = .ok (.iload_n 3, 1) := dk_29 (dk_at dksX9_isRead_6 18 rfl rfl)
theorem dX9_isRead_159 : decode cX9_isRead 159 = .ok (.iaload, 1) := dk_46 (dk_at dksX9_isRead_6 19 rfl rfl)
theorem dX9_isRead_160 : decode cX9_isRead 160 = .ok (.bipush 50, 2) := dk_16 50 (dk_at dksX9_isRead_6 20 rfl rfl)
theorem dX9_isRead_162 : decode cX9_isRead 162 = .ok (.if_icmp .ne 9, 3) := dk_160 0 9 (dk_at dksX9_isRead_7 0 rfl rfl)
theorem dX9_isRead_165 : decode cX9_isRead 165 = .ok (.bipush 50, 2) := dk_16 50 (dk_at dksX9_isRead_7 3 rfl rfl)
theorem dX9_isRead_167 : decode cX9_isRead 167 = .ok (.istore_n 1, 1) := dk_60 (dk_at dksX9_isRead_7 5 rfl rfl)
theorem dX9_isRead_168 : decode cX9_isRead 168 = .ok (.goto 15, 3) := dk_167 0 15 (dk_at dksX9_isRead_7 6 rfl rfl)
theorem dX9_isRead_171 : decode cX9_isRead 171 = .ok (.aload_n 0, 1) := dk_42 (dk_at dksX9_isRead_7 9 rfl rfl)
theorem dX9_isRead_172 : decode cX9_isRead 172 = .ok (.aload_n 0, 1) := dk_42 (dk_at dksX9_isRead_7 10 rfl rfl)
theorem dX9_isRead_173 : decode cX9_isRead 173 = .ok (.getfield 41, 3) := dk_180 0 41 (dk_at dksX9_isRead_7 11 rfl rfl)
theorem dX9_isRead_176 : decode cX9_isRead 176 = .ok (.iload_n 3, 1) := dk_29 (dk_at dksX9_isRead_7 14 rfl rfl)
theorem dX9_isRead_177 : decode cX9_isRead 177 = .ok (.iaload, 1) := dk_46 (dk_at dksX9_isRead_7 15 rfl rfl)
theorem dX9_isRead_178 : decode cX9_isRead 178 = .ok (.putfield 169, 3) := dk_181 0 169 (dk_at dksX9_isRead_7 16 rfl rfl)
theorem dX9_isRead_181 : decode cX9_isRead 181 = .ok (.iconst 0, 1) := dk_3 (dk_at dksX9_isRead_7 19 rfl rfl)
theorem dX9_isRead_182 : decode cX9_isRead 182 = .ok (.ireturn, 1) := dk_172 (dk_at dksX9_isRead_7 20 rfl rfl)
theorem dX9_isRead_183 : decode cX9_isRead 183 = .ok (.goto 135, 3) := dk_167 0 135 (dk_at dksX9_isRead_7 21 rfl rfl)
theorem dX9_isRead_186 : decode cX9_isRead 186 = .ok (.iload_n 1, 1) := dk_27 (dk_at dksX9_isRead_8 0 rfl rfl)
theorem dX9_isRead_187 : decode cX9_isRead 187 = .ok (.invokestatic 172, 3) := dk_184 0 172 (dk_at dksX9_isRead_8 1 rfl rfl)
theorem dX9_isRead_190 : decode cX9_isRead 190 = .ok (.istore 4, 2) := dk_54 4 (dk_at dksX9_isRead_8 4 rfl rfl)
theorem dX9_isRead_192 : decode cX9_isRead 192 = .ok (.aload_n 0, 1) := dk_42 (dk_at dksX9_isRead_8 6 rfl rfl)
theorem dX9_isRead_193 : decode cX9_isRead 193 = .ok (.iload 4, 2) := dk_21 4 (dk_at dksX9_isRead_8 7 rfl rfl)
theorem dX9_isRead_195 : decode cX9_isRead 195 = .ok (.bipush 40, 2) := dk_16 40 (dk_at dksX9_isRead_8 9 rfl rfl)
theorem dX9_isRead_197 : decode cX9_isRead 197 = .ok (.if_icmp .ne 7, 3) := dk_160 0 7 (dk_at dksX9_isRead_8 11 rfl rfl)
theorem dX9_isRead_200 : decode cX9_isRead 200 = .ok (.iconst 2, 1) := dk_5 (dk_at dksX9_isRead_8 14 rfl rfl)
theorem dX9_isRead_201 : decode cX9_isRead 201 = .ok (.goto 15, 3) := dk_167 0 15 (dk_at dksX9_isRead_8 15 rfl rfl)
theorem dX9_isRead_204 : decode cX9_isRead 204 = .ok (.iload 4, 2) := dk_21 4 (dk_at dksX9_isRead_8 18 rfl rfl)
theorem dX9_isRead_206 : decode cX9_isRead 206 = .ok (.bipush 30, 2) := dk_16 30 (dk_at dksX9_isRead_8 20 rfl rfl)
theorem dX9_isRead_208 : decode cX9_isRead 208 = .ok (.if_icmp .lt 7, 3) := dk_161 0 7 (dk_at dksX9_isRead_9 0 rfl rfl)
theorem dX9_isRead_211 : decode cX9_isRead 211 = .ok (.iconst 4, 1) := dk_7 (dk_at dksX9_isRead_9 3 rfl rfl)
theorem dX9_isRead_212 : decode cX9_isRead 212 = .ok (.goto 4, 3) := dk_167 0 4 (dk_at dksX9_isRead_9 4 rfl rfl)
theorem dX9_isRead_215 : decode cX9_isRead 215 = .ok (.iconst 1, 1) := dk_4 (dk_at dksX9_isRead_9 7 rfl rfl)
theorem dX9_isRead_216 : decode cX9_isRead 216 = .ok (.putfield 166, 3) := dk_181 0 166 (dk_at dksX9_isRead_9 8 rfl rfl)
theorem dX9_isRead_219 : decode cX9_isRead 219 = .ok (.aload_n 0, 1) := dk_42 (dk_at dksX9_isRead_9 11 rfl rfl)
theorem dX9_isRead_220 : decode cX9_isRead 220 = .ok (.getfield 35, 3) := dk_180 0 35 (dk_at dksX9_isRead_9 12 rfl rfl)
theorem dX9_isRead_223 : decode cX9_isRead 223 = .ok (.iload_n 3, 1) := dk_29 (dk_at dksX9_isRead_9 15 rfl rfl)
theorem dX9_isRead_224 : decode cX9_isRead 224 = .ok (.iaload, 1) := dk_46 (dk_at dksX9_isRead_9 16 rfl rfl)
theorem dX9_isRead_225 : decode cX9_isRead 225 = .ok (.iload 4, 2) := dk_21 4 (dk_at dksX9_isRead_9 17 rfl rfl)
theorem dX9_isRead_227 : decode cX9_isRead 227 = .ok (.if_icmp .ne 25, 3) := dk_160 0 25 (dk_at dksX9_isRead_9 19 rfl rfl)
theorem dX9_isRead_230 : decode cX9_isRead 230 = .ok (.iload 4, 2) := dk_21 4 (dk_at dksX9_isRead_9 22 rfl rfl)
theorem dX9_isRead_232 : decode cX9_isRead 232 = .ok (.bipush 40, 2) := dk_16 40 (dk_at dksX9_isRead_10 0 rfl rfl)
theorem dX9_isRead_234 : decode cX9_isRead 234 = .ok (.if_icmp .ne 30, 3) := dk_160 0 30 (dk_at dksX9_isRead_10 2 rfl rfl)
theorem dX9_isRead_237 : decode cX9_isRead 237 = .ok (.aload_n 0, 1) := dk_42 (dk_at dksX9_isRead_10 5 rfl rfl)
theorem dX9_isRead_238 : decode cX9_isRead 238 = .ok (.iload_n 1, 1) := dk_27 (dk_at dksX9_isRead_10 6 rfl rfl)
theorem dX9_isRead_239 : decode cX9_isRead 239 = .ok (.iload_n 2, 1) := dk_28 (dk_at dksX9_isRead_10 7 rfl rfl)
theorem dX9_isRead_240 : decode cX9_isRead 240 = .ok (.aload_n 0, 1) := dk_42 (dk_at dksX9_isRead_10 8 rfl rfl)
theorem dX9_isRead_241 : decode cX9_isRead 241 = .ok (.getfield 38, 3) := dk_180 0 38 (dk_at dksX9_isRead_10 9 rfl rfl)
theorem dX9_isRead_244 : decode cX9_isRead 244 = .ok (.iload_n 3, 1) := dk_29 (dk_at dksX9_isRead_10 12 rfl rfl)
theorem dX9_isRead_245 : decode cX9_isRead 245 = .ok (.iaload, 1) := dk_46 (dk_at dksX9_isRead_10 13 rfl rfl)
theorem dX9_isRead_246 : decode cX9_isRead 246 = .ok (.invokevirtual 176, 3) := dk_182 0 176 (dk_at dksX9_isRead_10 14 rfl rfl)
theorem dX9_isRead_249 : decode cX9_isRead 249 = .ok (.ifCond .ne 15, 3) := dk_154 0 15 (dk_at dksX9_isRead_10 17 rfl rfl)
theorem dX9_isRead_252 : decode cX9_isRead 252 = .ok (.aload_n 0, 1) := dk_42 (dk_at dksX9_isRead_10 20 rfl rfl)
theorem dX9_isRead_253 : decode cX9_isRead 253 = .ok (.aload_n 0, 1) := dk_42 (dk_at dksX9_isRead_10 21 rfl rfl)
theorem dX9_isRead_254 : decode cX9_isRead 254 = .ok (.getfield 41, 3) := dk_180 0 41 (dk_at dksX9_isRead_11 0 rfl rfl)
theorem dX9_isRead_257 : decode cX9_isRead 257 = .ok (.iload_n 3, 1) := dk_29 (dk_at dksX9_isRead_11 3 rfl rfl)
theorem dX9_isRead_258 : decode cX9_isRead 258 = .ok (.iaload, 1) := dk_46 (dk_at dksX9_isRead_11 4 rfl rfl)
theorem dX9_isRead_259 : decode cX9_isRead 259 = .ok (.putfield 169, 3) := dk_181 0 169 (dk_at dksX9_isRead_11 5 rfl rfl)
theorem dX9_isRead_262 : decode cX9_isRead 262 = .ok (.iconst 0, 1) := dk_3 (dk_at dksX9_isRead_11 8 rfl rfl)
theorem dX9_isRead_263 : decode cX9_isRead 263 = .ok (.ireturn, 1) := dk_172 (dk_at dksX9_isRead_11 9 rfl rfl)
theorem dX9_isRead_264 : decode cX9_isRead 264 = .ok (.iload 4, 2) := dk_21 4 (dk_at dksX9_isRead_11 10 rfl rfl)
theorem dX9_isRead_266 : decode cX9_isRead 266 = .ok (.bipush 40, 2) := dk_16 40 (dk_at dksX9_isRead_11 12 rfl rfl)
theorem dX9_isRead_268 : decode cX9_isRead 268 = .ok (.if_icmp .ne 15, 3) := dk_160 0 15 (dk_at dksX9_isRead_11 14 rfl rfl)
theorem dX9_isRead_271 : decode cX9_isRead 271 = .ok (.aload_n 0, 1) := dk_42 (dk_at dksX9_isRead_11 17 rfl rfl)
theorem dX9_isRead_272 : decode cX9_isRead 272 = .ok (.iload_n 1, 1) := dk_27 (dk_at dksX9_isRead_11 18 rfl rfl)
theorem dX9_isRead_273 : decode cX9_isRead 273 = .ok (.iload_n 2, 1) := dk_28 (dk_at dksX9_isRead_11 19 rfl rfl)
theorem dX9_isRead_274 : decode cX9_isRead 274 = .ok (.aload_n 0, 1) := dk_42 (dk_at dksX9_isRead_11 20 rfl rfl)
theorem dX9_isRead_275 : decode cX9_isRead 275 = .ok (.getfield 38, 3) := dk_180 0 38 (dk_at dksX9_isRead_11 21 rfl rfl)
theorem dX9_isRead_278 : decode cX9_isRead 278 = .ok (.iload_n 3, 1) := dk_29 (dk_at dksX9_isRead_12 0 rfl rfl)
theorem dX9_isRead_279 : decode cX9_isRead 279 = .ok (.iaload, 1) := dk_46 (dk_at dksX9_isRead_12 1 rfl rfl)
theorem dX9_isRead_280 : decode cX9_isRead 280 = .ok (.invokevirtual 179, 3) := dk_182 0 179 (dk_at dksX9_isRead_12 2 rfl rfl)
theorem dX9_isRead_283 : decode cX9_isRead 283 = .ok (.iload_n 1, 1) := dk_27 (dk_at dksX9_isRead_12 5 rfl rfl)
theorem dX9_isRead_284 : decode cX9_isRead 284 = .ok (.bipush 14, 2) := dk_16 14 (dk_at dksX9_isRead_12 6 rfl rfl)
theorem dX9_isRead_286 : decode cX9_isRead 286 = .ok (.if_icmp .ne 17, 3) := dk_160 0 17 (dk_at dksX9_isRead_12 8 rfl rfl)
theorem dX9_isRead_289 : decode cX9_isRead 289 = .ok (.aload_n 0, 1) := dk_42 (dk_at dksX9_isRead_12 11 rfl rfl)
theorem dX9_isRead_290 : decode cX9_isRead 290 = .ok (.getfield 44, 3) := dk_180 0 44 (dk_at dksX9_isRead_12 12 rfl rfl)
theorem dX9_isRead_293 : decode cX9_isRead 293 = .ok (.iconst 5, 1) := dk_8 (dk_at dksX9_isRead_12 15 rfl rfl)
theorem dX9_isRead_294 : decode cX9_isRead 294 = .ok (.bipush 6, 2) := dk_16 6 (dk_at dksX9_isRead_12 16 rfl rfl)
theorem dX9_isRead_296 : decode cX9_isRead 296 = .ok (.iload_n 2, 1) := dk_28 (dk_at dksX9_isRead_12 18 rfl rfl)
theorem dX9_isRead_297 : decode cX9_isRead 297 = .ok (.imul, 1) := dk_104 (dk_at dksX9_isRead_12 19 rfl rfl)
theorem dX9_isRead_298 : decode cX9_isRead 298 = .ok (.iadd, 1) := dk_96 (dk_at dksX9_isRead_12 20 rfl rfl)
theorem dX9_isRead_299 : decode cX9_isRead 299 = .ok (.iconst 3, 1) := dk_6 (dk_at dksX9_isRead_12 21 rfl rfl)
theorem dX9_isRead_300 : decode cX9_isRead 300 = .ok (.iadd, 1) := dk_96 (dk_at dksX9_isRead_12 22 rfl rfl)
theorem dX9_isRead_301 : decode cX9_isRead 301 = .ok (.iconst 0, 1) := dk_3 (dk_at dksX9_isRead_12 23 rfl rfl)
theorem dX9_isRead_302 : decode cX9_isRead 302 = .ok (.iastore, 1) := dk_79 (dk_at dksX9_isRead_13 0 rfl rfl)
theorem dX9_isRead_303 : decode cX9_isRead 303 = .ok (.iload_n 1, 1) := dk_27 (dk_at dksX9_isRead_13 1 rfl rfl)
theorem dX9_isRead_304 : decode cX9_isRead 304 = .ok (.bipush 20, 2) := dk_16 20 (dk_at dksX9_isRead_13 2 rfl rfl)
theorem dX9_isRead_306 : decode cX9_isRead 306 = .ok (.if_icmp .ne 8, 3) := dk_160 0 8 (dk_at dksX9_isRead_13 4 rfl rfl)
theorem dX9_isRead_309 : decode cX9_isRead 309 = .ok (.bipush 9, 2) := dk_16 9 (dk_at dksX9_isRead_13 7 rfl rfl)
theorem dX9_isRead_311 : decode cX9_isRead 311 = .ok (.goto 6, 3) := dk_167 0 6 (dk_at dksX9_isRead_13 9 rfl rfl)
theorem dX9_isRead_314 : decode cX9_isRead 314 = .ok (.iload_n 1, 1) := dk_27 (dk_at dksX9_isRead_13 12 rfl rfl)
theorem dX9_isRead_315 : decode cX9_isRead 315 = .ok (.iconst 1, 1) := dk_4 (dk_at dksX9_isRead_13 13 rfl rfl)
theorem dX9_isRead_316 : decode cX9_isRead 316 = .ok (.iadd, 1) := dk_96 (dk_at dksX9_isRead_13 14 rfl rfl)
theorem dX9_isRead_317 : decode cX9_isRead 317 = .ok (.istore_n 1, 1) := dk_60 (dk_at dksX9_isRead_13 15 rfl rfl)
theorem dX9_isRead_318 : decode cX9_isRead 318 = .ok (.iinc 3 1, 3) := dk_132 3 1 (dk_at dksX9_isRead_13 16 rfl rfl)
theorem dX9_isRead_321 : decode cX9_isRead 321 = .ok (.goto (-290), 3) := dk_167 254 222 (dk_at dksX9_isRead_13 19 rfl rfl)
theorem dX9_isRead_324 : decode cX9_isRead 324 = .ok (.aload_n 0, 1) := dk_42 (dk_at dksX9_isRead_13 22 rfl rfl)
theorem dX9_isRead_325 : decode cX9_isRead 325 = .ok (.getfield 44, 3) := dk_180 0 44 (dk_at dksX9_isRead_14 0 rfl rfl)
theorem dX9_isRead_328 : decode cX9_isRead 328 = .ok (.iconst 4, 1) := dk_7 (dk_at dksX9_isRead_14 3 rfl rfl)
theorem dX9_isRead_329 : decode cX9_isRead 329 = .ok (.iload_n 2, 1) := dk_28 (dk_at dksX9_isRead_14 4 rfl rfl)
theorem dX9_isRead_330 : decode cX9_isRead 330 = .ok (.iconst 1, 1) := dk_4 (dk_at dksX9_isRead_14 5 rfl rfl)
theorem dX9_isRead_331 : decode cX9_isRead 331 = .ok (.iadd, 1) := dk_96 (dk_at dksX9_isRead_14 6 rfl rfl)
theorem dX9_isRead_332 : decode cX9_isRead 332 = .ok (.iastore, 1) := dk_79 (dk_at dksX9_isRead_14 7 rfl rfl)
theorem dX9_isRead_333 : decode cX9_isRead 333 = .ok (.iconst 1, 1) := dk_4 (dk_at dksX9_isRead_14 8 rfl rfl)
theorem dX9_isRead_334 : decode cX9_isRead 334 = .ok (.ireturn, 1) := dk_172 (dk_at dksX9_isRead_14 9 rfl rfl)
abbrev cX9_findTokens : ByteArray := prog_16_method_19_code
def yX9_findTokens : MethodName := ⟨RX9, "findTokens", "()V"⟩
def dkwX9_findTokens_14 : List UInt8 := [180, 0, 152, 16, 50, 79, 42, 180, 0, 41, 42, 180, 0, 152, 42, 180, 0, 127, 79, 177]
abbrev dktX9_findTokens_14 : List UInt8 := dkwX9_findTokens_14 ++ []
def dkwX9_findTokens_13 : List UInt8 := [42, 180, 0, 152, 28, 79, 42, 89, 180, 0, 152, 4, 96, 181, 0, 152, 167, 254, 201, 42, 180, 0, 35, 42]
abbrev dktX9_findTokens_13 : List UInt8 := dkwX9_findTokens_13 ++ dktX9_findTokens_14
def dkwX9_findTokens_12 : List UInt8 := [180, 0, 35, 42, 180, 0, 152, 29, 79, 42, 180, 0, 38, 42, 180, 0, 152, 21, 4, 79, 42, 180, 0, 41]
abbrev dktX9_findTokens_12 : List UInt8 := dkwX9_findTokens_12 ++ dktX9_findTokens_13
def dkwX9_findTokens_11 : List UInt8 := [46, 16, 32, 160, 0, 7, 2, 167, 0, 5, 16, 99, 62, 132, 1, 1, 29, 2, 159, 0, 44, 42]
abbrev dktX9_findTokens_11 : List UInt8 := dkwX9_findTokens_11 ++ dktX9_findTokens_12
def dkwX9_findTokens_10 : List UInt8 := [167, 0, 36, 42, 180, 0, 32, 27, 46, 16, 44, 160, 0, 8, 16, 31, 167, 0, 20, 42, 180, 0, 32, 27]
abbrev dktX9_findTokens_10 : List UInt8 := dkwX9_findTokens_10 ++ dktX9_findTokens_11
def dkwX9_findTokens_9 : List UInt8 := [167, 0, 5, 16, 40, 62, 167, 0, 56, 42, 180, 0, 32, 27, 46, 16, 58, 160, 0, 8, 16, 30]
abbrev dktX9_findTokens_9 : List UInt8 := dkwX9_findTokens_9 ++ dktX9_findTokens_10
def dkwX9_findTokens_8 : List UInt8 := [100, 167, 0, 5, 21, 4, 54, 4, 132, 1, 1, 167, 255, 200, 27, 28, 100, 5, 164, 0, 8, 16, 99]
abbrev dktX9_findTokens_8 : List UInt8 := dkwX9_findTokens_8 ++ dktX9_findTokens_9
def dkwX9_findTokens_7 : List UInt8 := [153, 0, 38, 27, 28, 100, 5, 162, 0, 21, 16, 10, 21, 4, 104, 42, 180, 0, 32, 27, 46, 96, 16, 48]
abbrev dktX9_findTokens_7 : List UInt8 := dkwX9_findTokens_7 ++ dktX9_findTokens_8
def dkwX9_findTokens_6 : List UInt8 := [153, 0, 80, 27, 42, 180, 0, 127, 162, 0, 54, 42, 180, 0, 32, 27, 46, 16, 48, 16, 57, 184, 0, 87]
abbrev dktX9_findTokens_6 : List UInt8 := dkwX9_findTokens_6 ++ dktX9_findTokens_7
def dkwX9_findTokens_5 : List UInt8 := [22, 5, 184, 0, 159, 62, 167, 0, 149, 42, 180, 0, 32, 27, 46, 16, 48, 16, 57, 184, 0, 87]
abbrev dktX9_findTokens_5 : List UInt8 := dkwX9_findTokens_5 ++ dktX9_findTokens_6
def dkwX9_findTokens_4 : List UInt8 := [22, 5, 55, 5, 132, 1, 1, 167, 255, 196, 27, 28, 100, 16, 8, 164, 0, 8, 16, 99, 167, 0, 8]
abbrev dktX9_findTokens_4 : List UInt8 := dkwX9_findTokens_4 ++ dktX9_findTokens_5
def dkwX9_findTokens_3 : List UInt8 := [162, 0, 24, 20, 0, 155, 22, 5, 105, 42, 180, 0, 32, 27, 46, 133, 97, 20, 0, 157, 101, 167, 0, 5]
abbrev dktX9_findTokens_3 : List UInt8 := dkwX9_findTokens_3 ++ dktX9_findTokens_4
def dkwX9_findTokens_2 : List UInt8 := [162, 0, 58, 42, 180, 0, 32, 27, 46, 16, 97, 16, 122, 184, 0, 87, 153, 0, 42, 27, 28, 100, 16, 9]
abbrev dktX9_findTokens_2 : List UInt8 := dkwX9_findTokens_2 ++ dktX9_findTokens_3
def dkwX9_findTokens_1 : List UInt8 := [180, 0, 32, 27, 46, 16, 97, 16, 122, 184, 0, 87, 153, 0, 91, 9, 55, 5, 27, 42, 180, 0, 127]
abbrev dktX9_findTokens_1 : List UInt8 := dkwX9_findTokens_1 ++ dktX9_findTokens_2
def dkwX9_findTokens_0 : List UInt8 := [42, 3, 181, 0, 152, 3, 60, 27, 42, 180, 0, 127, 162, 1, 53, 27, 61, 2, 62, 3, 54, 4, 42]
abbrev dktX9_findTokens_0 : List UInt8 := dkwX9_findTokens_0 ++ dktX9_findTokens_1
theorem dksX9_findTokens_0 : cX9_findTokens.data.toList.drop 0 = dktX9_findTokens_0 := by decide +kernel
theorem dksX9_findTokens_1 : cX9_findTokens.data.toList.drop 23 = dktX9_findTokens_1 := dk_seg dksX9_findTokens_0 23 rfl rfl
theorem dksX9_findTokens_2 : cX9_findTokens.data.toList.drop 46 = dktX9_findTokens_2 := dk_seg dksX9_findTokens_1 23 rfl rfl
theorem dksX9_findTokens_3 : cX9_findTokens.data.toList.drop 70 = dktX9_findTokens_3 := dk_seg dksX9_findTokens_2 24 rfl rfl
theorem dksX9_findTokens_4 : cX9_findTokens.data.toList.drop 94 = dktX9_findTokens_4 := dk_seg dksX9_findTokens_3 24 rfl rfl
theorem dksX9_findTokens_5 : cX9_findTokens.data.toList.drop 117 = dktX9_findTokens_5 := dk_seg dksX9_findTokens_4 23 rfl rfl
theorem dksX9_findTokens_6 : cX9_findTokens.data.toList.drop 139 = dktX9_findTokens_6 := dk_seg dksX9_findTokens_5 22 rfl rfl
theorem dksX9_findTokens_7 : cX9_findTokens.data.toList.drop 163 = dktX9_findTokens_7 := dk_seg dksX9_findTokens_6 24 rfl rfl
theorem dksX9_findTokens_8 : cX9_findTokens.data.toList.drop 187 = dktX9_findTokens_8 := dk_seg dksX9_findTokens_7 24 rfl rfl
theorem dksX9_findTokens_9 : cX9_findTokens.data.toList.drop 210 = dktX9_findTokens_9 := dk_seg dksX9_findTokens_8 23 rfl rfl
theorem dksX9_findTokens_10 : cX9_findTokens.data.toList.drop 232 = dktX9_findTokens_10 := dk_seg dksX9_findTokens_9 22 rfl rfl
theorem dksX9_findTokens_11 : cX9_findTokens.data.toList.drop 256 = dktX9_findTokens_11 := dk_seg dksX9_findTokens_10 24 rfl rfl
theorem dksX9_findTokens_12 : cX9_findTokens.data.toList.drop 278 = dktX9_findTokens_12 := dk_seg dksX9_findTokens_11 22 rfl rfl
theorem dksX9_findTokens_13 : cX9_findTokens.data.toList.drop 302 = dktX9_findTokens_13 := dk_seg dksX9_findTokens_12 24 rfl rfl
theorem dksX9_findTokens_14 : cX9_findTokens.data.toList.drop 326 = dktX9_findTokens_14 := dk_seg dksX9_findTokens_13 24 rfl rfl
theorem dX9_findTokens_0 : decode cX9_findTokens 0 = .ok (.aload_n 0, 1) := dk_42 (dk_at dksX9_findTokens_0 0 rfl rfl)
theorem dX9_findTokens_1 : decode cX9_findTokens 1 = .ok (.iconst 0, 1) := dk_3 (dk_at dksX9_findTokens_0 1 rfl rfl)
theorem dX9_findTokens_2 : decode cX9_findTokens 2 = .ok (.putfield 152, 3) := dk_181 0 152 (dk_at dksX9_findTokens_0 2 rfl rfl)
theorem dX9_findTokens_5 : decode cX9_findTokens 5 = .ok (.iconst 0, 1) := dk_3 (dk_at dksX9_findTokens_0 5 rfl rfl)
theorem dX9_findTokens_6 : decode cX9_findTokens 6 = .ok (.istore_n 1, 1) := dk_60 (dk_at dksX9_findTokens_0 6 rfl rfl)
theorem dX9_findTokens_7 : decode cX9_findTokens 7 = .ok (.iload_n 1, 1) := dk_27 (dk_at dksX9_findTokens_0 7 rfl rfl)
theorem dX9_findTokens_8 : decode cX9_findTokens 8 = .ok (.aload_n 0, 1) := dk_42 (dk_at dksX9_findTokens_0 8 rfl rfl)
theorem dX9_findTokens_9 : decode cX9_findTokens 9 = .ok (.getfield 127, 3) := dk_180 0 127 (dk_at dksX9_findTokens_0 9 rfl rfl)
theorem dX9_findTokens_12 : decode cX9_findTokens 12 = .ok (.if_icmp .ge 309, 3) := dk_162 1 53 (dk_at dksX9_findTokens_0 12 rfl rfl)
theorem dX9_findTokens_15 : decode cX9_findTokens 15 = .ok (.iload_n 1, 1) := dk_27 (dk_at dksX9_findTokens_0 15 rfl rfl)
theorem dX9_findTokens_16 : decode cX9_findTokens 16 = .ok (.istore_n 2, 1) := dk_61 (dk_at dksX9_findTokens_0 16 rfl rfl)
theorem dX9_findTokens_17 : decode cX9_findTokens 17 = .ok (.iconst (-1), 1) := dk_2 (dk_at dksX9_findTokens_0 17 rfl rfl)
theorem dX9_findTokens_18 : decode cX9_findTokens 18 = .ok (.istore_n 3, 1) := dk_62 (dk_at dksX9_findTokens_0 18 rfl rfl)
theorem dX9_findTokens_19 : decode cX9_findTokens 19 = .ok (.iconst 0, 1) := dk_3 (dk_at dksX9_findTokens_0 19 rfl rfl)
theorem dX9_findTokens_20 : decode cX9_findTokens 20 = .ok (.istore 4, 2) := dk_54 4 (dk_at dksX9_findTokens_0 20 rfl rfl)
theorem dX9_findTokens_22 : decode cX9_findTokens 22 = .ok (.aload_n 0, 1) := dk_42 (dk_at dksX9_findTokens_0 22 rfl rfl)
theorem dX9_findTokens_23 : decode cX9_findTokens 23 = .ok (.getfield 32, 3) := dk_180 0 32 (dk_at dksX9_findTokens_1 0 rfl rfl)
theorem dX9_findTokens_26 : decode cX9_findTokens 26 = .ok (.iload_n 1, 1) := dk_27 (dk_at dksX9_findTokens_1 3 rfl rfl)
theorem dX9_findTokens_27 : decode cX9_findTokens 27 = .ok (.iaload, 1) := dk_46 (dk_at dksX9_findTokens_1 4 rfl rfl)
theorem dX9_findTokens_28 : decode cX9_findTokens 28 = .ok (.bipush 97, 2) := dk_16 97 (dk_at dksX9_findTokens_1 5 rfl rfl)
theorem dX9_findTokens_30 : decode cX9_findTokens 30 = .ok (.bipush 122, 2) := dk_16 122 (dk_at dksX9_findTokens_1 7 rfl rfl)
theorem dX9_findTokens_32 : decode cX9_findTokens 32 = .ok (.invokestatic 87, 3) := dk_184 0 87 (dk_at dksX9_findTokens_1 9 rfl rfl)
theorem dX9_findTokens_35 : decode cX9_findTokens 35 = .ok (.ifCond .eq 91, 3) := dk_153 0 91 (dk_at dksX9_findTokens_1 12 rfl rfl)
theorem dX9_findTokens_38 : decode cX9_findTokens 38 = .ok (.lconst 0, 1) := dk_9 (dk_at dksX9_findTokens_1 15 rfl rfl)
theorem dX9_findTokens_39 : decode cX9_findTokens 39 = .ok (.lstore 5, 2) := dk_55 5 (dk_at dksX9_findTokens_1 16 rfl rfl)
theorem dX9_findTokens_41 : decode cX9_findTokens 41 = .ok (.iload_n 1, 1) := dk_27 (dk_at dksX9_findTokens_1 18 rfl rfl)
theorem dX9_findTokens_42 : decode cX9_findTokens 42 = .ok (.aload_n 0, 1) := dk_42 (dk_at dksX9_findTokens_1 19 rfl rfl)
theorem dX9_findTokens_43 : decode cX9_findTokens 43 = .ok (.getfield 127, 3) := dk_180 0 127 (dk_at dksX9_findTokens_1 20 rfl rfl)
theorem dX9_findTokens_46 : decode cX9_findTokens 46 = .ok (.if_icmp .ge 58, 3) := dk_162 0 58 (dk_at dksX9_findTokens_2 0 rfl rfl)
theorem dX9_findTokens_49 : decode cX9_findTokens 49 = .ok (.aload_n 0, 1) := dk_42 (dk_at dksX9_findTokens_2 3 rfl rfl)
theorem dX9_findTokens_50 : decode cX9_findTokens 50 = .ok (.getfield 32, 3) := dk_180 0 32 (dk_at dksX9_findTokens_2 4 rfl rfl)
theorem dX9_findTokens_53 : decode cX9_findTokens 53 = .ok (.iload_n 1, 1) := dk_27 (dk_at dksX9_findTokens_2 7 rfl rfl)
theorem dX9_findTokens_54 : decode cX9_findTokens 54 = .ok (.iaload, 1) := dk_46 (dk_at dksX9_findTokens_2 8 rfl rfl)
theorem dX9_findTokens_55 : decode cX9_findTokens 55 = .ok (.bipush 97, 2) := dk_16 97 (dk_at dksX9_findTokens_2 9 rfl rfl)
theorem dX9_findTokens_57 : decode cX9_findTokens 57 = .ok (.bipush 122, 2) := dk_16 122 (dk_at dksX9_findTokens_2 11 rfl rfl)
theorem dX9_findTokens_59 : decode cX9_findTokens 59 = .ok (.invokestatic 87, 3) := dk_184 0 87 (dk_at dksX9_findTokens_2 13 rfl rfl)
theorem dX9_findTokens_62 : decode cX9_findTokens 62 = .ok (.ifCond .eq 42, 3) := dk_153 0 42 (dk_at dksX9_findTokens_2 16 rfl rfl)
theorem dX9_findTokens_65 : decode cX9_findTokens 65 = .ok (.iload_n 1, 1) := dk_27 (dk_at dksX9_findTokens_2 19 rfl rfl)
theorem dX9_findTokens_66 : decode cX9_findTokens 66 = .ok (.iload_n 2, 1) := dk_28 (dk_at dksX9_findTokens_2 20 rfl rfl)
theorem dX9_findTokens_67 : decode cX9_findTokens 67 = .ok (.isub, 1) := dk_100 (dk_at dksX9_findTokens_2 21 rfl rfl)
theorem dX9_findTokens_68 : decode cX9_findTokens 68 = .ok (.bipush 9, 2) := dk_16 9 (dk_at dksX9_findTokens_2 22 rfl rfl)
theorem dX9_findTokens_70 : decode cX9_findTokens 70 = .ok (.if_icmp .ge 24, 3) := dk_162 0 24 (dk_at dksX9_findTokens_3 0 rfl rfl)
theorem dX9_findTokens_73 : decode cX9_findTokens 73 = .ok (.ldc2_w 155, 3) := dk_20 0 155 (dk_at dksX9_findTokens_3 3 rfl rfl)
theorem dX9_findTokens_76 : decode cX9_findTokens 76 = .ok (.lload 5, 2) := dk_22 5 (dk_at dksX9_findTokens_3 6 rfl rfl)
theorem dX9_findTokens_78 : decode cX9_findTokens 78 = .ok (.lmul, 1) := dk_105 (dk_at dksX9_findTokens_3 8 rfl rfl)
theorem dX9_findTokens_79 : decode cX9_findTokens 79 = .ok (.aload_n 0, 1) := dk_42 (dk_at dksX9_findTokens_3 9 rfl rfl)
theorem dX9_findTokens_80 : decode cX9_findTokens 80 = .ok (.getfield 32, 3) := dk_180 0 32 (dk_at dksX9_findTokens_3 10 rfl rfl)
theorem dX9_findTokens_83 : decode cX9_findTokens 83 = .ok (.iload_n 1, 1) := dk_27 (dk_at dksX9_findTokens_3 13 rfl rfl)
theorem dX9_findTokens_84 : decode cX9_findTokens 84 = .ok (.iaload, 1) := dk_46 (dk_at dksX9_findTokens_3 14 rfl rfl)
theorem dX9_findTokens_85 : decode cX9_findTokens 85 = .ok (.i2l, 1) := dk_133 (dk_at dksX9_findTokens_3 15 rfl rfl)
theorem dX9_findTokens_86 : decode cX9_findTokens 86 = .ok (.ladd, 1) := dk_97 (dk_at dksX9_findTokens_3 16 rfl rfl)
theorem dX9_findTokens_87 : decode cX9_findTokens 87 = .ok (.ldc2_w 157, 3) := dk_20 0 157 (dk_at dksX9_findTokens_3 17 rfl rfl)
theorem dX9_findTokens_90 : decode cX9_findTokens 90 = .ok (.lsub, 1) := dk_101 (dk_at dksX9_findTokens_3 20 rfl rfl)
theorem dX9_findTokens_91 : decode cX9_findTokens 91 = .ok (.goto 5, 3) := dk_167 0 5 (dk_at dksX9_findTokens_3 21 rfl rfl)
theorem dX9_findTokens_94 : decode cX9_findTokens 94 = .ok (.lload 5, 2) := dk_22 5 (dk_at dksX9_findTokens_4 0 rfl rfl)
theorem dX9_findTokens_96 : decode cX9_findTokens 96 = .ok (.lstore 5, 2) := dk_55 5 (dk_at dksX9_findTokens_4 2 rfl rfl)
theorem dX9_findTokens_98 : decode cX9_findTokens 98 = .ok (.iinc 1 1, 3) := dk_132 1 1 (dk_at dksX9_findTokens_4 4 rfl rfl)
theorem dX9_findTokens_101 : decode cX9_findTokens 101 = .ok (.goto (-60), 3) := dk_167 255 196 (dk_at dksX9_findTokens_4 7 rfl rfl)
theorem dX9_findTokens_104 : decode cX9_findTokens 104 = .ok (.iload_n 1, 1) := dk_27 (dk_at dksX9_findTokens_4 10 rfl rfl)
theorem dX9_findTokens_105 : decode cX9_findTokens 105 = .ok (.iload_n 2, 1) := dk_28 (dk_at dksX9_findTokens_4 11 rfl rfl)
theorem dX9_findTokens_106 : decode cX9_findTokens 106 = .ok (.isub, 1) := dk_100 (dk_at dksX9_findTokens_4 12 rfl rfl)
theorem dX9_findTokens_107 : decode cX9_findTokens 107 = .ok (.bipush 8, 2) := dk_16 8 (dk_at dksX9_findTokens_4 13 rfl rfl)
theorem dX9_findTokens_109 : decode cX9_findTokens 109 = .ok (.if_icmp .le 8, 3) := dk_164 0 8 (dk_at dksX9_findTokens_4 15 rfl rfl)
theorem dX9_findTokens_112 : decode cX9_findTokens 112 = .ok (.bipush 99, 2) := dk_16 99 (dk_at dksX9_findTokens_4 18 rfl rfl)
theorem dX9_findTokens_114 : decode cX9_findTokens 114 = .ok (.goto 8, 3) := dk_167 0 8 (dk_at dksX9_findTokens_4 20 rfl rfl)
theorem dX9_findTokens_117 : decode cX9_findTokens 117 = .ok (.lload 5, 2) := dk_22 5 (dk_at dksX9_findTokens_5 0 rfl rfl)
theorem dX9_findTokens_119 : decode cX9_findTokens 119 = .ok (.invokestatic 159, 3) := dk_184 0 159 (dk_at dksX9_findTokens_5 2 rfl rfl)
theorem dX9_findTokens_122 : decode cX9_findTokens 122 = .ok (.istore_n 3, 1) := dk_62 (dk_at dksX9_findTokens_5 5 rfl rfl)
theorem dX9_findTokens_123 : decode cX9_findTokens 123 = .ok (.goto 149, 3) := dk_167 0 149 (dk_at dksX9_findTokens_5 6 rfl rfl)
theorem dX9_findTokens_126 : decode cX9_findTokens 126 = .ok (.aload_n 0, 1) := dk_42 (dk_at dksX9_findTokens_5 9 rfl rfl)
theorem dX9_findTokens_127 : decode cX9_findTokens 127 = .ok (.getfield 32, 3) := dk_180 0 32 (dk_at dksX9_findTokens_5 10 rfl rfl)
theorem dX9_findTokens_130 : decode cX9_findTokens 130 = .ok (.iload_n 1, 1) := dk_27 (dk_at dksX9_findTokens_5 13 rfl rfl)
theorem dX9_findTokens_131 : decode cX9_findTokens 131 = .ok (.iaload, 1) := dk_46 (dk_at dksX9_findTokens_5 14 rfl rfl)
theorem dX9_findTokens_132 : decode cX9_findTokens 132 = .ok (.bipush 48, 2) := dk_16 48 (dk_at dksX9_findTokens_5 15 rfl rfl)
theorem dX9_findTokens_134 : decode cX9_findTokens 134 = .ok (.bipush 57, 2) := dk_16 57 (dk_at dksX9_findTokens_5 17 rfl rfl)
theorem dX9_findTokens_136 : decode cX9_findTokens 136 = .ok (.invokestatic 87, 3) := dk_184 0 87 (dk_at dksX9_findTokens_5 19 rfl rfl)
theorem dX9_findTokens_139 : decode cX9_findTokens 139 = .ok (.ifCond .eq 80, 3) := dk_153 0 80 (dk_at dksX9_findTokens_6 0 rfl rfl)
theorem dX9_findTokens_142 : decode cX9_findTokens 142 = .ok (.iload_n 1, 1) := dk_27 (dk_at dksX9_findTokens_6 3 rfl rfl)
theorem dX9_findTokens_143 : decode cX9_findTokens 143 = .ok (.aload_n 0, 1) := dk_42 (dk_at dksX9_findTokens_6 4 rfl rfl)
theorem dX9_findTokens_144 : decode cX9_findTokens 144 = .ok (.getfield 127, 3) := dk_180 0 127 (dk_at dksX9_findTokens_6 5 rfl rfl)
theorem dX9_findTokens_147 : decode cX9_findTokens 147 = .ok (.if_icmp .ge 54, 3) := dk_162 0 54 (dk_at dksX9_findTokens_6 8 rfl rfl)
theorem dX9_findTokens_150 : decode cX9_findTokens 150 = .ok (.aload_n 0, 1) := dk_42 (dk_at dksX9_findTokens_6 11 rfl rfl)
theorem dX9_findTokens_151 : decode cX9_findTokens 151 = .ok (.getfield 32, 3) := dk_180 0 32 (dk_at dksX9_findTokens_6 12 rfl rfl)
theorem dX9_findTokens_154 : decode cX9_findTokens 154 = .ok (.iload_n 1, 1) := dk_27 (dk_at dksX9_findTokens_6 15 rfl rfl)
theorem dX9_findTokens_155 : decode cX9_findTokens 155 = .ok (.iaload, 1) := dk_46 (dk_at dksX9_findTokens_6 16 rfl rfl)
theorem dX9_findTokens_156 : decode cX9_findTokens 156 = .ok (.bipush 48, 2) := dk_16 48 (dk_at dksX9_findTokens_6 17 rfl rfl)
theorem dX9_findTokens_158 : decode cX9_findTokens 158 = .ok (.bipush 57, 2) := dk_16 57 (dk_at dksX9_findTokens_6 19 rfl rfl)
theorem dX9_findTokens_160 : decode cX9_findTokens 160 = .ok (.invokestatic 87, 3) := dk_184 0 87 (dk_at dksX9_findTokens_6 21 rfl rfl)
theorem dX9_findTokens_163 : decode cX9_findTokens 163 = .ok (.ifCond .eq 38, 3) := dk_153 0 38 (dk_at dksX9_findTokens_7 0 rfl rfl)
theorem dX9_findTokens_166 : decode cX9_findTokens 166 = .ok (.iload_n 1, 1) := dk_27 (dk_at dksX9_findTokens_7 3 rfl rfl)
theorem dX9_findTokens_167 : decode cX9_findTokens 167 = .ok (.iload_n 2, 1) := dk_28 (dk_at dksX9_findTokens_7 4 rfl rfl)
theorem dX9_findTokens_168 : decode cX9_findTokens 168 = .ok (.isub, 1) := dk_100 (dk_at dksX9_findTokens_7 5 rfl rfl)
theorem dX9_findTokens_169 : decode cX9_findTokens 169 = .ok (.iconst 2, 1) := dk_5 (dk_at dksX9_findTokens_7 6 rfl rfl)
theorem dX9_findTokens_170 : decode cX9_findTokens 170 = .ok (.if_icmp .ge 21, 3) := dk_162 0 21 (dk_at dksX9_findTokens_7 7 rfl rfl)
theorem dX9_findTokens_173 : decode cX9_findTokens 173 = .ok (.bipush 10, 2) := dk_16 10 (dk_at dksX9_findTokens_7 10 rfl rfl)
theorem dX9_findTokens_175 : decode cX9_findTokens 175 = .ok (.iload 4, 2) := dk_21 4 (dk_at dksX9_findTokens_7 12 rfl rfl)
theorem dX9_findTokens_177 : decode cX9_findTokens 177 = .ok (.imul, 1) := dk_104 (dk_at dksX9_findTokens_7 14 rfl rfl)
theorem dX9_findTokens_178 : decode cX9_findTokens 178 = .ok (.aload_n 0, 1) := dk_42 (dk_at dksX9_findTokens_7 15 rfl rfl)
theorem dX9_findTokens_179 : decode cX9_findTokens 179 = .ok (.getfield 32, 3) := dk_180 0 32 (dk_at dksX9_findTokens_7 16 rfl rfl)
theorem dX9_findTokens_182 : decode cX9_findTokens 182 = .ok (.iload_n 1, 1) := dk_27 (dk_at dksX9_findTokens_7 19 rfl rfl)
theorem dX9_findTokens_183 : decode cX9_findTokens 183 = .ok (.iaload, 1) := dk_46 (dk_at dksX9_findTokens_7 20 rfl rfl)
theorem dX9_findTokens_184 : decode cX9_findTokens 184 = .ok (.iadd, 1) := dk_96 (dk_at dksX9_findTokens_7 21 rfl rfl)
theorem dX9_findTokens_185 : decode cX9_findTokens 185 = .ok (.bipush 48, 2) := dk_16 48 (dk_at dksX9_findTokens_7 22 rfl rfl)
theorem dX9_findTokens_187 : decode cX9_findTokens 187 = .ok (.isub, 1) := dk_100 (dk_at dksX9_findTokens_8 0 rfl rfl)
theorem dX9_findTokens_188 : decode cX9_findTokens 188 = .ok (.goto 5, 3) := dk_167 0 5 (dk_at dksX9_findTokens_8 1 rfl rfl)
theorem dX9_findTokens_191 : decode cX9_findTokens 191 = .ok (.iload 4, 2) := dk_21 4 (dk_at dksX9_findTokens_8 4 rfl rfl)
theorem dX9_findTokens_193 : decode cX9_findTokens 193 = .ok (.istore 4, 2) := dk_54 4 (dk_at dksX9_findTokens_8 6 rfl rfl)
theorem dX9_findTokens_195 : decode cX9_findTokens 195 = .ok (.iinc 1 1, 3) := dk_132 1 1 (dk_at dksX9_findTokens_8 8 rfl rfl)
theorem dX9_findTokens_198 : decode cX9_findTokens 198 = .ok (.goto (-56), 3) := dk_167 255 200 (dk_at dksX9_findTokens_8 11 rfl rfl)
theorem dX9_findTokens_201 : decode cX9_findTokens 201 = .ok (.iload_n 1, 1) := dk_27 (dk_at dksX9_findTokens_8 14 rfl rfl)
theorem dX9_findTokens_202 : decode cX9_findTokens 202 = .ok (.iload_n 2, 1) := dk_28 (dk_at dksX9_findTokens_8 15 rfl rfl)
theorem dX9_findTokens_203 : decode cX9_findTokens 203 = .ok (.isub, 1) := dk_100 (dk_at dksX9_findTokens_8 16 rfl rfl)
theorem dX9_findTokens_204 : decode cX9_findTokens 204 = .ok (.iconst 2, 1) := dk_5 (dk_at dksX9_findTokens_8 17 rfl rfl)
theorem dX9_findTokens_205 : decode cX9_findTokens 205 = .ok (.if_icmp .le 8, 3) := dk_164 0 8 (dk_at dksX9_findTokens_8 18 rfl rfl)
theorem dX9_findTokens_208 : decode cX9_findTokens 208 = .ok (.bipush 99, 2) := dk_16 99 (dk_at dksX9_findTokens_8 21 rfl rfl)
theorem dX9_findTokens_210 : decode cX9_findTokens 210 = .ok (.goto 5, 3) := dk_167 0 5 (dk_at dksX9_findTokens_9 0 rfl rfl)
theorem dX9_findTokens_213 : decode cX9_findTokens 213 = .ok (.bipush 40, 2) := dk_16 40 (dk_at dksX9_findTokens_9 3 rfl rfl)
theorem dX9_findTokens_215 : decode cX9_findTokens 215 = .ok (.istore_n 3, 1) := dk_62 (dk_at dksX9_findTokens_9 5 rfl rfl)
theorem dX9_findTokens_216 : decode cX9_findTokens 216 = .ok (.goto 56, 3) := dk_167 0 56 (dk_at dksX9_findTokens_9 6 rfl rfl)
theorem dX9_findTokens_219 : decode cX9_findTokens 219 = .ok (.aload_n 0, 1) := dk_42 (dk_at dksX9_findTokens_9 9 rfl rfl)
theorem dX9_findTokens_220 : decode cX9_findTokens 220 = .ok (.getfield 32, 3) := dk_180 0 32 (dk_at dksX9_findTokens_9 10 rfl rfl)
theorem dX9_findTokens_223 : decode cX9_findTokens 223 = .ok (.iload_n 1, 1) := dk_27 (dk_at dksX9_findTokens_9 13 rfl rfl)
theorem dX9_findTokens_224 : decode cX9_findTokens 224 = .ok (.iaload, 1) := dk_46 (dk_at dksX9_findTokens_9 14 rfl rfl)
theorem dX9_findTokens_225 : decode cX9_findTokens 225 = .ok (.bipush 58, 2) := dk_16 58 (dk_at dksX9_findTokens_9 15 rfl rfl)
theorem dX9_findTokens_227 : decode cX9_findTokens 227 = .ok (.if_icmp .ne 8, 3) := dk_160 0 8 (dk_at dksX9_findTokens_9 17 rfl rfl)
theorem dX9_findTokens_230 : decode cX9_findTokens 230 = .ok (.bipush 30, 2) := dk_16 30 (dk_at dksX9_findTokens_9 20 rfl rfl)
theorem dX9_findTokens_232 : decode cX9_findTokens 232 = .ok (.goto 36, 3) := dk_167 0 36 (dk_at dksX9_findTokens_10 0 rfl rfl)
theorem dX9_findTokens_235 : decode cX9_findTokens 235 = .ok (.aload_n 0, 1) := dk_42 (dk_at dksX9_findTokens_10 3 rfl rfl)
theorem dX9_findTokens_236 : decode cX9_findTokens 236 = .ok (.getfield 32, 3) := dk_180 0 32 (dk_at dksX9_findTokens_10 4 rfl rfl)
theorem dX9_findTokens_239 : decode cX9_findTokens 239 = .ok (.iload_n 1, 1) := dk_27 (dk_at dksX9_findTokens_10 7 rfl rfl)
theorem dX9_findTokens_240 : decode cX9_findTokens 240 = .ok (.iaload, 1) := dk_46 (dk_at dksX9_findTokens_10 8 rfl rfl)
theorem dX9_findTokens_241 : decode cX9_findTokens 241 = .ok (.bipush 44, 2) := dk_16 44 (dk_at dksX9_findTokens_10 9 rfl rfl)
theorem dX9_findTokens_243 : decode cX9_findTokens 243 = .ok (.if_icmp .ne 8, 3) := dk_160 0 8 (dk_at dksX9_findTokens_10 11 rfl rfl)
theorem dX9_findTokens_246 : decode cX9_findTokens 246 = .ok (.bipush 31, 2) := dk_16 31 (dk_at dksX9_findTokens_10 14 rfl rfl)
theorem dX9_findTokens_248 : decode cX9_findTokens 248 = .ok (.goto 20, 3) := dk_167 0 20 (dk_at dksX9_findTokens_10 16 rfl rfl)
theorem dX9_findTokens_251 : decode cX9_findTokens 251 = .ok (.aload_n 0, 1) := dk_42 (dk_at dksX9_findTokens_10 19 rfl rfl)
theorem dX9_findTokens_252 : decode cX9_findTokens 252 = .ok (.getfield 32, 3) := dk_180 0 32 (dk_at dksX9_findTokens_10 20 rfl rfl)
theorem dX9_findTokens_255 : decode cX9_findTokens 255 = .ok (.iload_n 1, 1) := dk_27 (dk_at dksX9_findTokens_10 23 rfl rfl)
theorem dX9_findTokens_256 : decode cX9_findTokens 256 = .ok (.iaload, 1) := dk_46 (dk_at dksX9_findTokens_11 0 rfl rfl)
theorem dX9_findTokens_257 : decode cX9_findTokens 257 = .ok (.bipush 32, 2) := dk_16 32 (dk_at dksX9_findTokens_11 1 rfl rfl)
theorem dX9_findTokens_259 : decode cX9_findTokens 259 = .ok (.if_icmp .ne 7, 3) := dk_160 0 7 (dk_at dksX9_findTokens_11 3 rfl rfl)
theorem dX9_findTokens_262 : decode cX9_findTokens 262 = .ok (.iconst (-1), 1) := dk_2 (dk_at dksX9_findTokens_11 6 rfl rfl)
theorem dX9_findTokens_263 : decode cX9_findTokens 263 = .ok (.goto 5, 3) := dk_167 0 5 (dk_at dksX9_findTokens_11 7 rfl rfl)
theorem dX9_findTokens_266 : decode cX9_findTokens 266 = .ok (.bipush 99, 2) := dk_16 99 (dk_at dksX9_findTokens_11 10 rfl rfl)
theorem dX9_findTokens_268 : decode cX9_findTokens 268 = .ok (.istore_n 3, 1) := dk_62 (dk_at dksX9_findTokens_11 12 rfl rfl)
theorem dX9_findTokens_269 : decode cX9_findTokens 269 = .ok (.iinc 1 1, 3) := dk_132 1 1 (dk_at dksX9_findTokens_11 13 rfl rfl)
theorem dX9_findTokens_272 : decode cX9_findTokens 272 = .ok (.iload_n 3, 1) := dk_29 (dk_at dksX9_findTokens_11 16 rfl rfl)
theorem dX9_findTokens_273 : decode cX9_findTokens 273 = .ok (.iconst (-1), 1) := dk_2 (dk_at dksX9_findTokens_11 17 rfl rfl)
theorem dX9_findTokens_274 : decode cX9_findTokens 274 = .ok (.if_icmp .eq 44, 3) := dk_159 0 44 (dk_at dksX9_findTokens_11 18 rfl rfl)
theorem dX9_findTokens_277 : decode cX9_findTokens 277 = .ok (.aload_n 0, 1) := dk_42 (dk_at dksX9_findTokens_11 21 rfl rfl)
theorem dX9_findTokens_278 : decode cX9_findTokens 278 = .ok (.getfield 35, 3) := dk_180 0 35 (dk_at dksX9_findTokens_12 0 rfl rfl)
theorem dX9_findTokens_281 : decode cX9_findTokens 281 = .ok (.aload_n 0, 1) := dk_42 (dk_at dksX9_findTokens_12 3 rfl rfl)
theorem dX9_findTokens_282 : decode cX9_findTokens 282 = .ok (.getfield 152, 3) := dk_180 0 152 (dk_at dksX9_findTokens_12 4 rfl rfl)
theorem dX9_findTokens_285 : decode cX9_findTokens 285 = .ok (.iload_n 3, 1) := dk_29 (dk_at dksX9_findTokens_12 7 rfl rfl)
theorem dX9_findTokens_286 : decode cX9_findTokens 286 = .ok (.iastore, 1) := dk_79 (dk_at dksX9_findTokens_12 8 rfl rfl)
theorem dX9_findTokens_287 : decode cX9_findTokens 287 = .ok (.aload_n 0, 1) := dk_42 (dk_at dksX9_findTokens_12 9 rfl rfl)
theorem dX9_findTokens_288 : decode cX9_findTokens 288 = .ok (.getfield 38, 3) := dk_180 0 38 (dk_at dksX9_findTokens_12 10 rfl rfl)
theorem dX9_findTokens_291 : decode cX9_findTokens 291 = .ok (.aload_n 0, 1) := dk_42 (dk_at dksX9_findTokens_12 13 rfl rfl)
theorem dX9_findTokens_292 : decode cX9_findTokens 292 = .ok (.getfield 152, 3) := dk_180 0 152 (dk_at dksX9_findTokens_12 14 rfl rfl)
theorem dX9_findTokens_295 : decode cX9_findTokens 295 = .ok (.iload 4, 2) := dk_21 4 (dk_at dksX9_findTokens_12 17 rfl rfl)
theorem dX9_findTokens_297 : decode cX9_findTokens 297 = .ok (.iastore, 1) := dk_79 (dk_at dksX9_findTokens_12 19 rfl rfl)
theorem dX9_findTokens_298 : decode cX9_findTokens 298 = .ok (.aload_n 0, 1) := dk_42 (dk_at dksX9_findTokens_12 20 rfl rfl)
theorem dX9_findTokens_299 : decode cX9_findTokens 299 = .ok (.getfield 41, 3) := dk_180 0 41 (dk_at dksX9_findTokens_12 21 rfl rfl)
theorem dX9_findTokens_302 : decode cX9_findTokens 302 = .ok (.aload_n 0, 1) := dk_42 (dk_at dksX9_findTokens_13 0 rfl rfl)
theorem dX9_findTokens_303 : decode cX9_findTokens 303 = .ok (.getfield 152, 3) := dk_180 0 152 (dk_at dksX9_findTokens_13 1 rfl rfl)
theorem dX9_findTokens_306 : decode cX9_findTokens 306 = .ok (.iload_n 2, 1) := dk_28 (dk_at dksX9_findTokens_13 4 rfl rfl)
theorem dX9_findTokens_307 : decode cX9_findTokens 307 = .ok (.iastore, 1) := dk_79 (dk_at dksX9_findTokens_13 5 rfl rfl)
theorem dX9_findTokens_308 : decode cX9_findTokens 308 = .ok (.aload_n 0, 1) := dk_42 (dk_at dksX9_findTokens_13 6 rfl rfl)
theorem dX9_findTokens_309 : decode cX9_findTokens 309 = .ok (.dup, 1) := dk_89 (dk_at dksX9_findTokens_13 7 rfl rfl)
theorem dX9_findTokens_310 : decode cX9_findTokens 310 = .ok (.getfield 152, 3) := dk_180 0 152 (dk_at dksX9_findTokens_13 8 rfl rfl)
theorem dX9_findTokens_313 : decode cX9_findTokens 313 = .ok (.iconst 1, 1) := dk_4 (dk_at dksX9_findTokens_13 11 rfl rfl)
theorem dX9_findTokens_314 : decode cX9_findTokens 314 = .ok (.iadd, 1) := dk_96 (dk_at dksX9_findTokens_13 12 rfl rfl)
theorem dX9_findTokens_315 : decode cX9_findTokens 315 = .ok (.putfield 152, 3) := dk_181 0 152 (dk_at dksX9_findTokens_13 13 rfl rfl)
theorem dX9_findTokens_318 : decode cX9_findTokens 318 = .ok (.goto (-311), 3) := dk_167 254 201 (dk_at dksX9_findTokens_13 16 rfl rfl)
theorem dX9_findTokens_321 : decode cX9_findTokens 321 = .ok (.aload_n 0, 1) := dk_42 (dk_at dksX9_findTokens_13 19 rfl rfl)
theorem dX9_findTokens_322 : decode cX9_findTokens 322 = .ok (.getfield 35, 3) := dk_180 0 35 (dk_at dksX9_findTokens_13 20 rfl rfl)
theorem dX9_findTokens_325 : decode cX9_findTokens 325 = .ok (.aload_n 0, 1) := dk_42 (dk_at dksX9_findTokens_13 23 rfl rfl)
theorem dX9_findTokens_326 : decode cX9_findTokens 326 = .ok (.getfield 152, 3) := dk_180 0 152 (dk_at dksX9_findTokens_14 0 rfl rfl)
theorem dX9_findTokens_329 : decode cX9_findTokens 329 = .ok (.bipush 50, 2) := dk_16 50 (dk_at dksX9_findTokens_14 3 rfl rfl)
theorem dX9_findTokens_331 : decode cX9_findTokens 331 = .ok (.iastore, 1) := dk_79 (dk_at dksX9_findTokens_14 5 rfl rfl)
theorem dX9_findTokens_332 : decode cX9_findTokens 332 = .ok (.aload_n 0, 1) := dk_42 (dk_at dksX9_findTokens_14 6 rfl rfl)
theorem dX9_findTokens_333 : decode cX9_findTokens 333 = .ok (.getfield 41, 3) := dk_180 0 41 (dk_at dksX9_findTokens_14 7 rfl rfl)
theorem dX9_findTokens_336 : decode cX9_findTokens 336 = .ok (.aload_n 0, 1) := dk_42 (dk_at dksX9_findTokens_14 10 rfl rfl)
theorem dX9_findTokens_337 : decode cX9_findTokens 337 = .ok (.getfield 152, 3) := dk_180 0 152 (dk_at dksX9_findTokens_14 11 rfl rfl)
theorem dX9_findTokens_340 : decode cX9_findTokens 340 = .ok (.aload_n 0, 1) := dk_42 (dk_at dksX9_findTokens_14 14 rfl rfl)
theorem dX9_findTokens_341 : decode cX9_findTokens 341 = .ok (.getfield 127, 3) := dk_180 0 127 (dk_at dksX9_findTokens_14 15 rfl rfl)
theorem dX9_findTokens_344 : decode cX9_findTokens 344 = .ok (.iastore, 1) := dk_79 (dk_at dksX9_findTokens_14 18 rfl rfl)
theorem dX9_findTokens_345 : decode cX9_findTokens 345 = .ok (.return_, 1) := dk_177 (dk_at dksX9_findTokens_14 19 rfl rfl)
abbrev cX9_wordOf : ByteArray := prog_16_method_18_code
def yX9_wordOf : MethodName := ⟨RX9, "wordOf", "(J)I"⟩
def dkwX9_wordOf_4 : List UInt8 := [20, 0, 150, 148, 154, 0, 8, 16, 20, 167, 0, 5, 16, 99, 172]
abbrev dktX9_wordOf_4 : List UInt8 := dkwX9_wordOf_4 ++ []
def dkwX9_wordOf_3 : List UInt8 := [20, 0, 146, 148, 154, 0, 6, 16, 7, 172, 30, 20, 0, 148, 148, 154, 0, 6, 16, 8, 172, 30]
abbrev dktX9_wordOf_3 : List UInt8 := dkwX9_wordOf_3 ++ dktX9_wordOf_4
def dkwX9_wordOf_2 : List UInt8 := [7, 172, 30, 20, 0, 142, 148, 154, 0, 5, 8, 172, 30, 20, 0, 144, 148, 154, 0, 6, 16, 6, 172, 30]
abbrev dktX9_wordOf_2 : List UInt8 := dkwX9_wordOf_2 ++ dktX9_wordOf_3
def dkwX9_wordOf_1 : List UInt8 := [148, 154, 0, 5, 5, 172, 30, 20, 0, 138, 148, 154, 0, 5, 6, 172, 30, 20, 0, 140, 148, 154, 0, 5]
abbrev dktX9_wordOf_1 : List UInt8 := dkwX9_wordOf_1 ++ dktX9_wordOf_2
def dkwX9_wordOf_0 : List UInt8 := [30, 20, 0, 132, 148, 154, 0, 5, 3, 172, 30, 20, 0, 134, 148, 154, 0, 5, 4, 172, 30, 20, 0, 136]
abbrev dktX9_wordOf_0 : List UInt8 := dkwX9_wordOf_0 ++ dktX9_wordOf_1
theorem dksX9_wordOf_0 : cX9_wordOf.data.toList.drop 0 = dktX9_wordOf_0 := by decide +kernel
theorem dksX9_wordOf_1 : cX9_wordOf.data.toList.drop 24 = dktX9_wordOf_1 := dk_seg dksX9_wordOf_0 24 rfl rfl
theorem dksX9_wordOf_2 : cX9_wordOf.data.toList.drop 48 = dktX9_wordOf_2 := dk_seg dksX9_wordOf_1 24 rfl rfl
theorem dksX9_wordOf_3 : cX9_wordOf.data.toList.drop 72 = dktX9_wordOf_3 := dk_seg dksX9_wordOf_2 24 rfl rfl
theorem dksX9_wordOf_4 : cX9_wordOf.data.toList.drop 94 = dktX9_wordOf_4 := dk_seg dksX9_wordOf_3 22 rfl rfl
theorem dX9_wordOf_0 : decode cX9_wordOf 0 = .ok (.lload_n 0, 1) := dk_30 (dk_at dksX9_wordOf_0 0 rfl rfl)
theorem dX9_wordOf_1 : decode cX9_wordOf 1 = .ok (.ldc2_w 132, 3) := dk_20 0 132 (dk_at dksX9_wordOf_0 1 rfl rfl)
theorem dX9_wordOf_4 : decode cX9_wordOf 4 = .ok (.lcmp, 1) := dk_148 (dk_at dksX9_wordOf_0 4 rfl rfl)
theorem dX9_wordOf_5 : decode cX9_wordOf 5 = .ok (.ifCond .ne 5, 3) := dk_154 0 5 (dk_at dksX9_wordOf_0 5 rfl rfl)
theorem dX9_wordOf_8 : decode cX9_wordOf 8 = .ok (.iconst 0, 1) := dk_3 (dk_at dksX9_wordOf_0 8 rfl rfl)
theorem dX9_wordOf_9 : decode cX9_wordOf 9 = .ok (.ireturn, 1) := dk_172 (dk_at dksX9_wordOf_0 9 rfl rfl)
theorem dX9_wordOf_10 : decode cX9_wordOf 10 = .ok (.lload_n 0, 1) := dk_30 (dk_at dksX9_wordOf_0 10 rfl rfl)
theorem dX9_wordOf_11 : decode cX9_wordOf 11 = .ok (.ldc2_w 134, 3) := dk_20 0 134 (dk_at dksX9_wordOf_0 11 rfl rfl)
theorem dX9_wordOf_14 : decode cX9_wordOf 14 = .ok (.lcmp, 1) := dk_148 (dk_at dksX9_wordOf_0 14 rfl rfl)
theorem dX9_wordOf_15 : decode cX9_wordOf 15 = .ok (.ifCond .ne 5, 3) := dk_154 0 5 (dk_at dksX9_wordOf_0 15 rfl rfl)
theorem dX9_wordOf_18 : decode cX9_wordOf 18 = .ok (.iconst 1, 1) := dk_4 (dk_at dksX9_wordOf_0 18 rfl rfl)
theorem dX9_wordOf_19 : decode cX9_wordOf 19 = .ok (.ireturn, 1) := dk_172 (dk_at dksX9_wordOf_0 19 rfl rfl)
theorem dX9_wordOf_20 : decode cX9_wordOf 20 = .ok (.lload_n 0, 1) := dk_30 (dk_at dksX9_wordOf_0 20 rfl rfl)
theorem dX9_wordOf_21 : decode cX9_wordOf 21 = .ok (.ldc2_w 136, 3) := dk_20 0 136 (dk_at dksX9_wordOf_0 21 rfl rfl)
theorem dX9_wordOf_24 : decode cX9_wordOf 24 = .ok (.lcmp, 1) := dk_148 (dk_at dksX9_wordOf_1 0 rfl rfl)
theorem dX9_wordOf_25 : decode cX9_wordOf 25 = .ok (.ifCond .ne 5, 3) := dk_154 0 5 (dk_at dksX9_wordOf_1 1 rfl rfl)
theorem dX9_wordOf_28 : decode cX9_wordOf 28 = .ok (.iconst 2, 1) := dk_5 (dk_at dksX9_wordOf_1 4 rfl rfl)
theorem dX9_wordOf_29 : decode cX9_wordOf 29 = .ok (.ireturn, 1) := dk_172 (dk_at dksX9_wordOf_1 5 rfl rfl)
theorem dX9_wordOf_30 : decode cX9_wordOf 30 = .ok (.lload_n 0, 1) := dk_30 (dk_at dksX9_wordOf_1 6 rfl rfl)
theorem dX9_wordOf_31 : decode cX9_wordOf 31 = .ok (.ldc2_w 138, 3) := dk_20 0 138 (dk_at dksX9_wordOf_1 7 rfl rfl)
theorem dX9_wordOf_34 : decode cX9_wordOf 34 = .ok (.lcmp, 1) := dk_148 (dk_at dksX9_wordOf_1 10 rfl rfl)
theorem dX9_wordOf_35 : decode cX9_wordOf 35 = .ok (.ifCond .ne 5, 3) := dk_154 0 5 (dk_at dksX9_wordOf_1 11 rfl rfl)
theorem dX9_wordOf_38 : decode cX9_wordOf 38 = .ok (.iconst 3, 1) := dk_6 (dk_at dksX9_wordOf_1 14 rfl rfl)
theorem dX9_wordOf_39 : decode cX9_wordOf 39 = .ok (.ireturn, 1) := dk_172 (dk_at dksX9_wordOf_1 15 rfl rfl)
theorem dX9_wordOf_40 : decode cX9_wordOf 40 = .ok (.lload_n 0, 1) := dk_30 (dk_at dksX9_wordOf_1 16 rfl rfl)
theorem dX9_wordOf_41 : decode cX9_wordOf 41 = .ok (.ldc2_w 140, 3) := dk_20 0 140 (dk_at dksX9_wordOf_1 17 rfl rfl)
theorem dX9_wordOf_44 : decode cX9_wordOf 44 = .ok (.lcmp, 1) := dk_148 (dk_at dksX9_wordOf_1 20 rfl rfl)
theorem dX9_wordOf_45 : decode cX9_wordOf 45 = .ok (.ifCond .ne 5, 3) := dk_154 0 5 (dk_at dksX9_wordOf_1 21 rfl rfl)
theorem dX9_wordOf_48 : decode cX9_wordOf 48 = .ok (.iconst 4, 1) := dk_7 (dk_at dksX9_wordOf_2 0 rfl rfl)
theorem dX9_wordOf_49 : decode cX9_wordOf 49 = .ok (.ireturn, 1) := dk_172 (dk_at dksX9_wordOf_2 1 rfl rfl)
theorem dX9_wordOf_50 : decode cX9_wordOf 50 = .ok (.lload_n 0, 1) := dk_30 (dk_at dksX9_wordOf_2 2 rfl rfl)
theorem dX9_wordOf_51 : decode cX9_wordOf 51 = .ok (.ldc2_w 142, 3) := dk_20 0 142 (dk_at dksX9_wordOf_2 3 rfl rfl)
theorem dX9_wordOf_54 : decode cX9_wordOf 54 = .ok (.lcmp, 1) := dk_148 (dk_at dksX9_wordOf_2 6 rfl rfl)
theorem dX9_wordOf_55 : decode cX9_wordOf 55 = .ok (.ifCond .ne 5, 3) := dk_154 0 5 (dk_at dksX9_wordOf_2 7 rfl rfl)
theorem dX9_wordOf_58 : decode cX9_wordOf 58 = .ok (.iconst 5, 1) := dk_8 (dk_at dksX9_wordOf_2 10 rfl rfl)
theorem dX9_wordOf_59 : decode cX9_wordOf 59 = .ok (.ireturn, 1) := dk_172 (dk_at dksX9_wordOf_2 11 rfl rfl)
theorem dX9_wordOf_60 : decode cX9_wordOf 60 = .ok (.lload_n 0, 1) := dk_30 (dk_at dksX9_wordOf_2 12 rfl rfl)
theorem dX9_wordOf_61 : decode cX9_wordOf 61 = .ok (.ldc2_w 144, 3) := dk_20 0 144 (dk_at dksX9_wordOf_2 13 rfl rfl)
theorem dX9_wordOf_64 : decode cX9_wordOf 64 = .ok (.lcmp, 1) := dk_148 (dk_at dksX9_wordOf_2 16 rfl rfl)
theorem dX9_wordOf_65 : decode cX9_wordOf 65 = .ok (.ifCond .ne 6, 3) := dk_154 0 6 (dk_at dksX9_wordOf_2 17 rfl rfl)
theorem dX9_wordOf_68 : decode cX9_wordOf 68 = .ok (.bipush 6, 2) := dk_16 6 (dk_at dksX9_wordOf_2 20 rfl rfl)
theorem dX9_wordOf_70 : decode cX9_wordOf 70 = .ok (.ireturn, 1) := dk_172 (dk_at dksX9_wordOf_2 22 rfl rfl)
theorem dX9_wordOf_71 : decode cX9_wordOf 71 = .ok (.lload_n 0, 1) := dk_30 (dk_at dksX9_wordOf_2 23 rfl rfl)
theorem dX9_wordOf_72 : decode cX9_wordOf 72 = .ok (.ldc2_w 146, 3) := dk_20 0 146 (dk_at dksX9_wordOf_3 0 rfl rfl)
theorem dX9_wordOf_75 : decode cX9_wordOf 75 = .ok (.lcmp, 1) := dk_148 (dk_at dksX9_wordOf_3 3 rfl rfl)
theorem dX9_wordOf_76 : decode cX9_wordOf 76 = .ok (.ifCond .ne 6, 3) := dk_154 0 6 (dk_at dksX9_wordOf_3 4 rfl rfl)
theorem dX9_wordOf_79 : decode cX9_wordOf 79 = .ok (.bipush 7, 2) := dk_16 7 (dk_at dksX9_wordOf_3 7 rfl rfl)
theorem dX9_wordOf_81 : decode cX9_wordOf 81 = .ok (.ireturn, 1) := dk_172 (dk_at dksX9_wordOf_3 9 rfl rfl)
theorem dX9_wordOf_82 : decode cX9_wordOf 82 = .ok (.lload_n 0, 1) := dk_30 (dk_at dksX9_wordOf_3 10 rfl rfl)
theorem dX9_wordOf_83 : decode cX9_wordOf 83 = .ok (.ldc2_w 148, 3) := dk_20 0 148 (dk_at dksX9_wordOf_3 11 rfl rfl)
theorem dX9_wordOf_86 : decode cX9_wordOf 86 = .ok (.lcmp, 1) := dk_148 (dk_at dksX9_wordOf_3 14 rfl rfl)
theorem dX9_wordOf_87 : decode cX9_wordOf 87 = .ok (.ifCond .ne 6, 3) := dk_154 0 6 (dk_at dksX9_wordOf_3 15 rfl rfl)
theorem dX9_wordOf_90 : decode cX9_wordOf 90 = .ok (.bipush 8, 2) := dk_16 8 (dk_at dksX9_wordOf_3 18 rfl rfl)
theorem dX9_wordOf_92 : decode cX9_wordOf 92 = .ok (.ireturn, 1) := dk_172 (dk_at dksX9_wordOf_3 20 rfl rfl)
theorem dX9_wordOf_93 : decode cX9_wordOf 93 = .ok (.lload_n 0, 1) := dk_30 (dk_at dksX9_wordOf_3 21 rfl rfl)
theorem dX9_wordOf_94 : decode cX9_wordOf 94 = .ok (.ldc2_w 150, 3) := dk_20 0 150 (dk_at dksX9_wordOf_4 0 rfl rfl)
theorem dX9_wordOf_97 : decode cX9_wordOf 97 = .ok (.lcmp, 1) := dk_148 (dk_at dksX9_wordOf_4 3 rfl rfl)
theorem dX9_wordOf_98 : decode cX9_wordOf 98 = .ok (.ifCond .ne 8, 3) := dk_154 0 8 (dk_at dksX9_wordOf_4 4 rfl rfl)
theorem dX9_wordOf_101 : decode cX9_wordOf 101 = .ok (.bipush 20, 2) := dk_16 20 (dk_at dksX9_wordOf_4 7 rfl rfl)
theorem dX9_wordOf_103 : decode cX9_wordOf 103 = .ok (.goto 5, 3) := dk_167 0 5 (dk_at dksX9_wordOf_4 9 rfl rfl)
theorem dX9_wordOf_106 : decode cX9_wordOf 106 = .ok (.bipush 99, 2) := dk_16 99 (dk_at dksX9_wordOf_4 12 rfl rfl)
theorem dX9_wordOf_108 : decode cX9_wordOf 108 = .ok (.ireturn, 1) := dk_172 (dk_at dksX9_wordOf_4 14 rfl rfl)
abbrev cX9_wantedAt : ByteArray := prog_16_method_20_code
def yX9_wantedAt : MethodName := ⟨RX9, "wantedAt", "(I)I"⟩
def dkwX9_wantedAt_3 : List UInt8 := [16, 31, 172, 16, 40, 172]
abbrev dktX9_wantedAt_3 : List UInt8 := dkwX9_wantedAt_3 ++ []
def dkwX9_wantedAt_2 : List UInt8 := [3, 172, 4, 172, 5, 172, 6, 172, 16, 30, 172, 7, 172, 8, 172, 16, 6, 172, 16, 7, 172, 16, 8, 172]
abbrev dktX9_wantedAt_2 : List UInt8 := dkwX9_wantedAt_2 ++ dktX9_wantedAt_3
def dkwX9_wantedAt_1 : List UInt8 := [170, 0, 0, 0, 0, 0, 126, 0, 0, 0, 0, 0, 0, 0, 20, 0, 0, 0, 99, 0, 0, 0, 126, 0, 0, 0, 101, 0, 0, 0, 126, 0, 0, 0, 103, 0, 0, 0, 126, 0, 0, 0, 105, 0, 0, 0, 126, 0, 0, 0, 107, 0, 0, 0, 110, 0, 0, 0, 126, 0, 0, 0, 112, 0, 0, 0, 126, 0, 0, 0, 114, 0, 0, 0, 126, 0, 0, 0, 126, 0, 0, 0, 117, 0, 0, 0, 126, 0, 0, 0, 120, 0, 0, 0, 126, 0, 0, 0, 123]
abbrev dktX9_wantedAt_1 : List UInt8 := dkwX9_wantedAt_1 ++ dktX9_wantedAt_2
def dkwX9_wantedAt_0 : List UInt8 := [26]
abbrev dktX9_wantedAt_0 : List UInt8 := dkwX9_wantedAt_0 ++ dktX9_wantedAt_1
theorem dksX9_wantedAt_0 : cX9_wantedAt.data.toList.drop 0 = dktX9_wantedAt_0 := by decide +kernel
theorem dksX9_wantedAt_1 : cX9_wantedAt.data.toList.drop 1 = dktX9_wantedAt_1 := dk_seg dksX9_wantedAt_0 1 rfl rfl
theorem dksX9_wantedAt_2 : cX9_wantedAt.data.toList.drop 100 = dktX9_wantedAt_2 := dk_seg dksX9_wantedAt_1 99 rfl rfl
theorem dksX9_wantedAt_3 : cX9_wantedAt.data.toList.drop 124 = dktX9_wantedAt_3 := dk_seg dksX9_wantedAt_2 24 rfl rfl
theorem dX9_wantedAt_0 : decode cX9_wantedAt 0 = .ok (.iload_n 0, 1) := dk_26 (dk_at dksX9_wantedAt_0 0 rfl rfl)
theorem dX9_wantedAt_1 : decode cX9_wantedAt 1 = .ok (.tableswitch 126 0 20 #[99, 126, 101, 126, 103, 126, 105, 126, 107, 110, 126, 112, 126, 114, 126, 126, 117, 126, 120, 126, 123], 99) := by decide +kernel
theorem dX9_wantedAt_100 : decode cX9_wantedAt 100 = .ok (.iconst 0, 1) := dk_3 (dk_at dksX9_wantedAt_2 0 rfl rfl)
theorem dX9_wantedAt_101 : decode cX9_wantedAt 101 = .ok (.ireturn, 1) := dk_172 (dk_at dksX9_wantedAt_2 1 rfl rfl)
theorem dX9_wantedAt_102 : decode cX9_wantedAt 102 = .ok (.iconst 1, 1) := dk_4 (dk_at dksX9_wantedAt_2 2 rfl rfl)
theorem dX9_wantedAt_103 : decode cX9_wantedAt 103 = .ok (.ireturn, 1) := dk_172 (dk_at dksX9_wantedAt_2 3 rfl rfl)
theorem dX9_wantedAt_104 : decode cX9_wantedAt 104 = .ok (.iconst 2, 1) := dk_5 (dk_at dksX9_wantedAt_2 4 rfl rfl)
theorem dX9_wantedAt_105 : decode cX9_wantedAt 105 = .ok (.ireturn, 1) := dk_172 (dk_at dksX9_wantedAt_2 5 rfl rfl)
theorem dX9_wantedAt_106 : decode cX9_wantedAt 106 = .ok (.iconst 3, 1) := dk_6 (dk_at dksX9_wantedAt_2 6 rfl rfl)
theorem dX9_wantedAt_107 : decode cX9_wantedAt 107 = .ok (.ireturn, 1) := dk_172 (dk_at dksX9_wantedAt_2 7 rfl rfl)
theorem dX9_wantedAt_108 : decode cX9_wantedAt 108 = .ok (.bipush 30, 2) := dk_16 30 (dk_at dksX9_wantedAt_2 8 rfl rfl)
theorem dX9_wantedAt_110 : decode cX9_wantedAt 110 = .ok (.ireturn, 1) := dk_172 (dk_at dksX9_wantedAt_2 10 rfl rfl)
theorem dX9_wantedAt_111 : decode cX9_wantedAt 111 = .ok (.iconst 4, 1) := dk_7 (dk_at dksX9_wantedAt_2 11 rfl rfl)
theorem dX9_wantedAt_112 : decode cX9_wantedAt 112 = .ok (.ireturn, 1) := dk_172 (dk_at dksX9_wantedAt_2 12 rfl rfl)
theorem dX9_wantedAt_113 : decode cX9_wantedAt 113 = .ok (.iconst 5, 1) := dk_8 (dk_at dksX9_wantedAt_2 13 rfl rfl)
theorem dX9_wantedAt_114 : decode cX9_wantedAt 114 = .ok (.ireturn, 1) := dk_172 (dk_at dksX9_wantedAt_2 14 rfl rfl)
theorem dX9_wantedAt_115 : decode cX9_wantedAt 115 = .ok (.bipush 6, 2) := dk_16 6 (dk_at dksX9_wantedAt_2 15 rfl rfl)
theorem dX9_wantedAt_117 : decode cX9_wantedAt 117 = .ok (.ireturn, 1) := dk_172 (dk_at dksX9_wantedAt_2 17 rfl rfl)
theorem dX9_wantedAt_118 : decode cX9_wantedAt 118 = .ok (.bipush 7, 2) := dk_16 7 (dk_at dksX9_wantedAt_2 18 rfl rfl)
theorem dX9_wantedAt_120 : decode cX9_wantedAt 120 = .ok (.ireturn, 1) := dk_172 (dk_at dksX9_wantedAt_2 20 rfl rfl)
theorem dX9_wantedAt_121 : decode cX9_wantedAt 121 = .ok (.bipush 8, 2) := dk_16 8 (dk_at dksX9_wantedAt_2 21 rfl rfl)
theorem dX9_wantedAt_123 : decode cX9_wantedAt 123 = .ok (.ireturn, 1) := dk_172 (dk_at dksX9_wantedAt_2 23 rfl rfl)
theorem dX9_wantedAt_124 : decode cX9_wantedAt 124 = .ok (.bipush 31, 2) := dk_16 31 (dk_at dksX9_wantedAt_3 0 rfl rfl)
theorem dX9_wantedAt_126 : decode cX9_wantedAt 126 = .ok (.ireturn, 1) := dk_172 (dk_at dksX9_wantedAt_3 2 rfl rfl)
theorem dX9_wantedAt_127 : decode cX9_wantedAt 127 = .ok (.bipush 40, 2) := dk_16 40 (dk_at dksX9_wantedAt_3 3 rfl rfl)
theorem dX9_wantedAt_129 : decode cX9_wantedAt 129 = .ok (.ireturn, 1) := dk_172 (dk_at dksX9_wantedAt_3 5 rfl rfl)
abbrev cX9_isNumber : ByteArray := prog_16_method_21_code
def yX9_isNumber : MethodName := ⟨RX9, "isNumber", "(III)Z"⟩
def dkwX9_isNumber_5 : List UInt8 := [96, 46, 42, 180, 0, 44, 8, 16, 6, 28, 104, 96, 7, 96, 46, 6, 96, 184, 0, 87, 172]
abbrev dktX9_isNumber_5 : List UInt8 := dkwX9_isNumber_5 ++ []
def dkwX9_isNumber_4 : List UInt8 := [184, 0, 87, 172, 29, 3, 16, 6, 184, 0, 87, 172, 29, 42, 180, 0, 44, 8, 16, 6, 28, 104, 96, 7]
abbrev dktX9_isNumber_4 : List UInt8 := dkwX9_isNumber_4 ++ dktX9_isNumber_5
def dkwX9_isNumber_3 : List UInt8 := [184, 0, 87, 172, 29, 4, 7, 184, 0, 87, 172, 29, 3, 6, 184, 0, 87, 172, 29, 3, 16, 8]
abbrev dktX9_isNumber_3 : List UInt8 := dkwX9_isNumber_3 ++ dktX9_isNumber_4
def dkwX9_isNumber_2 : List UInt8 := [29, 3, 6, 184, 0, 87, 172, 29, 3, 5, 184, 0, 87, 172, 42, 29, 182, 0, 107, 172, 29, 4, 16, 99]
abbrev dktX9_isNumber_2 : List UInt8 := dkwX9_isNumber_2 ++ dktX9_isNumber_3
def dkwX9_isNumber_1 : List UInt8 := [170, 0, 0, 0, 0, 0, 141, 0, 0, 0, 1, 0, 0, 0, 17, 0, 0, 0, 83, 0, 0, 0, 141, 0, 0, 0, 90, 0, 0, 0, 141, 0, 0, 0, 97, 0, 0, 0, 141, 0, 0, 0, 103, 0, 0, 0, 141, 0, 0, 0, 141, 0, 0, 0, 111, 0, 0, 0, 141, 0, 0, 0, 118, 0, 0, 0, 141, 0, 0, 0, 125, 0, 0, 0, 141, 0, 0, 0, 141, 0, 0, 0, 133]
abbrev dktX9_isNumber_1 : List UInt8 := dkwX9_isNumber_1 ++ dktX9_isNumber_2
def dkwX9_isNumber_0 : List UInt8 := [27]
abbrev dktX9_isNumber_0 : List UInt8 := dkwX9_isNumber_0 ++ dktX9_isNumber_1
theorem dksX9_isNumber_0 : cX9_isNumber.data.toList.drop 0 = dktX9_isNumber_0 := by decide +kernel
theorem dksX9_isNumber_1 : cX9_isNumber.data.toList.drop 1 = dktX9_isNumber_1 := dk_seg dksX9_isNumber_0 1 rfl rfl
theorem dksX9_isNumber_2 : cX9_isNumber.data.toList.drop 84 = dktX9_isNumber_2 := dk_seg dksX9_isNumber_1 83 rfl rfl
theorem dksX9_isNumber_3 : cX9_isNumber.data.toList.drop 108 = dktX9_isNumber_3 := dk_seg dksX9_isNumber_2 24 rfl rfl
theorem dksX9_isNumber_4 : cX9_isNumber.data.toList.drop 130 = dktX9_isNumber_4 := dk_seg dksX9_isNumber_3 22 rfl rfl
theorem dksX9_isNumber_5 : cX9_isNumber.data.toList.drop 154 = dktX9_isNumber_5 := dk_seg dksX9_isNumber_4 24 rfl rfl
theorem dX9_isNumber_0 : decode cX9_isNumber 0 = .ok (.iload_n 1, 1) := dk_27 (dk_at dksX9_isNumber_0 0 rfl rfl)
theorem dX9_isNumber_1 : decode cX9_isNumber 1 = .ok (.tableswitch 141 1 17 #[83, 141, 90, 141, 97, 141, 103, 141, 141, 111, 141, 118, 141, 125, 141, 141, 133], 83) := by decide +kernel
theorem dX9_isNumber_84 : decode cX9_isNumber 84 = .ok (.iload_n 3, 1) := dk_29 (dk_at dksX9_isNumber_2 0 rfl rfl)
theorem dX9_isNumber_85 : decode cX9_isNumber 85 = .ok (.iconst 0, 1) := dk_3 (dk_at dksX9_isNumber_2 1 rfl rfl)
theorem dX9_isNumber_86 : decode cX9_isNumber 86 = .ok (.iconst 3, 1) := dk_6 (dk_at dksX9_isNumber_2 2 rfl rfl)
theorem dX9_isNumber_87 : decode cX9_isNumber 87 = .ok (.invokestatic 87, 3) := dk_184 0 87 (dk_at dksX9_isNumber_2 3 rfl rfl)
theorem dX9_isNumber_90 : decode cX9_isNumber 90 = .ok (.ireturn, 1) := dk_172 (dk_at dksX9_isNumber_2 6 rfl rfl)
theorem dX9_isNumber_91 : decode cX9_isNumber 91 = .ok (.iload_n 3, 1) := dk_29 (dk_at dksX9_isNumber_2 7 rfl rfl)
theorem dX9_isNumber_92 : decode cX9_isNumber 92 = .ok (.iconst 0, 1) := dk_3 (dk_at dksX9_isNumber_2 8 rfl rfl)
theorem dX9_isNumber_93 : decode cX9_isNumber 93 = .ok (.iconst 2, 1) := dk_5 (dk_at dksX9_isNumber_2 9 rfl rfl)
theorem dX9_isNumber_94 : decode cX9_isNumber 94 = .ok (.invokestatic 87, 3) := dk_184 0 87 (dk_at dksX9_isNumber_2 10 rfl rfl)
theorem dX9_isNumber_97 : decode cX9_isNumber 97 = .ok (.ireturn, 1) := dk_172 (dk_at dksX9_isNumber_2 13 rfl rfl)
theorem dX9_isNumber_98 : decode cX9_isNumber 98 = .ok (.aload_n 0, 1) := dk_42 (dk_at dksX9_isNumber_2 14 rfl rfl)
theorem dX9_isNumber_99 : decode cX9_isNumber 99 = .ok (.iload_n 3, 1) := dk_29 (dk_at dksX9_isNumber_2 15 rfl rfl)
theorem dX9_isNumber_100 : decode cX9_isNumber 100 = .ok (.invokevirtual 107, 3) := dk_182 0 107 (dk_at dksX9_isNumber_2 16 rfl rfl)
theorem dX9_isNumber_103 : decode cX9_isNumber 103 = .ok (.ireturn, 1) := dk_172 (dk_at dksX9_isNumber_2 19 rfl rfl)
theorem dX9_isNumber_104 : decode cX9_isNumber 104 = .ok (.iload_n 3, 1) := dk_29 (dk_at dksX9_isNumber_2 20 rfl rfl)
theorem dX9_isNumber_105 : decode cX9_isNumber 105 = .ok (.iconst 1, 1) := dk_4 (dk_at dksX9_isNumber_2 21 rfl rfl)
theorem dX9_isNumber_106 : decode cX9_isNumber 106 = .ok (.bipush 99, 2) := dk_16 99 (dk_at dksX9_isNumber_2 22 rfl rfl)
theorem dX9_isNumber_108 : decode cX9_isNumber 108 = .ok (.invokestatic 87, 3) := dk_184 0 87 (dk_at dksX9_isNumber_3 0 rfl rfl)
theorem dX9_isNumber_111 : decode cX9_isNumber 111 = .ok (.ireturn, 1) := dk_172 (dk_at dksX9_isNumber_3 3 rfl rfl)
theorem dX9_isNumber_112 : decode cX9_isNumber 112 = .ok (.iload_n 3, 1) := dk_29 (dk_at dksX9_isNumber_3 4 rfl rfl)
theorem dX9_isNumber_113 : decode cX9_isNumber 113 = .ok (.iconst 1, 1) := dk_4 (dk_at dksX9_isNumber_3 5 rfl rfl)
theorem dX9_isNumber_114 : decode cX9_isNumber 114 = .ok (.iconst 4, 1) := dk_7 (dk_at dksX9_isNumber_3 6 rfl rfl)
theorem dX9_isNumber_115 : decode cX9_isNumber 115 = .ok (.invokestatic 87, 3) := dk_184 0 87 (dk_at dksX9_isNumber_3 7 rfl rfl)
theorem dX9_isNumber_118 : decode cX9_isNumber 118 = .ok (.ireturn, 1) := dk_172 (dk_at dksX9_isNumber_3 10 rfl rfl)
theorem dX9_isNumber_119 : decode cX9_isNumber 119 = .ok (.iload_n 3, 1) := dk_29 (dk_at dksX9_isNumber_3 11 rfl rfl)
theorem dX9_isNumber_120 : decode cX9_isNumber 120 = .ok (.iconst 0, 1) := dk_3 (dk_at dksX9_isNumber_3 12 rfl rfl)
theorem dX9_isNumber_121 : decode cX9_isNumber 121 = .ok (.iconst 3, 1) := dk_6 (dk_at dksX9_isNumber_3 13 rfl rfl)
theorem dX9_isNumber_122 : decode cX9_isNumber 122 = .ok (.invokestatic 87, 3) := dk_184 0 87 (dk_at dksX9_isNumber_3 14 rfl rfl)
theorem dX9_isNumber_125 : decode cX9_isNumber 125 = .ok (.ireturn, 1) := dk_172 (dk_at dksX9_isNumber_3 17 rfl rfl)
theorem dX9_isNumber_126 : decode cX9_isNumber 126 = .ok (.iload_n 3, 1) := dk_29 (dk_at dksX9_isNumber_3 18 rfl rfl)
theorem dX9_isNumber_127 : decode cX9_isNumber 127 = .ok (.iconst 0, 1) := dk_3 (dk_at dksX9_isNumber_3 19 rfl rfl)
theorem dX9_isNumber_128 : decode cX9_isNumber 128 = .ok (.bipush 8, 2) := dk_16 8 (dk_at dksX9_isNumber_3 20 rfl rfl)
theorem dX9_isNumber_130 : decode cX9_isNumber 130 = .ok (.invokestatic 87, 3) := dk_184 0 87 (dk_at dksX9_isNumber_4 0 rfl rfl)
theorem dX9_isNumber_133 : decode cX9_isNumber 133 = .ok (.ireturn, 1) := dk_172 (dk_at dksX9_isNumber_4 3 rfl rfl)
theorem dX9_isNumber_134 : decode cX9_isNumber 134 = .ok (.iload_n 3, 1) := dk_29 (dk_at dksX9_isNumber_4 4 rfl rfl)
theorem dX9_isNumber_135 : decode cX9_isNumber 135 = .ok (.iconst 0, 1) := dk_3 (dk_at dksX9_isNumber_4 5 rfl rfl)
theorem dX9_isNumber_136 : decode cX9_isNumber 136 = .ok (.bipush 6, 2) := dk_16 6 (dk_at dksX9_isNumber_4 6 rfl rfl)
theorem dX9_isNumber_138 : decode cX9_isNumber 138 = .ok (.invokestatic 87, 3) := dk_184 0 87 (dk_at dksX9_isNumber_4 8 rfl rfl)
theorem dX9_isNumber_141 : decode cX9_isNumber 141 = .ok (.ireturn, 1) := dk_172 (dk_at dksX9_isNumber_4 11 rfl rfl)
theorem dX9_isNumber_142 : decode cX9_isNumber 142 = .ok (.iload_n 3, 1) := dk_29 (dk_at dksX9_isNumber_4 12 rfl rfl)
theorem dX9_isNumber_143 : decode cX9_isNumber 143 = .ok (.aload_n 0, 1) := dk_42 (dk_at dksX9_isNumber_4 13 rfl rfl)
theorem dX9_isNumber_144 : decode cX9_isNumber 144 = .ok (.getfield 44, 3) := dk_180 0 44 (dk_at dksX9_isNumber_4 14 rfl rfl)
theorem dX9_isNumber_147 : decode cX9_isNumber 147 = .ok (.iconst 5, 1) := dk_8 (dk_at dksX9_isNumber_4 17 rfl rfl)
theorem dX9_isNumber_148 : decode cX9_isNumber 148 = .ok (.bipush 6, 2) := dk_16 6 (dk_at dksX9_isNumber_4 18 rfl rfl)
theorem dX9_isNumber_150 : decode cX9_isNumber 150 = .ok (.iload_n 2, 1) := dk_28 (dk_at dksX9_isNumber_4 20 rfl rfl)
theorem dX9_isNumber_151 : decode cX9_isNumber 151 = .ok (.imul, 1) := dk_104 (dk_at dksX9_isNumber_4 21 rfl rfl)
theorem dX9_isNumber_152 : decode cX9_isNumber 152 = .ok (.iadd, 1) := dk_96 (dk_at dksX9_isNumber_4 22 rfl rfl)
theorem dX9_isNumber_153 : decode cX9_isNumber 153 = .ok (.iconst 4, 1) := dk_7 (dk_at dksX9_isNumber_4 23 rfl rfl)
theorem dX9_isNumber_154 : decode cX9_isNumber 154 = .ok (.iadd, 1) := dk_96 (dk_at dksX9_isNumber_5 0 rfl rfl)
theorem dX9_isNumber_155 : decode cX9_isNumber 155 = .ok (.iaload, 1) := dk_46 (dk_at dksX9_isNumber_5 1 rfl rfl)
theorem dX9_isNumber_156 : decode cX9_isNumber 156 = .ok (.aload_n 0, 1) := dk_42 (dk_at dksX9_isNumber_5 2 rfl rfl)
theorem dX9_isNumber_157 : decode cX9_isNumber 157 = .ok (.getfield 44, 3) := dk_180 0 44 (dk_at dksX9_isNumber_5 3 rfl rfl)
theorem dX9_isNumber_160 : decode cX9_isNumber 160 = .ok (.iconst 5, 1) := dk_8 (dk_at dksX9_isNumber_5 6 rfl rfl)
theorem dX9_isNumber_161 : decode cX9_isNumber 161 = .ok (.bipush 6, 2) := dk_16 6 (dk_at dksX9_isNumber_5 7 rfl rfl)
theorem dX9_isNumber_163 : decode cX9_isNumber 163 = .ok (.iload_n 2, 1) := dk_28 (dk_at dksX9_isNumber_5 9 rfl rfl)
theorem dX9_isNumber_164 : decode cX9_isNumber 164 = .ok (.imul, 1) := dk_104 (dk_at dksX9_isNumber_5 10 rfl rfl)
theorem dX9_isNumber_165 : decode cX9_isNumber 165 = .ok (.iadd, 1) := dk_96 (dk_at dksX9_isNumber_5 11 rfl rfl)
theorem dX9_isNumber_166 : decode cX9_isNumber 166 = .ok (.iconst 4, 1) := dk_7 (dk_at dksX9_isNumber_5 12 rfl rfl)
theorem dX9_isNumber_167 : decode cX9_isNumber 167 = .ok (.iadd, 1) := dk_96 (dk_at dksX9_isNumber_5 13 rfl rfl)
theorem dX9_isNumber_168 : decode cX9_isNumber 168 = .ok (.iaload, 1) := dk_46 (dk_at dksX9_isNumber_5 14 rfl rfl)
theorem dX9_isNumber_169 : decode cX9_isNumber 169 = .ok (.iconst 3, 1) := dk_6 (dk_at dksX9_isNumber_5 15 rfl rfl)
theorem dX9_isNumber_170 : decode cX9_isNumber 170 = .ok (.iadd, 1) := dk_96 (dk_at dksX9_isNumber_5 16 rfl rfl)
theorem dX9_isNumber_171 : decode cX9_isNumber 171 = .ok (.invokestatic 87, 3) := dk_184 0 87 (dk_at dksX9_isNumber_5 17 rfl rfl)
theorem dX9_isNumber_174 : decode cX9_isNumber 174 = .ok (.ireturn, 1) := dk_172 (dk_at dksX9_isNumber_5 20 rfl rfl)
abbrev cX9_keep : ByteArray := prog_16_method_22_code
def yX9_keep : MethodName := ⟨RX9, "keep", "(III)V"⟩
def dkwX9_keep_3 : List UInt8 := [96, 29, 79, 177]
abbrev dktX9_keep_3 : List UInt8 := dkwX9_keep_3 ++ []
def dkwX9_keep_2 : List UInt8 := [167, 0, 27, 42, 180, 0, 44, 8, 16, 6, 28, 104, 96, 27, 16, 17, 160, 0, 7, 7, 167, 0, 4, 8]
abbrev dktX9_keep_2 : List UInt8 := dkwX9_keep_2 ++ dktX9_keep_3
def dkwX9_keep_1 : List UInt8 := [162, 0, 25, 42, 180, 0, 44, 8, 16, 6, 28, 104, 96, 27, 16, 10, 100, 5, 108, 96, 29, 79]
abbrev dktX9_keep_1 : List UInt8 := dkwX9_keep_1 ++ dktX9_keep_2
def dkwX9_keep_0 : List UInt8 := [27, 16, 8, 162, 0, 17, 42, 180, 0, 44, 27, 4, 100, 5, 108, 29, 79, 167, 0, 55, 27, 16, 15]
abbrev dktX9_keep_0 : List UInt8 := dkwX9_keep_0 ++ dktX9_keep_1
theorem dksX9_keep_0 : cX9_keep.data.toList.drop 0 = dktX9_keep_0 := by decide +kernel
theorem dksX9_keep_1 : cX9_keep.data.toList.drop 23 = dktX9_keep_1 := dk_seg dksX9_keep_0 23 rfl rfl
theorem dksX9_keep_2 : cX9_keep.data.toList.drop 45 = dktX9_keep_2 := dk_seg dksX9_keep_1 22 rfl rfl
theorem dksX9_keep_3 : cX9_keep.data.toList.drop 69 = dktX9_keep_3 := dk_seg dksX9_keep_2 24 rfl rfl
theorem dX9_keep_0 : decode cX9_keep 0 = .ok (.iload_n 1, 1) := dk_27 (dk_at dksX9_keep_0 0 rfl rfl)
theorem dX9_keep_1 : decode cX9_keep 1 = .ok (.bipush 8, 2) := dk_16 8 (dk_at dksX9_keep_0 1 rfl rfl)
theorem dX9_keep_3 : decode cX9_keep 3 = .ok (.if_icmp .ge 17, 3) := dk_162 0 17 (dk_at dksX9_keep_0 3 rfl rfl)
theorem dX9_keep_6 : decode cX9_keep 6 = .ok (.aload_n 0, 1) := dk_42 (dk_at dksX9_keep_0 6 rfl rfl)
theorem dX9_keep_7 : decode cX9_keep 7 = .ok (.getfield 44, 3) := dk_180 0 44 (dk_at dksX9_keep_0 7 rfl rfl)
theorem dX9_keep_10 : decode cX9_keep 10 = .ok (.iload_n 1, 1) := dk_27 (dk_at dksX9_keep_0 10 rfl rfl)
theorem dX9_keep_11 : decode cX9_keep 11 = .ok (.iconst 1, 1) := dk_4 (dk_at dksX9_keep_0 11 rfl rfl)
theorem dX9_keep_12 : decode cX9_keep 12 = .ok (.isub, 1) := dk_100 (dk_at dksX9_keep_0 12 rfl rfl)
theorem dX9_keep_13 : decode cX9_keep 13 = .ok (.iconst 2, 1) := dk_5 (dk_at dksX9_keep_0 13 rfl rfl)
theorem dX9_keep_14 : decode cX9_keep 14 = .ok (.idiv, 1) := dk_108 (dk_at dksX9_keep_0 14 rfl rfl)
theorem dX9_keep_15 : decode cX9_keep 15 = .ok (.iload_n 3, 1) := dk_29 (dk_at dksX9_keep_0 15 rfl rfl)
theorem dX9_keep_16 : decode cX9_keep 16 = .ok (.iastore, 1) := dk_79 (dk_at dksX9_keep_0 16 rfl rfl)
theorem dX9_keep_17 : decode cX9_keep 17 = .ok (.goto 55, 3) := dk_167 0 55 (dk_at dksX9_keep_0 17 rfl rfl)
theorem dX9_keep_20 : decode cX9_keep 20 = .ok (.iload_n 1, 1) := dk_27 (dk_at dksX9_keep_0 20 rfl rfl)
theorem dX9_keep_21 : decode cX9_keep 21 = .ok (.bipush 15, 2) := dk_16 15 (dk_at dksX9_keep_0 21 rfl rfl)
theorem dX9_keep_23 : decode cX9_keep 23 = .ok (.if_icmp .ge 25, 3) := dk_162 0 25 (dk_at dksX9_keep_1 0 rfl rfl)
theorem dX9_keep_26 : decode cX9_keep 26 = .ok (.aload_n 0, 1) := dk_42 (dk_at dksX9_keep_1 3 rfl rfl)
theorem dX9_keep_27 : decode cX9_keep 27 = .ok (.getfield 44, 3) := dk_180 0 44 (dk_at dksX9_keep_1 4 rfl rfl)
theorem dX9_keep_30 : decode cX9_keep 30 = .ok (.iconst 5, 1) := dk_8 (dk_at dksX9_keep_1 7 rfl rfl)
theorem dX9_keep_31 : decode cX9_keep 31 = .ok (.bipush 6, 2) := dk_16 6 (dk_at dksX9_keep_1 8 rfl rfl)
theorem dX9_keep_33 : decode cX9_keep 33 = .ok (.iload_n 2, 1) := dk_28 (dk_at dksX9_keep_1 10 rfl rfl)
theorem dX9_keep_34 : decode cX9_keep 34 = .ok (.imul, 1) := dk_104 (dk_at dksX9_keep_1 11 rfl rfl)
theorem dX9_keep_35 : decode cX9_keep 35 = .ok (.iadd, 1) := dk_96 (dk_at dksX9_keep_1 12 rfl rfl)
theorem dX9_keep_36 : decode cX9_keep 36 = .ok (.iload_n 1, 1) := dk_27 (dk_at dksX9_keep_1 13 rfl rfl)
theorem dX9_keep_37 : decode cX9_keep 37 = .ok (.bipush 10, 2) := dk_16 10 (dk_at dksX9_keep_1 14 rfl rfl)
theorem dX9_keep_39 : decode cX9_keep 39 = .ok (.isub, 1) := dk_100 (dk_at dksX9_keep_1 16 rfl rfl)
theorem dX9_keep_40 : decode cX9_keep 40 = .ok (.iconst 2, 1) := dk_5 (dk_at dksX9_keep_1 17 rfl rfl)
theorem dX9_keep_41 : decode cX9_keep 41 = .ok (.idiv, 1) := dk_108 (dk_at dksX9_keep_1 18 rfl rfl)
theorem dX9_keep_42 : decode cX9_keep 42 = .ok (.iadd, 1) := dk_96 (dk_at dksX9_keep_1 19 rfl rfl)
theorem dX9_keep_43 : decode cX9_keep 43 = .ok (.iload_n 3, 1) := dk_29 (dk_at dksX9_keep_1 20 rfl rfl)
theorem dX9_keep_44 : decode cX9_keep 44 = .ok (.iastore, 1) := dk_79 (dk_at dksX9_keep_1 21 rfl rfl)
theorem dX9_keep_45 : decode cX9_keep 45 = .ok (.goto 27, 3) := dk_167 0 27 (dk_at dksX9_keep_2 0 rfl rfl)
theorem dX9_keep_48 : decode cX9_keep 48 = .ok (.aload_n 0, 1) := dk_42 (dk_at dksX9_keep_2 3 rfl rfl)
theorem dX9_keep_49 : decode cX9_keep 49 = .ok (.getfield 44, 3) := dk_180 0 44 (dk_at dksX9_keep_2 4 rfl rfl)
theorem dX9_keep_52 : decode cX9_keep 52 = .ok (.iconst 5, 1) := dk_8 (dk_at dksX9_keep_2 7 rfl rfl)
theorem dX9_keep_53 : decode cX9_keep 53 = .ok (.bipush 6, 2) := dk_16 6 (dk_at dksX9_keep_2 8 rfl rfl)
theorem dX9_keep_55 : decode cX9_keep 55 = .ok (.iload_n 2, 1) := dk_28 (dk_at dksX9_keep_2 10 rfl rfl)
theorem dX9_keep_56 : decode cX9_keep 56 = .ok (.imul, 1) := dk_104 (dk_at dksX9_keep_2 11 rfl rfl)
theorem dX9_keep_57 : decode cX9_keep 57 = .ok (.iadd, 1) := dk_96 (dk_at dksX9_keep_2 12 rfl rfl)
theorem dX9_keep_58 : decode cX9_keep 58 = .ok (.iload_n 1, 1) := dk_27 (dk_at dksX9_keep_2 13 rfl rfl)
theorem dX9_keep_59 : decode cX9_keep 59 = .ok (.bipush 17, 2) := dk_16 17 (dk_at dksX9_keep_2 14 rfl rfl)
theorem dX9_keep_61 : decode cX9_keep 61 = .ok (.if_icmp .ne 7, 3) := dk_160 0 7 (dk_at dksX9_keep_2 16 rfl rfl)
theorem dX9_keep_64 : decode cX9_keep 64 = .ok (.iconst 4, 1) := dk_7 (dk_at dksX9_keep_2 19 rfl rfl)
theorem dX9_keep_65 : decode cX9_keep 65 = .ok (.goto 4, 3) := dk_167 0 4 (dk_at dksX9_keep_2 20 rfl rfl)
theorem dX9_keep_68 : decode cX9_keep 68 = .ok (.iconst 5, 1) := dk_8 (dk_at dksX9_keep_2 23 rfl rfl)
theorem dX9_keep_69 : decode cX9_keep 69 = .ok (.iadd, 1) := dk_96 (dk_at dksX9_keep_3 0 rfl rfl)
theorem dX9_keep_70 : decode cX9_keep 70 = .ok (.iload_n 3, 1) := dk_29 (dk_at dksX9_keep_3 1 rfl rfl)
theorem dX9_keep_71 : decode cX9_keep 71 = .ok (.iastore, 1) := dk_79 (dk_at dksX9_keep_3 2 rfl rfl)
theorem dX9_keep_72 : decode cX9_keep 72 = .ok (.return_, 1) := dk_177 (dk_at dksX9_keep_3 3 rfl rfl)
abbrev cX9_stands : ByteArray := prog_16_method_25_code
def yX9_stands : MethodName := ⟨RX9, "stands", "()I"⟩
def dkwX9_stands_0 : List UInt8 := [42, 182, 0, 183, 153, 0, 7, 3, 167, 0, 7, 42, 180, 0, 166, 172]
abbrev dktX9_stands_0 : List UInt8 := dkwX9_stands_0 ++ []
theorem dksX9_stands_0 : cX9_stands.data.toList.drop 0 = dktX9_stands_0 := by decide +kernel
theorem dX9_stands_0 : decode cX9_stands 0 = .ok (.aload_n 0, 1) := dk_42 (dk_at dksX9_stands_0 0 rfl rfl)
theorem dX9_stands_1 : decode cX9_stands 1 = .ok (.invokevirtual 183, 3) := dk_182 0 183 (dk_at dksX9_stands_0 1 rfl rfl)
theorem dX9_stands_4 : decode cX9_stands 4 = .ok (.ifCond .eq 7, 3) := dk_153 0 7 (dk_at dksX9_stands_0 4 rfl rfl)
theorem dX9_stands_7 : decode cX9_stands 7 = .ok (.iconst 0, 1) := dk_3 (dk_at dksX9_stands_0 7 rfl rfl)
theorem dX9_stands_8 : decode cX9_stands 8 = .ok (.goto 7, 3) := dk_167 0 7 (dk_at dksX9_stands_0 8 rfl rfl)
theorem dX9_stands_11 : decode cX9_stands 11 = .ok (.aload_n 0, 1) := dk_42 (dk_at dksX9_stands_0 11 rfl rfl)
theorem dX9_stands_12 : decode cX9_stands 12 = .ok (.getfield 166, 3) := dk_180 0 166 (dk_at dksX9_stands_0 12 rfl rfl)
theorem dX9_stands_15 : decode cX9_stands 15 = .ok (.ireturn, 1) := dk_172 (dk_at dksX9_stands_0 15 rfl rfl)
abbrev cX9_plan : ByteArray := prog_16_method_26_code
def yX9_plan : MethodName := ⟨RX9, "plan", "()I"⟩
def dkwX9_plan_3 : List UInt8 := [180, 0, 94, 4, 100, 172]
abbrev dktX9_plan_3 : List UInt8 := dkwX9_plan_3 ++ []
def dkwX9_plan_2 : List UInt8 := [79, 132, 1, 1, 167, 255, 227, 42, 89, 180, 0, 94, 4, 96, 181, 0, 94, 42, 3, 181, 0, 127, 42]
abbrev dktX9_plan_2 : List UInt8 := dkwX9_plan_2 ++ dktX9_plan_3
def dkwX9_plan_1 : List UInt8 := [16, 23, 162, 0, 29, 42, 180, 0, 47, 16, 23, 42, 180, 0, 94, 104, 27, 96, 42, 180, 0, 44, 27, 46]
abbrev dktX9_plan_1 : List UInt8 := dkwX9_plan_1 ++ dktX9_plan_2
def dkwX9_plan_0 : List UInt8 := [42, 182, 0, 183, 154, 0, 6, 16, 252, 172, 42, 180, 0, 94, 8, 160, 0, 6, 16, 251, 172, 3, 60, 27]
abbrev dktX9_plan_0 : List UInt8 := dkwX9_plan_0 ++ dktX9_plan_1
theorem dksX9_plan_0 : cX9_plan.data.toList.drop 0 = dktX9_plan_0 := by decide +kernel
theorem dksX9_plan_1 : cX9_plan.data.toList.drop 24 = dktX9_plan_1 := dk_seg dksX9_plan_0 24 rfl rfl
theorem dksX9_plan_2 : cX9_plan.data.toList.drop 48 = dktX9_plan_2 := dk_seg dksX9_plan_1 24 rfl rfl
theorem dksX9_plan_3 : cX9_plan.data.toList.drop 71 = dktX9_plan_3 := dk_seg dksX9_plan_2 23 rfl rfl
theorem dX9_plan_0 : decode cX9_plan 0 = .ok (.aload_n 0, 1) := dk_42 (dk_at dksX9_plan_0 0 rfl rfl)
theorem dX9_plan_1 : decode cX9_plan 1 = .ok (.invokevirtual 183, 3) := dk_182 0 183 (dk_at dksX9_plan_0 1 rfl rfl)
theorem dX9_plan_4 : decode cX9_plan 4 = .ok (.ifCond .ne 6, 3) := dk_154 0 6 (dk_at dksX9_plan_0 4 rfl rfl)
theorem dX9_plan_7 : decode cX9_plan 7 = .ok (.bipush (-4), 2) := dk_16 252 (dk_at dksX9_plan_0 7 rfl rfl)
theorem dX9_plan_9 : decode cX9_plan 9 = .ok (.ireturn, 1) := dk_172 (dk_at dksX9_plan_0 9 rfl rfl)
theorem dX9_plan_10 : decode cX9_plan 10 = .ok (.aload_n 0, 1) := dk_42 (dk_at dksX9_plan_0 10 rfl rfl)
theorem dX9_plan_11 : decode cX9_plan 11 = .ok (.getfield 94, 3) := dk_180 0 94 (dk_at dksX9_plan_0 11 rfl rfl)
theorem dX9_plan_14 : decode cX9_plan 14 = .ok (.iconst 5, 1) := dk_8 (dk_at dksX9_plan_0 14 rfl rfl)
theorem dX9_plan_15 : decode cX9_plan 15 = .ok (.if_icmp .ne 6, 3) := dk_160 0 6 (dk_at dksX9_plan_0 15 rfl rfl)
theorem dX9_plan_18 : decode cX9_plan 18 = .ok (.bipush (-5), 2) := dk_16 251 (dk_at dksX9_plan_0 18 rfl rfl)
theorem dX9_plan_20 : decode cX9_plan 20 = .ok (.ireturn, 1) := dk_172 (dk_at dksX9_plan_0 20 rfl rfl)
theorem dX9_plan_21 : decode cX9_plan 21 = .ok (.iconst 0, 1) := dk_3 (dk_at dksX9_plan_0 21 rfl rfl)
theorem dX9_plan_22 : decode cX9_plan 22 = .ok (.istore_n 1, 1) := dk_60 (dk_at dksX9_plan_0 22 rfl rfl)
theorem dX9_plan_23 : decode cX9_plan 23 = .ok (.iload_n 1, 1) := dk_27 (dk_at dksX9_plan_0 23 rfl rfl)
theorem dX9_plan_24 : decode cX9_plan 24 = .ok (.bipush 23, 2) := dk_16 23 (dk_at dksX9_plan_1 0 rfl rfl)
theorem dX9_plan_26 : decode cX9_plan 26 = .ok (.if_icmp .ge 29, 3) := dk_162 0 29 (dk_at dksX9_plan_1 2 rfl rfl)
theorem dX9_plan_29 : decode cX9_plan 29 = .ok (.aload_n 0, 1) := dk_42 (dk_at dksX9_plan_1 5 rfl rfl)
theorem dX9_plan_30 : decode cX9_plan 30 = .ok (.getfield 47, 3) := dk_180 0 47 (dk_at dksX9_plan_1 6 rfl rfl)
theorem dX9_plan_33 : decode cX9_plan 33 = .ok (.bipush 23, 2) := dk_16 23 (dk_at dksX9_plan_1 9 rfl rfl)
theorem dX9_plan_35 : decode cX9_plan 35 = .ok (.aload_n 0, 1) := dk_42 (dk_at dksX9_plan_1 11 rfl rfl)
theorem dX9_plan_36 : decode cX9_plan 36 = .ok (.getfield 94, 3) := dk_180 0 94 (dk_at dksX9_plan_1 12 rfl rfl)
theorem dX9_plan_39 : decode cX9_plan 39 = .ok (.imul, 1) := dk_104 (dk_at dksX9_plan_1 15 rfl rfl)
theorem dX9_plan_40 : decode cX9_plan 40 = .ok (.iload_n 1, 1) := dk_27 (dk_at dksX9_plan_1 16 rfl rfl)
theorem dX9_plan_41 : decode cX9_plan 41 = .ok (.iadd, 1) := dk_96 (dk_at dksX9_plan_1 17 rfl rfl)
theorem dX9_plan_42 : decode cX9_plan 42 = .ok (.aload_n 0, 1) := dk_42 (dk_at dksX9_plan_1 18 rfl rfl)
theorem dX9_plan_43 : decode cX9_plan 43 = .ok (.getfield 44, 3) := dk_180 0 44 (dk_at dksX9_plan_1 19 rfl rfl)
theorem dX9_plan_46 : decode cX9_plan 46 = .ok (.iload_n 1, 1) := dk_27 (dk_at dksX9_plan_1 22 rfl rfl)
theorem dX9_plan_47 : decode cX9_plan 47 = .ok (.iaload, 1) := dk_46 (dk_at dksX9_plan_1 23 rfl rfl)
theorem dX9_plan_48 : decode cX9_plan 48 = .ok (.iastore, 1) := dk_79 (dk_at dksX9_plan_2 0 rfl rfl)
theorem dX9_plan_49 : decode cX9_plan 49 = .ok (.iinc 1 1, 3) := dk_132 1 1 (dk_at dksX9_plan_2 1 rfl rfl)
theorem dX9_plan_52 : decode cX9_plan 52 = .ok (.goto (-29), 3) := dk_167 255 227 (dk_at dksX9_plan_2 4 rfl rfl)
theorem dX9_plan_55 : decode cX9_plan 55 = .ok (.aload_n 0, 1) := dk_42 (dk_at dksX9_plan_2 7 rfl rfl)
theorem dX9_plan_56 : decode cX9_plan 56 = .ok (.dup, 1) := dk_89 (dk_at dksX9_plan_2 8 rfl rfl)
theorem dX9_plan_57 : decode cX9_plan 57 = .ok (.getfield 94, 3) := dk_180 0 94 (dk_at dksX9_plan_2 9 rfl rfl)
theorem dX9_plan_60 : decode cX9_plan 60 = .ok (.iconst 1, 1) := dk_4 (dk_at dksX9_plan_2 12 rfl rfl)
theorem dX9_plan_61 : decode cX9_plan 61 = .ok (.iadd, 1) := dk_96 (dk_at dksX9_plan_2 13 rfl rfl)
theorem dX9_plan_62 : decode cX9_plan 62 = .ok (.putfield 94, 3) := dk_181 0 94 (dk_at dksX9_plan_2 14 rfl rfl)
theorem dX9_plan_65 : decode cX9_plan 65 = .ok (.aload_n 0, 1) := dk_42 (dk_at dksX9_plan_2 17 rfl rfl)
theorem dX9_plan_66 : decode cX9_plan 66 = .ok (.iconst 0, 1) := dk_3 (dk_at dksX9_plan_2 18 rfl rfl)
theorem dX9_plan_67 : decode cX9_plan 67 = .ok (.putfield 127, 3) := dk_181 0 127 (dk_at dksX9_plan_2 19 rfl rfl)
theorem dX9_plan_70 : decode cX9_plan 70 = .ok (.aload_n 0, 1) := dk_42 (dk_at dksX9_plan_2 22 rfl rfl)
theorem dX9_plan_71 : decode cX9_plan 71 = .ok (.getfield 94, 3) := dk_180 0 94 (dk_at dksX9_plan_3 0 rfl rfl)
theorem dX9_plan_74 : decode cX9_plan 74 = .ok (.iconst 1, 1) := dk_4 (dk_at dksX9_plan_3 3 rfl rfl)
theorem dX9_plan_75 : decode cX9_plan 75 = .ok (.isub, 1) := dk_100 (dk_at dksX9_plan_3 4 rfl rfl)
theorem dX9_plan_76 : decode cX9_plan 76 = .ok (.ireturn, 1) := dk_172 (dk_at dksX9_plan_3 5 rfl rfl)
abbrev cX9_drop : ByteArray := prog_16_method_28_code
def yX9_drop : MethodName := ⟨RX9, "drop", "(I)I"⟩
def dkwX9_drop_0 : List UInt8 := [42, 27, 182, 0, 187, 154, 0, 6, 16, 254, 172, 42, 27, 182, 0, 190, 4, 172]
abbrev dktX9_drop_0 : List UInt8 := dkwX9_drop_0 ++ []
theorem dksX9_drop_0 : cX9_drop.data.toList.drop 0 = dktX9_drop_0 := by decide +kernel
theorem dX9_drop_0 : decode cX9_drop 0 = .ok (.aload_n 0, 1) := dk_42 (dk_at dksX9_drop_0 0 rfl rfl)
theorem dX9_drop_1 : decode cX9_drop 1 = .ok (.iload_n 1, 1) := dk_27 (dk_at dksX9_drop_0 1 rfl rfl)
theorem dX9_drop_2 : decode cX9_drop 2 = .ok (.invokevirtual 187, 3) := dk_182 0 187 (dk_at dksX9_drop_0 2 rfl rfl)
theorem dX9_drop_5 : decode cX9_drop 5 = .ok (.ifCond .ne 6, 3) := dk_154 0 6 (dk_at dksX9_drop_0 5 rfl rfl)
theorem dX9_drop_8 : decode cX9_drop 8 = .ok (.bipush (-2), 2) := dk_16 254 (dk_at dksX9_drop_0 8 rfl rfl)
theorem dX9_drop_10 : decode cX9_drop 10 = .ok (.ireturn, 1) := dk_172 (dk_at dksX9_drop_0 10 rfl rfl)
theorem dX9_drop_11 : decode cX9_drop 11 = .ok (.aload_n 0, 1) := dk_42 (dk_at dksX9_drop_0 11 rfl rfl)
theorem dX9_drop_12 : decode cX9_drop 12 = .ok (.iload_n 1, 1) := dk_27 (dk_at dksX9_drop_0 12 rfl rfl)
theorem dX9_drop_13 : decode cX9_drop 13 = .ok (.invokevirtual 190, 3) := dk_182 0 190 (dk_at dksX9_drop_0 13 rfl rfl)
theorem dX9_drop_16 : decode cX9_drop 16 = .ok (.iconst 1, 1) := dk_4 (dk_at dksX9_drop_0 16 rfl rfl)
theorem dX9_drop_17 : decode cX9_drop 17 = .ok (.ireturn, 1) := dk_172 (dk_at dksX9_drop_0 17 rfl rfl)
abbrev cX9_isPlan : ByteArray := prog_16_method_5_code
def yX9_isPlan : MethodName := ⟨RX9, "isPlan", "(I)Z"⟩
def dkwX9_isPlan_0 : List UInt8 := [27, 3, 42, 180, 0, 94, 4, 100, 184, 0, 87, 172]
abbrev dktX9_isPlan_0 : List UInt8 := dkwX9_isPlan_0 ++ []
theorem dksX9_isPlan_0 : cX9_isPlan.data.toList.drop 0 = dktX9_isPlan_0 := by decide +kernel
theorem dX9_isPlan_0 : decode cX9_isPlan 0 = .ok (.iload_n 1, 1) := dk_27 (dk_at dksX9_isPlan_0 0 rfl rfl)
theorem dX9_isPlan_1 : decode cX9_isPlan 1 = .ok (.iconst 0, 1) := dk_3 (dk_at dksX9_isPlan_0 1 rfl rfl)
theorem dX9_isPlan_2 : decode cX9_isPlan 2 = .ok (.aload_n 0, 1) := dk_42 (dk_at dksX9_isPlan_0 2 rfl rfl)
theorem dX9_isPlan_3 : decode cX9_isPlan 3 = .ok (.getfield 94, 3) := dk_180 0 94 (dk_at dksX9_isPlan_0 3 rfl rfl)
theorem dX9_isPlan_6 : decode cX9_isPlan 6 = .ok (.iconst 1, 1) := dk_4 (dk_at dksX9_isPlan_0 6 rfl rfl)
theorem dX9_isPlan_7 : decode cX9_isPlan 7 = .ok (.isub, 1) := dk_100 (dk_at dksX9_isPlan_0 7 rfl rfl)
theorem dX9_isPlan_8 : decode cX9_isPlan 8 = .ok (.invokestatic 87, 3) := dk_184 0 87 (dk_at dksX9_isPlan_0 8 rfl rfl)
theorem dX9_isPlan_11 : decode cX9_isPlan 11 = .ok (.ireturn, 1) := dk_172 (dk_at dksX9_isPlan_0 11 rfl rfl)
abbrev cX9_remove : ByteArray := prog_16_method_27_code
def yX9_remove : MethodName := ⟨RX9, "remove", "(I)V"⟩
def dkwX9_remove_2 : List UInt8 := [177]
abbrev dktX9_remove_2 : List UInt8 := dkwX9_remove_2 ++ []
def dkwX9_remove_1 : List UInt8 := [162, 0, 24, 42, 180, 0, 47, 28, 42, 180, 0, 47, 28, 16, 23, 96, 46, 79, 132, 2, 1, 167, 255, 227]
abbrev dktX9_remove_1 : List UInt8 := dkwX9_remove_1 ++ dktX9_remove_2
def dkwX9_remove_0 : List UInt8 := [42, 89, 180, 0, 94, 4, 100, 181, 0, 94, 16, 23, 27, 104, 61, 28, 16, 23, 42, 180, 0, 94, 104]
abbrev dktX9_remove_0 : List UInt8 := dkwX9_remove_0 ++ dktX9_remove_1
theorem dksX9_remove_0 : cX9_remove.data.toList.drop 0 = dktX9_remove_0 := by decide +kernel
theorem dksX9_remove_1 : cX9_remove.data.toList.drop 23 = dktX9_remove_1 := dk_seg dksX9_remove_0 23 rfl rfl
theorem dksX9_remove_2 : cX9_remove.data.toList.drop 47 = dktX9_remove_2 := dk_seg dksX9_remove_1 24 rfl rfl
theorem dX9_remove_0 : decode cX9_remove 0 = .ok (.aload_n 0, 1) := dk_42 (dk_at dksX9_remove_0 0 rfl rfl)
theorem dX9_remove_1 : decode cX9_remove 1 = .ok (.dup, 1) := dk_89 (dk_at dksX9_remove_0 1 rfl rfl)
theorem dX9_remove_2 : decode cX9_remove 2 = .ok (.getfield 94, 3) := dk_180 0 94 (dk_at dksX9_remove_0 2 rfl rfl)
theorem dX9_remove_5 : decode cX9_remove 5 = .ok (.iconst 1, 1) := dk_4 (dk_at dksX9_remove_0 5 rfl rfl)
theorem dX9_remove_6 : decode cX9_remove 6 = .ok (.isub, 1) := dk_100 (dk_at dksX9_remove_0 6 rfl rfl)
theorem dX9_remove_7 : decode cX9_remove 7 = .ok (.putfield 94, 3) := dk_181 0 94 (dk_at dksX9_remove_0 7 rfl rfl)
theorem dX9_remove_10 : decode cX9_remove 10 = .ok (.bipush 23, 2) := dk_16 23 (dk_at dksX9_remove_0 10 rfl rfl)
theorem dX9_remove_12 : decode cX9_remove 12 = .ok (.iload_n 1, 1) := dk_27 (dk_at dksX9_remove_0 12 rfl rfl)
theorem dX9_remove_13 : decode cX9_remove 13 = .ok (.imul, 1) := dk_104 (dk_at dksX9_remove_0 13 rfl rfl)
theorem dX9_remove_14 : decode cX9_remove 14 = .ok (.istore_n 2, 1) := dk_61 (dk_at dksX9_remove_0 14 rfl rfl)
theorem dX9_remove_15 : decode cX9_remove 15 = .ok (.iload_n 2, 1) := dk_28 (dk_at dksX9_remove_0 15 rfl rfl)
theorem dX9_remove_16 : decode cX9_remove 16 = .ok (.bipush 23, 2) := dk_16 23 (dk_at dksX9_remove_0 16 rfl rfl)
theorem dX9_remove_18 : decode cX9_remove 18 = .ok (.aload_n 0, 1) := dk_42 (dk_at dksX9_remove_0 18 rfl rfl)
theorem dX9_remove_19 : decode cX9_remove 19 = .ok (.getfield 94, 3) := dk_180 0 94 (dk_at dksX9_remove_0 19 rfl rfl)
theorem dX9_remove_22 : decode cX9_remove 22 = .ok (.imul, 1) := dk_104 (dk_at dksX9_remove_0 22 rfl rfl)
theorem dX9_remove_23 : decode cX9_remove 23 = .ok (.if_icmp .ge 24, 3) := dk_162 0 24 (dk_at dksX9_remove_1 0 rfl rfl)
theorem dX9_remove_26 : decode cX9_remove 26 = .ok (.aload_n 0, 1) := dk_42 (dk_at dksX9_remove_1 3 rfl rfl)
theorem dX9_remove_27 : decode cX9_remove 27 = .ok (.getfield 47, 3) := dk_180 0 47 (dk_at dksX9_remove_1 4 rfl rfl)
theorem dX9_remove_30 : decode cX9_remove 30 = .ok (.iload_n 2, 1) := dk_28 (dk_at dksX9_remove_1 7 rfl rfl)
theorem dX9_remove_31 : decode cX9_remove 31 = .ok (.aload_n 0, 1) := dk_42 (dk_at dksX9_remove_1 8 rfl rfl)
theorem dX9_remove_32 : decode cX9_remove 32 = .ok (.getfield 47, 3) := dk_180 0 47 (dk_at dksX9_remove_1 9 rfl rfl)
theorem dX9_remove_35 : decode cX9_remove 35 = .ok (.iload_n 2, 1) := dk_28 (dk_at dksX9_remove_1 12 rfl rfl)
theorem dX9_remove_36 : decode cX9_remove 36 = .ok (.bipush 23, 2) := dk_16 23 (dk_at dksX9_remove_1 13 rfl rfl)
theorem dX9_remove_38 : decode cX9_remove 38 = .ok (.iadd, 1) := dk_96 (dk_at dksX9_remove_1 15 rfl rfl)
theorem dX9_remove_39 : decode cX9_remove 39 = .ok (.iaload, 1) := dk_46 (dk_at dksX9_remove_1 16 rfl rfl)
theorem dX9_remove_40 : decode cX9_remove 40 = .ok (.iastore, 1) := dk_79 (dk_at dksX9_remove_1 17 rfl rfl)
theorem dX9_remove_41 : decode cX9_remove 41 = .ok (.iinc 2 1, 3) := dk_132 2 1 (dk_at dksX9_remove_1 18 rfl rfl)
theorem dX9_remove_44 : decode cX9_remove 44 = .ok (.goto (-29), 3) := dk_167 255 227 (dk_at dksX9_remove_1 21 rfl rfl)
theorem dX9_remove_47 : decode cX9_remove 47 = .ok (.return_, 1) := dk_177 (dk_at dksX9_remove_2 0 rfl rfl)
abbrev cX9_told : ByteArray := prog_16_method_29_code
def yX9_told : MethodName := ⟨RX9, "told", "(II)I"⟩
def dkwX9_told_3 : List UInt8 := [172, 42, 180, 0, 47, 16, 23, 27, 104, 8, 96, 16, 6, 29, 104, 96, 21, 4, 96, 46, 172]
abbrev dktX9_told_3 : List UInt8 := dkwX9_told_3 ++ []
def dkwX9_told_2 : List UInt8 := [16, 35, 184, 0, 87, 153, 0, 17, 21, 4, 29, 154, 0, 7, 6, 167, 0, 4, 8, 164, 0, 6, 16, 253]
abbrev dktX9_told_2 : List UInt8 := dkwX9_told_2 ++ dktX9_told_3
def dkwX9_told_1 : List UInt8 := [16, 23, 27, 104, 28, 96, 46, 172, 28, 16, 10, 108, 4, 100, 62, 28, 16, 10, 112, 54, 4, 28, 16, 10]
abbrev dktX9_told_1 : List UInt8 := dkwX9_told_1 ++ dktX9_told_2
def dkwX9_told_0 : List UInt8 := [42, 27, 182, 0, 187, 154, 0, 6, 16, 254, 172, 28, 3, 7, 184, 0, 87, 153, 0, 15, 42, 180, 0, 47]
abbrev dktX9_told_0 : List UInt8 := dkwX9_told_0 ++ dktX9_told_1
theorem dksX9_told_0 : cX9_told.data.toList.drop 0 = dktX9_told_0 := by decide +kernel
theorem dksX9_told_1 : cX9_told.data.toList.drop 24 = dktX9_told_1 := dk_seg dksX9_told_0 24 rfl rfl
theorem dksX9_told_2 : cX9_told.data.toList.drop 48 = dktX9_told_2 := dk_seg dksX9_told_1 24 rfl rfl
theorem dksX9_told_3 : cX9_told.data.toList.drop 72 = dktX9_told_3 := dk_seg dksX9_told_2 24 rfl rfl
theorem dX9_told_0 : decode cX9_told 0 = .ok (.aload_n 0, 1) := dk_42 (dk_at dksX9_told_0 0 rfl rfl)
theorem dX9_told_1 : decode cX9_told 1 = .ok (.iload_n 1, 1) := dk_27 (dk_at dksX9_told_0 1 rfl rfl)
theorem dX9_told_2 : decode cX9_told 2 = .ok (.invokevirtual 187, 3) := dk_182 0 187 (dk_at dksX9_told_0 2 rfl rfl)
theorem dX9_told_5 : decode cX9_told 5 = .ok (.ifCond .ne 6, 3) := dk_154 0 6 (dk_at dksX9_told_0 5 rfl rfl)
theorem dX9_told_8 : decode cX9_told 8 = .ok (.bipush (-2), 2) := dk_16 254 (dk_at dksX9_told_0 8 rfl rfl)
theorem dX9_told_10 : decode cX9_told 10 = .ok (.ireturn, 1) := dk_172 (dk_at dksX9_told_0 10 rfl rfl)
theorem dX9_told_11 : decode cX9_told 11 = .ok (.iload_n 2, 1) := dk_28 (dk_at dksX9_told_0 11 rfl rfl)
theorem dX9_told_12 : decode cX9_told 12 = .ok (.iconst 0, 1) := dk_3 (dk_at dksX9_told_0 12 rfl rfl)
theorem dX9_told_13 : decode cX9_told 13 = .ok (.iconst 4, 1) := dk_7 (dk_at dksX9_told_0 13 rfl rfl)
theorem dX9_told_14 : decode cX9_told 14 = .ok (.invokestatic 87, 3) := dk_184 0 87 (dk_at dksX9_told_0 14 rfl rfl)
theorem dX9_told_17 : decode cX9_told 17 = .ok (.ifCond .eq 15, 3) := dk_153 0 15 (dk_at dksX9_told_0 17 rfl rfl)
theorem dX9_told_20 : decode cX9_told 20 = .ok (.aload_n 0, 1) := dk_42 (dk_at dksX9_told_0 20 rfl rfl)
theorem dX9_told_21 : decode cX9_told 21 = .ok (.getfield 47, 3) := dk_180 0 47 (dk_at dksX9_told_0 21 rfl rfl)
theorem dX9_told_24 : decode cX9_told 24 = .ok (.bipush 23, 2) := dk_16 23 (dk_at dksX9_told_1 0 rfl rfl)
theorem dX9_told_26 : decode cX9_told 26 = .ok (.iload_n 1, 1) := dk_27 (dk_at dksX9_told_1 2 rfl rfl)
theorem dX9_told_27 : decode cX9_told 27 = .ok (.imul, 1) := dk_104 (dk_at dksX9_told_1 3 rfl rfl)
theorem dX9_told_28 : decode cX9_told 28 = .ok (.iload_n 2, 1) := dk_28 (dk_at dksX9_told_1 4 rfl rfl)
theorem dX9_told_29 : decode cX9_told 29 = .ok (.iadd, 1) := dk_96 (dk_at dksX9_told_1 5 rfl rfl)
theorem dX9_told_30 : decode cX9_told 30 = .ok (.iaload, 1) := dk_46 (dk_at dksX9_told_1 6 rfl rfl)
theorem dX9_told_31 : decode cX9_told 31 = .ok (.ireturn, 1) := dk_172 (dk_at dksX9_told_1 7 rfl rfl)
theorem dX9_told_32 : decode cX9_told 32 = .ok (.iload_n 2, 1) := dk_28 (dk_at dksX9_told_1 8 rfl rfl)
theorem dX9_told_33 : decode cX9_told 33 = .ok (.bipush 10, 2) := dk_16 10 (dk_at dksX9_told_1 9 rfl rfl)
theorem dX9_told_35 : decode cX9_told 35 = .ok (.idiv, 1) := dk_108 (dk_at dksX9_told_1 11 rfl rfl)
theorem dX9_told_36 : decode cX9_told 36 = .ok (.iconst 1, 1) := dk_4 (dk_at dksX9_told_1 12 rfl rfl)
theorem dX9_told_37 : decode cX9_told 37 = .ok (.isub, 1) := dk_100 (dk_at dksX9_told_1 13 rfl rfl)
theorem dX9_told_38 : decode cX9_told 38 = .ok (.istore_n 3, 1) := dk_62 (dk_at dksX9_told_1 14 rfl rfl)
theorem dX9_told_39 : decode cX9_told 39 = .ok (.iload_n 2, 1) := dk_28 (dk_at dksX9_told_1 15 rfl rfl)
theorem dX9_told_40 : decode cX9_told 40 = .ok (.bipush 10, 2) := dk_16 10 (dk_at dksX9_told_1 16 rfl rfl)
theorem dX9_told_42 : decode cX9_told 42 = .ok (.irem, 1) := dk_112 (dk_at dksX9_told_1 18 rfl rfl)
theorem dX9_told_43 : decode cX9_told 43 = .ok (.istore 4, 2) := dk_54 4 (dk_at dksX9_told_1 19 rfl rfl)
theorem dX9_told_45 : decode cX9_told 45 = .ok (.iload_n 2, 1) := dk_28 (dk_at dksX9_told_1 21 rfl rfl)
theorem dX9_told_46 : decode cX9_told 46 = .ok (.bipush 10, 2) := dk_16 10 (dk_at dksX9_told_1 22 rfl rfl)
theorem dX9_told_48 : decode cX9_told 48 = .ok (.bipush 35, 2) := dk_16 35 (dk_at dksX9_told_2 0 rfl rfl)
theorem dX9_told_50 : decode cX9_told 50 = .ok (.invokestatic 87, 3) := dk_184 0 87 (dk_at dksX9_told_2 2 rfl rfl)
theorem dX9_told_53 : decode cX9_told 53 = .ok (.ifCond .eq 17, 3) := dk_153 0 17 (dk_at dksX9_told_2 5 rfl rfl)
theorem dX9_told_56 : decode cX9_told 56 = .ok (.iload 4, 2) := dk_21 4 (dk_at dksX9_told_2 8 rfl rfl)
theorem dX9_told_58 : decode cX9_told 58 = .ok (.iload_n 3, 1) := dk_29 (dk_at dksX9_told_2 10 rfl rfl)
theorem dX9_told_59 : decode cX9_told 59 = .ok (.ifCond .ne 7, 3) := dk_154 0 7 (dk_at dksX9_told_2 11 rfl rfl)
theorem dX9_told_62 : decode cX9_told 62 = .ok (.iconst 3, 1) := dk_6 (dk_at dksX9_told_2 14 rfl rfl)
theorem dX9_told_63 : decode cX9_told 63 = .ok (.goto 4, 3) := dk_167 0 4 (dk_at dksX9_told_2 15 rfl rfl)
theorem dX9_told_66 : decode cX9_told 66 = .ok (.iconst 5, 1) := dk_8 (dk_at dksX9_told_2 18 rfl rfl)
theorem dX9_told_67 : decode cX9_told 67 = .ok (.if_icmp .le 6, 3) := dk_164 0 6 (dk_at dksX9_told_2 19 rfl rfl)
theorem dX9_told_70 : decode cX9_told 70 = .ok (.bipush (-3), 2) := dk_16 253 (dk_at dksX9_told_2 22 rfl rfl)
theorem dX9_told_72 : decode cX9_told 72 = .ok (.ireturn, 1) := dk_172 (dk_at dksX9_told_3 0 rfl rfl)
theorem dX9_told_73 : decode cX9_told 73 = .ok (.aload_n 0, 1) := dk_42 (dk_at dksX9_told_3 1 rfl rfl)
theorem dX9_told_74 : decode cX9_told 74 = .ok (.getfield 47, 3) := dk_180 0 47 (dk_at dksX9_told_3 2 rfl rfl)
theorem dX9_told_77 : decode cX9_told 77 = .ok (.bipush 23, 2) := dk_16 23 (dk_at dksX9_told_3 5 rfl rfl)
theorem dX9_told_79 : decode cX9_told 79 = .ok (.iload_n 1, 1) := dk_27 (dk_at dksX9_told_3 7 rfl rfl)
theorem dX9_told_80 : decode cX9_told 80 = .ok (.imul, 1) := dk_104 (dk_at dksX9_told_3 8 rfl rfl)
theorem dX9_told_81 : decode cX9_told 81 = .ok (.iconst 5, 1) := dk_8 (dk_at dksX9_told_3 9 rfl rfl)
theorem dX9_told_82 : decode cX9_told 82 = .ok (.iadd, 1) := dk_96 (dk_at dksX9_told_3 10 rfl rfl)
theorem dX9_told_83 : decode cX9_told 83 = .ok (.bipush 6, 2) := dk_16 6 (dk_at dksX9_told_3 11 rfl rfl)
theorem dX9_told_85 : decode cX9_told 85 = .ok (.iload_n 3, 1) := dk_29 (dk_at dksX9_told_3 13 rfl rfl)
theorem dX9_told_86 : decode cX9_told 86 = .ok (.imul, 1) := dk_104 (dk_at dksX9_told_3 14 rfl rfl)
theorem dX9_told_87 : decode cX9_told 87 = .ok (.iadd, 1) := dk_96 (dk_at dksX9_told_3 15 rfl rfl)
theorem dX9_told_88 : decode cX9_told 88 = .ok (.iload 4, 2) := dk_21 4 (dk_at dksX9_told_3 16 rfl rfl)
theorem dX9_told_90 : decode cX9_told 90 = .ok (.iadd, 1) := dk_96 (dk_at dksX9_told_3 18 rfl rfl)
theorem dX9_told_91 : decode cX9_told 91 = .ok (.iaload, 1) := dk_46 (dk_at dksX9_told_3 19 rfl rfl)
theorem dX9_told_92 : decode cX9_told 92 = .ok (.ireturn, 1) := dk_172 (dk_at dksX9_told_3 20 rfl rfl)
abbrev cX9_worth : ByteArray := prog_16_method_30_code
def yX9_worth : MethodName := ⟨RX9, "worth", "(II)I"⟩
def dkwX9_worth_2 : List UInt8 := [29, 172]
abbrev dktX9_worth_2 : List UInt8 := dkwX9_worth_2 ++ []
def dkwX9_worth_1 : List UInt8 := [42, 180, 0, 47, 16, 23, 27, 104, 6, 96, 46, 62, 42, 180, 0, 47, 16, 23, 27, 104, 6, 96, 28, 79]
abbrev dktX9_worth_1 : List UInt8 := dkwX9_worth_1 ++ dktX9_worth_2
def dkwX9_worth_0 : List UInt8 := [42, 27, 182, 0, 187, 154, 0, 6, 16, 254, 172, 28, 4, 16, 99, 184, 0, 87, 154, 0, 6, 16, 253, 172]
abbrev dktX9_worth_0 : List UInt8 := dkwX9_worth_0 ++ dktX9_worth_1
theorem dksX9_worth_0 : cX9_worth.data.toList.drop 0 = dktX9_worth_0 := by decide +kernel
theorem dksX9_worth_1 : cX9_worth.data.toList.drop 24 = dktX9_worth_1 := dk_seg dksX9_worth_0 24 rfl rfl
theorem dksX9_worth_2 : cX9_worth.data.toList.drop 48 = dktX9_worth_2 := dk_seg dksX9_worth_1 24 rfl rfl
theorem dX9_worth_0 : decode cX9_worth 0 = .ok (.aload_n 0, 1) := dk_42 (dk_at dksX9_worth_0 0 rfl rfl)
theorem dX9_worth_1 : decode cX9_worth 1 = .ok (.iload_n 1, 1) := dk_27 (dk_at dksX9_worth_0 1 rfl rfl)
theorem dX9_worth_2 : decode cX9_worth 2 = .ok (.invokevirtual 187, 3) := dk_182 0 187 (dk_at dksX9_worth_0 2 rfl rfl)
theorem dX9_worth_5 : decode cX9_worth 5 = .ok (.ifCond .ne 6, 3) := dk_154 0 6 (dk_at dksX9_worth_0 5 rfl rfl)
theorem dX9_worth_8 : decode cX9_worth 8 = .ok (.bipush (-2), 2) := dk_16 254 (dk_at dksX9_worth_0 8 rfl rfl)
theorem dX9_worth_10 : decode cX9_worth 10 = .ok (.ireturn, 1) := dk_172 (dk_at dksX9_worth_0 10 rfl rfl)
theorem dX9_worth_11 : decode cX9_worth 11 = .ok (.iload_n 2, 1) := dk_28 (dk_at dksX9_worth_0 11 rfl rfl)
theorem dX9_worth_12 : decode cX9_worth 12 = .ok (.iconst 1, 1) := dk_4 (dk_at dksX9_worth_0 12 rfl rfl)
theorem dX9_worth_13 : decode cX9_worth 13 = .ok (.bipush 99, 2) := dk_16 99 (dk_at dksX9_worth_0 13 rfl rfl)
theorem dX9_worth_15 : decode cX9_worth 15 = .ok (.invokestatic 87, 3) := dk_184 0 87 (dk_at dksX9_worth_0 15 rfl rfl)
theorem dX9_worth_18 : decode cX9_worth 18 = .ok (.ifCond .ne 6, 3) := dk_154 0 6 (dk_at dksX9_worth_0 18 rfl rfl)
theorem dX9_worth_21 : decode cX9_worth 21 = .ok (.bipush (-3), 2) := dk_16 253 (dk_at dksX9_worth_0 21 rfl rfl)
theorem dX9_worth_23 : decode cX9_worth 23 = .ok (.ireturn, 1) := dk_172 (dk_at dksX9_worth_0 23 rfl rfl)
theorem dX9_worth_24 : decode cX9_worth 24 = .ok (.aload_n 0, 1) := dk_42 (dk_at dksX9_worth_1 0 rfl rfl)
theorem dX9_worth_25 : decode cX9_worth 25 = .ok (.getfield 47, 3) := dk_180 0 47 (dk_at dksX9_worth_1 1 rfl rfl)
theorem dX9_worth_28 : decode cX9_worth 28 = .ok (.bipush 23, 2) := dk_16 23 (dk_at dksX9_worth_1 4 rfl rfl)
theorem dX9_worth_30 : decode cX9_worth 30 = .ok (.iload_n 1, 1) := dk_27 (dk_at dksX9_worth_1 6 rfl rfl)
theorem dX9_worth_31 : decode cX9_worth 31 = .ok (.imul, 1) := dk_104 (dk_at dksX9_worth_1 7 rfl rfl)
theorem dX9_worth_32 : decode cX9_worth 32 = .ok (.iconst 3, 1) := dk_6 (dk_at dksX9_worth_1 8 rfl rfl)
theorem dX9_worth_33 : decode cX9_worth 33 = .ok (.iadd, 1) := dk_96 (dk_at dksX9_worth_1 9 rfl rfl)
theorem dX9_worth_34 : decode cX9_worth 34 = .ok (.iaload, 1) := dk_46 (dk_at dksX9_worth_1 10 rfl rfl)
theorem dX9_worth_35 : decode cX9_worth 35 = .ok (.istore_n 3, 1) := dk_62 (dk_at dksX9_worth_1 11 rfl rfl)
theorem dX9_worth_36 : decode cX9_worth 36 = .ok (.aload_n 0, 1) := dk_42 (dk_at dksX9_worth_1 12 rfl rfl)
theorem dX9_worth_37 : decode cX9_worth 37 = .ok (.getfield 47, 3) := dk_180 0 47 (dk_at dksX9_worth_1 13 rfl rfl)
theorem dX9_worth_40 : decode cX9_worth 40 = .ok (.bipush 23, 2) := dk_16 23 (dk_at dksX9_worth_1 16 rfl rfl)
theorem dX9_worth_42 : decode cX9_worth 42 = .ok (.iload_n 1, 1) := dk_27 (dk_at dksX9_worth_1 18 rfl rfl)
theorem dX9_worth_43 : decode cX9_worth 43 = .ok (.imul, 1) := dk_104 (dk_at dksX9_worth_1 19 rfl rfl)
theorem dX9_worth_44 : decode cX9_worth 44 = .ok (.iconst 3, 1) := dk_6 (dk_at dksX9_worth_1 20 rfl rfl)
theorem dX9_worth_45 : decode cX9_worth 45 = .ok (.iadd, 1) := dk_96 (dk_at dksX9_worth_1 21 rfl rfl)
theorem dX9_worth_46 : decode cX9_worth 46 = .ok (.iload_n 2, 1) := dk_28 (dk_at dksX9_worth_1 22 rfl rfl)
theorem dX9_worth_47 : decode cX9_worth 47 = .ok (.iastore, 1) := dk_79 (dk_at dksX9_worth_1 23 rfl rfl)
theorem dX9_worth_48 : decode cX9_worth 48 = .ok (.iload_n 3, 1) := dk_29 (dk_at dksX9_worth_2 0 rfl rfl)
theorem dX9_worth_49 : decode cX9_worth 49 = .ok (.ireturn, 1) := dk_172 (dk_at dksX9_worth_2 1 rfl rfl)
abbrev cX9_placements : ByteArray := prog_16_method_39_code
def yX9_placements : MethodName := ⟨RX9, "placements", "(I)I"⟩
def dkwX9_placements_0 : List UInt8 := [42, 27, 182, 0, 187, 154, 0, 6, 16, 254, 172, 42, 27, 182, 0, 216, 42, 180, 0, 50, 27, 46, 172]
abbrev dktX9_placements_0 : List UInt8 := dkwX9_placements_0 ++ []
theorem dksX9_placements_0 : cX9_placements.data.toList.drop 0 = dktX9_placements_0 := by decide +kernel
theorem dX9_placements_0 : decode cX9_placements 0 = .ok (.aload_n 0, 1) := dk_42 (dk_at dksX9_placements_0 0 rfl rfl)
theorem dX9_placements_1 : decode cX9_placements 1 = .ok (.iload_n 1, 1) := dk_27 (dk_at dksX9_placements_0 1 rfl rfl)
theorem dX9_placements_2 : decode cX9_placements 2 = .ok (.invokevirtual 187, 3) := dk_182 0 187 (dk_at dksX9_placements_0 2 rfl rfl)
theorem dX9_placements_5 : decode cX9_placements 5 = .ok (.ifCond .ne 6, 3) := dk_154 0 6 (dk_at dksX9_placements_0 5 rfl rfl)
theorem dX9_placements_8 : decode cX9_placements 8 = .ok (.bipush (-2), 2) := dk_16 254 (dk_at dksX9_placements_0 8 rfl rfl)
theorem dX9_placements_10 : decode cX9_placements 10 = .ok (.ireturn, 1) := dk_172 (dk_at dksX9_placements_0 10 rfl rfl)
theorem dX9_placements_11 : decode cX9_placements 11 = .ok (.aload_n 0, 1) := dk_42 (dk_at dksX9_placements_0 11 rfl rfl)
theorem dX9_placements_12 : decode cX9_placements 12 = .ok (.iload_n 1, 1) := dk_27 (dk_at dksX9_placements_0 12 rfl rfl)
theorem dX9_placements_13 : decode cX9_placements 13 = .ok (.invokevirtual 216, 3) := dk_182 0 216 (dk_at dksX9_placements_0 13 rfl rfl)
theorem dX9_placements_16 : decode cX9_placements 16 = .ok (.aload_n 0, 1) := dk_42 (dk_at dksX9_placements_0 16 rfl rfl)
theorem dX9_placements_17 : decode cX9_placements 17 = .ok (.getfield 50, 3) := dk_180 0 50 (dk_at dksX9_placements_0 17 rfl rfl)
theorem dX9_placements_20 : decode cX9_placements 20 = .ok (.iload_n 1, 1) := dk_27 (dk_at dksX9_placements_0 20 rfl rfl)
theorem dX9_placements_21 : decode cX9_placements 21 = .ok (.iaload, 1) := dk_46 (dk_at dksX9_placements_0 21 rfl rfl)
theorem dX9_placements_22 : decode cX9_placements 22 = .ok (.ireturn, 1) := dk_172 (dk_at dksX9_placements_0 22 rfl rfl)
abbrev cX9_findPlacements : ByteArray := prog_16_method_38_code
def yX9_findPlacements : MethodName := ⟨RX9, "findPlacements", "(I)V"⟩
def dkwX9_findPlacements_10 : List UInt8 := [182, 0, 212, 132, 8, 1, 167, 255, 197, 132, 5, 1, 167, 255, 93, 132, 2, 1, 167, 255, 16, 177]
abbrev dktX9_findPlacements_10 : List UInt8 := dkwX9_findPlacements_10 ++ []
def dkwX9_findPlacements_9 : List UInt8 := [5, 21, 8, 182, 0, 206, 54, 9, 21, 9, 153, 0, 15, 42, 27, 29, 21, 6, 128, 21, 9, 128]
abbrev dktX9_findPlacements_9 : List UInt8 := dkwX9_findPlacements_9 ++ dktX9_findPlacements_10
def dkwX9_findPlacements_8 : List UInt8 := [182, 0, 209, 5, 164, 0, 51, 21, 8, 21, 7, 42, 27, 5, 8, 182, 0, 194, 96, 163, 0, 36, 42, 27]
abbrev dktX9_findPlacements_8 : List UInt8 := dkwX9_findPlacements_8 ++ dktX9_findPlacements_9
def dkwX9_findPlacements_7 : List UInt8 := [164, 0, 13, 42, 27, 5, 7, 182, 0, 194, 167, 0, 4, 3, 96, 54, 8, 21, 6, 153, 0, 60, 42, 27]
abbrev dktX9_findPlacements_7 : List UInt8 := dkwX9_findPlacements_7 ++ dktX9_findPlacements_8
def dkwX9_findPlacements_6 : List UInt8 := [182, 0, 212, 21, 5, 42, 27, 4, 3, 182, 0, 194, 96, 54, 7, 21, 7, 42, 27, 182, 0, 209, 5]
abbrev dktX9_findPlacements_6 : List UInt8 := dkwX9_findPlacements_6 ++ dktX9_findPlacements_7
def dkwX9_findPlacements_5 : List UInt8 := [54, 6, 21, 6, 153, 0, 21, 42, 27, 182, 0, 209, 5, 160, 0, 12, 42, 27, 29, 21, 6, 128]
abbrev dktX9_findPlacements_5 : List UInt8 := dkwX9_findPlacements_5 ++ dktX9_findPlacements_6
def dkwX9_findPlacements_4 : List UInt8 := [21, 5, 21, 4, 42, 27, 4, 8, 182, 0, 194, 96, 163, 0, 141, 42, 27, 4, 21, 5, 182, 0, 206]
abbrev dktX9_findPlacements_4 : List UInt8 := dkwX9_findPlacements_4 ++ dktX9_findPlacements_5
def dkwX9_findPlacements_3 : List UInt8 := [182, 0, 194, 167, 0, 4, 3, 96, 54, 5, 29, 153, 0, 165, 42, 27, 182, 0, 209, 4, 164, 0, 156]
abbrev dktX9_findPlacements_3 : List UInt8 := dkwX9_findPlacements_3 ++ dktX9_findPlacements_4
def dkwX9_findPlacements_2 : List UInt8 := [3, 182, 0, 194, 96, 54, 4, 21, 4, 42, 27, 182, 0, 209, 4, 164, 0, 13, 42, 27, 4, 7]
abbrev dktX9_findPlacements_2 : List UInt8 := dkwX9_findPlacements_2 ++ dktX9_findPlacements_3
def dkwX9_findPlacements_1 : List UInt8 := [62, 29, 153, 0, 18, 42, 27, 182, 0, 209, 4, 160, 0, 9, 42, 27, 29, 182, 0, 212, 28, 42, 27, 3]
abbrev dktX9_findPlacements_1 : List UInt8 := dkwX9_findPlacements_1 ++ dktX9_findPlacements_2
def dkwX9_findPlacements_0 : List UInt8 := [42, 180, 0, 50, 27, 3, 79, 3, 61, 28, 42, 180, 0, 7, 162, 0, 238, 42, 27, 3, 28, 182, 0, 206]
abbrev dktX9_findPlacements_0 : List UInt8 := dkwX9_findPlacements_0 ++ dktX9_findPlacements_1
theorem dksX9_findPlacements_0 : cX9_findPlacements.data.toList.drop 0 = dktX9_findPlacements_0 := by decide +kernel
theorem dksX9_findPlacements_1 : cX9_findPlacements.data.toList.drop 24 = dktX9_findPlacements_1 := dk_seg dksX9_findPlacements_0 24 rfl rfl
theorem dksX9_findPlacements_2 : cX9_findPlacements.data.toList.drop 48 = dktX9_findPlacements_2 := dk_seg dksX9_findPlacements_1 24 rfl rfl
theorem dksX9_findPlacements_3 : cX9_findPlacements.data.toList.drop 70 = dktX9_findPlacements_3 := dk_seg dksX9_findPlacements_2 22 rfl rfl
theorem dksX9_findPlacements_4 : cX9_findPlacements.data.toList.drop 93 = dktX9_findPlacements_4 := dk_seg dksX9_findPlacements_3 23 rfl rfl
theorem dksX9_findPlacements_5 : cX9_findPlacements.data.toList.drop 116 = dktX9_findPlacements_5 := dk_seg dksX9_findPlacements_4 23 rfl rfl
theorem dksX9_findPlacements_6 : cX9_findPlacements.data.toList.drop 138 = dktX9_findPlacements_6 := dk_seg dksX9_findPlacements_5 22 rfl rfl
theorem dksX9_findPlacements_7 : cX9_findPlacements.data.toList.drop 161 = dktX9_findPlacements_7 := dk_seg dksX9_findPlacements_6 23 rfl rfl
theorem dksX9_findPlacements_8 : cX9_findPlacements.data.toList.drop 185 = dktX9_findPlacements_8 := dk_seg dksX9_findPlacements_7 24 rfl rfl
theorem dksX9_findPlacements_9 : cX9_findPlacements.data.toList.drop 209 = dktX9_findPlacements_9 := dk_seg dksX9_findPlacements_8 24 rfl rfl
theorem dksX9_findPlacements_10 : cX9_findPlacements.data.toList.drop 231 = dktX9_findPlacements_10 := dk_seg dksX9_findPlacements_9 22 rfl rfl
theorem dX9_findPlacements_0 : decode cX9_findPlacements 0 = .ok (.aload_n 0, 1) := dk_42 (dk_at dksX9_findPlacements_0 0 rfl rfl)
theorem dX9_findPlacements_1 : decode cX9_findPlacements 1 = .ok (.getfield 50, 3) := dk_180 0 50 (dk_at dksX9_findPlacements_0 1 rfl rfl)
theorem dX9_findPlacements_4 : decode cX9_findPlacements 4 = .ok (.iload_n 1, 1) := dk_27 (dk_at dksX9_findPlacements_0 4 rfl rfl)
theorem dX9_findPlacements_5 : decode cX9_findPlacements 5 = .ok (.iconst 0, 1) := dk_3 (dk_at dksX9_findPlacements_0 5 rfl rfl)
theorem dX9_findPlacements_6 : decode cX9_findPlacements 6 = .ok (.iastore, 1) := dk_79 (dk_at dksX9_findPlacements_0 6 rfl rfl)
theorem dX9_findPlacements_7 : decode cX9_findPlacements 7 = .ok (.iconst 0, 1) := dk_3 (dk_at dksX9_findPlacements_0 7 rfl rfl)
theorem dX9_findPlacements_8 : decode cX9_findPlacements 8 = .ok (.istore_n 2, 1) := dk_61 (dk_at dksX9_findPlacements_0 8 rfl rfl)
theorem dX9_findPlacements_9 : decode cX9_findPlacements 9 = .ok (.iload_n 2, 1) := dk_28 (dk_at dksX9_findPlacements_0 9 rfl rfl)
theorem dX9_findPlacements_10 : decode cX9_findPlacements 10 = .ok (.aload_n 0, 1) := dk_42 (dk_at dksX9_findPlacements_0 10 rfl rfl)
theorem dX9_findPlacements_11 : decode cX9_findPlacements 11 = .ok (.getfield 7, 3) := dk_180 0 7 (dk_at dksX9_findPlacements_0 11 rfl rfl)
theorem dX9_findPlacements_14 : decode cX9_findPlacements 14 = .ok (.if_icmp .ge 238, 3) := dk_162 0 238 (dk_at dksX9_findPlacements_0 14 rfl rfl)
theorem dX9_findPlacements_17 : decode cX9_findPlacements 17 = .ok (.aload_n 0, 1) := dk_42 (dk_at dksX9_findPlacements_0 17 rfl rfl)
theorem dX9_findPlacements_18 : decode cX9_findPlacements 18 = .ok (.iload_n 1, 1) := dk_27 (dk_at dksX9_findPlacements_0 18 rfl rfl)
theorem dX9_findPlacements_19 : decode cX9_findPlacements 19 = .ok (.iconst 0, 1) := dk_3 (dk_at dksX9_findPlacements_0 19 rfl rfl)
theorem dX9_findPlacements_20 : decode cX9_findPlacements 20 = .ok (.iload_n 2, 1) := dk_28 (dk_at dksX9_findPlacements_0 20 rfl rfl)
theorem dX9_findPlacements_21 : decode cX9_findPlacements 21 = .ok (.invokevirtual 206, 3) := dk_182 0 206 (dk_at dksX9_findPlacements_0 21 rfl rfl)
theorem dX9_findPlacements_24 : decode cX9_findPlacements 24 = .ok (.istore_n 3, 1) := dk_62 (dk_at dksX9_findPlacements_1 0 rfl rfl)
theorem dX9_findPlacements_25 : decode cX9_findPlacements 25 = .ok (.iload_n 3, 1) := dk_29 (dk_at dksX9_findPlacements_1 1 rfl rfl)
theorem dX9_findPlacements_26 : decode cX9_findPlacements 26 = .ok (.ifCond .eq 18, 3) := dk_153 0 18 (dk_at dksX9_findPlacements_1 2 rfl rfl)
theorem dX9_findPlacements_29 : decode cX9_findPlacements 29 = .ok (.aload_n 0, 1) := dk_42 (dk_at dksX9_findPlacements_1 5 rfl rfl)
theorem dX9_findPlacements_30 : decode cX9_findPlacements 30 = .ok (.iload_n 1, 1) := dk_27 (dk_at dksX9_findPlacements_1 6 rfl rfl)
theorem dX9_findPlacements_31 : decode cX9_findPlacements 31 = .ok (.invokevirtual 209, 3) := dk_182 0 209 (dk_at dksX9_findPlacements_1 7 rfl rfl)
theorem dX9_findPlacements_34 : decode cX9_findPlacements 34 = .ok (.iconst 1, 1) := dk_4 (dk_at dksX9_findPlacements_1 10 rfl rfl)
theorem dX9_findPlacements_35 : decode cX9_findPlacements 35 = .ok (.if_icmp .ne 9, 3) := dk_160 0 9 (dk_at dksX9_findPlacements_1 11 rfl rfl)
theorem dX9_findPlacements_38 : decode cX9_findPlacements 38 = .ok (.aload_n 0, 1) := dk_42 (dk_at dksX9_findPlacements_1 14 rfl rfl)
theorem dX9_findPlacements_39 : decode cX9_findPlacements 39 = .ok (.iload_n 1, 1) := dk_27 (dk_at dksX9_findPlacements_1 15 rfl rfl)
theorem dX9_findPlacements_40 : decode cX9_findPlacements 40 = .ok (.iload_n 3, 1) := dk_29 (dk_at dksX9_findPlacements_1 16 rfl rfl)
theorem dX9_findPlacements_41 : decode cX9_findPlacements 41 = .ok (.invokevirtual 212, 3) := dk_182 0 212 (dk_at dksX9_findPlacements_1 17 rfl rfl)
theorem dX9_findPlacements_44 : decode cX9_findPlacements 44 = .ok (.iload_n 2, 1) := dk_28 (dk_at dksX9_findPlacements_1 20 rfl rfl)
theorem dX9_findPlacements_45 : decode cX9_findPlacements 45 = .ok (.aload_n 0, 1) := dk_42 (dk_at dksX9_findPlacements_1 21 rfl rfl)
theorem dX9_findPlacements_46 : decode cX9_findPlacements 46 = .ok (.iload_n 1, 1) := dk_27 (dk_at dksX9_findPlacements_1 22 rfl rfl)
theorem dX9_findPlacements_47 : decode cX9_findPlacements 47 = .ok (.iconst 0, 1) := dk_3 (dk_at dksX9_findPlacements_1 23 rfl rfl)
theorem dX9_findPlacements_48 : decode cX9_findPlacements 48 = .ok (.iconst 0, 1) := dk_3 (dk_at dksX9_findPlacements_2 0 rfl rfl)
theorem dX9_findPlacements_49 : decode cX9_findPlacements 49 = .ok (.invokevirtual 194, 3) := dk_182 0 194 (dk_at dksX9_findPlacements_2 1 rfl rfl)
theorem dX9_findPlacements_52 : decode cX9_findPlacements 52 = .ok (.iadd, 1) := dk_96 (dk_at dksX9_findPlacements_2 4 rfl rfl)
theorem dX9_findPlacements_53 : decode cX9_findPlacements 53 = .ok (.istore 4, 2) := dk_54 4 (dk_at dksX9_findPlacements_2 5 rfl rfl)
theorem dX9_findPlacements_55 : decode cX9_findPlacements 55 = .ok (.iload 4, 2) := dk_21 4 (dk_at dksX9_findPlacements_2 7 rfl rfl)
theorem dX9_findPlacements_57 : decode cX9_findPlacements 57 = .ok (.aload_n 0, 1) := dk_42 (dk_at dksX9_findPlacements_2 9 rfl rfl)
theorem dX9_findPlacements_58 : decode cX9_findPlacements 58 = .ok (.iload_n 1, 1) := dk_27 (dk_at dksX9_findPlacements_2 10 rfl rfl)
theorem dX9_findPlacements_59 : decode cX9_findPlacements 59 = .ok (.invokevirtual 209, 3) := dk_182 0 209 (dk_at dksX9_findPlacements_2 11 rfl rfl)
theorem dX9_findPlacements_62 : decode cX9_findPlacements 62 = .ok (.iconst 1, 1) := dk_4 (dk_at dksX9_findPlacements_2 14 rfl rfl)
theorem dX9_findPlacements_63 : decode cX9_findPlacements 63 = .ok (.if_icmp .le 13, 3) := dk_164 0 13 (dk_at dksX9_findPlacements_2 15 rfl rfl)
theorem dX9_findPlacements_66 : decode cX9_findPlacements 66 = .ok (.aload_n 0, 1) := dk_42 (dk_at dksX9_findPlacements_2 18 rfl rfl)
theorem dX9_findPlacements_67 : decode cX9_findPlacements 67 = .ok (.iload_n 1, 1) := dk_27 (dk_at dksX9_findPlacements_2 19 rfl rfl)
theorem dX9_findPlacements_68 : decode cX9_findPlacements 68 = .ok (.iconst 1, 1) := dk_4 (dk_at dksX9_findPlacements_2 20 rfl rfl)
theorem dX9_findPlacements_69 : decode cX9_findPlacements 69 = .ok (.iconst 4, 1) := dk_7 (dk_at dksX9_findPlacements_2 21 rfl rfl)
theorem dX9_findPlacements_70 : decode cX9_findPlacements 70 = .ok (.invokevirtual 194, 3) := dk_182 0 194 (dk_at dksX9_findPlacements_3 0 rfl rfl)
theorem dX9_findPlacements_73 : decode cX9_findPlacements 73 = .ok (.goto 4, 3) := dk_167 0 4 (dk_at dksX9_findPlacements_3 3 rfl rfl)
theorem dX9_findPlacements_76 : decode cX9_findPlacements 76 = .ok (.iconst 0, 1) := dk_3 (dk_at dksX9_findPlacements_3 6 rfl rfl)
theorem dX9_findPlacements_77 : decode cX9_findPlacements 77 = .ok (.iadd, 1) := dk_96 (dk_at dksX9_findPlacements_3 7 rfl rfl)
theorem dX9_findPlacements_78 : decode cX9_findPlacements 78 = .ok (.istore 5, 2) := dk_54 5 (dk_at dksX9_findPlacements_3 8 rfl rfl)
theorem dX9_findPlacements_80 : decode cX9_findPlacements 80 = .ok (.iload_n 3, 1) := dk_29 (dk_at dksX9_findPlacements_3 10 rfl rfl)
theorem dX9_findPlacements_81 : decode cX9_findPlacements 81 = .ok (.ifCond .eq 165, 3) := dk_153 0 165 (dk_at dksX9_findPlacements_3 11 rfl rfl)
theorem dX9_findPlacements_84 : decode cX9_findPlacements 84 = .ok (.aload_n 0, 1) := dk_42 (dk_at dksX9_findPlacements_3 14 rfl rfl)
theorem dX9_findPlacements_85 : decode cX9_findPlacements 85 = .ok (.iload_n 1, 1) := dk_27 (dk_at dksX9_findPlacements_3 15 rfl rfl)
theorem dX9_findPlacements_86 : decode cX9_findPlacements 86 = .ok (.invokevirtual 209, 3) := dk_182 0 209 (dk_at dksX9_findPlacements_3 16 rfl rfl)
theorem dX9_findPlacements_89 : decode cX9_findPlacements 89 = .ok (.iconst 1, 1) := dk_4 (dk_at dksX9_findPlacements_3 19 rfl rfl)
theorem dX9_findPlacements_90 : decode cX9_findPlacements 90 = .ok (.if_icmp .le 156, 3) := dk_164 0 156 (dk_at dksX9_findPlacements_3 20 rfl rfl)
theorem dX9_findPlacements_93 : decode cX9_findPlacements 93 = .ok (.iload 5, 2) := dk_21 5 (dk_at dksX9_findPlacements_4 0 rfl rfl)
theorem dX9_findPlacements_95 : decode cX9_findPlacements 95 = .ok (.iload 4, 2) := dk_21 4 (dk_at dksX9_findPlacements_4 2 rfl rfl)
theorem dX9_findPlacements_97 : decode cX9_findPlacements 97 = .ok (.aload_n 0, 1) := dk_42 (dk_at dksX9_findPlacements_4 4 rfl rfl)
theorem dX9_findPlacements_98 : decode cX9_findPlacements 98 = .ok (.iload_n 1, 1) := dk_27 (dk_at dksX9_findPlacements_4 5 rfl rfl)
theorem dX9_findPlacements_99 : decode cX9_findPlacements 99 = .ok (.iconst 1, 1) := dk_4 (dk_at dksX9_findPlacements_4 6 rfl rfl)
theorem dX9_findPlacements_100 : decode cX9_findPlacements 100 = .ok (.iconst 5, 1) := dk_8 (dk_at dksX9_findPlacements_4 7 rfl rfl)
theorem dX9_findPlacements_101 : decode cX9_findPlacements 101 = .ok (.invokevirtual 194, 3) := dk_182 0 194 (dk_at dksX9_findPlacements_4 8 rfl rfl)
theorem dX9_findPlacements_104 : decode cX9_findPlacements 104 = .ok (.iadd, 1) := dk_96 (dk_at dksX9_findPlacements_4 11 rfl rfl)
theorem dX9_findPlacements_105 : decode cX9_findPlacements 105 = .ok (.if_icmp .gt 141, 3) := dk_163 0 141 (dk_at dksX9_findPlacements_4 12 rfl rfl)
theorem dX9_findPlacements_108 : decode cX9_findPlacements 108 = .ok (.aload_n 0, 1) := dk_42 (dk_at dksX9_findPlacements_4 15 rfl rfl)
theorem dX9_findPlacements_109 : decode cX9_findPlacements 109 = .ok (.iload_n 1, 1) := dk_27 (dk_at dksX9_findPlacements_4 16 rfl rfl)
theorem dX9_findPlacements_110 : decode cX9_findPlacements 110 = .ok (.iconst 1, 1) := dk_4 (dk_at dksX9_findPlacements_4 17 rfl rfl)
theorem dX9_findPlacements_111 : decode cX9_findPlacements 111 = .ok (.iload 5, 2) := dk_21 5 (dk_at dksX9_findPlacements_4 18 rfl rfl)
theorem dX9_findPlacements_113 : decode cX9_findPlacements 113 = .ok (.invokevirtual 206, 3) := dk_182 0 206 (dk_at dksX9_findPlacements_4 20 rfl rfl)
theorem dX9_findPlacements_116 : decode cX9_findPlacements 116 = .ok (.istore 6, 2) := dk_54 6 (dk_at dksX9_findPlacements_5 0 rfl rfl)
theorem dX9_findPlacements_118 : decode cX9_findPlacements 118 = .ok (.iload 6, 2) := dk_21 6 (dk_at dksX9_findPlacements_5 2 rfl rfl)
theorem dX9_findPlacements_120 : decode cX9_findPlacements 120 = .ok (.ifCond .eq 21, 3) := dk_153 0 21 (dk_at dksX9_findPlacements_5 4 rfl rfl)
theorem dX9_findPlacements_123 : decode cX9_findPlacements 123 = .ok (.aload_n 0, 1) := dk_42 (dk_at dksX9_findPlacements_5 7 rfl rfl)
theorem dX9_findPlacements_124 : decode cX9_findPlacements 124 = .ok (.iload_n 1, 1) := dk_27 (dk_at dksX9_findPlacements_5 8 rfl rfl)
theorem dX9_findPlacements_125 : decode cX9_findPlacements 125 = .ok (.invokevirtual 209, 3) := dk_182 0 209 (dk_at dksX9_findPlacements_5 9 rfl rfl)
theorem dX9_findPlacements_128 : decode cX9_findPlacements 128 = .ok (.iconst 2, 1) := dk_5 (dk_at dksX9_findPlacements_5 12 rfl rfl)
theorem dX9_findPlacements_129 : decode cX9_findPlacements 129 = .ok (.if_icmp .ne 12, 3) := dk_160 0 12 (dk_at dksX9_findPlacements_5 13 rfl rfl)
theorem dX9_findPlacements_132 : decode cX9_findPlacements 132 = .ok (.aload_n 0, 1) := dk_42 (dk_at dksX9_findPlacements_5 16 rfl rfl)
theorem dX9_findPlacements_133 : decode cX9_findPlacements 133 = .ok (.iload_n 1, 1) := dk_27 (dk_at dksX9_findPlacements_5 17 rfl rfl)
theorem dX9_findPlacements_134 : decode cX9_findPlacements 134 = .ok (.iload_n 3, 1) := dk_29 (dk_at dksX9_findPlacements_5 18 rfl rfl)
theorem dX9_findPlacements_135 : decode cX9_findPlacements 135 = .ok (.iload 6, 2) := dk_21 6 (dk_at dksX9_findPlacements_5 19 rfl rfl)
theorem dX9_findPlacements_137 : decode cX9_findPlacements 137 = .ok (.ior, 1) := dk_128 (dk_at dksX9_findPlacements_5 21 rfl rfl)
theorem dX9_findPlacements_138 : decode cX9_findPlacements 138 = .ok (.invokevirtual 212, 3) := dk_182 0 212 (dk_at dksX9_findPlacements_6 0 rfl rfl)
theorem dX9_findPlacements_141 : decode cX9_findPlacements 141 = .ok (.iload 5, 2) := dk_21 5 (dk_at dksX9_findPlacements_6 3 rfl rfl)
theorem dX9_findPlacements_143 : decode cX9_findPlacements 143 = .ok (.aload_n 0, 1) := dk_42 (dk_at dksX9_findPlacements_6 5 rfl rfl)
theorem dX9_findPlacements_144 : decode cX9_findPlacements 144 = .ok (.iload_n 1, 1) := dk_27 (dk_at dksX9_findPlacements_6 6 rfl rfl)
theorem dX9_findPlacements_145 : decode cX9_findPlacements 145 = .ok (.iconst 1, 1) := dk_4 (dk_at dksX9_findPlacements_6 7 rfl rfl)
theorem dX9_findPlacements_146 : decode cX9_findPlacements 146 = .ok (.iconst 0, 1) := dk_3 (dk_at dksX9_findPlacements_6 8 rfl rfl)
theorem dX9_findPlacements_147 : decode cX9_findPlacements 147 = .ok (.invokevirtual 194, 3) := dk_182 0 194 (dk_at dksX9_findPlacements_6 9 rfl rfl)
theorem dX9_findPlacements_150 : decode cX9_findPlacements 150 = .ok (.iadd, 1) := dk_96 (dk_at dksX9_findPlacements_6 12 rfl rfl)
theorem dX9_findPlacements_151 : decode cX9_findPlacements 151 = .ok (.istore 7, 2) := dk_54 7 (dk_at dksX9_findPlacements_6 13 rfl rfl)
theorem dX9_findPlacements_153 : decode cX9_findPlacements 153 = .ok (.iload 7, 2) := dk_21 7 (dk_at dksX9_findPlacements_6 15 rfl rfl)
theorem dX9_findPlacements_155 : decode cX9_findPlacements 155 = .ok (.aload_n 0, 1) := dk_42 (dk_at dksX9_findPlacements_6 17 rfl rfl)
theorem dX9_findPlacements_156 : decode cX9_findPlacements 156 = .ok (.iload_n 1, 1) := dk_27 (dk_at dksX9_findPlacements_6 18 rfl rfl)
theorem dX9_findPlacements_157 : decode cX9_findPlacements 157 = .ok (.invokevirtual 209, 3) := dk_182 0 209 (dk_at dksX9_findPlacements_6 19 rfl rfl)
theorem dX9_findPlacements_160 : decode cX9_findPlacements 160 = .ok (.iconst 2, 1) := dk_5 (dk_at dksX9_findPlacements_6 22 rfl rfl)
theorem dX9_findPlacements_161 : decode cX9_findPlacements 161 = .ok (.if_icmp .le 13, 3) := dk_164 0 13 (dk_at dksX9_findPlacements_7 0 rfl rfl)
theorem dX9_findPlacements_164 : decode cX9_findPlacements 164 = .ok (.aload_n 0, 1) := dk_42 (dk_at dksX9_findPlacements_7 3 rfl rfl)
theorem dX9_findPlacements_165 : decode cX9_findPlacements 165 = .ok (.iload_n 1, 1) := dk_27 (dk_at dksX9_findPlacements_7 4 rfl rfl)
theorem dX9_findPlacements_166 : decode cX9_findPlacements 166 = .ok (.iconst 2, 1) := dk_5 (dk_at dksX9_findPlacements_7 5 rfl rfl)
theorem dX9_findPlacements_167 : decode cX9_findPlacements 167 = .ok (.iconst 4, 1) := dk_7 (dk_at dksX9_findPlacements_7 6 rfl rfl)
theorem dX9_findPlacements_168 : decode cX9_findPlacements 168 = .ok (.invokevirtual 194, 3) := dk_182 0 194 (dk_at dksX9_findPlacements_7 7 rfl rfl)
theorem dX9_findPlacements_171 : decode cX9_findPlacements 171 = .ok (.goto 4, 3) := dk_167 0 4 (dk_at dksX9_findPlacements_7 10 rfl rfl)
theorem dX9_findPlacements_174 : decode cX9_findPlacements 174 = .ok (.iconst 0, 1) := dk_3 (dk_at dksX9_findPlacements_7 13 rfl rfl)
theorem dX9_findPlacements_175 : decode cX9_findPlacements 175 = .ok (.iadd, 1) := dk_96 (dk_at dksX9_findPlacements_7 14 rfl rfl)
theorem dX9_findPlacements_176 : decode cX9_findPlacements 176 = .ok (.istore 8, 2) := dk_54 8 (dk_at dksX9_findPlacements_7 15 rfl rfl)
theorem dX9_findPlacements_178 : decode cX9_findPlacements 178 = .ok (.iload 6, 2) := dk_21 6 (dk_at dksX9_findPlacements_7 17 rfl rfl)
theorem dX9_findPlacements_180 : decode cX9_findPlacements 180 = .ok (.ifCond .eq 60, 3) := dk_153 0 60 (dk_at dksX9_findPlacements_7 19 rfl rfl)
theorem dX9_findPlacements_183 : decode cX9_findPlacements 183 = .ok (.aload_n 0, 1) := dk_42 (dk_at dksX9_findPlacements_7 22 rfl rfl)
theorem dX9_findPlacements_184 : decode cX9_findPlacements 184 = .ok (.iload_n 1, 1) := dk_27 (dk_at dksX9_findPlacements_7 23 rfl rfl)
theorem dX9_findPlacements_185 : decode cX9_findPlacements 185 = .ok (.invokevirtual 209, 3) := dk_182 0 209 (dk_at dksX9_findPlacements_8 0 rfl rfl)
theorem dX9_findPlacements_188 : decode cX9_findPlacements 188 = .ok (.iconst 2, 1) := dk_5 (dk_at dksX9_findPlacements_8 3 rfl rfl)
theorem dX9_findPlacements_189 : decode cX9_findPlacements 189 = .ok (.if_icmp .le 51, 3) := dk_164 0 51 (dk_at dksX9_findPlacements_8 4 rfl rfl)
theorem dX9_findPlacements_192 : decode cX9_findPlacements 192 = .ok (.iload 8, 2) := dk_21 8 (dk_at dksX9_findPlacements_8 7 rfl rfl)
theorem dX9_findPlacements_194 : decode cX9_findPlacements 194 = .ok (.iload 7, 2) := dk_21 7 (dk_at dksX9_findPlacements_8 9 rfl rfl)
theorem dX9_findPlacements_196 : decode cX9_findPlacements 196 = .ok (.aload_n 0, 1) := dk_42 (dk_at dksX9_findPlacements_8 11 rfl rfl)
theorem dX9_findPlacements_197 : decode cX9_findPlacements 197 = .ok (.iload_n 1, 1) := dk_27 (dk_at dksX9_findPlacements_8 12 rfl rfl)
theorem dX9_findPlacements_198 : decode cX9_findPlacements 198 = .ok (.iconst 2, 1) := dk_5 (dk_at dksX9_findPlacements_8 13 rfl rfl)
theorem dX9_findPlacements_199 : decode cX9_findPlacements 199 = .ok (.iconst 5, 1) := dk_8 (dk_at dksX9_findPlacements_8 14 rfl rfl)
theorem dX9_findPlacements_200 : decode cX9_findPlacements 200 = .ok (.invokevirtual 194, 3) := dk_182 0 194 (dk_at dksX9_findPlacements_8 15 rfl rfl)
theorem dX9_findPlacements_203 : decode cX9_findPlacements 203 = .ok (.iadd, 1) := dk_96 (dk_at dksX9_findPlacements_8 18 rfl rfl)
theorem dX9_findPlacements_204 : decode cX9_findPlacements 204 = .ok (.if_icmp .gt 36, 3) := dk_163 0 36 (dk_at dksX9_findPlacements_8 19 rfl rfl)
theorem dX9_findPlacements_207 : decode cX9_findPlacements 207 = .ok (.aload_n 0, 1) := dk_42 (dk_at dksX9_findPlacements_8 22 rfl rfl)
theorem dX9_findPlacements_208 : decode cX9_findPlacements 208 = .ok (.iload_n 1, 1) := dk_27 (dk_at dksX9_findPlacements_8 23 rfl rfl)
theorem dX9_findPlacements_209 : decode cX9_findPlacements 209 = .ok (.iconst 2, 1) := dk_5 (dk_at dksX9_findPlacements_9 0 rfl rfl)
theorem dX9_findPlacements_210 : decode cX9_findPlacements 210 = .ok (.iload 8, 2) := dk_21 8 (dk_at dksX9_findPlacements_9 1 rfl rfl)
theorem dX9_findPlacements_212 : decode cX9_findPlacements 212 = .ok (.invokevirtual 206, 3) := dk_182 0 206 (dk_at dksX9_findPlacements_9 3 rfl rfl)
theorem dX9_findPlacements_215 : decode cX9_findPlacements 215 = .ok (.istore 9, 2) := dk_54 9 (dk_at dksX9_findPlacements_9 6 rfl rfl)
theorem dX9_findPlacements_217 : decode cX9_findPlacements 217 = .ok (.iload 9, 2) := dk_21 9 (dk_at dksX9_findPlacements_9 8 rfl rfl)
theorem dX9_findPlacements_219 : decode cX9_findPlacements 219 = .ok (.ifCond .eq 15, 3) := dk_153 0 15 (dk_at dksX9_findPlacements_9 10 rfl rfl)
theorem dX9_findPlacements_222 : decode cX9_findPlacements 222 = .ok (.aload_n 0, 1) := dk_42 (dk_at dksX9_findPlacements_9 13 rfl rfl)
theorem dX9_findPlacements_223 : decode cX9_findPlacements 223 = .ok (.iload_n 1, 1) := dk_27 (dk_at dksX9_findPlacements_9 14 rfl rfl)
theorem dX9_findPlacements_224 : decode cX9_findPlacements 224 = .ok (.iload_n 3, 1) := dk_29 (dk_at dksX9_findPlacements_9 15 rfl rfl)
theorem dX9_findPlacements_225 : decode cX9_findPlacements 225 = .ok (.iload 6, 2) := dk_21 6 (dk_at dksX9_findPlacements_9 16 rfl rfl)
theorem dX9_findPlacements_227 : decode cX9_findPlacements 227 = .ok (.ior, 1) := dk_128 (dk_at dksX9_findPlacements_9 18 rfl rfl)
theorem dX9_findPlacements_228 : decode cX9_findPlacements 228 = .ok (.iload 9, 2) := dk_21 9 (dk_at dksX9_findPlacements_9 19 rfl rfl)
theorem dX9_findPlacements_230 : decode cX9_findPlacements 230 = .ok (.ior, 1) := dk_128 (dk_at dksX9_findPlacements_9 21 rfl rfl)
theorem dX9_findPlacements_231 : decode cX9_findPlacements 231 = .ok (.invokevirtual 212, 3) := dk_182 0 212 (dk_at dksX9_findPlacements_10 0 rfl rfl)
theorem dX9_findPlacements_234 : decode cX9_findPlacements 234 = .ok (.iinc 8 1, 3) := dk_132 8 1 (dk_at dksX9_findPlacements_10 3 rfl rfl)
theorem dX9_findPlacements_237 : decode cX9_findPlacements 237 = .ok (.goto (-59), 3) := dk_167 255 197 (dk_at dksX9_findPlacements_10 6 rfl rfl)
theorem dX9_findPlacements_240 : decode cX9_findPlacements 240 = .ok (.iinc 5 1, 3) := dk_132 5 1 (dk_at dksX9_findPlacements_10 9 rfl rfl)
theorem dX9_findPlacements_243 : decode cX9_findPlacements 243 = .ok (.goto (-163), 3) := dk_167 255 93 (dk_at dksX9_findPlacements_10 12 rfl rfl)
theorem dX9_findPlacements_246 : decode cX9_findPlacements 246 = .ok (.iinc 2 1, 3) := dk_132 2 1 (dk_at dksX9_findPlacements_10 15 rfl rfl)
theorem dX9_findPlacements_249 : decode cX9_findPlacements 249 = .ok (.goto (-240), 3) := dk_167 255 16 (dk_at dksX9_findPlacements_10 18 rfl rfl)
theorem dX9_findPlacements_252 : decode cX9_findPlacements 252 = .ok (.return_, 1) := dk_177 (dk_at dksX9_findPlacements_10 21 rfl rfl)
abbrev cX9_stepSlots : ByteArray := prog_16_method_36_code
def yX9_stepSlots : MethodName := ⟨RX9, "stepSlots", "(III)I"⟩
def dkwX9_stepSlots_2 : List UInt8 := [21, 5, 120, 128, 54, 4, 132, 5, 1, 167, 255, 207, 21, 4, 172]
abbrev dktX9_stepSlots_2 : List UInt8 := dkwX9_stepSlots_2 ++ []
def dkwX9_stepSlots_1 : List UInt8 := [180, 0, 7, 162, 0, 15, 42, 27, 28, 21, 5, 3, 182, 0, 202, 154, 0, 5, 3, 172, 21, 4, 4]
abbrev dktX9_stepSlots_1 : List UInt8 := dkwX9_stepSlots_1 ++ dktX9_stepSlots_2
def dkwX9_stepSlots_0 : List UInt8 := [3, 54, 4, 29, 54, 5, 21, 5, 29, 42, 27, 28, 3, 182, 0, 194, 96, 162, 0, 41, 21, 5, 42]
abbrev dktX9_stepSlots_0 : List UInt8 := dkwX9_stepSlots_0 ++ dktX9_stepSlots_1
theorem dksX9_stepSlots_0 : cX9_stepSlots.data.toList.drop 0 = dktX9_stepSlots_0 := by decide +kernel
theorem dksX9_stepSlots_1 : cX9_stepSlots.data.toList.drop 23 = dktX9_stepSlots_1 := dk_seg dksX9_stepSlots_0 23 rfl rfl
theorem dksX9_stepSlots_2 : cX9_stepSlots.data.toList.drop 46 = dktX9_stepSlots_2 := dk_seg dksX9_stepSlots_1 23 rfl rfl
theorem dX9_stepSlots_0 : decode cX9_stepSlots 0 = .ok (.iconst 0, 1) := dk_3 (dk_at dksX9_stepSlots_0 0 rfl rfl)
theorem dX9_stepSlots_1 : decode cX9_stepSlots 1 = .ok (.istore 4, 2) := dk_54 4 (dk_at dksX9_stepSlots_0 1 rfl rfl)
theorem dX9_stepSlots_3 : decode cX9_stepSlots 3 = .ok (.iload_n 3, 1) := dk_29 (dk_at dksX9_stepSlots_0 3 rfl rfl)
theorem dX9_stepSlots_4 : decode cX9_stepSlots 4 = .ok (.istore 5, 2) := dk_54 5 (dk_at dksX9_stepSlots_0 4 rfl rfl)
theorem dX9_stepSlots_6 : decode cX9_stepSlots 6 = .ok (.iload 5, 2) := dk_21 5 (dk_at dksX9_stepSlots_0 6 rfl rfl)
theorem dX9_stepSlots_8 : decode cX9_stepSlots 8 = .ok (.iload_n 3, 1) := dk_29 (dk_at dksX9_stepSlots_0 8 rfl rfl)
theorem dX9_stepSlots_9 : decode cX9_stepSlots 9 = .ok (.aload_n 0, 1) := dk_42 (dk_at dksX9_stepSlots_0 9 rfl rfl)
theorem dX9_stepSlots_10 : decode cX9_stepSlots 10 = .ok (.iload_n 1, 1) := dk_27 (dk_at dksX9_stepSlots_0 10 rfl rfl)
theorem dX9_stepSlots_11 : decode cX9_stepSlots 11 = .ok (.iload_n 2, 1) := dk_28 (dk_at dksX9_stepSlots_0 11 rfl rfl)
theorem dX9_stepSlots_12 : decode cX9_stepSlots 12 = .ok (.iconst 0, 1) := dk_3 (dk_at dksX9_stepSlots_0 12 rfl rfl)
theorem dX9_stepSlots_13 : decode cX9_stepSlots 13 = .ok (.invokevirtual 194, 3) := dk_182 0 194 (dk_at dksX9_stepSlots_0 13 rfl rfl)
theorem dX9_stepSlots_16 : decode cX9_stepSlots 16 = .ok (.iadd, 1) := dk_96 (dk_at dksX9_stepSlots_0 16 rfl rfl)
theorem dX9_stepSlots_17 : decode cX9_stepSlots 17 = .ok (.if_icmp .ge 41, 3) := dk_162 0 41 (dk_at dksX9_stepSlots_0 17 rfl rfl)
theorem dX9_stepSlots_20 : decode cX9_stepSlots 20 = .ok (.iload 5, 2) := dk_21 5 (dk_at dksX9_stepSlots_0 20 rfl rfl)
theorem dX9_stepSlots_22 : decode cX9_stepSlots 22 = .ok (.aload_n 0, 1) := dk_42 (dk_at dksX9_stepSlots_0 22 rfl rfl)
theorem dX9_stepSlots_23 : decode cX9_stepSlots 23 = .ok (.getfield 7, 3) := dk_180 0 7 (dk_at dksX9_stepSlots_1 0 rfl rfl)
theorem dX9_stepSlots_26 : decode cX9_stepSlots 26 = .ok (.if_icmp .ge 15, 3) := dk_162 0 15 (dk_at dksX9_stepSlots_1 3 rfl rfl)
theorem dX9_stepSlots_29 : decode cX9_stepSlots 29 = .ok (.aload_n 0, 1) := dk_42 (dk_at dksX9_stepSlots_1 6 rfl rfl)
theorem dX9_stepSlots_30 : decode cX9_stepSlots 30 = .ok (.iload_n 1, 1) := dk_27 (dk_at dksX9_stepSlots_1 7 rfl rfl)
theorem dX9_stepSlots_31 : decode cX9_stepSlots 31 = .ok (.iload_n 2, 1) := dk_28 (dk_at dksX9_stepSlots_1 8 rfl rfl)
theorem dX9_stepSlots_32 : decode cX9_stepSlots 32 = .ok (.iload 5, 2) := dk_21 5 (dk_at dksX9_stepSlots_1 9 rfl rfl)
theorem dX9_stepSlots_34 : decode cX9_stepSlots 34 = .ok (.iconst 0, 1) := dk_3 (dk_at dksX9_stepSlots_1 11 rfl rfl)
theorem dX9_stepSlots_35 : decode cX9_stepSlots 35 = .ok (.invokevirtual 202, 3) := dk_182 0 202 (dk_at dksX9_stepSlots_1 12 rfl rfl)
theorem dX9_stepSlots_38 : decode cX9_stepSlots 38 = .ok (.ifCond .ne 5, 3) := dk_154 0 5 (dk_at dksX9_stepSlots_1 15 rfl rfl)
theorem dX9_stepSlots_41 : decode cX9_stepSlots 41 = .ok (.iconst 0, 1) := dk_3 (dk_at dksX9_stepSlots_1 18 rfl rfl)
theorem dX9_stepSlots_42 : decode cX9_stepSlots 42 = .ok (.ireturn, 1) := dk_172 (dk_at dksX9_stepSlots_1 19 rfl rfl)
theorem dX9_stepSlots_43 : decode cX9_stepSlots 43 = .ok (.iload 4, 2) := dk_21 4 (dk_at dksX9_stepSlots_1 20 rfl rfl)
theorem dX9_stepSlots_45 : decode cX9_stepSlots 45 = .ok (.iconst 1, 1) := dk_4 (dk_at dksX9_stepSlots_1 22 rfl rfl)
theorem dX9_stepSlots_46 : decode cX9_stepSlots 46 = .ok (.iload 5, 2) := dk_21 5 (dk_at dksX9_stepSlots_2 0 rfl rfl)
theorem dX9_stepSlots_48 : decode cX9_stepSlots 48 = .ok (.ishl, 1) := dk_120 (dk_at dksX9_stepSlots_2 2 rfl rfl)
theorem dX9_stepSlots_49 : decode cX9_stepSlots 49 = .ok (.ior, 1) := dk_128 (dk_at dksX9_stepSlots_2 3 rfl rfl)
theorem dX9_stepSlots_50 : decode cX9_stepSlots 50 = .ok (.istore 4, 2) := dk_54 4 (dk_at dksX9_stepSlots_2 4 rfl rfl)
theorem dX9_stepSlots_52 : decode cX9_stepSlots 52 = .ok (.iinc 5 1, 3) := dk_132 5 1 (dk_at dksX9_stepSlots_2 6 rfl rfl)
theorem dX9_stepSlots_55 : decode cX9_stepSlots 55 = .ok (.goto (-49), 3) := dk_167 255 207 (dk_at dksX9_stepSlots_2 9 rfl rfl)
theorem dX9_stepSlots_58 : decode cX9_stepSlots 58 = .ok (.iload 4, 2) := dk_21 4 (dk_at dksX9_stepSlots_2 12 rfl rfl)
theorem dX9_stepSlots_60 : decode cX9_stepSlots 60 = .ok (.ireturn, 1) := dk_172 (dk_at dksX9_stepSlots_2 14 rfl rfl)
abbrev cX9_ofStep : ByteArray := prog_16_method_33_code
def yX9_ofStep : MethodName := ⟨RX9, "ofStep", "(III)I"⟩
def dkwX9_ofStep_0 : List UInt8 := [42, 180, 0, 47, 16, 23, 27, 104, 8, 96, 16, 6, 28, 104, 96, 29, 96, 46, 172]
abbrev dktX9_ofStep_0 : List UInt8 := dkwX9_ofStep_0 ++ []
theorem dksX9_ofStep_0 : cX9_ofStep.data.toList.drop 0 = dktX9_ofStep_0 := by decide +kernel
theorem dX9_ofStep_0 : decode cX9_ofStep 0 = .ok (.aload_n 0, 1) := dk_42 (dk_at dksX9_ofStep_0 0 rfl rfl)
theorem dX9_ofStep_1 : decode cX9_ofStep 1 = .ok (.getfield 47, 3) := dk_180 0 47 (dk_at dksX9_ofStep_0 1 rfl rfl)
theorem dX9_ofStep_4 : decode cX9_ofStep 4 = .ok (.bipush 23, 2) := dk_16 23 (dk_at dksX9_ofStep_0 4 rfl rfl)
theorem dX9_ofStep_6 : decode cX9_ofStep 6 = .ok (.iload_n 1, 1) := dk_27 (dk_at dksX9_ofStep_0 6 rfl rfl)
theorem dX9_ofStep_7 : decode cX9_ofStep 7 = .ok (.imul, 1) := dk_104 (dk_at dksX9_ofStep_0 7 rfl rfl)
theorem dX9_ofStep_8 : decode cX9_ofStep 8 = .ok (.iconst 5, 1) := dk_8 (dk_at dksX9_ofStep_0 8 rfl rfl)
theorem dX9_ofStep_9 : decode cX9_ofStep 9 = .ok (.iadd, 1) := dk_96 (dk_at dksX9_ofStep_0 9 rfl rfl)
theorem dX9_ofStep_10 : decode cX9_ofStep 10 = .ok (.bipush 6, 2) := dk_16 6 (dk_at dksX9_ofStep_0 10 rfl rfl)
theorem dX9_ofStep_12 : decode cX9_ofStep 12 = .ok (.iload_n 2, 1) := dk_28 (dk_at dksX9_ofStep_0 12 rfl rfl)
theorem dX9_ofStep_13 : decode cX9_ofStep 13 = .ok (.imul, 1) := dk_104 (dk_at dksX9_ofStep_0 13 rfl rfl)
theorem dX9_ofStep_14 : decode cX9_ofStep 14 = .ok (.iadd, 1) := dk_96 (dk_at dksX9_ofStep_0 14 rfl rfl)
theorem dX9_ofStep_15 : decode cX9_ofStep 15 = .ok (.iload_n 3, 1) := dk_29 (dk_at dksX9_ofStep_0 15 rfl rfl)
theorem dX9_ofStep_16 : decode cX9_ofStep 16 = .ok (.iadd, 1) := dk_96 (dk_at dksX9_ofStep_0 16 rfl rfl)
theorem dX9_ofStep_17 : decode cX9_ofStep 17 = .ok (.iaload, 1) := dk_46 (dk_at dksX9_ofStep_0 17 rfl rfl)
theorem dX9_ofStep_18 : decode cX9_ofStep 18 = .ok (.ireturn, 1) := dk_172 (dk_at dksX9_ofStep_0 18 rfl rfl)
abbrev cX9_fitsStep : ByteArray := prog_16_method_35_code
def yX9_fitsStep : MethodName := ⟨RX9, "fitsStep", "(IIII)Z"⟩
def dkwX9_fitsStep_1 : List UInt8 := [28, 5, 182, 0, 194, 42, 27, 28, 6, 182, 0, 194, 182, 0, 198, 172]
abbrev dktX9_fitsStep_1 : List UInt8 := dkwX9_fitsStep_1 ++ []
def dkwX9_fitsStep_0 : List UInt8 := [42, 42, 180, 0, 47, 16, 23, 27, 104, 5, 96, 46, 29, 21, 4, 42, 27, 28, 4, 182, 0, 194, 42, 27]
abbrev dktX9_fitsStep_0 : List UInt8 := dkwX9_fitsStep_0 ++ dktX9_fitsStep_1
theorem dksX9_fitsStep_0 : cX9_fitsStep.data.toList.drop 0 = dktX9_fitsStep_0 := by decide +kernel
theorem dksX9_fitsStep_1 : cX9_fitsStep.data.toList.drop 24 = dktX9_fitsStep_1 := dk_seg dksX9_fitsStep_0 24 rfl rfl
theorem dX9_fitsStep_0 : decode cX9_fitsStep 0 = .ok (.aload_n 0, 1) := dk_42 (dk_at dksX9_fitsStep_0 0 rfl rfl)
theorem dX9_fitsStep_1 : decode cX9_fitsStep 1 = .ok (.aload_n 0, 1) := dk_42 (dk_at dksX9_fitsStep_0 1 rfl rfl)
theorem dX9_fitsStep_2 : decode cX9_fitsStep 2 = .ok (.getfield 47, 3) := dk_180 0 47 (dk_at dksX9_fitsStep_0 2 rfl rfl)
theorem dX9_fitsStep_5 : decode cX9_fitsStep 5 = .ok (.bipush 23, 2) := dk_16 23 (dk_at dksX9_fitsStep_0 5 rfl rfl)
theorem dX9_fitsStep_7 : decode cX9_fitsStep 7 = .ok (.iload_n 1, 1) := dk_27 (dk_at dksX9_fitsStep_0 7 rfl rfl)
theorem dX9_fitsStep_8 : decode cX9_fitsStep 8 = .ok (.imul, 1) := dk_104 (dk_at dksX9_fitsStep_0 8 rfl rfl)
theorem dX9_fitsStep_9 : decode cX9_fitsStep 9 = .ok (.iconst 2, 1) := dk_5 (dk_at dksX9_fitsStep_0 9 rfl rfl)
theorem dX9_fitsStep_10 : decode cX9_fitsStep 10 = .ok (.iadd, 1) := dk_96 (dk_at dksX9_fitsStep_0 10 rfl rfl)
theorem dX9_fitsStep_11 : decode cX9_fitsStep 11 = .ok (.iaload, 1) := dk_46 (dk_at dksX9_fitsStep_0 11 rfl rfl)
theorem dX9_fitsStep_12 : decode cX9_fitsStep 12 = .ok (.iload_n 3, 1) := dk_29 (dk_at dksX9_fitsStep_0 12 rfl rfl)
theorem dX9_fitsStep_13 : decode cX9_fitsStep 13 = .ok (.iload 4, 2) := dk_21 4 (dk_at dksX9_fitsStep_0 13 rfl rfl)
theorem dX9_fitsStep_15 : decode cX9_fitsStep 15 = .ok (.aload_n 0, 1) := dk_42 (dk_at dksX9_fitsStep_0 15 rfl rfl)
theorem dX9_fitsStep_16 : decode cX9_fitsStep 16 = .ok (.iload_n 1, 1) := dk_27 (dk_at dksX9_fitsStep_0 16 rfl rfl)
theorem dX9_fitsStep_17 : decode cX9_fitsStep 17 = .ok (.iload_n 2, 1) := dk_28 (dk_at dksX9_fitsStep_0 17 rfl rfl)
theorem dX9_fitsStep_18 : decode cX9_fitsStep 18 = .ok (.iconst 1, 1) := dk_4 (dk_at dksX9_fitsStep_0 18 rfl rfl)
theorem dX9_fitsStep_19 : decode cX9_fitsStep 19 = .ok (.invokevirtual 194, 3) := dk_182 0 194 (dk_at dksX9_fitsStep_0 19 rfl rfl)
theorem dX9_fitsStep_22 : decode cX9_fitsStep 22 = .ok (.aload_n 0, 1) := dk_42 (dk_at dksX9_fitsStep_0 22 rfl rfl)
theorem dX9_fitsStep_23 : decode cX9_fitsStep 23 = .ok (.iload_n 1, 1) := dk_27 (dk_at dksX9_fitsStep_0 23 rfl rfl)
theorem dX9_fitsStep_24 : decode cX9_fitsStep 24 = .ok (.iload_n 2, 1) := dk_28 (dk_at dksX9_fitsStep_1 0 rfl rfl)
theorem dX9_fitsStep_25 : decode cX9_fitsStep 25 = .ok (.iconst 2, 1) := dk_5 (dk_at dksX9_fitsStep_1 1 rfl rfl)
theorem dX9_fitsStep_26 : decode cX9_fitsStep 26 = .ok (.invokevirtual 194, 3) := dk_182 0 194 (dk_at dksX9_fitsStep_1 2 rfl rfl)
theorem dX9_fitsStep_29 : decode cX9_fitsStep 29 = .ok (.aload_n 0, 1) := dk_42 (dk_at dksX9_fitsStep_1 5 rfl rfl)
theorem dX9_fitsStep_30 : decode cX9_fitsStep 30 = .ok (.iload_n 1, 1) := dk_27 (dk_at dksX9_fitsStep_1 6 rfl rfl)
theorem dX9_fitsStep_31 : decode cX9_fitsStep 31 = .ok (.iload_n 2, 1) := dk_28 (dk_at dksX9_fitsStep_1 7 rfl rfl)
theorem dX9_fitsStep_32 : decode cX9_fitsStep 32 = .ok (.iconst 3, 1) := dk_6 (dk_at dksX9_fitsStep_1 8 rfl rfl)
theorem dX9_fitsStep_33 : decode cX9_fitsStep 33 = .ok (.invokevirtual 194, 3) := dk_182 0 194 (dk_at dksX9_fitsStep_1 9 rfl rfl)
theorem dX9_fitsStep_36 : decode cX9_fitsStep 36 = .ok (.invokevirtual 198, 3) := dk_182 0 198 (dk_at dksX9_fitsStep_1 12 rfl rfl)
theorem dX9_fitsStep_39 : decode cX9_fitsStep 39 = .ok (.ireturn, 1) := dk_172 (dk_at dksX9_fitsStep_1 15 rfl rfl)
abbrev cX9_fits : ByteArray := prog_16_method_34_code
def yX9_fits : MethodName := ⟨RX9, "fits", "(IIIIII)Z"⟩
def dkwX9_fits_3 : List UInt8 := [180, 0, 118, 42, 180, 0, 121, 184, 0, 87, 154, 0, 7, 4, 167, 0, 4, 3, 172]
abbrev dktX9_fits_3 : List UInt8 := dkwX9_fits_3 ++ []
def dkwX9_fits_2 : List UInt8 := [172, 21, 6, 4, 160, 0, 31, 42, 180, 0, 20, 27, 46, 42, 180, 0, 23, 160, 0, 18, 28, 42]
abbrev dktX9_fits_2 : List UInt8 := dkwX9_fits_2 ++ dktX9_fits_3
def dkwX9_fits_1 : List UInt8 := [163, 0, 23, 42, 27, 28, 182, 0, 114, 153, 0, 14, 42, 27, 28, 182, 0, 103, 21, 5, 164, 0, 5, 3]
abbrev dktX9_fits_1 : List UInt8 := dkwX9_fits_1 ++ dktX9_fits_2
def dkwX9_fits_0 : List UInt8 := [42, 180, 0, 26, 16, 12, 29, 104, 28, 96, 46, 54, 7, 21, 7, 7, 159, 0, 30, 21, 7, 21, 4]
abbrev dktX9_fits_0 : List UInt8 := dkwX9_fits_0 ++ dktX9_fits_1
theorem dksX9_fits_0 : cX9_fits.data.toList.drop 0 = dktX9_fits_0 := by decide +kernel
theorem dksX9_fits_1 : cX9_fits.data.toList.drop 23 = dktX9_fits_1 := dk_seg dksX9_fits_0 23 rfl rfl
theorem dksX9_fits_2 : cX9_fits.data.toList.drop 47 = dktX9_fits_2 := dk_seg dksX9_fits_1 24 rfl rfl
theorem dksX9_fits_3 : cX9_fits.data.toList.drop 69 = dktX9_fits_3 := dk_seg dksX9_fits_2 22 rfl rfl
theorem dX9_fits_0 : decode cX9_fits 0 = .ok (.aload_n 0, 1) := dk_42 (dk_at dksX9_fits_0 0 rfl rfl)
theorem dX9_fits_1 : decode cX9_fits 1 = .ok (.getfield 26, 3) := dk_180 0 26 (dk_at dksX9_fits_0 1 rfl rfl)
theorem dX9_fits_4 : decode cX9_fits 4 = .ok (.bipush 12, 2) := dk_16 12 (dk_at dksX9_fits_0 4 rfl rfl)
theorem dX9_fits_6 : decode cX9_fits 6 = .ok (.iload_n 3, 1) := dk_29 (dk_at dksX9_fits_0 6 rfl rfl)
theorem dX9_fits_7 : decode cX9_fits 7 = .ok (.imul, 1) := dk_104 (dk_at dksX9_fits_0 7 rfl rfl)
theorem dX9_fits_8 : decode cX9_fits 8 = .ok (.iload_n 2, 1) := dk_28 (dk_at dksX9_fits_0 8 rfl rfl)
theorem dX9_fits_9 : decode cX9_fits 9 = .ok (.iadd, 1) := dk_96 (dk_at dksX9_fits_0 9 rfl rfl)
theorem dX9_fits_10 : decode cX9_fits 10 = .ok (.iaload, 1) := dk_46 (dk_at dksX9_fits_0 10 rfl rfl)
theorem dX9_fits_11 : decode cX9_fits 11 = .ok (.istore 7, 2) := dk_54 7 (dk_at dksX9_fits_0 11 rfl rfl)
theorem dX9_fits_13 : decode cX9_fits 13 = .ok (.iload 7, 2) := dk_21 7 (dk_at dksX9_fits_0 13 rfl rfl)
theorem dX9_fits_15 : decode cX9_fits 15 = .ok (.iconst 4, 1) := dk_7 (dk_at dksX9_fits_0 15 rfl rfl)
theorem dX9_fits_16 : decode cX9_fits 16 = .ok (.if_icmp .eq 30, 3) := dk_159 0 30 (dk_at dksX9_fits_0 16 rfl rfl)
theorem dX9_fits_19 : decode cX9_fits 19 = .ok (.iload 7, 2) := dk_21 7 (dk_at dksX9_fits_0 19 rfl rfl)
theorem dX9_fits_21 : decode cX9_fits 21 = .ok (.iload 4, 2) := dk_21 4 (dk_at dksX9_fits_0 21 rfl rfl)
theorem dX9_fits_23 : decode cX9_fits 23 = .ok (.if_icmp .gt 23, 3) := dk_163 0 23 (dk_at dksX9_fits_1 0 rfl rfl)
theorem dX9_fits_26 : decode cX9_fits 26 = .ok (.aload_n 0, 1) := dk_42 (dk_at dksX9_fits_1 3 rfl rfl)
theorem dX9_fits_27 : decode cX9_fits 27 = .ok (.iload_n 1, 1) := dk_27 (dk_at dksX9_fits_1 4 rfl rfl)
theorem dX9_fits_28 : decode cX9_fits 28 = .ok (.iload_n 2, 1) := dk_28 (dk_at dksX9_fits_1 5 rfl rfl)
theorem dX9_fits_29 : decode cX9_fits 29 = .ok (.invokevirtual 114, 3) := dk_182 0 114 (dk_at dksX9_fits_1 6 rfl rfl)
theorem dX9_fits_32 : decode cX9_fits 32 = .ok (.ifCond .eq 14, 3) := dk_153 0 14 (dk_at dksX9_fits_1 9 rfl rfl)
theorem dX9_fits_35 : decode cX9_fits 35 = .ok (.aload_n 0, 1) := dk_42 (dk_at dksX9_fits_1 12 rfl rfl)
theorem dX9_fits_36 : decode cX9_fits 36 = .ok (.iload_n 1, 1) := dk_27 (dk_at dksX9_fits_1 13 rfl rfl)
theorem dX9_fits_37 : decode cX9_fits 37 = .ok (.iload_n 2, 1) := dk_28 (dk_at dksX9_fits_1 14 rfl rfl)
theorem dX9_fits_38 : decode cX9_fits 38 = .ok (.invokevirtual 103, 3) := dk_182 0 103 (dk_at dksX9_fits_1 15 rfl rfl)
theorem dX9_fits_41 : decode cX9_fits 41 = .ok (.iload 5, 2) := dk_21 5 (dk_at dksX9_fits_1 18 rfl rfl)
theorem dX9_fits_43 : decode cX9_fits 43 = .ok (.if_icmp .le 5, 3) := dk_164 0 5 (dk_at dksX9_fits_1 20 rfl rfl)
theorem dX9_fits_46 : decode cX9_fits 46 = .ok (.iconst 0, 1) := dk_3 (dk_at dksX9_fits_1 23 rfl rfl)
theorem dX9_fits_47 : decode cX9_fits 47 = .ok (.ireturn, 1) := dk_172 (dk_at dksX9_fits_2 0 rfl rfl)
theorem dX9_fits_48 : decode cX9_fits 48 = .ok (.iload 6, 2) := dk_21 6 (dk_at dksX9_fits_2 1 rfl rfl)
theorem dX9_fits_50 : decode cX9_fits 50 = .ok (.iconst 1, 1) := dk_4 (dk_at dksX9_fits_2 3 rfl rfl)
theorem dX9_fits_51 : decode cX9_fits 51 = .ok (.if_icmp .ne 31, 3) := dk_160 0 31 (dk_at dksX9_fits_2 4 rfl rfl)
theorem dX9_fits_54 : decode cX9_fits 54 = .ok (.aload_n 0, 1) := dk_42 (dk_at dksX9_fits_2 7 rfl rfl)
theorem dX9_fits_55 : decode cX9_fits 55 = .ok (.getfield 20, 3) := dk_180 0 20 (dk_at dksX9_fits_2 8 rfl rfl)
theorem dX9_fits_58 : decode cX9_fits 58 = .ok (.iload_n 1, 1) := dk_27 (dk_at dksX9_fits_2 11 rfl rfl)
theorem dX9_fits_59 : decode cX9_fits 59 = .ok (.iaload, 1) := dk_46 (dk_at dksX9_fits_2 12 rfl rfl)
theorem dX9_fits_60 : decode cX9_fits 60 = .ok (.aload_n 0, 1) := dk_42 (dk_at dksX9_fits_2 13 rfl rfl)
theorem dX9_fits_61 : decode cX9_fits 61 = .ok (.getfield 23, 3) := dk_180 0 23 (dk_at dksX9_fits_2 14 rfl rfl)
theorem dX9_fits_64 : decode cX9_fits 64 = .ok (.if_icmp .ne 18, 3) := dk_160 0 18 (dk_at dksX9_fits_2 17 rfl rfl)
theorem dX9_fits_67 : decode cX9_fits 67 = .ok (.iload_n 2, 1) := dk_28 (dk_at dksX9_fits_2 20 rfl rfl)
theorem dX9_fits_68 : decode cX9_fits 68 = .ok (.aload_n 0, 1) := dk_42 (dk_at dksX9_fits_2 21 rfl rfl)
theorem dX9_fits_69 : decode cX9_fits 69 = .ok (.getfield 118, 3) := dk_180 0 118 (dk_at dksX9_fits_3 0 rfl rfl)
theorem dX9_fits_72 : decode cX9_fits 72 = .ok (.aload_n 0, 1) := dk_42 (dk_at dksX9_fits_3 3 rfl rfl)
theorem dX9_fits_73 : decode cX9_fits 73 = .ok (.getfield 121, 3) := dk_180 0 121 (dk_at dksX9_fits_3 4 rfl rfl)
theorem dX9_fits_76 : decode cX9_fits 76 = .ok (.invokestatic 87, 3) := dk_184 0 87 (dk_at dksX9_fits_3 7 rfl rfl)
theorem dX9_fits_79 : decode cX9_fits 79 = .ok (.ifCond .ne 7, 3) := dk_154 0 7 (dk_at dksX9_fits_3 10 rfl rfl)
theorem dX9_fits_82 : decode cX9_fits 82 = .ok (.iconst 1, 1) := dk_4 (dk_at dksX9_fits_3 13 rfl rfl)
theorem dX9_fits_83 : decode cX9_fits 83 = .ok (.goto 4, 3) := dk_167 0 4 (dk_at dksX9_fits_3 14 rfl rfl)
theorem dX9_fits_86 : decode cX9_fits 86 = .ok (.iconst 0, 1) := dk_3 (dk_at dksX9_fits_3 17 rfl rfl)
theorem dX9_fits_87 : decode cX9_fits 87 = .ok (.ireturn, 1) := dk_172 (dk_at dksX9_fits_3 18 rfl rfl)
abbrev cX9_stepsOf : ByteArray := prog_16_method_32_code
def yX9_stepsOf : MethodName := ⟨RX9, "stepsOf", "(I)I"⟩
def dkwX9_stepsOf_0 : List UInt8 := [42, 180, 0, 47, 16, 23, 27, 104, 7, 96, 46, 172]
abbrev dktX9_stepsOf_0 : List UInt8 := dkwX9_stepsOf_0 ++ []
theorem dksX9_stepsOf_0 : cX9_stepsOf.data.toList.drop 0 = dktX9_stepsOf_0 := by decide +kernel
theorem dX9_stepsOf_0 : decode cX9_stepsOf 0 = .ok (.aload_n 0, 1) := dk_42 (dk_at dksX9_stepsOf_0 0 rfl rfl)
theorem dX9_stepsOf_1 : decode cX9_stepsOf 1 = .ok (.getfield 47, 3) := dk_180 0 47 (dk_at dksX9_stepsOf_0 1 rfl rfl)
theorem dX9_stepsOf_4 : decode cX9_stepsOf 4 = .ok (.bipush 23, 2) := dk_16 23 (dk_at dksX9_stepsOf_0 4 rfl rfl)
theorem dX9_stepsOf_6 : decode cX9_stepsOf 6 = .ok (.iload_n 1, 1) := dk_27 (dk_at dksX9_stepsOf_0 6 rfl rfl)
theorem dX9_stepsOf_7 : decode cX9_stepsOf 7 = .ok (.imul, 1) := dk_104 (dk_at dksX9_stepsOf_0 7 rfl rfl)
theorem dX9_stepsOf_8 : decode cX9_stepsOf 8 = .ok (.iconst 4, 1) := dk_7 (dk_at dksX9_stepsOf_0 8 rfl rfl)
theorem dX9_stepsOf_9 : decode cX9_stepsOf 9 = .ok (.iadd, 1) := dk_96 (dk_at dksX9_stepsOf_0 9 rfl rfl)
theorem dX9_stepsOf_10 : decode cX9_stepsOf 10 = .ok (.iaload, 1) := dk_46 (dk_at dksX9_stepsOf_0 10 rfl rfl)
theorem dX9_stepsOf_11 : decode cX9_stepsOf 11 = .ok (.ireturn, 1) := dk_172 (dk_at dksX9_stepsOf_0 11 rfl rfl)
abbrev cX9_addPlacement : ByteArray := prog_16_method_37_code
def yX9_addPlacement : MethodName := ⟨RX9, "addPlacement", "(II)V"⟩
def dkwX9_addPlacement_2 : List UInt8 := [180, 0, 7, 120, 4, 100, 126, 79, 42, 180, 0, 50, 27, 92, 46, 4, 96, 79, 177]
abbrev dktX9_addPlacement_2 : List UInt8 := dkwX9_addPlacement_2 ++ []
def dkwX9_addPlacement_1 : List UInt8 := [17, 0, 200, 27, 104, 42, 180, 0, 50, 27, 46, 96, 28, 28, 4, 120, 128, 28, 4, 122, 128, 4, 42]
abbrev dktX9_addPlacement_1 : List UInt8 := dkwX9_addPlacement_1 ++ dktX9_addPlacement_2
def dkwX9_addPlacement_0 : List UInt8 := [42, 180, 0, 53, 17, 0, 200, 27, 104, 42, 180, 0, 50, 27, 46, 96, 28, 79, 42, 180, 0, 56]
abbrev dktX9_addPlacement_0 : List UInt8 := dkwX9_addPlacement_0 ++ dktX9_addPlacement_1
theorem dksX9_addPlacement_0 : cX9_addPlacement.data.toList.drop 0 = dktX9_addPlacement_0 := by decide +kernel
theorem dksX9_addPlacement_1 : cX9_addPlacement.data.toList.drop 22 = dktX9_addPlacement_1 := dk_seg dksX9_addPlacement_0 22 rfl rfl
theorem dksX9_addPlacement_2 : cX9_addPlacement.data.toList.drop 45 = dktX9_addPlacement_2 := dk_seg dksX9_addPlacement_1 23 rfl rfl
theorem dX9_addPlacement_0 : decode cX9_addPlacement 0 = .ok (.aload_n 0, 1) := dk_42 (dk_at dksX9_addPlacement_0 0 rfl rfl)
theorem dX9_addPlacement_1 : decode cX9_addPlacement 1 = .ok (.getfield 53, 3) := dk_180 0 53 (dk_at dksX9_addPlacement_0 1 rfl rfl)
theorem dX9_addPlacement_4 : decode cX9_addPlacement 4 = .ok (.sipush 200, 3) := dk_17 0 200 (dk_at dksX9_addPlacement_0 4 rfl rfl)
theorem dX9_addPlacement_7 : decode cX9_addPlacement 7 = .ok (.iload_n 1, 1) := dk_27 (dk_at dksX9_addPlacement_0 7 rfl rfl)
theorem dX9_addPlacement_8 : decode cX9_addPlacement 8 = .ok (.imul, 1) := dk_104 (dk_at dksX9_addPlacement_0 8 rfl rfl)
theorem dX9_addPlacement_9 : decode cX9_addPlacement 9 = .ok (.aload_n 0, 1) := dk_42 (dk_at dksX9_addPlacement_0 9 rfl rfl)
theorem dX9_addPlacement_10 : decode cX9_addPlacement 10 = .ok (.getfield 50, 3) := dk_180 0 50 (dk_at dksX9_addPlacement_0 10 rfl rfl)
theorem dX9_addPlacement_13 : decode cX9_addPlacement 13 = .ok (.iload_n 1, 1) := dk_27 (dk_at dksX9_addPlacement_0 13 rfl rfl)
theorem dX9_addPlacement_14 : decode cX9_addPlacement 14 = .ok (.iaload, 1) := dk_46 (dk_at dksX9_addPlacement_0 14 rfl rfl)
theorem dX9_addPlacement_15 : decode cX9_addPlacement 15 = .ok (.iadd, 1) := dk_96 (dk_at dksX9_addPlacement_0 15 rfl rfl)
theorem dX9_addPlacement_16 : decode cX9_addPlacement 16 = .ok (.iload_n 2, 1) := dk_28 (dk_at dksX9_addPlacement_0 16 rfl rfl)
theorem dX9_addPlacement_17 : decode cX9_addPlacement 17 = .ok (.iastore, 1) := dk_79 (dk_at dksX9_addPlacement_0 17 rfl rfl)
theorem dX9_addPlacement_18 : decode cX9_addPlacement 18 = .ok (.aload_n 0, 1) := dk_42 (dk_at dksX9_addPlacement_0 18 rfl rfl)
theorem dX9_addPlacement_19 : decode cX9_addPlacement 19 = .ok (.getfield 56, 3) := dk_180 0 56 (dk_at dksX9_addPlacement_0 19 rfl rfl)
theorem dX9_addPlacement_22 : decode cX9_addPlacement 22 = .ok (.sipush 200, 3) := dk_17 0 200 (dk_at dksX9_addPlacement_1 0 rfl rfl)
theorem dX9_addPlacement_25 : decode cX9_addPlacement 25 = .ok (.iload_n 1, 1) := dk_27 (dk_at dksX9_addPlacement_1 3 rfl rfl)
theorem dX9_addPlacement_26 : decode cX9_addPlacement 26 = .ok (.imul, 1) := dk_104 (dk_at dksX9_addPlacement_1 4 rfl rfl)
theorem dX9_addPlacement_27 : decode cX9_addPlacement 27 = .ok (.aload_n 0, 1) := dk_42 (dk_at dksX9_addPlacement_1 5 rfl rfl)
theorem dX9_addPlacement_28 : decode cX9_addPlacement 28 = .ok (.getfield 50, 3) := dk_180 0 50 (dk_at dksX9_addPlacement_1 6 rfl rfl)
theorem dX9_addPlacement_31 : decode cX9_addPlacement 31 = .ok (.iload_n 1, 1) := dk_27 (dk_at dksX9_addPlacement_1 9 rfl rfl)
theorem dX9_addPlacement_32 : decode cX9_addPlacement 32 = .ok (.iaload, 1) := dk_46 (dk_at dksX9_addPlacement_1 10 rfl rfl)
theorem dX9_addPlacement_33 : decode cX9_addPlacement 33 = .ok (.iadd, 1) := dk_96 (dk_at dksX9_addPlacement_1 11 rfl rfl)
theorem dX9_addPlacement_34 : decode cX9_addPlacement 34 = .ok (.iload_n 2, 1) := dk_28 (dk_at dksX9_addPlacement_1 12 rfl rfl)
theorem dX9_addPlacement_35 : decode cX9_addPlacement 35 = .ok (.iload_n 2, 1) := dk_28 (dk_at dksX9_addPlacement_1 13 rfl rfl)
theorem dX9_addPlacement_36 : decode cX9_addPlacement 36 = .ok (.iconst 1, 1) := dk_4 (dk_at dksX9_addPlacement_1 14 rfl rfl)
theorem dX9_addPlacement_37 : decode cX9_addPlacement 37 = .ok (.ishl, 1) := dk_120 (dk_at dksX9_addPlacement_1 15 rfl rfl)
theorem dX9_addPlacement_38 : decode cX9_addPlacement 38 = .ok (.ior, 1) := dk_128 (dk_at dksX9_addPlacement_1 16 rfl rfl)
theorem dX9_addPlacement_39 : decode cX9_addPlacement 39 = .ok (.iload_n 2, 1) := dk_28 (dk_at dksX9_addPlacement_1 17 rfl rfl)
theorem dX9_addPlacement_40 : decode cX9_addPlacement 40 = .ok (.iconst 1, 1) := dk_4 (dk_at dksX9_addPlacement_1 18 rfl rfl)
theorem dX9_addPlacement_41 : decode cX9_addPlacement 41 = .ok (.ishr, 1) := dk_122 (dk_at dksX9_addPlacement_1 19 rfl rfl)
theorem dX9_addPlacement_42 : decode cX9_addPlacement 42 = .ok (.ior, 1) := dk_128 (dk_at dksX9_addPlacement_1 20 rfl rfl)
theorem dX9_addPlacement_43 : decode cX9_addPlacement 43 = .ok (.iconst 1, 1) := dk_4 (dk_at dksX9_addPlacement_1 21 rfl rfl)
theorem dX9_addPlacement_44 : decode cX9_addPlacement 44 = .ok (.aload_n 0, 1) := dk_42 (dk_at dksX9_addPlacement_1 22 rfl rfl)
theorem dX9_addPlacement_45 : decode cX9_addPlacement 45 = .ok (.getfield 7, 3) := dk_180 0 7 (dk_at dksX9_addPlacement_2 0 rfl rfl)
theorem dX9_addPlacement_48 : decode cX9_addPlacement 48 = .ok (.ishl, 1) := dk_120 (dk_at dksX9_addPlacement_2 3 rfl rfl)
theorem dX9_addPlacement_49 : decode cX9_addPlacement 49 = .ok (.iconst 1, 1) := dk_4 (dk_at dksX9_addPlacement_2 4 rfl rfl)
theorem dX9_addPlacement_50 : decode cX9_addPlacement 50 = .ok (.isub, 1) := dk_100 (dk_at dksX9_addPlacement_2 5 rfl rfl)
theorem dX9_addPlacement_51 : decode cX9_addPlacement 51 = .ok (.iand, 1) := dk_126 (dk_at dksX9_addPlacement_2 6 rfl rfl)
theorem dX9_addPlacement_52 : decode cX9_addPlacement 52 = .ok (.iastore, 1) := dk_79 (dk_at dksX9_addPlacement_2 7 rfl rfl)
theorem dX9_addPlacement_53 : decode cX9_addPlacement 53 = .ok (.aload_n 0, 1) := dk_42 (dk_at dksX9_addPlacement_2 8 rfl rfl)
theorem dX9_addPlacement_54 : decode cX9_addPlacement 54 = .ok (.getfield 50, 3) := dk_180 0 50 (dk_at dksX9_addPlacement_2 9 rfl rfl)
theorem dX9_addPlacement_57 : decode cX9_addPlacement 57 = .ok (.iload_n 1, 1) := dk_27 (dk_at dksX9_addPlacement_2 12 rfl rfl)
theorem dX9_addPlacement_58 : decode cX9_addPlacement 58 = .ok (.dup2, 1) := dk_92 (dk_at dksX9_addPlacement_2 13 rfl rfl)
theorem dX9_addPlacement_59 : decode cX9_addPlacement 59 = .ok (.iaload, 1) := dk_46 (dk_at dksX9_addPlacement_2 14 rfl rfl)
theorem dX9_addPlacement_60 : decode cX9_addPlacement 60 = .ok (.iconst 1, 1) := dk_4 (dk_at dksX9_addPlacement_2 15 rfl rfl)
theorem dX9_addPlacement_61 : decode cX9_addPlacement 61 = .ok (.iadd, 1) := dk_96 (dk_at dksX9_addPlacement_2 16 rfl rfl)
theorem dX9_addPlacement_62 : decode cX9_addPlacement 62 = .ok (.iastore, 1) := dk_79 (dk_at dksX9_addPlacement_2 17 rfl rfl)
theorem dX9_addPlacement_63 : decode cX9_addPlacement 63 = .ok (.return_, 1) := dk_177 (dk_at dksX9_addPlacement_2 18 rfl rfl)
abbrev cX9_placement : ByteArray := prog_16_method_40_code
def yX9_placement : MethodName := ⟨RX9, "placement", "(II)I"⟩
def dkwX9_placement_2 : List UInt8 := [16, 253, 172]
abbrev dktX9_placement_2 : List UInt8 := dkwX9_placement_2 ++ []
def dkwX9_placement_1 : List UInt8 := [4, 100, 184, 0, 87, 153, 0, 18, 42, 180, 0, 53, 17, 0, 200, 27, 104, 28, 96, 46, 167, 0, 5]
abbrev dktX9_placement_1 : List UInt8 := dkwX9_placement_1 ++ dktX9_placement_2
def dkwX9_placement_0 : List UInt8 := [42, 27, 182, 0, 187, 154, 0, 6, 16, 254, 172, 42, 27, 182, 0, 216, 28, 3, 42, 180, 0, 50, 27, 46]
abbrev dktX9_placement_0 : List UInt8 := dkwX9_placement_0 ++ dktX9_placement_1
theorem dksX9_placement_0 : cX9_placement.data.toList.drop 0 = dktX9_placement_0 := by decide +kernel
theorem dksX9_placement_1 : cX9_placement.data.toList.drop 24 = dktX9_placement_1 := dk_seg dksX9_placement_0 24 rfl rfl
theorem dksX9_placement_2 : cX9_placement.data.toList.drop 47 = dktX9_placement_2 := dk_seg dksX9_placement_1 23 rfl rfl
theorem dX9_placement_0 : decode cX9_placement 0 = .ok (.aload_n 0, 1) := dk_42 (dk_at dksX9_placement_0 0 rfl rfl)
theorem dX9_placement_1 : decode cX9_placement 1 = .ok (.iload_n 1, 1) := dk_27 (dk_at dksX9_placement_0 1 rfl rfl)
theorem dX9_placement_2 : decode cX9_placement 2 = .ok (.invokevirtual 187, 3) := dk_182 0 187 (dk_at dksX9_placement_0 2 rfl rfl)
theorem dX9_placement_5 : decode cX9_placement 5 = .ok (.ifCond .ne 6, 3) := dk_154 0 6 (dk_at dksX9_placement_0 5 rfl rfl)
theorem dX9_placement_8 : decode cX9_placement 8 = .ok (.bipush (-2), 2) := dk_16 254 (dk_at dksX9_placement_0 8 rfl rfl)
theorem dX9_placement_10 : decode cX9_placement 10 = .ok (.ireturn, 1) := dk_172 (dk_at dksX9_placement_0 10 rfl rfl)
theorem dX9_placement_11 : decode cX9_placement 11 = .ok (.aload_n 0, 1) := dk_42 (dk_at dksX9_placement_0 11 rfl rfl)
theorem dX9_placement_12 : decode cX9_placement 12 = .ok (.iload_n 1, 1) := dk_27 (dk_at dksX9_placement_0 12 rfl rfl)
theorem dX9_placement_13 : decode cX9_placement 13 = .ok (.invokevirtual 216, 3) := dk_182 0 216 (dk_at dksX9_placement_0 13 rfl rfl)
theorem dX9_placement_16 : decode cX9_placement 16 = .ok (.iload_n 2, 1) := dk_28 (dk_at dksX9_placement_0 16 rfl rfl)
theorem dX9_placement_17 : decode cX9_placement 17 = .ok (.iconst 0, 1) := dk_3 (dk_at dksX9_placement_0 17 rfl rfl)
theorem dX9_placement_18 : decode cX9_placement 18 = .ok (.aload_n 0, 1) := dk_42 (dk_at dksX9_placement_0 18 rfl rfl)
theorem dX9_placement_19 : decode cX9_placement 19 = .ok (.getfield 50, 3) := dk_180 0 50 (dk_at dksX9_placement_0 19 rfl rfl)
theorem dX9_placement_22 : decode cX9_placement 22 = .ok (.iload_n 1, 1) := dk_27 (dk_at dksX9_placement_0 22 rfl rfl)
theorem dX9_placement_23 : decode cX9_placement 23 = .ok (.iaload, 1) := dk_46 (dk_at dksX9_placement_0 23 rfl rfl)
theorem dX9_placement_24 : decode cX9_placement 24 = .ok (.iconst 1, 1) := dk_4 (dk_at dksX9_placement_1 0 rfl rfl)
theorem dX9_placement_25 : decode cX9_placement 25 = .ok (.isub, 1) := dk_100 (dk_at dksX9_placement_1 1 rfl rfl)
theorem dX9_placement_26 : decode cX9_placement 26 = .ok (.invokestatic 87, 3) := dk_184 0 87 (dk_at dksX9_placement_1 2 rfl rfl)
theorem dX9_placement_29 : decode cX9_placement 29 = .ok (.ifCond .eq 18, 3) := dk_153 0 18 (dk_at dksX9_placement_1 5 rfl rfl)
theorem dX9_placement_32 : decode cX9_placement 32 = .ok (.aload_n 0, 1) := dk_42 (dk_at dksX9_placement_1 8 rfl rfl)
theorem dX9_placement_33 : decode cX9_placement 33 = .ok (.getfield 53, 3) := dk_180 0 53 (dk_at dksX9_placement_1 9 rfl rfl)
theorem dX9_placement_36 : decode cX9_placement 36 = .ok (.sipush 200, 3) := dk_17 0 200 (dk_at dksX9_placement_1 12 rfl rfl)
theorem dX9_placement_39 : decode cX9_placement 39 = .ok (.iload_n 1, 1) := dk_27 (dk_at dksX9_placement_1 15 rfl rfl)
theorem dX9_placement_40 : decode cX9_placement 40 = .ok (.imul, 1) := dk_104 (dk_at dksX9_placement_1 16 rfl rfl)
theorem dX9_placement_41 : decode cX9_placement 41 = .ok (.iload_n 2, 1) := dk_28 (dk_at dksX9_placement_1 17 rfl rfl)
theorem dX9_placement_42 : decode cX9_placement 42 = .ok (.iadd, 1) := dk_96 (dk_at dksX9_placement_1 18 rfl rfl)
theorem dX9_placement_43 : decode cX9_placement 43 = .ok (.iaload, 1) := dk_46 (dk_at dksX9_placement_1 19 rfl rfl)
theorem dX9_placement_44 : decode cX9_placement 44 = .ok (.goto 5, 3) := dk_167 0 5 (dk_at dksX9_placement_1 20 rfl rfl)
theorem dX9_placement_47 : decode cX9_placement 47 = .ok (.bipush (-3), 2) := dk_16 253 (dk_at dksX9_placement_2 0 rfl rfl)
theorem dX9_placement_49 : decode cX9_placement 49 = .ok (.ireturn, 1) := dk_172 (dk_at dksX9_placement_2 2 rfl rfl)
abbrev cX9_best : ByteArray := prog_16_method_48_code
def yX9_best : MethodName := ⟨RX9, "best", "(I)I"⟩
def dkwX9_best_1 : List UInt8 := [42, 180, 0, 228, 167, 0, 7, 42, 182, 0, 243, 172]
abbrev dktX9_best_1 : List UInt8 := dkwX9_best_1 ++ []
def dkwX9_best_0 : List UInt8 := [27, 3, 4, 184, 0, 87, 154, 0, 6, 16, 253, 172, 42, 182, 0, 237, 42, 182, 0, 240, 27, 154, 0, 10]
abbrev dktX9_best_0 : List UInt8 := dkwX9_best_0 ++ dktX9_best_1
theorem dksX9_best_0 : cX9_best.data.toList.drop 0 = dktX9_best_0 := by decide +kernel
theorem dksX9_best_1 : cX9_best.data.toList.drop 24 = dktX9_best_1 := dk_seg dksX9_best_0 24 rfl rfl
theorem dX9_best_0 : decode cX9_best 0 = .ok (.iload_n 1, 1) := dk_27 (dk_at dksX9_best_0 0 rfl rfl)
theorem dX9_best_1 : decode cX9_best 1 = .ok (.iconst 0, 1) := dk_3 (dk_at dksX9_best_0 1 rfl rfl)
theorem dX9_best_2 : decode cX9_best 2 = .ok (.iconst 1, 1) := dk_4 (dk_at dksX9_best_0 2 rfl rfl)
theorem dX9_best_3 : decode cX9_best 3 = .ok (.invokestatic 87, 3) := dk_184 0 87 (dk_at dksX9_best_0 3 rfl rfl)
theorem dX9_best_6 : decode cX9_best 6 = .ok (.ifCond .ne 6, 3) := dk_154 0 6 (dk_at dksX9_best_0 6 rfl rfl)
theorem dX9_best_9 : decode cX9_best 9 = .ok (.bipush (-3), 2) := dk_16 253 (dk_at dksX9_best_0 9 rfl rfl)
theorem dX9_best_11 : decode cX9_best 11 = .ok (.ireturn, 1) := dk_172 (dk_at dksX9_best_0 11 rfl rfl)
theorem dX9_best_12 : decode cX9_best 12 = .ok (.aload_n 0, 1) := dk_42 (dk_at dksX9_best_0 12 rfl rfl)
theorem dX9_best_13 : decode cX9_best 13 = .ok (.invokevirtual 237, 3) := dk_182 0 237 (dk_at dksX9_best_0 13 rfl rfl)
theorem dX9_best_16 : decode cX9_best 16 = .ok (.aload_n 0, 1) := dk_42 (dk_at dksX9_best_0 16 rfl rfl)
theorem dX9_best_17 : decode cX9_best 17 = .ok (.invokevirtual 240, 3) := dk_182 0 240 (dk_at dksX9_best_0 17 rfl rfl)
theorem dX9_best_20 : decode cX9_best 20 = .ok (.iload_n 1, 1) := dk_27 (dk_at dksX9_best_0 20 rfl rfl)
theorem dX9_best_21 : decode cX9_best 21 = .ok (.ifCond .ne 10, 3) := dk_154 0 10 (dk_at dksX9_best_0 21 rfl rfl)
theorem dX9_best_24 : decode cX9_best 24 = .ok (.aload_n 0, 1) := dk_42 (dk_at dksX9_best_1 0 rfl rfl)
theorem dX9_best_25 : decode cX9_best 25 = .ok (.getfield 228, 3) := dk_180 0 228 (dk_at dksX9_best_1 1 rfl rfl)
theorem dX9_best_28 : decode cX9_best 28 = .ok (.goto 7, 3) := dk_167 0 7 (dk_at dksX9_best_1 4 rfl rfl)
theorem dX9_best_31 : decode cX9_best 31 = .ok (.aload_n 0, 1) := dk_42 (dk_at dksX9_best_1 7 rfl rfl)
theorem dX9_best_32 : decode cX9_best 32 = .ok (.invokevirtual 243, 3) := dk_182 0 243 (dk_at dksX9_best_1 8 rfl rfl)
theorem dX9_best_35 : decode cX9_best 35 = .ok (.ireturn, 1) := dk_172 (dk_at dksX9_best_1 11 rfl rfl)
abbrev cX9_findAll : ByteArray := prog_16_method_44_code
def yX9_findAll : MethodName := ⟨RX9, "findAll", "()V"⟩
def dkwX9_findAll_2 : List UInt8 := [132, 1, 1, 167, 255, 209, 177]
abbrev dktX9_findAll_2 : List UInt8 := dkwX9_findAll_2 ++ []
def dkwX9_findAll_1 : List UInt8 := [162, 0, 22, 42, 180, 0, 59, 17, 0, 200, 27, 104, 28, 96, 3, 84, 132, 2, 1, 167, 255, 230]
abbrev dktX9_findAll_1 : List UInt8 := dkwX9_findAll_1 ++ dktX9_findAll_2
def dkwX9_findAll_0 : List UInt8 := [3, 60, 27, 42, 180, 0, 94, 162, 0, 45, 42, 27, 182, 0, 216, 3, 61, 28, 42, 180, 0, 50, 27, 46]
abbrev dktX9_findAll_0 : List UInt8 := dkwX9_findAll_0 ++ dktX9_findAll_1
theorem dksX9_findAll_0 : cX9_findAll.data.toList.drop 0 = dktX9_findAll_0 := by decide +kernel
theorem dksX9_findAll_1 : cX9_findAll.data.toList.drop 24 = dktX9_findAll_1 := dk_seg dksX9_findAll_0 24 rfl rfl
theorem dksX9_findAll_2 : cX9_findAll.data.toList.drop 46 = dktX9_findAll_2 := dk_seg dksX9_findAll_1 22 rfl rfl
theorem dX9_findAll_0 : decode cX9_findAll 0 = .ok (.iconst 0, 1) := dk_3 (dk_at dksX9_findAll_0 0 rfl rfl)
theorem dX9_findAll_1 : decode cX9_findAll 1 = .ok (.istore_n 1, 1) := dk_60 (dk_at dksX9_findAll_0 1 rfl rfl)
theorem dX9_findAll_2 : decode cX9_findAll 2 = .ok (.iload_n 1, 1) := dk_27 (dk_at dksX9_findAll_0 2 rfl rfl)
theorem dX9_findAll_3 : decode cX9_findAll 3 = .ok (.aload_n 0, 1) := dk_42 (dk_at dksX9_findAll_0 3 rfl rfl)
theorem dX9_findAll_4 : decode cX9_findAll 4 = .ok (.getfield 94, 3) := dk_180 0 94 (dk_at dksX9_findAll_0 4 rfl rfl)
theorem dX9_findAll_7 : decode cX9_findAll 7 = .ok (.if_icmp .ge 45, 3) := dk_162 0 45 (dk_at dksX9_findAll_0 7 rfl rfl)
theorem dX9_findAll_10 : decode cX9_findAll 10 = .ok (.aload_n 0, 1) := dk_42 (dk_at dksX9_findAll_0 10 rfl rfl)
theorem dX9_findAll_11 : decode cX9_findAll 11 = .ok (.iload_n 1, 1) := dk_27 (dk_at dksX9_findAll_0 11 rfl rfl)
theorem dX9_findAll_12 : decode cX9_findAll 12 = .ok (.invokevirtual 216, 3) := dk_182 0 216 (dk_at dksX9_findAll_0 12 rfl rfl)
theorem dX9_findAll_15 : decode cX9_findAll 15 = .ok (.iconst 0, 1) := dk_3 (dk_at dksX9_findAll_0 15 rfl rfl)
theorem dX9_findAll_16 : decode cX9_findAll 16 = .ok (.istore_n 2, 1) := dk_61 (dk_at dksX9_findAll_0 16 rfl rfl)
theorem dX9_findAll_17 : decode cX9_findAll 17 = .ok (.iload_n 2, 1) := dk_28 (dk_at dksX9_findAll_0 17 rfl rfl)
theorem dX9_findAll_18 : decode cX9_findAll 18 = .ok (.aload_n 0, 1) := dk_42 (dk_at dksX9_findAll_0 18 rfl rfl)
theorem dX9_findAll_19 : decode cX9_findAll 19 = .ok (.getfield 50, 3) := dk_180 0 50 (dk_at dksX9_findAll_0 19 rfl rfl)
theorem dX9_findAll_22 : decode cX9_findAll 22 = .ok (.iload_n 1, 1) := dk_27 (dk_at dksX9_findAll_0 22 rfl rfl)
theorem dX9_findAll_23 : decode cX9_findAll 23 = .ok (.iaload, 1) := dk_46 (dk_at dksX9_findAll_0 23 rfl rfl)
theorem dX9_findAll_24 : decode cX9_findAll 24 = .ok (.if_icmp .ge 22, 3) := dk_162 0 22 (dk_at dksX9_findAll_1 0 rfl rfl)
theorem dX9_findAll_27 : decode cX9_findAll 27 = .ok (.aload_n 0, 1) := dk_42 (dk_at dksX9_findAll_1 3 rfl rfl)
theorem dX9_findAll_28 : decode cX9_findAll 28 = .ok (.getfield 59, 3) := dk_180 0 59 (dk_at dksX9_findAll_1 4 rfl rfl)
theorem dX9_findAll_31 : decode cX9_findAll 31 = .ok (.sipush 200, 3) := dk_17 0 200 (dk_at dksX9_findAll_1 7 rfl rfl)
theorem dX9_findAll_34 : decode cX9_findAll 34 = .ok (.iload_n 1, 1) := dk_27 (dk_at dksX9_findAll_1 10 rfl rfl)
theorem dX9_findAll_35 : decode cX9_findAll 35 = .ok (.imul, 1) := dk_104 (dk_at dksX9_findAll_1 11 rfl rfl)
theorem dX9_findAll_36 : decode cX9_findAll 36 = .ok (.iload_n 2, 1) := dk_28 (dk_at dksX9_findAll_1 12 rfl rfl)
theorem dX9_findAll_37 : decode cX9_findAll 37 = .ok (.iadd, 1) := dk_96 (dk_at dksX9_findAll_1 13 rfl rfl)
theorem dX9_findAll_38 : decode cX9_findAll 38 = .ok (.iconst 0, 1) := dk_3 (dk_at dksX9_findAll_1 14 rfl rfl)
theorem dX9_findAll_39 : decode cX9_findAll 39 = .ok (.bastore, 1) := dk_84 (dk_at dksX9_findAll_1 15 rfl rfl)
theorem dX9_findAll_40 : decode cX9_findAll 40 = .ok (.iinc 2 1, 3) := dk_132 2 1 (dk_at dksX9_findAll_1 16 rfl rfl)
theorem dX9_findAll_43 : decode cX9_findAll 43 = .ok (.goto (-26), 3) := dk_167 255 230 (dk_at dksX9_findAll_1 19 rfl rfl)
theorem dX9_findAll_46 : decode cX9_findAll 46 = .ok (.iinc 1 1, 3) := dk_132 1 1 (dk_at dksX9_findAll_2 0 rfl rfl)
theorem dX9_findAll_49 : decode cX9_findAll 49 = .ok (.goto (-47), 3) := dk_167 255 209 (dk_at dksX9_findAll_2 3 rfl rfl)
theorem dX9_findAll_52 : decode cX9_findAll 52 = .ok (.return_, 1) := dk_177 (dk_at dksX9_findAll_2 6 rfl rfl)
abbrev cX9_findBest : ByteArray := prog_16_method_45_code
def yX9_findBest : MethodName := ⟨RX9, "findBest", "()V"⟩
def dkwX9_findBest_25 : List UInt8 := [167, 0, 4, 3, 100, 54, 5, 167, 253, 255, 177]
abbrev dktX9_findBest_25 : List UInt8 := dkwX9_findBest_25 ++ []
def dkwX9_findBest_24 : List UInt8 := [21, 5, 182, 0, 225, 167, 0, 4, 3, 96, 54, 4, 132, 5, 1, 21, 5, 21, 6, 153, 0, 7, 4]
abbrev dktX9_findBest_24 : List UInt8 := dkwX9_findBest_24 ++ dktX9_findBest_25
def dkwX9_findBest_23 : List UInt8 := [182, 0, 222, 167, 0, 4, 3, 96, 62, 21, 4, 21, 8, 42, 180, 0, 50, 21, 5, 46, 162, 0, 12, 42]
abbrev dktX9_findBest_23 : List UInt8 := dkwX9_findBest_23 ++ dktX9_findBest_24
def dkwX9_findBest_22 : List UInt8 := [182, 0, 225, 96, 61, 167, 0, 58, 29, 21, 8, 42, 180, 0, 50, 21, 5, 46, 162, 0, 12, 42, 21, 5]
abbrev dktX9_findBest_22 : List UInt8 := dkwX9_findBest_22 ++ dktX9_findBest_23
def dkwX9_findBest_21 : List UInt8 := [167, 0, 5, 21, 8, 79, 21, 6, 153, 0, 24, 27, 42, 21, 5, 182, 0, 222, 96, 60, 28, 42, 21, 5]
abbrev dktX9_findBest_21 : List UInt8 := dkwX9_findBest_21 ++ dktX9_findBest_22
def dkwX9_findBest_20 : List UInt8 := [153, 0, 7, 4, 167, 0, 4, 3, 54, 6, 42, 180, 0, 63, 21, 5, 21, 6, 153, 0, 7, 2]
abbrev dktX9_findBest_20 : List UInt8 := dkwX9_findBest_20 ++ dktX9_findBest_21
def dkwX9_findBest_19 : List UInt8 := [180, 0, 50, 21, 5, 46, 163, 0, 20, 21, 8, 42, 180, 0, 50, 21, 5, 46, 160, 0, 12, 21, 10]
abbrev dktX9_findBest_19 : List UInt8 := dkwX9_findBest_19 ++ dktX9_findBest_20
def dkwX9_findBest_18 : List UInt8 := [162, 0, 20, 42, 21, 5, 21, 8, 182, 0, 234, 154, 0, 9, 132, 8, 1, 167, 255, 230, 21, 8, 42]
abbrev dktX9_findBest_18 : List UInt8 := dkwX9_findBest_18 ++ dktX9_findBest_19
def dkwX9_findBest_17 : List UInt8 := [180, 0, 50, 21, 5, 46, 167, 0, 5, 21, 8, 54, 8, 21, 8, 42, 180, 0, 50, 21, 5, 46]
abbrev dktX9_findBest_17 : List UInt8 := dkwX9_findBest_17 ++ dktX9_findBest_18
def dkwX9_findBest_16 : List UInt8 := [167, 0, 4, 3, 54, 10, 21, 9, 153, 0, 25, 21, 8, 42, 180, 0, 50, 21, 5, 46, 162, 0, 13, 42]
abbrev dktX9_findBest_16 : List UInt8 := dkwX9_findBest_16 ++ dktX9_findBest_17
def dkwX9_findBest_15 : List UInt8 := [160, 0, 25, 21, 4, 28, 96, 42, 180, 0, 231, 161, 0, 14, 42, 180, 0, 228, 155, 0, 7, 4]
abbrev dktX9_findBest_15 : List UInt8 := dkwX9_findBest_15 ++ dktX9_findBest_16
def dkwX9_findBest_14 : List UInt8 := [167, 0, 4, 3, 54, 9, 29, 27, 96, 42, 180, 0, 228, 161, 0, 31, 29, 27, 96, 42, 180, 0, 228]
abbrev dktX9_findBest_14 : List UInt8 := dkwX9_findBest_14 ++ dktX9_findBest_15
def dkwX9_findBest_13 : List UInt8 := [21, 5, 182, 0, 225, 96, 28, 96, 42, 180, 0, 231, 161, 0, 14, 42, 180, 0, 228, 155, 0, 7, 4]
abbrev dktX9_findBest_13 : List UInt8 := dkwX9_findBest_13 ++ dktX9_findBest_14
def dkwX9_findBest_12 : List UInt8 := [161, 0, 45, 29, 42, 21, 5, 182, 0, 222, 96, 27, 96, 42, 180, 0, 228, 160, 0, 32, 21, 4, 42]
abbrev dktX9_findBest_12 : List UInt8 := dkwX9_findBest_12 ++ dktX9_findBest_13
def dkwX9_findBest_11 : List UInt8 := [54, 4, 21, 7, 4, 96, 54, 8, 29, 42, 21, 5, 182, 0, 222, 96, 27, 96, 42, 180, 0, 228]
abbrev dktX9_findBest_11 : List UInt8 := dkwX9_findBest_11 ++ dktX9_findBest_12
def dkwX9_findBest_10 : List UInt8 := [21, 5, 46, 162, 0, 23, 29, 42, 21, 5, 182, 0, 222, 100, 62, 21, 4, 42, 21, 5, 182, 0, 225, 100]
abbrev dktX9_findBest_10 : List UInt8 := dkwX9_findBest_10 ++ dktX9_findBest_11
def dkwX9_findBest_9 : List UInt8 := [182, 0, 222, 100, 60, 28, 42, 21, 5, 182, 0, 225, 100, 61, 167, 0, 35, 21, 7, 42, 180, 0, 50]
abbrev dktX9_findBest_9 : List UInt8 := dkwX9_findBest_9 ++ dktX9_findBest_10
def dkwX9_findBest_8 : List UInt8 := [167, 1, 127, 42, 180, 0, 63, 21, 5, 46, 54, 7, 21, 7, 2, 160, 0, 24, 27, 42, 21, 5]
abbrev dktX9_findBest_8 : List UInt8 := dkwX9_findBest_8 ++ dktX9_findBest_9
def dkwX9_findBest_7 : List UInt8 := [21, 7, 46, 162, 0, 13, 42, 180, 0, 63, 21, 7, 46, 167, 0, 4, 2, 79, 132, 7, 1, 167, 255, 209]
abbrev dktX9_findBest_7 : List UInt8 := dkwX9_findBest_7 ++ dktX9_findBest_8
def dkwX9_findBest_6 : List UInt8 := [180, 0, 94, 162, 0, 44, 42, 180, 0, 66, 21, 7, 42, 180, 0, 63, 21, 7, 46, 42, 180, 0, 50]
abbrev dktX9_findBest_6 : List UInt8 := dkwX9_findBest_6 ++ dktX9_findBest_7
def dkwX9_findBest_5 : List UInt8 := [180, 0, 231, 162, 1, 194, 42, 29, 181, 0, 228, 42, 21, 4, 181, 0, 231, 3, 54, 7, 21, 7, 42]
abbrev dktX9_findBest_5 : List UInt8 := dkwX9_findBest_5 ++ dktX9_findBest_6
def dkwX9_findBest_4 : List UInt8 := [153, 0, 95, 29, 42, 180, 0, 228, 163, 0, 20, 29, 42, 180, 0, 228, 160, 1, 203, 21, 4, 42]
abbrev dktX9_findBest_4 : List UInt8 := dkwX9_findBest_4 ++ dktX9_findBest_5
def dkwX9_findBest_3 : List UInt8 := [21, 5, 155, 2, 2, 21, 5, 42, 180, 0, 94, 160, 0, 7, 4, 167, 0, 4, 3, 54, 6, 21, 6]
abbrev dktX9_findBest_3 : List UInt8 := dkwX9_findBest_3 ++ dktX9_findBest_4
def dkwX9_findBest_2 : List UInt8 := [132, 3, 1, 167, 255, 215, 42, 2, 181, 0, 228, 42, 3, 181, 0, 231, 3, 62, 3, 54, 4, 3, 54, 5]
abbrev dktX9_findBest_2 : List UInt8 := dkwX9_findBest_2 ++ dktX9_findBest_3
def dkwX9_findBest_1 : List UInt8 := [180, 0, 66, 29, 2, 79, 27, 42, 29, 182, 0, 222, 96, 60, 28, 42, 29, 182, 0, 225, 96, 61]
abbrev dktX9_findBest_1 : List UInt8 := dkwX9_findBest_1 ++ dktX9_findBest_2
def dkwX9_findBest_0 : List UInt8 := [3, 60, 3, 61, 3, 62, 29, 42, 180, 0, 94, 162, 0, 39, 42, 180, 0, 63, 29, 2, 79, 42]
abbrev dktX9_findBest_0 : List UInt8 := dkwX9_findBest_0 ++ dktX9_findBest_1
theorem dksX9_findBest_0 : cX9_findBest.data.toList.drop 0 = dktX9_findBest_0 := by decide +kernel
theorem dksX9_findBest_1 : cX9_findBest.data.toList.drop 22 = dktX9_findBest_1 := dk_seg dksX9_findBest_0 22 rfl rfl
theorem dksX9_findBest_2 : cX9_findBest.data.toList.drop 44 = dktX9_findBest_2 := dk_seg dksX9_findBest_1 22 rfl rfl
theorem dksX9_findBest_3 : cX9_findBest.data.toList.drop 68 = dktX9_findBest_3 := dk_seg dksX9_findBest_2 24 rfl rfl
theorem dksX9_findBest_4 : cX9_findBest.data.toList.drop 91 = dktX9_findBest_4 := dk_seg dksX9_findBest_3 23 rfl rfl
theorem dksX9_findBest_5 : cX9_findBest.data.toList.drop 113 = dktX9_findBest_5 := dk_seg dksX9_findBest_4 22 rfl rfl
theorem dksX9_findBest_6 : cX9_findBest.data.toList.drop 136 = dktX9_findBest_6 := dk_seg dksX9_findBest_5 23 rfl rfl
theorem dksX9_findBest_7 : cX9_findBest.data.toList.drop 159 = dktX9_findBest_7 := dk_seg dksX9_findBest_6 23 rfl rfl
theorem dksX9_findBest_8 : cX9_findBest.data.toList.drop 183 = dktX9_findBest_8 := dk_seg dksX9_findBest_7 24 rfl rfl
theorem dksX9_findBest_9 : cX9_findBest.data.toList.drop 205 = dktX9_findBest_9 := dk_seg dksX9_findBest_8 22 rfl rfl
theorem dksX9_findBest_10 : cX9_findBest.data.toList.drop 228 = dktX9_findBest_10 := dk_seg dksX9_findBest_9 23 rfl rfl
theorem dksX9_findBest_11 : cX9_findBest.data.toList.drop 252 = dktX9_findBest_11 := dk_seg dksX9_findBest_10 24 rfl rfl
theorem dksX9_findBest_12 : cX9_findBest.data.toList.drop 274 = dktX9_findBest_12 := dk_seg dksX9_findBest_11 22 rfl rfl
theorem dksX9_findBest_13 : cX9_findBest.data.toList.drop 297 = dktX9_findBest_13 := dk_seg dksX9_findBest_12 23 rfl rfl
theorem dksX9_findBest_14 : cX9_findBest.data.toList.drop 320 = dktX9_findBest_14 := dk_seg dksX9_findBest_13 23 rfl rfl
theorem dksX9_findBest_15 : cX9_findBest.data.toList.drop 343 = dktX9_findBest_15 := dk_seg dksX9_findBest_14 23 rfl rfl
theorem dksX9_findBest_16 : cX9_findBest.data.toList.drop 365 = dktX9_findBest_16 := dk_seg dksX9_findBest_15 22 rfl rfl
theorem dksX9_findBest_17 : cX9_findBest.data.toList.drop 389 = dktX9_findBest_17 := dk_seg dksX9_findBest_16 24 rfl rfl
theorem dksX9_findBest_18 : cX9_findBest.data.toList.drop 411 = dktX9_findBest_18 := dk_seg dksX9_findBest_17 22 rfl rfl
theorem dksX9_findBest_19 : cX9_findBest.data.toList.drop 434 = dktX9_findBest_19 := dk_seg dksX9_findBest_18 23 rfl rfl
theorem dksX9_findBest_20 : cX9_findBest.data.toList.drop 457 = dktX9_findBest_20 := dk_seg dksX9_findBest_19 23 rfl rfl
theorem dksX9_findBest_21 : cX9_findBest.data.toList.drop 479 = dktX9_findBest_21 := dk_seg dksX9_findBest_20 22 rfl rfl
theorem dksX9_findBest_22 : cX9_findBest.data.toList.drop 503 = dktX9_findBest_22 := dk_seg dksX9_findBest_21 24 rfl rfl
theorem dksX9_findBest_23 : cX9_findBest.data.toList.drop 527 = dktX9_findBest_23 := dk_seg dksX9_findBest_22 24 rfl rfl
theorem dksX9_findBest_24 : cX9_findBest.data.toList.drop 551 = dktX9_findBest_24 := dk_seg dksX9_findBest_23 24 rfl rfl
theorem dksX9_findBest_25 : cX9_findBest.data.toList.drop 574 = dktX9_findBest_25 := dk_seg dksX9_findBest_24 23 rfl rfl
theorem dX9_findBest_0 : decode cX9_findBest 0 = .ok (.iconst 0, 1) := dk_3 (dk_at dksX9_findBest_0 0 rfl rfl)
theorem dX9_findBest_1 : decode cX9_findBest 1 = .ok (.istore_n 1, 1) := dk_60 (dk_at dksX9_findBest_0 1 rfl rfl)
theorem dX9_findBest_2 : decode cX9_findBest 2 = .ok (.iconst 0, 1) := dk_3 (dk_at dksX9_findBest_0 2 rfl rfl)
theorem dX9_findBest_3 : decode cX9_findBest 3 = .ok (.istore_n 2, 1) := dk_61 (dk_at dksX9_findBest_0 3 rfl rfl)
theorem dX9_findBest_4 : decode cX9_findBest 4 = .ok (.iconst 0, 1) := dk_3 (dk_at dksX9_findBest_0 4 rfl rfl)
theorem dX9_findBest_5 : decode cX9_findBest 5 = .ok (.istore_n 3, 1) := dk_62 (dk_at dksX9_findBest_0 5 rfl rfl)
theorem dX9_findBest_6 : decode cX9_findBest 6 = .ok (.iload_n 3, 1) := dk_29 (dk_at dksX9_findBest_0 6 rfl rfl)
theorem dX9_findBest_7 : decode cX9_findBest 7 = .ok (.aload_n 0, 1) := dk_42 (dk_at dksX9_findBest_0 7 rfl rfl)
theorem dX9_findBest_8 : decode cX9_findBest 8 = .ok (.getfield 94, 3) := dk_180 0 94 (dk_at dksX9_findBest_0 8 rfl rfl)
theorem dX9_findBest_11 : decode cX9_findBest 11 = .ok (.if_icmp .ge 39, 3) := dk_162 0 39 (dk_at dksX9_findBest_0 11 rfl rfl)
theorem dX9_findBest_14 : decode cX9_findBest 14 = .ok (.aload_n 0, 1) := dk_42 (dk_at dksX9_findBest_0 14 rfl rfl)
theorem dX9_findBest_15 : decode cX9_findBest 15 = .ok (.getfield 63, 3) := dk_180 0 63 (dk_at dksX9_findBest_0 15 rfl rfl)
theorem dX9_findBest_18 : decode cX9_findBest 18 = .ok (.iload_n 3, 1) := dk_29 (dk_at dksX9_findBest_0 18 rfl rfl)
theorem dX9_findBest_19 : decode cX9_findBest 19 = .ok (.iconst (-1), 1) := dk_2 (dk_at dksX9_findBest_0 19 rfl rfl)
theorem dX9_findBest_20 : decode cX9_findBest 20 = .ok (.iastore, 1) := dk_79 (dk_at dksX9_findBest_0 20 rfl rfl)
theorem dX9_findBest_21 : decode cX9_findBest 21 = .ok (.aload_n 0, 1) := dk_42 (dk_at dksX9_findBest_0 21 rfl rfl)
theorem dX9_findBest_22 : decode cX9_findBest 22 = .ok (.getfield 66, 3) := dk_180 0 66 (dk_at dksX9_findBest_1 0 rfl rfl)
theorem dX9_findBest_25 : decode cX9_findBest 25 = .ok (.iload_n 3, 1) := dk_29 (dk_at dksX9_findBest_1 3 rfl rfl)
theorem dX9_findBest_26 : decode cX9_findBest 26 = .ok (.iconst (-1), 1) := dk_2 (dk_at dksX9_findBest_1 4 rfl rfl)
theorem dX9_findBest_27 : decode cX9_findBest 27 = .ok (.iastore, 1) := dk_79 (dk_at dksX9_findBest_1 5 rfl rfl)
theorem dX9_findBest_28 : decode cX9_findBest 28 = .ok (.iload_n 1, 1) := dk_27 (dk_at dksX9_findBest_1 6 rfl rfl)
theorem dX9_findBest_29 : decode cX9_findBest 29 = .ok (.aload_n 0, 1) := dk_42 (dk_at dksX9_findBest_1 7 rfl rfl)
theorem dX9_findBest_30 : decode cX9_findBest 30 = .ok (.iload_n 3, 1) := dk_29 (dk_at dksX9_findBest_1 8 rfl rfl)
theorem dX9_findBest_31 : decode cX9_findBest 31 = .ok (.invokevirtual 222, 3) := dk_182 0 222 (dk_at dksX9_findBest_1 9 rfl rfl)
theorem dX9_findBest_34 : decode cX9_findBest 34 = .ok (.iadd, 1) := dk_96 (dk_at dksX9_findBest_1 12 rfl rfl)
theorem dX9_findBest_35 : decode cX9_findBest 35 = .ok (.istore_n 1, 1) := dk_60 (dk_at dksX9_findBest_1 13 rfl rfl)
theorem dX9_findBest_36 : decode cX9_findBest 36 = .ok (.iload_n 2, 1) := dk_28 (dk_at dksX9_findBest_1 14 rfl rfl)
theorem dX9_findBest_37 : decode cX9_findBest 37 = .ok (.aload_n 0, 1) := dk_42 (dk_at dksX9_findBest_1 15 rfl rfl)
theorem dX9_findBest_38 : decode cX9_findBest 38 = .ok (.iload_n 3, 1) := dk_29 (dk_at dksX9_findBest_1 16 rfl rfl)
theorem dX9_findBest_39 : decode cX9_findBest 39 = .ok (.invokevirtual 225, 3) := dk_182 0 225 (dk_at dksX9_findBest_1 17 rfl rfl)
theorem dX9_findBest_42 : decode cX9_findBest 42 = .ok (.iadd, 1) := dk_96 (dk_at dksX9_findBest_1 20 rfl rfl)
theorem dX9_findBest_43 : decode cX9_findBest 43 = .ok (.istore_n 2, 1) := dk_61 (dk_at dksX9_findBest_1 21 rfl rfl)
theorem dX9_findBest_44 : decode cX9_findBest 44 = .ok (.iinc 3 1, 3) := dk_132 3 1 (dk_at dksX9_findBest_2 0 rfl rfl)
theorem dX9_findBest_47 : decode cX9_findBest 47 = .ok (.goto (-41), 3) := dk_167 255 215 (dk_at dksX9_findBest_2 3 rfl rfl)
theorem dX9_findBest_50 : decode cX9_findBest 50 = .ok (.aload_n 0, 1) := dk_42 (dk_at dksX9_findBest_2 6 rfl rfl)
theorem dX9_findBest_51 : decode cX9_findBest 51 = .ok (.iconst (-1), 1) := dk_2 (dk_at dksX9_findBest_2 7 rfl rfl)
theorem dX9_findBest_52 : decode cX9_findBest 52 = .ok (.putfield 228, 3) := dk_181 0 228 (dk_at dksX9_findBest_2 8 rfl rfl)
theorem dX9_findBest_55 : decode cX9_findBest 55 = .ok (.aload_n 0, 1) := dk_42 (dk_at dksX9_findBest_2 11 rfl rfl)
theorem dX9_findBest_56 : decode cX9_findBest 56 = .ok (.iconst 0, 1) := dk_3 (dk_at dksX9_findBest_2 12 rfl rfl)
theorem dX9_findBest_57 : decode cX9_findBest 57 = .ok (.putfield 231, 3) := dk_181 0 231 (dk_at dksX9_findBest_2 13 rfl rfl)
theorem dX9_findBest_60 : decode cX9_findBest 60 = .ok (.iconst 0, 1) := dk_3 (dk_at dksX9_findBest_2 16 rfl rfl)
theorem dX9_findBest_61 : decode cX9_findBest 61 = .ok (.istore_n 3, 1) := dk_62 (dk_at dksX9_findBest_2 17 rfl rfl)
theorem dX9_findBest_62 : decode cX9_findBest 62 = .ok (.iconst 0, 1) := dk_3 (dk_at dksX9_findBest_2 18 rfl rfl)
theorem dX9_findBest_63 : decode cX9_findBest 63 = .ok (.istore 4, 2) := dk_54 4 (dk_at dksX9_findBest_2 19 rfl rfl)
theorem dX9_findBest_65 : decode cX9_findBest 65 = .ok (.iconst 0, 1) := dk_3 (dk_at dksX9_findBest_2 21 rfl rfl)
theorem dX9_findBest_66 : decode cX9_findBest 66 = .ok (.istore 5, 2) := dk_54 5 (dk_at dksX9_findBest_2 22 rfl rfl)
theorem dX9_findBest_68 : decode cX9_findBest 68 = .ok (.iload 5, 2) := dk_21 5 (dk_at dksX9_findBest_3 0 rfl rfl)
theorem dX9_findBest_70 : decode cX9_findBest 70 = .ok (.ifCond .lt 514, 3) := dk_155 2 2 (dk_at dksX9_findBest_3 2 rfl rfl)
theorem dX9_findBest_73 : decode cX9_findBest 73 = .ok (.iload 5, 2) := dk_21 5 (dk_at dksX9_findBest_3 5 rfl rfl)
theorem dX9_findBest_75 : decode cX9_findBest 75 = .ok (.aload_n 0, 1) := dk_42 (dk_at dksX9_findBest_3 7 rfl rfl)
theorem dX9_findBest_76 : decode cX9_findBest 76 = .ok (.getfield 94, 3) := dk_180 0 94 (dk_at dksX9_findBest_3 8 rfl rfl)
theorem dX9_findBest_79 : decode cX9_findBest 79 = .ok (.if_icmp .ne 7, 3) := dk_160 0 7 (dk_at dksX9_findBest_3 11 rfl rfl)
theorem dX9_findBest_82 : decode cX9_findBest 82 = .ok (.iconst 1, 1) := dk_4 (dk_at dksX9_findBest_3 14 rfl rfl)
theorem dX9_findBest_83 : decode cX9_findBest 83 = .ok (.goto 4, 3) := dk_167 0 4 (dk_at dksX9_findBest_3 15 rfl rfl)
theorem dX9_findBest_86 : decode cX9_findBest 86 = .ok (.iconst 0, 1) := dk_3 (dk_at dksX9_findBest_3 18 rfl rfl)
theorem dX9_findBest_87 : decode cX9_findBest 87 = .ok (.istore 6, 2) := dk_54 6 (dk_at dksX9_findBest_3 19 rfl rfl)
theorem dX9_findBest_89 : decode cX9_findBest 89 = .ok (.iload 6, 2) := dk_21 6 (dk_at dksX9_findBest_3 21 rfl rfl)
theorem dX9_findBest_91 : decode cX9_findBest 91 = .ok (.ifCond .eq 95, 3) := dk_153 0 95 (dk_at dksX9_findBest_4 0 rfl rfl)
theorem dX9_findBest_94 : decode cX9_findBest 94 = .ok (.iload_n 3, 1) := dk_29 (dk_at dksX9_findBest_4 3 rfl rfl)
theorem dX9_findBest_95 : decode cX9_findBest 95 = .ok (.aload_n 0, 1) := dk_42 (dk_at dksX9_findBest_4 4 rfl rfl)
theorem dX9_findBest_96 : decode cX9_findBest 96 = .ok (.getfield 228, 3) := dk_180 0 228 (dk_at dksX9_findBest_4 5 rfl rfl)
theorem dX9_findBest_99 : decode cX9_findBest 99 = .ok (.if_icmp .gt 20, 3) := dk_163 0 20 (dk_at dksX9_findBest_4 8 rfl rfl)
theorem dX9_findBest_102 : decode cX9_findBest 102 = .ok (.iload_n 3, 1) := dk_29 (dk_at dksX9_findBest_4 11 rfl rfl)
theorem dX9_findBest_103 : decode cX9_findBest 103 = .ok (.aload_n 0, 1) := dk_42 (dk_at dksX9_findBest_4 12 rfl rfl)
theorem dX9_findBest_104 : decode cX9_findBest 104 = .ok (.getfield 228, 3) := dk_180 0 228 (dk_at dksX9_findBest_4 13 rfl rfl)
theorem dX9_findBest_107 : decode cX9_findBest 107 = .ok (.if_icmp .ne 459, 3) := dk_160 1 203 (dk_at dksX9_findBest_4 16 rfl rfl)
theorem dX9_findBest_110 : decode cX9_findBest 110 = .ok (.iload 4, 2) := dk_21 4 (dk_at dksX9_findBest_4 19 rfl rfl)
theorem dX9_findBest_112 : decode cX9_findBest 112 = .ok (.aload_n 0, 1) := dk_42 (dk_at dksX9_findBest_4 21 rfl rfl)
theorem dX9_findBest_113 : decode cX9_findBest 113 = .ok (.getfield 231, 3) := dk_180 0 231 (dk_at dksX9_findBest_5 0 rfl rfl)
theorem dX9_findBest_116 : decode cX9_findBest 116 = .ok (.if_icmp .ge 450, 3) := dk_162 1 194 (dk_at dksX9_findBest_5 3 rfl rfl)
theorem dX9_findBest_119 : decode cX9_findBest 119 = .ok (.aload_n 0, 1) := dk_42 (dk_at dksX9_findBest_5 6 rfl rfl)
theorem dX9_findBest_120 : decode cX9_findBest 120 = .ok (.iload_n 3, 1) := dk_29 (dk_at dksX9_findBest_5 7 rfl rfl)
theorem dX9_findBest_121 : decode cX9_findBest 121 = .ok (.putfield 228, 3) := dk_181 0 228 (dk_at dksX9_findBest_5 8 rfl rfl)
theorem dX9_findBest_124 : decode cX9_findBest 124 = .ok (.aload_n 0, 1) := dk_42 (dk_at dksX9_findBest_5 11 rfl rfl)
theorem dX9_findBest_125 : decode cX9_findBest 125 = .ok (.iload 4, 2) := dk_21 4 (dk_at dksX9_findBest_5 12 rfl rfl)
theorem dX9_findBest_127 : decode cX9_findBest 127 = .ok (.putfield 231, 3) := dk_181 0 231 (dk_at dksX9_findBest_5 14 rfl rfl)
theorem dX9_findBest_130 : decode cX9_findBest 130 = .ok (.iconst 0, 1) := dk_3 (dk_at dksX9_findBest_5 17 rfl rfl)
theorem dX9_findBest_131 : decode cX9_findBest 131 = .ok (.istore 7, 2) := dk_54 7 (dk_at dksX9_findBest_5 18 rfl rfl)
theorem dX9_findBest_133 : decode cX9_findBest 133 = .ok (.iload 7, 2) := dk_21 7 (dk_at dksX9_findBest_5 20 rfl rfl)
theorem dX9_findBest_135 : decode cX9_findBest 135 = .ok (.aload_n 0, 1) := dk_42 (dk_at dksX9_findBest_5 22 rfl rfl)
theorem dX9_findBest_136 : decode cX9_findBest 136 = .ok (.getfield 94, 3) := dk_180 0 94 (dk_at dksX9_findBest_6 0 rfl rfl)
theorem dX9_findBest_139 : decode cX9_findBest 139 = .ok (.if_icmp .ge 44, 3) := dk_162 0 44 (dk_at dksX9_findBest_6 3 rfl rfl)
theorem dX9_findBest_142 : decode cX9_findBest 142 = .ok (.aload_n 0, 1) := dk_42 (dk_at dksX9_findBest_6 6 rfl rfl)
theorem dX9_findBest_143 : decode cX9_findBest 143 = .ok (.getfield 66, 3) := dk_180 0 66 (dk_at dksX9_findBest_6 7 rfl rfl)
theorem dX9_findBest_146 : decode cX9_findBest 146 = .ok (.iload 7, 2) := dk_21 7 (dk_at dksX9_findBest_6 10 rfl rfl)
theorem dX9_findBest_148 : decode cX9_findBest 148 = .ok (.aload_n 0, 1) := dk_42 (dk_at dksX9_findBest_6 12 rfl rfl)
theorem dX9_findBest_149 : decode cX9_findBest 149 = .ok (.getfield 63, 3) := dk_180 0 63 (dk_at dksX9_findBest_6 13 rfl rfl)
theorem dX9_findBest_152 : decode cX9_findBest 152 = .ok (.iload 7, 2) := dk_21 7 (dk_at dksX9_findBest_6 16 rfl rfl)
theorem dX9_findBest_154 : decode cX9_findBest 154 = .ok (.iaload, 1) := dk_46 (dk_at dksX9_findBest_6 18 rfl rfl)
theorem dX9_findBest_155 : decode cX9_findBest 155 = .ok (.aload_n 0, 1) := dk_42 (dk_at dksX9_findBest_6 19 rfl rfl)
theorem dX9_findBest_156 : decode cX9_findBest 156 = .ok (.getfield 50, 3) := dk_180 0 50 (dk_at dksX9_findBest_6 20 rfl rfl)
theorem dX9_findBest_159 : decode cX9_findBest 159 = .ok (.iload 7, 2) := dk_21 7 (dk_at dksX9_findBest_7 0 rfl rfl)
theorem dX9_findBest_161 : decode cX9_findBest 161 = .ok (.iaload, 1) := dk_46 (dk_at dksX9_findBest_7 2 rfl rfl)
theorem dX9_findBest_162 : decode cX9_findBest 162 = .ok (.if_icmp .ge 13, 3) := dk_162 0 13 (dk_at dksX9_findBest_7 3 rfl rfl)
theorem dX9_findBest_165 : decode cX9_findBest 165 = .ok (.aload_n 0, 1) := dk_42 (dk_at dksX9_findBest_7 6 rfl rfl)
theorem dX9_findBest_166 : decode cX9_findBest 166 = .ok (.getfield 63, 3) := dk_180 0 63 (dk_at dksX9_findBest_7 7 rfl rfl)
theorem dX9_findBest_169 : decode cX9_findBest 169 = .ok (.iload 7, 2) := dk_21 7 (dk_at dksX9_findBest_7 10 rfl rfl)
theorem dX9_findBest_171 : decode cX9_findBest 171 = .ok (.iaload, 1) := dk_46 (dk_at dksX9_findBest_7 12 rfl rfl)
theorem dX9_findBest_172 : decode cX9_findBest 172 = .ok (.goto 4, 3) := dk_167 0 4 (dk_at dksX9_findBest_7 13 rfl rfl)
theorem dX9_findBest_175 : decode cX9_findBest 175 = .ok (.iconst (-1), 1) := dk_2 (dk_at dksX9_findBest_7 16 rfl rfl)
theorem dX9_findBest_176 : decode cX9_findBest 176 = .ok (.iastore, 1) := dk_79 (dk_at dksX9_findBest_7 17 rfl rfl)
theorem dX9_findBest_177 : decode cX9_findBest 177 = .ok (.iinc 7 1, 3) := dk_132 7 1 (dk_at dksX9_findBest_7 18 rfl rfl)
theorem dX9_findBest_180 : decode cX9_findBest 180 = .ok (.goto (-47), 3) := dk_167 255 209 (dk_at dksX9_findBest_7 21 rfl rfl)
theorem dX9_findBest_183 : decode cX9_findBest 183 = .ok (.goto 383, 3) := dk_167 1 127 (dk_at dksX9_findBest_8 0 rfl rfl)
theorem dX9_findBest_186 : decode cX9_findBest 186 = .ok (.aload_n 0, 1) := dk_42 (dk_at dksX9_findBest_8 3 rfl rfl)
theorem dX9_findBest_187 : decode cX9_findBest 187 = .ok (.getfield 63, 3) := dk_180 0 63 (dk_at dksX9_findBest_8 4 rfl rfl)
theorem dX9_findBest_190 : decode cX9_findBest 190 = .ok (.iload 5, 2) := dk_21 5 (dk_at dksX9_findBest_8 7 rfl rfl)
theorem dX9_findBest_192 : decode cX9_findBest 192 = .ok (.iaload, 1) := dk_46 (dk_at dksX9_findBest_8 9 rfl rfl)
theorem dX9_findBest_193 : decode cX9_findBest 193 = .ok (.istore 7, 2) := dk_54 7 (dk_at dksX9_findBest_8 10 rfl rfl)
theorem dX9_findBest_195 : decode cX9_findBest 195 = .ok (.iload 7, 2) := dk_21 7 (dk_at dksX9_findBest_8 12 rfl rfl)
theorem dX9_findBest_197 : decode cX9_findBest 197 = .ok (.iconst (-1), 1) := dk_2 (dk_at dksX9_findBest_8 14 rfl rfl)
theorem dX9_findBest_198 : decode cX9_findBest 198 = .ok (.if_icmp .ne 24, 3) := dk_160 0 24 (dk_at dksX9_findBest_8 15 rfl rfl)
theorem dX9_findBest_201 : decode cX9_findBest 201 = .ok (.iload_n 1, 1) := dk_27 (dk_at dksX9_findBest_8 18 rfl rfl)
theorem dX9_findBest_202 : decode cX9_findBest 202 = .ok (.aload_n 0, 1) := dk_42 (dk_at dksX9_findBest_8 19 rfl rfl)
theorem dX9_findBest_203 : decode cX9_findBest 203 = .ok (.iload 5, 2) := dk_21 5 (dk_at dksX9_findBest_8 20 rfl rfl)
theorem dX9_findBest_205 : decode cX9_findBest 205 = .ok (.invokevirtual 222, 3) := dk_182 0 222 (dk_at dksX9_findBest_9 0 rfl rfl)
theorem dX9_findBest_208 : decode cX9_findBest 208 = .ok (.isub, 1) := dk_100 (dk_at dksX9_findBest_9 3 rfl rfl)
theorem dX9_findBest_209 : decode cX9_findBest 209 = .ok (.istore_n 1, 1) := dk_60 (dk_at dksX9_findBest_9 4 rfl rfl)
theorem dX9_findBest_210 : decode cX9_findBest 210 = .ok (.iload_n 2, 1) := dk_28 (dk_at dksX9_findBest_9 5 rfl rfl)
theorem dX9_findBest_211 : decode cX9_findBest 211 = .ok (.aload_n 0, 1) := dk_42 (dk_at dksX9_findBest_9 6 rfl rfl)
theorem dX9_findBest_212 : decode cX9_findBest 212 = .ok (.iload 5, 2) := dk_21 5 (dk_at dksX9_findBest_9 7 rfl rfl)
theorem dX9_findBest_214 : decode cX9_findBest 214 = .ok (.invokevirtual 225, 3) := dk_182 0 225 (dk_at dksX9_findBest_9 9 rfl rfl)
theorem dX9_findBest_217 : decode cX9_findBest 217 = .ok (.isub, 1) := dk_100 (dk_at dksX9_findBest_9 12 rfl rfl)
theorem dX9_findBest_218 : decode cX9_findBest 218 = .ok (.istore_n 2, 1) := dk_61 (dk_at dksX9_findBest_9 13 rfl rfl)
theorem dX9_findBest_219 : decode cX9_findBest 219 = .ok (.goto 35, 3) := dk_167 0 35 (dk_at dksX9_findBest_9 14 rfl rfl)
theorem dX9_findBest_222 : decode cX9_findBest 222 = .ok (.iload 7, 2) := dk_21 7 (dk_at dksX9_findBest_9 17 rfl rfl)
theorem dX9_findBest_224 : decode cX9_findBest 224 = .ok (.aload_n 0, 1) := dk_42 (dk_at dksX9_findBest_9 19 rfl rfl)
theorem dX9_findBest_225 : decode cX9_findBest 225 = .ok (.getfield 50, 3) := dk_180 0 50 (dk_at dksX9_findBest_9 20 rfl rfl)
theorem dX9_findBest_228 : decode cX9_findBest 228 = .ok (.iload 5, 2) := dk_21 5 (dk_at dksX9_findBest_10 0 rfl rfl)
theorem dX9_findBest_230 : decode cX9_findBest 230 = .ok (.iaload, 1) := dk_46 (dk_at dksX9_findBest_10 2 rfl rfl)
theorem dX9_findBest_231 : decode cX9_findBest 231 = .ok (.if_icmp .ge 23, 3) := dk_162 0 23 (dk_at dksX9_findBest_10 3 rfl rfl)
theorem dX9_findBest_234 : decode cX9_findBest 234 = .ok (.iload_n 3, 1) := dk_29 (dk_at dksX9_findBest_10 6 rfl rfl)
theorem dX9_findBest_235 : decode cX9_findBest 235 = .ok (.aload_n 0, 1) := dk_42 (dk_at dksX9_findBest_10 7 rfl rfl)
theorem dX9_findBest_236 : decode cX9_findBest 236 = .ok (.iload 5, 2) := dk_21 5 (dk_at dksX9_findBest_10 8 rfl rfl)
theorem dX9_findBest_238 : decode cX9_findBest 238 = .ok (.invokevirtual 222, 3) := dk_182 0 222 (dk_at dksX9_findBest_10 10 rfl rfl)
theorem dX9_findBest_241 : decode cX9_findBest 241 = .ok (.isub, 1) := dk_100 (dk_at dksX9_findBest_10 13 rfl rfl)
theorem dX9_findBest_242 : decode cX9_findBest 242 = .ok (.istore_n 3, 1) := dk_62 (dk_at dksX9_findBest_10 14 rfl rfl)
theorem dX9_findBest_243 : decode cX9_findBest 243 = .ok (.iload 4, 2) := dk_21 4 (dk_at dksX9_findBest_10 15 rfl rfl)
theorem dX9_findBest_245 : decode cX9_findBest 245 = .ok (.aload_n 0, 1) := dk_42 (dk_at dksX9_findBest_10 17 rfl rfl)
theorem dX9_findBest_246 : decode cX9_findBest 246 = .ok (.iload 5, 2) := dk_21 5 (dk_at dksX9_findBest_10 18 rfl rfl)
theorem dX9_findBest_248 : decode cX9_findBest 248 = .ok (.invokevirtual 225, 3) := dk_182 0 225 (dk_at dksX9_findBest_10 20 rfl rfl)
theorem dX9_findBest_251 : decode cX9_findBest 251 = .ok (.isub, 1) := dk_100 (dk_at dksX9_findBest_10 23 rfl rfl)
theorem dX9_findBest_252 : decode cX9_findBest 252 = .ok (.istore 4, 2) := dk_54 4 (dk_at dksX9_findBest_11 0 rfl rfl)
theorem dX9_findBest_254 : decode cX9_findBest 254 = .ok (.iload 7, 2) := dk_21 7 (dk_at dksX9_findBest_11 2 rfl rfl)
theorem dX9_findBest_256 : decode cX9_findBest 256 = .ok (.iconst 1, 1) := dk_4 (dk_at dksX9_findBest_11 4 rfl rfl)
theorem dX9_findBest_257 : decode cX9_findBest 257 = .ok (.iadd, 1) := dk_96 (dk_at dksX9_findBest_11 5 rfl rfl)
theorem dX9_findBest_258 : decode cX9_findBest 258 = .ok (.istore 8, 2) := dk_54 8 (dk_at dksX9_findBest_11 6 rfl rfl)
theorem dX9_findBest_260 : decode cX9_findBest 260 = .ok (.iload_n 3, 1) := dk_29 (dk_at dksX9_findBest_11 8 rfl rfl)
theorem dX9_findBest_261 : decode cX9_findBest 261 = .ok (.aload_n 0, 1) := dk_42 (dk_at dksX9_findBest_11 9 rfl rfl)
theorem dX9_findBest_262 : decode cX9_findBest 262 = .ok (.iload 5, 2) := dk_21 5 (dk_at dksX9_findBest_11 10 rfl rfl)
theorem dX9_findBest_264 : decode cX9_findBest 264 = .ok (.invokevirtual 222, 3) := dk_182 0 222 (dk_at dksX9_findBest_11 12 rfl rfl)
theorem dX9_findBest_267 : decode cX9_findBest 267 = .ok (.iadd, 1) := dk_96 (dk_at dksX9_findBest_11 15 rfl rfl)
theorem dX9_findBest_268 : decode cX9_findBest 268 = .ok (.iload_n 1, 1) := dk_27 (dk_at dksX9_findBest_11 16 rfl rfl)
theorem dX9_findBest_269 : decode cX9_findBest 269 = .ok (.iadd, 1) := dk_96 (dk_at dksX9_findBest_11 17 rfl rfl)
theorem dX9_findBest_270 : decode cX9_findBest 270 = .ok (.aload_n 0, 1) := dk_42 (dk_at dksX9_findBest_11 18 rfl rfl)
theorem dX9_findBest_271 : decode cX9_findBest 271 = .ok (.getfield 228, 3) := dk_180 0 228 (dk_at dksX9_findBest_11 19 rfl rfl)
theorem dX9_findBest_274 : decode cX9_findBest 274 = .ok (.if_icmp .lt 45, 3) := dk_161 0 45 (dk_at dksX9_findBest_12 0 rfl rfl)
theorem dX9_findBest_277 : decode cX9_findBest 277 = .ok (.iload_n 3, 1) := dk_29 (dk_at dksX9_findBest_12 3 rfl rfl)
theorem dX9_findBest_278 : decode cX9_findBest 278 = .ok (.aload_n 0, 1) := dk_42 (dk_at dksX9_findBest_12 4 rfl rfl)
theorem dX9_findBest_279 : decode cX9_findBest 279 = .ok (.iload 5, 2) := dk_21 5 (dk_at dksX9_findBest_12 5 rfl rfl)
theorem dX9_findBest_281 : decode cX9_findBest 281 = .ok (.invokevirtual 222, 3) := dk_182 0 222 (dk_at dksX9_findBest_12 7 rfl rfl)
theorem dX9_findBest_284 : decode cX9_findBest 284 = .ok (.iadd, 1) := dk_96 (dk_at dksX9_findBest_12 10 rfl rfl)
theorem dX9_findBest_285 : decode cX9_findBest 285 = .ok (.iload_n 1, 1) := dk_27 (dk_at dksX9_findBest_12 11 rfl rfl)
theorem dX9_findBest_286 : decode cX9_findBest 286 = .ok (.iadd, 1) := dk_96 (dk_at dksX9_findBest_12 12 rfl rfl)
theorem dX9_findBest_287 : decode cX9_findBest 287 = .ok (.aload_n 0, 1) := dk_42 (dk_at dksX9_findBest_12 13 rfl rfl)
theorem dX9_findBest_288 : decode cX9_findBest 288 = .ok (.getfield 228, 3) := dk_180 0 228 (dk_at dksX9_findBest_12 14 rfl rfl)
theorem dX9_findBest_291 : decode cX9_findBest 291 = .ok (.if_icmp .ne 32, 3) := dk_160 0 32 (dk_at dksX9_findBest_12 17 rfl rfl)
theorem dX9_findBest_294 : decode cX9_findBest 294 = .ok (.iload 4, 2) := dk_21 4 (dk_at dksX9_findBest_12 20 rfl rfl)
theorem dX9_findBest_296 : decode cX9_findBest 296 = .ok (.aload_n 0, 1) := dk_42 (dk_at dksX9_findBest_12 22 rfl rfl)
theorem dX9_findBest_297 : decode cX9_findBest 297 = .ok (.iload 5, 2) := dk_21 5 (dk_at dksX9_findBest_13 0 rfl rfl)
theorem dX9_findBest_299 : decode cX9_findBest 299 = .ok (.invokevirtual 225, 3) := dk_182 0 225 (dk_at dksX9_findBest_13 2 rfl rfl)
theorem dX9_findBest_302 : decode cX9_findBest 302 = .ok (.iadd, 1) := dk_96 (dk_at dksX9_findBest_13 5 rfl rfl)
theorem dX9_findBest_303 : decode cX9_findBest 303 = .ok (.iload_n 2, 1) := dk_28 (dk_at dksX9_findBest_13 6 rfl rfl)
theorem dX9_findBest_304 : decode cX9_findBest 304 = .ok (.iadd, 1) := dk_96 (dk_at dksX9_findBest_13 7 rfl rfl)
theorem dX9_findBest_305 : decode cX9_findBest 305 = .ok (.aload_n 0, 1) := dk_42 (dk_at dksX9_findBest_13 8 rfl rfl)
theorem dX9_findBest_306 : decode cX9_findBest 306 = .ok (.getfield 231, 3) := dk_180 0 231 (dk_at dksX9_findBest_13 9 rfl rfl)
theorem dX9_findBest_309 : decode cX9_findBest 309 = .ok (.if_icmp .lt 14, 3) := dk_161 0 14 (dk_at dksX9_findBest_13 12 rfl rfl)
theorem dX9_findBest_312 : decode cX9_findBest 312 = .ok (.aload_n 0, 1) := dk_42 (dk_at dksX9_findBest_13 15 rfl rfl)
theorem dX9_findBest_313 : decode cX9_findBest 313 = .ok (.getfield 228, 3) := dk_180 0 228 (dk_at dksX9_findBest_13 16 rfl rfl)
theorem dX9_findBest_316 : decode cX9_findBest 316 = .ok (.ifCond .lt 7, 3) := dk_155 0 7 (dk_at dksX9_findBest_13 19 rfl rfl)
theorem dX9_findBest_319 : decode cX9_findBest 319 = .ok (.iconst 1, 1) := dk_4 (dk_at dksX9_findBest_13 22 rfl rfl)
theorem dX9_findBest_320 : decode cX9_findBest 320 = .ok (.goto 4, 3) := dk_167 0 4 (dk_at dksX9_findBest_14 0 rfl rfl)
theorem dX9_findBest_323 : decode cX9_findBest 323 = .ok (.iconst 0, 1) := dk_3 (dk_at dksX9_findBest_14 3 rfl rfl)
theorem dX9_findBest_324 : decode cX9_findBest 324 = .ok (.istore 9, 2) := dk_54 9 (dk_at dksX9_findBest_14 4 rfl rfl)
theorem dX9_findBest_326 : decode cX9_findBest 326 = .ok (.iload_n 3, 1) := dk_29 (dk_at dksX9_findBest_14 6 rfl rfl)
theorem dX9_findBest_327 : decode cX9_findBest 327 = .ok (.iload_n 1, 1) := dk_27 (dk_at dksX9_findBest_14 7 rfl rfl)
theorem dX9_findBest_328 : decode cX9_findBest 328 = .ok (.iadd, 1) := dk_96 (dk_at dksX9_findBest_14 8 rfl rfl)
theorem dX9_findBest_329 : decode cX9_findBest 329 = .ok (.aload_n 0, 1) := dk_42 (dk_at dksX9_findBest_14 9 rfl rfl)
theorem dX9_findBest_330 : decode cX9_findBest 330 = .ok (.getfield 228, 3) := dk_180 0 228 (dk_at dksX9_findBest_14 10 rfl rfl)
theorem dX9_findBest_333 : decode cX9_findBest 333 = .ok (.if_icmp .lt 31, 3) := dk_161 0 31 (dk_at dksX9_findBest_14 13 rfl rfl)
theorem dX9_findBest_336 : decode cX9_findBest 336 = .ok (.iload_n 3, 1) := dk_29 (dk_at dksX9_findBest_14 16 rfl rfl)
theorem dX9_findBest_337 : decode cX9_findBest 337 = .ok (.iload_n 1, 1) := dk_27 (dk_at dksX9_findBest_14 17 rfl rfl)
theorem dX9_findBest_338 : decode cX9_findBest 338 = .ok (.iadd, 1) := dk_96 (dk_at dksX9_findBest_14 18 rfl rfl)
theorem dX9_findBest_339 : decode cX9_findBest 339 = .ok (.aload_n 0, 1) := dk_42 (dk_at dksX9_findBest_14 19 rfl rfl)
theorem dX9_findBest_340 : decode cX9_findBest 340 = .ok (.getfield 228, 3) := dk_180 0 228 (dk_at dksX9_findBest_14 20 rfl rfl)
theorem dX9_findBest_343 : decode cX9_findBest 343 = .ok (.if_icmp .ne 25, 3) := dk_160 0 25 (dk_at dksX9_findBest_15 0 rfl rfl)
theorem dX9_findBest_346 : decode cX9_findBest 346 = .ok (.iload 4, 2) := dk_21 4 (dk_at dksX9_findBest_15 3 rfl rfl)
theorem dX9_findBest_348 : decode cX9_findBest 348 = .ok (.iload_n 2, 1) := dk_28 (dk_at dksX9_findBest_15 5 rfl rfl)
theorem dX9_findBest_349 : decode cX9_findBest 349 = .ok (.iadd, 1) := dk_96 (dk_at dksX9_findBest_15 6 rfl rfl)
theorem dX9_findBest_350 : decode cX9_findBest 350 = .ok (.aload_n 0, 1) := dk_42 (dk_at dksX9_findBest_15 7 rfl rfl)
theorem dX9_findBest_351 : decode cX9_findBest 351 = .ok (.getfield 231, 3) := dk_180 0 231 (dk_at dksX9_findBest_15 8 rfl rfl)
theorem dX9_findBest_354 : decode cX9_findBest 354 = .ok (.if_icmp .lt 14, 3) := dk_161 0 14 (dk_at dksX9_findBest_15 11 rfl rfl)
theorem dX9_findBest_357 : decode cX9_findBest 357 = .ok (.aload_n 0, 1) := dk_42 (dk_at dksX9_findBest_15 14 rfl rfl)
theorem dX9_findBest_358 : decode cX9_findBest 358 = .ok (.getfield 228, 3) := dk_180 0 228 (dk_at dksX9_findBest_15 15 rfl rfl)
theorem dX9_findBest_361 : decode cX9_findBest 361 = .ok (.ifCond .lt 7, 3) := dk_155 0 7 (dk_at dksX9_findBest_15 18 rfl rfl)
theorem dX9_findBest_364 : decode cX9_findBest 364 = .ok (.iconst 1, 1) := dk_4 (dk_at dksX9_findBest_15 21 rfl rfl)
theorem dX9_findBest_365 : decode cX9_findBest 365 = .ok (.goto 4, 3) := dk_167 0 4 (dk_at dksX9_findBest_16 0 rfl rfl)
theorem dX9_findBest_368 : decode cX9_findBest 368 = .ok (.iconst 0, 1) := dk_3 (dk_at dksX9_findBest_16 3 rfl rfl)
theorem dX9_findBest_369 : decode cX9_findBest 369 = .ok (.istore 10, 2) := dk_54 10 (dk_at dksX9_findBest_16 4 rfl rfl)
theorem dX9_findBest_371 : decode cX9_findBest 371 = .ok (.iload 9, 2) := dk_21 9 (dk_at dksX9_findBest_16 6 rfl rfl)
theorem dX9_findBest_373 : decode cX9_findBest 373 = .ok (.ifCond .eq 25, 3) := dk_153 0 25 (dk_at dksX9_findBest_16 8 rfl rfl)
theorem dX9_findBest_376 : decode cX9_findBest 376 = .ok (.iload 8, 2) := dk_21 8 (dk_at dksX9_findBest_16 11 rfl rfl)
theorem dX9_findBest_378 : decode cX9_findBest 378 = .ok (.aload_n 0, 1) := dk_42 (dk_at dksX9_findBest_16 13 rfl rfl)
theorem dX9_findBest_379 : decode cX9_findBest 379 = .ok (.getfield 50, 3) := dk_180 0 50 (dk_at dksX9_findBest_16 14 rfl rfl)
theorem dX9_findBest_382 : decode cX9_findBest 382 = .ok (.iload 5, 2) := dk_21 5 (dk_at dksX9_findBest_16 17 rfl rfl)
theorem dX9_findBest_384 : decode cX9_findBest 384 = .ok (.iaload, 1) := dk_46 (dk_at dksX9_findBest_16 19 rfl rfl)
theorem dX9_findBest_385 : decode cX9_findBest 385 = .ok (.if_icmp .ge 13, 3) := dk_162 0 13 (dk_at dksX9_findBest_16 20 rfl rfl)
theorem dX9_findBest_388 : decode cX9_findBest 388 = .ok (.aload_n 0, 1) := dk_42 (dk_at dksX9_findBest_16 23 rfl rfl)
theorem dX9_findBest_389 : decode cX9_findBest 389 = .ok (.getfield 50, 3) := dk_180 0 50 (dk_at dksX9_findBest_17 0 rfl rfl)
theorem dX9_findBest_392 : decode cX9_findBest 392 = .ok (.iload 5, 2) := dk_21 5 (dk_at dksX9_findBest_17 3 rfl rfl)
theorem dX9_findBest_394 : decode cX9_findBest 394 = .ok (.iaload, 1) := dk_46 (dk_at dksX9_findBest_17 5 rfl rfl)
theorem dX9_findBest_395 : decode cX9_findBest 395 = .ok (.goto 5, 3) := dk_167 0 5 (dk_at dksX9_findBest_17 6 rfl rfl)
theorem dX9_findBest_398 : decode cX9_findBest 398 = .ok (.iload 8, 2) := dk_21 8 (dk_at dksX9_findBest_17 9 rfl rfl)
theorem dX9_findBest_400 : decode cX9_findBest 400 = .ok (.istore 8, 2) := dk_54 8 (dk_at dksX9_findBest_17 11 rfl rfl)
theorem dX9_findBest_402 : decode cX9_findBest 402 = .ok (.iload 8, 2) := dk_21 8 (dk_at dksX9_findBest_17 13 rfl rfl)
theorem dX9_findBest_404 : decode cX9_findBest 404 = .ok (.aload_n 0, 1) := dk_42 (dk_at dksX9_findBest_17 15 rfl rfl)
theorem dX9_findBest_405 : decode cX9_findBest 405 = .ok (.getfield 50, 3) := dk_180 0 50 (dk_at dksX9_findBest_17 16 rfl rfl)
theorem dX9_findBest_408 : decode cX9_findBest 408 = .ok (.iload 5, 2) := dk_21 5 (dk_at dksX9_findBest_17 19 rfl rfl)
theorem dX9_findBest_410 : decode cX9_findBest 410 = .ok (.iaload, 1) := dk_46 (dk_at dksX9_findBest_17 21 rfl rfl)
theorem dX9_findBest_411 : decode cX9_findBest 411 = .ok (.if_icmp .ge 20, 3) := dk_162 0 20 (dk_at dksX9_findBest_18 0 rfl rfl)
theorem dX9_findBest_414 : decode cX9_findBest 414 = .ok (.aload_n 0, 1) := dk_42 (dk_at dksX9_findBest_18 3 rfl rfl)
theorem dX9_findBest_415 : decode cX9_findBest 415 = .ok (.iload 5, 2) := dk_21 5 (dk_at dksX9_findBest_18 4 rfl rfl)
theorem dX9_findBest_417 : decode cX9_findBest 417 = .ok (.iload 8, 2) := dk_21 8 (dk_at dksX9_findBest_18 6 rfl rfl)
theorem dX9_findBest_419 : decode cX9_findBest 419 = .ok (.invokevirtual 234, 3) := dk_182 0 234 (dk_at dksX9_findBest_18 8 rfl rfl)
theorem dX9_findBest_422 : decode cX9_findBest 422 = .ok (.ifCond .ne 9, 3) := dk_154 0 9 (dk_at dksX9_findBest_18 11 rfl rfl)
theorem dX9_findBest_425 : decode cX9_findBest 425 = .ok (.iinc 8 1, 3) := dk_132 8 1 (dk_at dksX9_findBest_18 14 rfl rfl)
theorem dX9_findBest_428 : decode cX9_findBest 428 = .ok (.goto (-26), 3) := dk_167 255 230 (dk_at dksX9_findBest_18 17 rfl rfl)
theorem dX9_findBest_431 : decode cX9_findBest 431 = .ok (.iload 8, 2) := dk_21 8 (dk_at dksX9_findBest_18 20 rfl rfl)
theorem dX9_findBest_433 : decode cX9_findBest 433 = .ok (.aload_n 0, 1) := dk_42 (dk_at dksX9_findBest_18 22 rfl rfl)
theorem dX9_findBest_434 : decode cX9_findBest 434 = .ok (.getfield 50, 3) := dk_180 0 50 (dk_at dksX9_findBest_19 0 rfl rfl)
theorem dX9_findBest_437 : decode cX9_findBest 437 = .ok (.iload 5, 2) := dk_21 5 (dk_at dksX9_findBest_19 3 rfl rfl)
theorem dX9_findBest_439 : decode cX9_findBest 439 = .ok (.iaload, 1) := dk_46 (dk_at dksX9_findBest_19 5 rfl rfl)
theorem dX9_findBest_440 : decode cX9_findBest 440 = .ok (.if_icmp .gt 20, 3) := dk_163 0 20 (dk_at dksX9_findBest_19 6 rfl rfl)
theorem dX9_findBest_443 : decode cX9_findBest 443 = .ok (.iload 8, 2) := dk_21 8 (dk_at dksX9_findBest_19 9 rfl rfl)
theorem dX9_findBest_445 : decode cX9_findBest 445 = .ok (.aload_n 0, 1) := dk_42 (dk_at dksX9_findBest_19 11 rfl rfl)
theorem dX9_findBest_446 : decode cX9_findBest 446 = .ok (.getfield 50, 3) := dk_180 0 50 (dk_at dksX9_findBest_19 12 rfl rfl)
theorem dX9_findBest_449 : decode cX9_findBest 449 = .ok (.iload 5, 2) := dk_21 5 (dk_at dksX9_findBest_19 15 rfl rfl)
theorem dX9_findBest_451 : decode cX9_findBest 451 = .ok (.iaload, 1) := dk_46 (dk_at dksX9_findBest_19 17 rfl rfl)
theorem dX9_findBest_452 : decode cX9_findBest 452 = .ok (.if_icmp .ne 12, 3) := dk_160 0 12 (dk_at dksX9_findBest_19 18 rfl rfl)
theorem dX9_findBest_455 : decode cX9_findBest 455 = .ok (.iload 10, 2) := dk_21 10 (dk_at dksX9_findBest_19 21 rfl rfl)
theorem dX9_findBest_457 : decode cX9_findBest 457 = .ok (.ifCond .eq 7, 3) := dk_153 0 7 (dk_at dksX9_findBest_20 0 rfl rfl)
theorem dX9_findBest_460 : decode cX9_findBest 460 = .ok (.iconst 1, 1) := dk_4 (dk_at dksX9_findBest_20 3 rfl rfl)
theorem dX9_findBest_461 : decode cX9_findBest 461 = .ok (.goto 4, 3) := dk_167 0 4 (dk_at dksX9_findBest_20 4 rfl rfl)
theorem dX9_findBest_464 : decode cX9_findBest 464 = .ok (.iconst 0, 1) := dk_3 (dk_at dksX9_findBest_20 7 rfl rfl)
theorem dX9_findBest_465 : decode cX9_findBest 465 = .ok (.istore 6, 2) := dk_54 6 (dk_at dksX9_findBest_20 8 rfl rfl)
theorem dX9_findBest_467 : decode cX9_findBest 467 = .ok (.aload_n 0, 1) := dk_42 (dk_at dksX9_findBest_20 10 rfl rfl)
theorem dX9_findBest_468 : decode cX9_findBest 468 = .ok (.getfield 63, 3) := dk_180 0 63 (dk_at dksX9_findBest_20 11 rfl rfl)
theorem dX9_findBest_471 : decode cX9_findBest 471 = .ok (.iload 5, 2) := dk_21 5 (dk_at dksX9_findBest_20 14 rfl rfl)
theorem dX9_findBest_473 : decode cX9_findBest 473 = .ok (.iload 6, 2) := dk_21 6 (dk_at dksX9_findBest_20 16 rfl rfl)
theorem dX9_findBest_475 : decode cX9_findBest 475 = .ok (.ifCond .eq 7, 3) := dk_153 0 7 (dk_at dksX9_findBest_20 18 rfl rfl)
theorem dX9_findBest_478 : decode cX9_findBest 478 = .ok (.iconst (-1), 1) := dk_2 (dk_at dksX9_findBest_20 21 rfl rfl)
theorem dX9_findBest_479 : decode cX9_findBest 479 = .ok (.goto 5, 3) := dk_167 0 5 (dk_at dksX9_findBest_21 0 rfl rfl)
theorem dX9_findBest_482 : decode cX9_findBest 482 = .ok (.iload 8, 2) := dk_21 8 (dk_at dksX9_findBest_21 3 rfl rfl)
theorem dX9_findBest_484 : decode cX9_findBest 484 = .ok (.iastore, 1) := dk_79 (dk_at dksX9_findBest_21 5 rfl rfl)
theorem dX9_findBest_485 : decode cX9_findBest 485 = .ok (.iload 6, 2) := dk_21 6 (dk_at dksX9_findBest_21 6 rfl rfl)
theorem dX9_findBest_487 : decode cX9_findBest 487 = .ok (.ifCond .eq 24, 3) := dk_153 0 24 (dk_at dksX9_findBest_21 8 rfl rfl)
theorem dX9_findBest_490 : decode cX9_findBest 490 = .ok (.iload_n 1, 1) := dk_27 (dk_at dksX9_findBest_21 11 rfl rfl)
theorem dX9_findBest_491 : decode cX9_findBest 491 = .ok (.aload_n 0, 1) := dk_42 (dk_at dksX9_findBest_21 12 rfl rfl)
theorem dX9_findBest_492 : decode cX9_findBest 492 = .ok (.iload 5, 2) := dk_21 5 (dk_at dksX9_findBest_21 13 rfl rfl)
theorem dX9_findBest_494 : decode cX9_findBest 494 = .ok (.invokevirtual 222, 3) := dk_182 0 222 (dk_at dksX9_findBest_21 15 rfl rfl)
theorem dX9_findBest_497 : decode cX9_findBest 497 = .ok (.iadd, 1) := dk_96 (dk_at dksX9_findBest_21 18 rfl rfl)
theorem dX9_findBest_498 : decode cX9_findBest 498 = .ok (.istore_n 1, 1) := dk_60 (dk_at dksX9_findBest_21 19 rfl rfl)
theorem dX9_findBest_499 : decode cX9_findBest 499 = .ok (.iload_n 2, 1) := dk_28 (dk_at dksX9_findBest_21 20 rfl rfl)
theorem dX9_findBest_500 : decode cX9_findBest 500 = .ok (.aload_n 0, 1) := dk_42 (dk_at dksX9_findBest_21 21 rfl rfl)
theorem dX9_findBest_501 : decode cX9_findBest 501 = .ok (.iload 5, 2) := dk_21 5 (dk_at dksX9_findBest_21 22 rfl rfl)
theorem dX9_findBest_503 : decode cX9_findBest 503 = .ok (.invokevirtual 225, 3) := dk_182 0 225 (dk_at dksX9_findBest_22 0 rfl rfl)
theorem dX9_findBest_506 : decode cX9_findBest 506 = .ok (.iadd, 1) := dk_96 (dk_at dksX9_findBest_22 3 rfl rfl)
theorem dX9_findBest_507 : decode cX9_findBest 507 = .ok (.istore_n 2, 1) := dk_61 (dk_at dksX9_findBest_22 4 rfl rfl)
theorem dX9_findBest_508 : decode cX9_findBest 508 = .ok (.goto 58, 3) := dk_167 0 58 (dk_at dksX9_findBest_22 5 rfl rfl)
theorem dX9_findBest_511 : decode cX9_findBest 511 = .ok (.iload_n 3, 1) := dk_29 (dk_at dksX9_findBest_22 8 rfl rfl)
theorem dX9_findBest_512 : decode cX9_findBest 512 = .ok (.iload 8, 2) := dk_21 8 (dk_at dksX9_findBest_22 9 rfl rfl)
theorem dX9_findBest_514 : decode cX9_findBest 514 = .ok (.aload_n 0, 1) := dk_42 (dk_at dksX9_findBest_22 11 rfl rfl)
theorem dX9_findBest_515 : decode cX9_findBest 515 = .ok (.getfield 50, 3) := dk_180 0 50 (dk_at dksX9_findBest_22 12 rfl rfl)
theorem dX9_findBest_518 : decode cX9_findBest 518 = .ok (.iload 5, 2) := dk_21 5 (dk_at dksX9_findBest_22 15 rfl rfl)
theorem dX9_findBest_520 : decode cX9_findBest 520 = .ok (.iaload, 1) := dk_46 (dk_at dksX9_findBest_22 17 rfl rfl)
theorem dX9_findBest_521 : decode cX9_findBest 521 = .ok (.if_icmp .ge 12, 3) := dk_162 0 12 (dk_at dksX9_findBest_22 18 rfl rfl)
theorem dX9_findBest_524 : decode cX9_findBest 524 = .ok (.aload_n 0, 1) := dk_42 (dk_at dksX9_findBest_22 21 rfl rfl)
theorem dX9_findBest_525 : decode cX9_findBest 525 = .ok (.iload 5, 2) := dk_21 5 (dk_at dksX9_findBest_22 22 rfl rfl)
theorem dX9_findBest_527 : decode cX9_findBest 527 = .ok (.invokevirtual 222, 3) := dk_182 0 222 (dk_at dksX9_findBest_23 0 rfl rfl)
theorem dX9_findBest_530 : decode cX9_findBest 530 = .ok (.goto 4, 3) := dk_167 0 4 (dk_at dksX9_findBest_23 3 rfl rfl)
theorem dX9_findBest_533 : decode cX9_findBest 533 = .ok (.iconst 0, 1) := dk_3 (dk_at dksX9_findBest_23 6 rfl rfl)
theorem dX9_findBest_534 : decode cX9_findBest 534 = .ok (.iadd, 1) := dk_96 (dk_at dksX9_findBest_23 7 rfl rfl)
theorem dX9_findBest_535 : decode cX9_findBest 535 = .ok (.istore_n 3, 1) := dk_62 (dk_at dksX9_findBest_23 8 rfl rfl)
theorem dX9_findBest_536 : decode cX9_findBest 536 = .ok (.iload 4, 2) := dk_21 4 (dk_at dksX9_findBest_23 9 rfl rfl)
theorem dX9_findBest_538 : decode cX9_findBest 538 = .ok (.iload 8, 2) := dk_21 8 (dk_at dksX9_findBest_23 11 rfl rfl)
theorem dX9_findBest_540 : decode cX9_findBest 540 = .ok (.aload_n 0, 1) := dk_42 (dk_at dksX9_findBest_23 13 rfl rfl)
theorem dX9_findBest_541 : decode cX9_findBest 541 = .ok (.getfield 50, 3) := dk_180 0 50 (dk_at dksX9_findBest_23 14 rfl rfl)
theorem dX9_findBest_544 : decode cX9_findBest 544 = .ok (.iload 5, 2) := dk_21 5 (dk_at dksX9_findBest_23 17 rfl rfl)
theorem dX9_findBest_546 : decode cX9_findBest 546 = .ok (.iaload, 1) := dk_46 (dk_at dksX9_findBest_23 19 rfl rfl)
theorem dX9_findBest_547 : decode cX9_findBest 547 = .ok (.if_icmp .ge 12, 3) := dk_162 0 12 (dk_at dksX9_findBest_23 20 rfl rfl)
theorem dX9_findBest_550 : decode cX9_findBest 550 = .ok (.aload_n 0, 1) := dk_42 (dk_at dksX9_findBest_23 23 rfl rfl)
theorem dX9_findBest_551 : decode cX9_findBest 551 = .ok (.iload 5, 2) := dk_21 5 (dk_at dksX9_findBest_24 0 rfl rfl)
theorem dX9_findBest_553 : decode cX9_findBest 553 = .ok (.invokevirtual 225, 3) := dk_182 0 225 (dk_at dksX9_findBest_24 2 rfl rfl)
theorem dX9_findBest_556 : decode cX9_findBest 556 = .ok (.goto 4, 3) := dk_167 0 4 (dk_at dksX9_findBest_24 5 rfl rfl)
theorem dX9_findBest_559 : decode cX9_findBest 559 = .ok (.iconst 0, 1) := dk_3 (dk_at dksX9_findBest_24 8 rfl rfl)
theorem dX9_findBest_560 : decode cX9_findBest 560 = .ok (.iadd, 1) := dk_96 (dk_at dksX9_findBest_24 9 rfl rfl)
theorem dX9_findBest_561 : decode cX9_findBest 561 = .ok (.istore 4, 2) := dk_54 4 (dk_at dksX9_findBest_24 10 rfl rfl)
theorem dX9_findBest_563 : decode cX9_findBest 563 = .ok (.iinc 5 1, 3) := dk_132 5 1 (dk_at dksX9_findBest_24 12 rfl rfl)
theorem dX9_findBest_566 : decode cX9_findBest 566 = .ok (.iload 5, 2) := dk_21 5 (dk_at dksX9_findBest_24 15 rfl rfl)
theorem dX9_findBest_568 : decode cX9_findBest 568 = .ok (.iload 6, 2) := dk_21 6 (dk_at dksX9_findBest_24 17 rfl rfl)
theorem dX9_findBest_570 : decode cX9_findBest 570 = .ok (.ifCond .eq 7, 3) := dk_153 0 7 (dk_at dksX9_findBest_24 19 rfl rfl)
theorem dX9_findBest_573 : decode cX9_findBest 573 = .ok (.iconst 1, 1) := dk_4 (dk_at dksX9_findBest_24 22 rfl rfl)
theorem dX9_findBest_574 : decode cX9_findBest 574 = .ok (.goto 4, 3) := dk_167 0 4 (dk_at dksX9_findBest_25 0 rfl rfl)
theorem dX9_findBest_577 : decode cX9_findBest 577 = .ok (.iconst 0, 1) := dk_3 (dk_at dksX9_findBest_25 3 rfl rfl)
theorem dX9_findBest_578 : decode cX9_findBest 578 = .ok (.isub, 1) := dk_100 (dk_at dksX9_findBest_25 4 rfl rfl)
theorem dX9_findBest_579 : decode cX9_findBest 579 = .ok (.istore 5, 2) := dk_54 5 (dk_at dksX9_findBest_25 5 rfl rfl)
theorem dX9_findBest_581 : decode cX9_findBest 581 = .ok (.goto (-513), 3) := dk_167 253 255 (dk_at dksX9_findBest_25 7 rfl rfl)
theorem dX9_findBest_584 : decode cX9_findBest 584 = .ok (.return_, 1) := dk_177 (dk_at dksX9_findBest_25 10 rfl rfl)
abbrev cX9_worthOf : ByteArray := prog_16_method_31_code
def yX9_worthOf : MethodName := ⟨RX9, "worthOf", "(I)I"⟩
def dkwX9_worthOf_0 : List UInt8 := [42, 180, 0, 47, 16, 23, 27, 104, 6, 96, 46, 172]
abbrev dktX9_worthOf_0 : List UInt8 := dkwX9_worthOf_0 ++ []
theorem dksX9_worthOf_0 : cX9_worthOf.data.toList.drop 0 = dktX9_worthOf_0 := by decide +kernel
theorem dX9_worthOf_0 : decode cX9_worthOf 0 = .ok (.aload_n 0, 1) := dk_42 (dk_at dksX9_worthOf_0 0 rfl rfl)
theorem dX9_worthOf_1 : decode cX9_worthOf 1 = .ok (.getfield 47, 3) := dk_180 0 47 (dk_at dksX9_worthOf_0 1 rfl rfl)
theorem dX9_worthOf_4 : decode cX9_worthOf 4 = .ok (.bipush 23, 2) := dk_16 23 (dk_at dksX9_worthOf_0 4 rfl rfl)
theorem dX9_worthOf_6 : decode cX9_worthOf 6 = .ok (.iload_n 1, 1) := dk_27 (dk_at dksX9_worthOf_0 6 rfl rfl)
theorem dX9_worthOf_7 : decode cX9_worthOf 7 = .ok (.imul, 1) := dk_104 (dk_at dksX9_worthOf_0 7 rfl rfl)
theorem dX9_worthOf_8 : decode cX9_worthOf 8 = .ok (.iconst 3, 1) := dk_6 (dk_at dksX9_worthOf_0 8 rfl rfl)
theorem dX9_worthOf_9 : decode cX9_worthOf 9 = .ok (.iadd, 1) := dk_96 (dk_at dksX9_worthOf_0 9 rfl rfl)
theorem dX9_worthOf_10 : decode cX9_worthOf 10 = .ok (.iaload, 1) := dk_46 (dk_at dksX9_worthOf_0 10 rfl rfl)
theorem dX9_worthOf_11 : decode cX9_worthOf 11 = .ok (.ireturn, 1) := dk_172 (dk_at dksX9_worthOf_0 11 rfl rfl)
abbrev cX9_slotsNeeded : ByteArray := prog_16_method_46_code
def yX9_slotsNeeded : MethodName := ⟨RX9, "slotsNeeded", "(I)I"⟩
def dkwX9_slotsNeeded_1 : List UInt8 := [132, 3, 1, 167, 255, 234, 28, 172]
abbrev dktX9_slotsNeeded_1 : List UInt8 := dkwX9_slotsNeeded_1 ++ []
def dkwX9_slotsNeeded_0 : List UInt8 := [3, 61, 3, 62, 29, 42, 27, 182, 0, 209, 162, 0, 19, 28, 42, 27, 29, 3, 182, 0, 194, 96, 61]
abbrev dktX9_slotsNeeded_0 : List UInt8 := dkwX9_slotsNeeded_0 ++ dktX9_slotsNeeded_1
theorem dksX9_slotsNeeded_0 : cX9_slotsNeeded.data.toList.drop 0 = dktX9_slotsNeeded_0 := by decide +kernel
theorem dksX9_slotsNeeded_1 : cX9_slotsNeeded.data.toList.drop 23 = dktX9_slotsNeeded_1 := dk_seg dksX9_slotsNeeded_0 23 rfl rfl
theorem dX9_slotsNeeded_0 : decode cX9_slotsNeeded 0 = .ok (.iconst 0, 1) := dk_3 (dk_at dksX9_slotsNeeded_0 0 rfl rfl)
theorem dX9_slotsNeeded_1 : decode cX9_slotsNeeded 1 = .ok (.istore_n 2, 1) := dk_61 (dk_at dksX9_slotsNeeded_0 1 rfl rfl)
theorem dX9_slotsNeeded_2 : decode cX9_slotsNeeded 2 = .ok (.iconst 0, 1) := dk_3 (dk_at dksX9_slotsNeeded_0 2 rfl rfl)
theorem dX9_slotsNeeded_3 : decode cX9_slotsNeeded 3 = .ok (.istore_n 3, 1) := dk_62 (dk_at dksX9_slotsNeeded_0 3 rfl rfl)
theorem dX9_slotsNeeded_4 : decode cX9_slotsNeeded 4 = .ok (.iload_n 3, 1) := dk_29 (dk_at dksX9_slotsNeeded_0 4 rfl rfl)
theorem dX9_slotsNeeded_5 : decode cX9_slotsNeeded 5 = .ok (.aload_n 0, 1) := dk_42 (dk_at dksX9_slotsNeeded_0 5 rfl rfl)
theorem dX9_slotsNeeded_6 : decode cX9_slotsNeeded 6 = .ok (.iload_n 1, 1) := dk_27 (dk_at dksX9_slotsNeeded_0 6 rfl rfl)
theorem dX9_slotsNeeded_7 : decode cX9_slotsNeeded 7 = .ok (.invokevirtual 209, 3) := dk_182 0 209 (dk_at dksX9_slotsNeeded_0 7 rfl rfl)
theorem dX9_slotsNeeded_10 : decode cX9_slotsNeeded 10 = .ok (.if_icmp .ge 19, 3) := dk_162 0 19 (dk_at dksX9_slotsNeeded_0 10 rfl rfl)
theorem dX9_slotsNeeded_13 : decode cX9_slotsNeeded 13 = .ok (.iload_n 2, 1) := dk_28 (dk_at dksX9_slotsNeeded_0 13 rfl rfl)
theorem dX9_slotsNeeded_14 : decode cX9_slotsNeeded 14 = .ok (.aload_n 0, 1) := dk_42 (dk_at dksX9_slotsNeeded_0 14 rfl rfl)
theorem dX9_slotsNeeded_15 : decode cX9_slotsNeeded 15 = .ok (.iload_n 1, 1) := dk_27 (dk_at dksX9_slotsNeeded_0 15 rfl rfl)
theorem dX9_slotsNeeded_16 : decode cX9_slotsNeeded 16 = .ok (.iload_n 3, 1) := dk_29 (dk_at dksX9_slotsNeeded_0 16 rfl rfl)
theorem dX9_slotsNeeded_17 : decode cX9_slotsNeeded 17 = .ok (.iconst 0, 1) := dk_3 (dk_at dksX9_slotsNeeded_0 17 rfl rfl)
theorem dX9_slotsNeeded_18 : decode cX9_slotsNeeded 18 = .ok (.invokevirtual 194, 3) := dk_182 0 194 (dk_at dksX9_slotsNeeded_0 18 rfl rfl)
theorem dX9_slotsNeeded_21 : decode cX9_slotsNeeded 21 = .ok (.iadd, 1) := dk_96 (dk_at dksX9_slotsNeeded_0 21 rfl rfl)
theorem dX9_slotsNeeded_22 : decode cX9_slotsNeeded 22 = .ok (.istore_n 2, 1) := dk_61 (dk_at dksX9_slotsNeeded_0 22 rfl rfl)
theorem dX9_slotsNeeded_23 : decode cX9_slotsNeeded 23 = .ok (.iinc 3 1, 3) := dk_132 3 1 (dk_at dksX9_slotsNeeded_1 0 rfl rfl)
theorem dX9_slotsNeeded_26 : decode cX9_slotsNeeded 26 = .ok (.goto (-22), 3) := dk_167 255 234 (dk_at dksX9_slotsNeeded_1 3 rfl rfl)
theorem dX9_slotsNeeded_29 : decode cX9_slotsNeeded 29 = .ok (.iload_n 2, 1) := dk_28 (dk_at dksX9_slotsNeeded_1 6 rfl rfl)
theorem dX9_slotsNeeded_30 : decode cX9_slotsNeeded 30 = .ok (.ireturn, 1) := dk_172 (dk_at dksX9_slotsNeeded_1 7 rfl rfl)
abbrev cX9_goWithAll : ByteArray := prog_16_method_43_code
def yX9_goWithAll : MethodName := ⟨RX9, "goWithAll", "(II)Z"⟩
def dkwX9_goWithAll_4 : List UInt8 := [62, 132, 4, 1, 167, 255, 180, 29, 172]
abbrev dktX9_goWithAll_4 : List UInt8 := dkwX9_goWithAll_4 ++ []
def dkwX9_goWithAll_3 : List UInt8 := [46, 42, 180, 0, 47, 16, 23, 21, 4, 104, 4, 96, 46, 182, 0, 219, 153, 0, 7, 4, 167, 0, 4, 3]
abbrev dktX9_goWithAll_3 : List UInt8 := dkwX9_goWithAll_3 ++ dktX9_goWithAll_4
def dkwX9_goWithAll_2 : List UInt8 := [162, 0, 43, 42, 27, 28, 42, 180, 0, 53, 17, 0, 200, 21, 4, 104, 42, 180, 0, 63, 21, 4, 46, 96]
abbrev dktX9_goWithAll_2 : List UInt8 := dkwX9_goWithAll_2 ++ dktX9_goWithAll_3
def dkwX9_goWithAll_1 : List UInt8 := [21, 4, 27, 162, 0, 76, 29, 153, 0, 72, 42, 180, 0, 63, 21, 4, 46, 42, 180, 0, 50, 21, 4, 46]
abbrev dktX9_goWithAll_1 : List UInt8 := dkwX9_goWithAll_1 ++ dktX9_goWithAll_2
def dkwX9_goWithAll_0 : List UInt8 := [42, 180, 0, 59, 17, 0, 200, 27, 104, 28, 96, 51, 154, 0, 7, 4, 167, 0, 4, 3, 62, 3, 54, 4]
abbrev dktX9_goWithAll_0 : List UInt8 := dkwX9_goWithAll_0 ++ dktX9_goWithAll_1
theorem dksX9_goWithAll_0 : cX9_goWithAll.data.toList.drop 0 = dktX9_goWithAll_0 := by decide +kernel
theorem dksX9_goWithAll_1 : cX9_goWithAll.data.toList.drop 24 = dktX9_goWithAll_1 := dk_seg dksX9_goWithAll_0 24 rfl rfl
theorem dksX9_goWithAll_2 : cX9_goWithAll.data.toList.drop 48 = dktX9_goWithAll_2 := dk_seg dksX9_goWithAll_1 24 rfl rfl
theorem dksX9_goWithAll_3 : cX9_goWithAll.data.toList.drop 72 = dktX9_goWithAll_3 := dk_seg dksX9_goWithAll_2 24 rfl rfl
theorem dksX9_goWithAll_4 : cX9_goWithAll.data.toList.drop 96 = dktX9_goWithAll_4 := dk_seg dksX9_goWithAll_3 24 rfl rfl
theorem dX9_goWithAll_0 : decode cX9_goWithAll 0 = .ok (.aload_n 0, 1) := dk_42 (dk_at dksX9_goWithAll_0 0 rfl rfl)
theorem dX9_goWithAll_1 : decode cX9_goWithAll 1 = .ok (.getfield 59, 3) := dk_180 0 59 (dk_at dksX9_goWithAll_0 1 rfl rfl)
theorem dX9_goWithAll_4 : decode cX9_goWithAll 4 = .ok (.sipush 200, 3) := dk_17 0 200 (dk_at dksX9_goWithAll_0 4 rfl rfl)
theorem dX9_goWithAll_7 : decode cX9_goWithAll 7 = .ok (.iload_n 1, 1) := dk_27 (dk_at dksX9_goWithAll_0 7 rfl rfl)
theorem dX9_goWithAll_8 : decode cX9_goWithAll 8 = .ok (.imul, 1) := dk_104 (dk_at dksX9_goWithAll_0 8 rfl rfl)
theorem dX9_goWithAll_9 : decode cX9_goWithAll 9 = .ok (.iload_n 2, 1) := dk_28 (dk_at dksX9_goWithAll_0 9 rfl rfl)
theorem dX9_goWithAll_10 : decode cX9_goWithAll 10 = .ok (.iadd, 1) := dk_96 (dk_at dksX9_goWithAll_0 10 rfl rfl)
theorem dX9_goWithAll_11 : decode cX9_goWithAll 11 = .ok (.baload, 1) := dk_51 (dk_at dksX9_goWithAll_0 11 rfl rfl)
theorem dX9_goWithAll_12 : decode cX9_goWithAll 12 = .ok (.ifCond .ne 7, 3) := dk_154 0 7 (dk_at dksX9_goWithAll_0 12 rfl rfl)
theorem dX9_goWithAll_15 : decode cX9_goWithAll 15 = .ok (.iconst 1, 1) := dk_4 (dk_at dksX9_goWithAll_0 15 rfl rfl)
theorem dX9_goWithAll_16 : decode cX9_goWithAll 16 = .ok (.goto 4, 3) := dk_167 0 4 (dk_at dksX9_goWithAll_0 16 rfl rfl)
theorem dX9_goWithAll_19 : decode cX9_goWithAll 19 = .ok (.iconst 0, 1) := dk_3 (dk_at dksX9_goWithAll_0 19 rfl rfl)
theorem dX9_goWithAll_20 : decode cX9_goWithAll 20 = .ok (.istore_n 3, 1) := dk_62 (dk_at dksX9_goWithAll_0 20 rfl rfl)
theorem dX9_goWithAll_21 : decode cX9_goWithAll 21 = .ok (.iconst 0, 1) := dk_3 (dk_at dksX9_goWithAll_0 21 rfl rfl)
theorem dX9_goWithAll_22 : decode cX9_goWithAll 22 = .ok (.istore 4, 2) := dk_54 4 (dk_at dksX9_goWithAll_0 22 rfl rfl)
theorem dX9_goWithAll_24 : decode cX9_goWithAll 24 = .ok (.iload 4, 2) := dk_21 4 (dk_at dksX9_goWithAll_1 0 rfl rfl)
theorem dX9_goWithAll_26 : decode cX9_goWithAll 26 = .ok (.iload_n 1, 1) := dk_27 (dk_at dksX9_goWithAll_1 2 rfl rfl)
theorem dX9_goWithAll_27 : decode cX9_goWithAll 27 = .ok (.if_icmp .ge 76, 3) := dk_162 0 76 (dk_at dksX9_goWithAll_1 3 rfl rfl)
theorem dX9_goWithAll_30 : decode cX9_goWithAll 30 = .ok (.iload_n 3, 1) := dk_29 (dk_at dksX9_goWithAll_1 6 rfl rfl)
theorem dX9_goWithAll_31 : decode cX9_goWithAll 31 = .ok (.ifCond .eq 72, 3) := dk_153 0 72 (dk_at dksX9_goWithAll_1 7 rfl rfl)
theorem dX9_goWithAll_34 : decode cX9_goWithAll 34 = .ok (.aload_n 0, 1) := dk_42 (dk_at dksX9_goWithAll_1 10 rfl rfl)
theorem dX9_goWithAll_35 : decode cX9_goWithAll 35 = .ok (.getfield 63, 3) := dk_180 0 63 (dk_at dksX9_goWithAll_1 11 rfl rfl)
theorem dX9_goWithAll_38 : decode cX9_goWithAll 38 = .ok (.iload 4, 2) := dk_21 4 (dk_at dksX9_goWithAll_1 14 rfl rfl)
theorem dX9_goWithAll_40 : decode cX9_goWithAll 40 = .ok (.iaload, 1) := dk_46 (dk_at dksX9_goWithAll_1 16 rfl rfl)
theorem dX9_goWithAll_41 : decode cX9_goWithAll 41 = .ok (.aload_n 0, 1) := dk_42 (dk_at dksX9_goWithAll_1 17 rfl rfl)
theorem dX9_goWithAll_42 : decode cX9_goWithAll 42 = .ok (.getfield 50, 3) := dk_180 0 50 (dk_at dksX9_goWithAll_1 18 rfl rfl)
theorem dX9_goWithAll_45 : decode cX9_goWithAll 45 = .ok (.iload 4, 2) := dk_21 4 (dk_at dksX9_goWithAll_1 21 rfl rfl)
theorem dX9_goWithAll_47 : decode cX9_goWithAll 47 = .ok (.iaload, 1) := dk_46 (dk_at dksX9_goWithAll_1 23 rfl rfl)
theorem dX9_goWithAll_48 : decode cX9_goWithAll 48 = .ok (.if_icmp .ge 43, 3) := dk_162 0 43 (dk_at dksX9_goWithAll_2 0 rfl rfl)
theorem dX9_goWithAll_51 : decode cX9_goWithAll 51 = .ok (.aload_n 0, 1) := dk_42 (dk_at dksX9_goWithAll_2 3 rfl rfl)
theorem dX9_goWithAll_52 : decode cX9_goWithAll 52 = .ok (.iload_n 1, 1) := dk_27 (dk_at dksX9_goWithAll_2 4 rfl rfl)
theorem dX9_goWithAll_53 : decode cX9_goWithAll 53 = .ok (.iload_n 2, 1) := dk_28 (dk_at dksX9_goWithAll_2 5 rfl rfl)
theorem dX9_goWithAll_54 : decode cX9_goWithAll 54 = .ok (.aload_n 0, 1) := dk_42 (dk_at dksX9_goWithAll_2 6 rfl rfl)
theorem dX9_goWithAll_55 : decode cX9_goWithAll 55 = .ok (.getfield 53, 3) := dk_180 0 53 (dk_at dksX9_goWithAll_2 7 rfl rfl)
theorem dX9_goWithAll_58 : decode cX9_goWithAll 58 = .ok (.sipush 200, 3) := dk_17 0 200 (dk_at dksX9_goWithAll_2 10 rfl rfl)
theorem dX9_goWithAll_61 : decode cX9_goWithAll 61 = .ok (.iload 4, 2) := dk_21 4 (dk_at dksX9_goWithAll_2 13 rfl rfl)
theorem dX9_goWithAll_63 : decode cX9_goWithAll 63 = .ok (.imul, 1) := dk_104 (dk_at dksX9_goWithAll_2 15 rfl rfl)
theorem dX9_goWithAll_64 : decode cX9_goWithAll 64 = .ok (.aload_n 0, 1) := dk_42 (dk_at dksX9_goWithAll_2 16 rfl rfl)
theorem dX9_goWithAll_65 : decode cX9_goWithAll 65 = .ok (.getfield 63, 3) := dk_180 0 63 (dk_at dksX9_goWithAll_2 17 rfl rfl)
theorem dX9_goWithAll_68 : decode cX9_goWithAll 68 = .ok (.iload 4, 2) := dk_21 4 (dk_at dksX9_goWithAll_2 20 rfl rfl)
theorem dX9_goWithAll_70 : decode cX9_goWithAll 70 = .ok (.iaload, 1) := dk_46 (dk_at dksX9_goWithAll_2 22 rfl rfl)
theorem dX9_goWithAll_71 : decode cX9_goWithAll 71 = .ok (.iadd, 1) := dk_96 (dk_at dksX9_goWithAll_2 23 rfl rfl)
theorem dX9_goWithAll_72 : decode cX9_goWithAll 72 = .ok (.iaload, 1) := dk_46 (dk_at dksX9_goWithAll_3 0 rfl rfl)
theorem dX9_goWithAll_73 : decode cX9_goWithAll 73 = .ok (.aload_n 0, 1) := dk_42 (dk_at dksX9_goWithAll_3 1 rfl rfl)
theorem dX9_goWithAll_74 : decode cX9_goWithAll 74 = .ok (.getfield 47, 3) := dk_180 0 47 (dk_at dksX9_goWithAll_3 2 rfl rfl)
theorem dX9_goWithAll_77 : decode cX9_goWithAll 77 = .ok (.bipush 23, 2) := dk_16 23 (dk_at dksX9_goWithAll_3 5 rfl rfl)
theorem dX9_goWithAll_79 : decode cX9_goWithAll 79 = .ok (.iload 4, 2) := dk_21 4 (dk_at dksX9_goWithAll_3 7 rfl rfl)
theorem dX9_goWithAll_81 : decode cX9_goWithAll 81 = .ok (.imul, 1) := dk_104 (dk_at dksX9_goWithAll_3 9 rfl rfl)
theorem dX9_goWithAll_82 : decode cX9_goWithAll 82 = .ok (.iconst 1, 1) := dk_4 (dk_at dksX9_goWithAll_3 10 rfl rfl)
theorem dX9_goWithAll_83 : decode cX9_goWithAll 83 = .ok (.iadd, 1) := dk_96 (dk_at dksX9_goWithAll_3 11 rfl rfl)
theorem dX9_goWithAll_84 : decode cX9_goWithAll 84 = .ok (.iaload, 1) := dk_46 (dk_at dksX9_goWithAll_3 12 rfl rfl)
theorem dX9_goWithAll_85 : decode cX9_goWithAll 85 = .ok (.invokevirtual 219, 3) := dk_182 0 219 (dk_at dksX9_goWithAll_3 13 rfl rfl)
theorem dX9_goWithAll_88 : decode cX9_goWithAll 88 = .ok (.ifCond .eq 7, 3) := dk_153 0 7 (dk_at dksX9_goWithAll_3 16 rfl rfl)
theorem dX9_goWithAll_91 : decode cX9_goWithAll 91 = .ok (.iconst 1, 1) := dk_4 (dk_at dksX9_goWithAll_3 19 rfl rfl)
theorem dX9_goWithAll_92 : decode cX9_goWithAll 92 = .ok (.goto 4, 3) := dk_167 0 4 (dk_at dksX9_goWithAll_3 20 rfl rfl)
theorem dX9_goWithAll_95 : decode cX9_goWithAll 95 = .ok (.iconst 0, 1) := dk_3 (dk_at dksX9_goWithAll_3 23 rfl rfl)
theorem dX9_goWithAll_96 : decode cX9_goWithAll 96 = .ok (.istore_n 3, 1) := dk_62 (dk_at dksX9_goWithAll_4 0 rfl rfl)
theorem dX9_goWithAll_97 : decode cX9_goWithAll 97 = .ok (.iinc 4 1, 3) := dk_132 4 1 (dk_at dksX9_goWithAll_4 1 rfl rfl)
theorem dX9_goWithAll_100 : decode cX9_goWithAll 100 = .ok (.goto (-76), 3) := dk_167 255 180 (dk_at dksX9_goWithAll_4 4 rfl rfl)
theorem dX9_goWithAll_103 : decode cX9_goWithAll 103 = .ok (.iload_n 3, 1) := dk_29 (dk_at dksX9_goWithAll_4 7 rfl rfl)
theorem dX9_goWithAll_104 : decode cX9_goWithAll 104 = .ok (.ireturn, 1) := dk_172 (dk_at dksX9_goWithAll_4 8 rfl rfl)
abbrev cX9_goWith : ByteArray := prog_16_method_41_code
def yX9_goWith : MethodName := ⟨RX9, "goWith", "(IIII)Z"⟩
def dkwX9_goWith_2 : List UInt8 := [4, 167, 0, 4, 3, 172]
abbrev dktX9_goWith_2 : List UInt8 := dkwX9_goWith_2 ++ []
def dkwX9_goWith_1 : List UInt8 := [104, 28, 96, 46, 167, 0, 15, 42, 180, 0, 56, 17, 0, 200, 27, 104, 28, 96, 46, 29, 126, 154, 0, 7]
abbrev dktX9_goWith_1 : List UInt8 := dkwX9_goWith_1 ++ dktX9_goWith_2
def dkwX9_goWith_0 : List UInt8 := [42, 180, 0, 47, 16, 23, 27, 104, 4, 96, 46, 21, 4, 160, 0, 18, 42, 180, 0, 53, 17, 0, 200, 27]
abbrev dktX9_goWith_0 : List UInt8 := dkwX9_goWith_0 ++ dktX9_goWith_1
theorem dksX9_goWith_0 : cX9_goWith.data.toList.drop 0 = dktX9_goWith_0 := by decide +kernel
theorem dksX9_goWith_1 : cX9_goWith.data.toList.drop 24 = dktX9_goWith_1 := dk_seg dksX9_goWith_0 24 rfl rfl
theorem dksX9_goWith_2 : cX9_goWith.data.toList.drop 48 = dktX9_goWith_2 := dk_seg dksX9_goWith_1 24 rfl rfl
theorem dX9_goWith_0 : decode cX9_goWith 0 = .ok (.aload_n 0, 1) := dk_42 (dk_at dksX9_goWith_0 0 rfl rfl)
theorem dX9_goWith_1 : decode cX9_goWith 1 = .ok (.getfield 47, 3) := dk_180 0 47 (dk_at dksX9_goWith_0 1 rfl rfl)
theorem dX9_goWith_4 : decode cX9_goWith 4 = .ok (.bipush 23, 2) := dk_16 23 (dk_at dksX9_goWith_0 4 rfl rfl)
theorem dX9_goWith_6 : decode cX9_goWith 6 = .ok (.iload_n 1, 1) := dk_27 (dk_at dksX9_goWith_0 6 rfl rfl)
theorem dX9_goWith_7 : decode cX9_goWith 7 = .ok (.imul, 1) := dk_104 (dk_at dksX9_goWith_0 7 rfl rfl)
theorem dX9_goWith_8 : decode cX9_goWith 8 = .ok (.iconst 1, 1) := dk_4 (dk_at dksX9_goWith_0 8 rfl rfl)
theorem dX9_goWith_9 : decode cX9_goWith 9 = .ok (.iadd, 1) := dk_96 (dk_at dksX9_goWith_0 9 rfl rfl)
theorem dX9_goWith_10 : decode cX9_goWith 10 = .ok (.iaload, 1) := dk_46 (dk_at dksX9_goWith_0 10 rfl rfl)
theorem dX9_goWith_11 : decode cX9_goWith 11 = .ok (.iload 4, 2) := dk_21 4 (dk_at dksX9_goWith_0 11 rfl rfl)
theorem dX9_goWith_13 : decode cX9_goWith 13 = .ok (.if_icmp .ne 18, 3) := dk_160 0 18 (dk_at dksX9_goWith_0 13 rfl rfl)
theorem dX9_goWith_16 : decode cX9_goWith 16 = .ok (.aload_n 0, 1) := dk_42 (dk_at dksX9_goWith_0 16 rfl rfl)
theorem dX9_goWith_17 : decode cX9_goWith 17 = .ok (.getfield 53, 3) := dk_180 0 53 (dk_at dksX9_goWith_0 17 rfl rfl)
theorem dX9_goWith_20 : decode cX9_goWith 20 = .ok (.sipush 200, 3) := dk_17 0 200 (dk_at dksX9_goWith_0 20 rfl rfl)
theorem dX9_goWith_23 : decode cX9_goWith 23 = .ok (.iload_n 1, 1) := dk_27 (dk_at dksX9_goWith_0 23 rfl rfl)
theorem dX9_goWith_24 : decode cX9_goWith 24 = .ok (.imul, 1) := dk_104 (dk_at dksX9_goWith_1 0 rfl rfl)
theorem dX9_goWith_25 : decode cX9_goWith 25 = .ok (.iload_n 2, 1) := dk_28 (dk_at dksX9_goWith_1 1 rfl rfl)
theorem dX9_goWith_26 : decode cX9_goWith 26 = .ok (.iadd, 1) := dk_96 (dk_at dksX9_goWith_1 2 rfl rfl)
theorem dX9_goWith_27 : decode cX9_goWith 27 = .ok (.iaload, 1) := dk_46 (dk_at dksX9_goWith_1 3 rfl rfl)
theorem dX9_goWith_28 : decode cX9_goWith 28 = .ok (.goto 15, 3) := dk_167 0 15 (dk_at dksX9_goWith_1 4 rfl rfl)
theorem dX9_goWith_31 : decode cX9_goWith 31 = .ok (.aload_n 0, 1) := dk_42 (dk_at dksX9_goWith_1 7 rfl rfl)
theorem dX9_goWith_32 : decode cX9_goWith 32 = .ok (.getfield 56, 3) := dk_180 0 56 (dk_at dksX9_goWith_1 8 rfl rfl)
theorem dX9_goWith_35 : decode cX9_goWith 35 = .ok (.sipush 200, 3) := dk_17 0 200 (dk_at dksX9_goWith_1 11 rfl rfl)
theorem dX9_goWith_38 : decode cX9_goWith 38 = .ok (.iload_n 1, 1) := dk_27 (dk_at dksX9_goWith_1 14 rfl rfl)
theorem dX9_goWith_39 : decode cX9_goWith 39 = .ok (.imul, 1) := dk_104 (dk_at dksX9_goWith_1 15 rfl rfl)
theorem dX9_goWith_40 : decode cX9_goWith 40 = .ok (.iload_n 2, 1) := dk_28 (dk_at dksX9_goWith_1 16 rfl rfl)
theorem dX9_goWith_41 : decode cX9_goWith 41 = .ok (.iadd, 1) := dk_96 (dk_at dksX9_goWith_1 17 rfl rfl)
theorem dX9_goWith_42 : decode cX9_goWith 42 = .ok (.iaload, 1) := dk_46 (dk_at dksX9_goWith_1 18 rfl rfl)
theorem dX9_goWith_43 : decode cX9_goWith 43 = .ok (.iload_n 3, 1) := dk_29 (dk_at dksX9_goWith_1 19 rfl rfl)
theorem dX9_goWith_44 : decode cX9_goWith 44 = .ok (.iand, 1) := dk_126 (dk_at dksX9_goWith_1 20 rfl rfl)
theorem dX9_goWith_45 : decode cX9_goWith 45 = .ok (.ifCond .ne 7, 3) := dk_154 0 7 (dk_at dksX9_goWith_1 21 rfl rfl)
theorem dX9_goWith_48 : decode cX9_goWith 48 = .ok (.iconst 1, 1) := dk_4 (dk_at dksX9_goWith_2 0 rfl rfl)
theorem dX9_goWith_49 : decode cX9_goWith 49 = .ok (.goto 4, 3) := dk_167 0 4 (dk_at dksX9_goWith_2 1 rfl rfl)
theorem dX9_goWith_52 : decode cX9_goWith 52 = .ok (.iconst 0, 1) := dk_3 (dk_at dksX9_goWith_2 4 rfl rfl)
theorem dX9_goWith_53 : decode cX9_goWith 53 = .ok (.ireturn, 1) := dk_172 (dk_at dksX9_goWith_2 5 rfl rfl)
abbrev cX9_bestSet : ByteArray := prog_16_method_47_code
def yX9_bestSet : MethodName := ⟨RX9, "bestSet", "()I"⟩
def dkwX9_bestSet_2 : List UInt8 := [132, 2, 1, 167, 255, 211, 27, 172]
abbrev dktX9_bestSet_2 : List UInt8 := dkwX9_bestSet_2 ++ []
def dkwX9_bestSet_1 : List UInt8 := [167, 0, 20, 42, 180, 0, 53, 17, 0, 200, 28, 104, 42, 180, 0, 66, 28, 46, 96, 46, 128, 60]
abbrev dktX9_bestSet_1 : List UInt8 := dkwX9_bestSet_1 ++ dktX9_bestSet_2
def dkwX9_bestSet_0 : List UInt8 := [3, 60, 3, 61, 28, 42, 180, 0, 94, 162, 0, 43, 27, 42, 180, 0, 66, 28, 46, 2, 160, 0, 7, 3]
abbrev dktX9_bestSet_0 : List UInt8 := dkwX9_bestSet_0 ++ dktX9_bestSet_1
theorem dksX9_bestSet_0 : cX9_bestSet.data.toList.drop 0 = dktX9_bestSet_0 := by decide +kernel
theorem dksX9_bestSet_1 : cX9_bestSet.data.toList.drop 24 = dktX9_bestSet_1 := dk_seg dksX9_bestSet_0 24 rfl rfl
theorem dksX9_bestSet_2 : cX9_bestSet.data.toList.drop 46 = dktX9_bestSet_2 := dk_seg dksX9_bestSet_1 22 rfl rfl
theorem dX9_bestSet_0 : decode cX9_bestSet 0 = .ok (.iconst 0, 1) := dk_3 (dk_at dksX9_bestSet_0 0 rfl rfl)
theorem dX9_bestSet_1 : decode cX9_bestSet 1 = .ok (.istore_n 1, 1) := dk_60 (dk_at dksX9_bestSet_0 1 rfl rfl)
theorem dX9_bestSet_2 : decode cX9_bestSet 2 = .ok (.iconst 0, 1) := dk_3 (dk_at dksX9_bestSet_0 2 rfl rfl)
theorem dX9_bestSet_3 : decode cX9_bestSet 3 = .ok (.istore_n 2, 1) := dk_61 (dk_at dksX9_bestSet_0 3 rfl rfl)
theorem dX9_bestSet_4 : decode cX9_bestSet 4 = .ok (.iload_n 2, 1) := dk_28 (dk_at dksX9_bestSet_0 4 rfl rfl)
theorem dX9_bestSet_5 : decode cX9_bestSet 5 = .ok (.aload_n 0, 1) := dk_42 (dk_at dksX9_bestSet_0 5 rfl rfl)
theorem dX9_bestSet_6 : decode cX9_bestSet 6 = .ok (.getfield 94, 3) := dk_180 0 94 (dk_at dksX9_bestSet_0 6 rfl rfl)
theorem dX9_bestSet_9 : decode cX9_bestSet 9 = .ok (.if_icmp .ge 43, 3) := dk_162 0 43 (dk_at dksX9_bestSet_0 9 rfl rfl)
theorem dX9_bestSet_12 : decode cX9_bestSet 12 = .ok (.iload_n 1, 1) := dk_27 (dk_at dksX9_bestSet_0 12 rfl rfl)
theorem dX9_bestSet_13 : decode cX9_bestSet 13 = .ok (.aload_n 0, 1) := dk_42 (dk_at dksX9_bestSet_0 13 rfl rfl)
theorem dX9_bestSet_14 : decode cX9_bestSet 14 = .ok (.getfield 66, 3) := dk_180 0 66 (dk_at dksX9_bestSet_0 14 rfl rfl)
theorem dX9_bestSet_17 : decode cX9_bestSet 17 = .ok (.iload_n 2, 1) := dk_28 (dk_at dksX9_bestSet_0 17 rfl rfl)
theorem dX9_bestSet_18 : decode cX9_bestSet 18 = .ok (.iaload, 1) := dk_46 (dk_at dksX9_bestSet_0 18 rfl rfl)
theorem dX9_bestSet_19 : decode cX9_bestSet 19 = .ok (.iconst (-1), 1) := dk_2 (dk_at dksX9_bestSet_0 19 rfl rfl)
theorem dX9_bestSet_20 : decode cX9_bestSet 20 = .ok (.if_icmp .ne 7, 3) := dk_160 0 7 (dk_at dksX9_bestSet_0 20 rfl rfl)
theorem dX9_bestSet_23 : decode cX9_bestSet 23 = .ok (.iconst 0, 1) := dk_3 (dk_at dksX9_bestSet_0 23 rfl rfl)
theorem dX9_bestSet_24 : decode cX9_bestSet 24 = .ok (.goto 20, 3) := dk_167 0 20 (dk_at dksX9_bestSet_1 0 rfl rfl)
theorem dX9_bestSet_27 : decode cX9_bestSet 27 = .ok (.aload_n 0, 1) := dk_42 (dk_at dksX9_bestSet_1 3 rfl rfl)
theorem dX9_bestSet_28 : decode cX9_bestSet 28 = .ok (.getfield 53, 3) := dk_180 0 53 (dk_at dksX9_bestSet_1 4 rfl rfl)
theorem dX9_bestSet_31 : decode cX9_bestSet 31 = .ok (.sipush 200, 3) := dk_17 0 200 (dk_at dksX9_bestSet_1 7 rfl rfl)
theorem dX9_bestSet_34 : decode cX9_bestSet 34 = .ok (.iload_n 2, 1) := dk_28 (dk_at dksX9_bestSet_1 10 rfl rfl)
theorem dX9_bestSet_35 : decode cX9_bestSet 35 = .ok (.imul, 1) := dk_104 (dk_at dksX9_bestSet_1 11 rfl rfl)
theorem dX9_bestSet_36 : decode cX9_bestSet 36 = .ok (.aload_n 0, 1) := dk_42 (dk_at dksX9_bestSet_1 12 rfl rfl)
theorem dX9_bestSet_37 : decode cX9_bestSet 37 = .ok (.getfield 66, 3) := dk_180 0 66 (dk_at dksX9_bestSet_1 13 rfl rfl)
theorem dX9_bestSet_40 : decode cX9_bestSet 40 = .ok (.iload_n 2, 1) := dk_28 (dk_at dksX9_bestSet_1 16 rfl rfl)
theorem dX9_bestSet_41 : decode cX9_bestSet 41 = .ok (.iaload, 1) := dk_46 (dk_at dksX9_bestSet_1 17 rfl rfl)
theorem dX9_bestSet_42 : decode cX9_bestSet 42 = .ok (.iadd, 1) := dk_96 (dk_at dksX9_bestSet_1 18 rfl rfl)
theorem dX9_bestSet_43 : decode cX9_bestSet 43 = .ok (.iaload, 1) := dk_46 (dk_at dksX9_bestSet_1 19 rfl rfl)
theorem dX9_bestSet_44 : decode cX9_bestSet 44 = .ok (.ior, 1) := dk_128 (dk_at dksX9_bestSet_1 20 rfl rfl)
theorem dX9_bestSet_45 : decode cX9_bestSet 45 = .ok (.istore_n 1, 1) := dk_60 (dk_at dksX9_bestSet_1 21 rfl rfl)
theorem dX9_bestSet_46 : decode cX9_bestSet 46 = .ok (.iinc 2 1, 3) := dk_132 2 1 (dk_at dksX9_bestSet_2 0 rfl rfl)
theorem dX9_bestSet_49 : decode cX9_bestSet 49 = .ok (.goto (-45), 3) := dk_167 255 211 (dk_at dksX9_bestSet_2 3 rfl rfl)
theorem dX9_bestSet_52 : decode cX9_bestSet 52 = .ok (.iload_n 1, 1) := dk_27 (dk_at dksX9_bestSet_2 6 rfl rfl)
theorem dX9_bestSet_53 : decode cX9_bestSet 53 = .ok (.ireturn, 1) := dk_172 (dk_at dksX9_bestSet_2 7 rfl rfl)
abbrev cX9_placed : ByteArray := prog_16_method_49_code
def yX9_placed : MethodName := ⟨RX9, "placed", "(I)I"⟩
def dkwX9_placed_1 : List UInt8 := [46, 172]
abbrev dktX9_placed_1 : List UInt8 := dkwX9_placed_1 ++ []
def dkwX9_placed_0 : List UInt8 := [42, 27, 182, 0, 187, 154, 0, 6, 16, 254, 172, 42, 182, 0, 237, 42, 182, 0, 240, 42, 180, 0, 66, 27]
abbrev dktX9_placed_0 : List UInt8 := dkwX9_placed_0 ++ dktX9_placed_1
theorem dksX9_placed_0 : cX9_placed.data.toList.drop 0 = dktX9_placed_0 := by decide +kernel
theorem dksX9_placed_1 : cX9_placed.data.toList.drop 24 = dktX9_placed_1 := dk_seg dksX9_placed_0 24 rfl rfl
theorem dX9_placed_0 : decode cX9_placed 0 = .ok (.aload_n 0, 1) := dk_42 (dk_at dksX9_placed_0 0 rfl rfl)
theorem dX9_placed_1 : decode cX9_placed 1 = .ok (.iload_n 1, 1) := dk_27 (dk_at dksX9_placed_0 1 rfl rfl)
theorem dX9_placed_2 : decode cX9_placed 2 = .ok (.invokevirtual 187, 3) := dk_182 0 187 (dk_at dksX9_placed_0 2 rfl rfl)
theorem dX9_placed_5 : decode cX9_placed 5 = .ok (.ifCond .ne 6, 3) := dk_154 0 6 (dk_at dksX9_placed_0 5 rfl rfl)
theorem dX9_placed_8 : decode cX9_placed 8 = .ok (.bipush (-2), 2) := dk_16 254 (dk_at dksX9_placed_0 8 rfl rfl)
theorem dX9_placed_10 : decode cX9_placed 10 = .ok (.ireturn, 1) := dk_172 (dk_at dksX9_placed_0 10 rfl rfl)
theorem dX9_placed_11 : decode cX9_placed 11 = .ok (.aload_n 0, 1) := dk_42 (dk_at dksX9_placed_0 11 rfl rfl)
theorem dX9_placed_12 : decode cX9_placed 12 = .ok (.invokevirtual 237, 3) := dk_182 0 237 (dk_at dksX9_placed_0 12 rfl rfl)
theorem dX9_placed_15 : decode cX9_placed 15 = .ok (.aload_n 0, 1) := dk_42 (dk_at dksX9_placed_0 15 rfl rfl)
theorem dX9_placed_16 : decode cX9_placed 16 = .ok (.invokevirtual 240, 3) := dk_182 0 240 (dk_at dksX9_placed_0 16 rfl rfl)
theorem dX9_placed_19 : decode cX9_placed 19 = .ok (.aload_n 0, 1) := dk_42 (dk_at dksX9_placed_0 19 rfl rfl)
theorem dX9_placed_20 : decode cX9_placed 20 = .ok (.getfield 66, 3) := dk_180 0 66 (dk_at dksX9_placed_0 20 rfl rfl)
theorem dX9_placed_23 : decode cX9_placed 23 = .ok (.iload_n 1, 1) := dk_27 (dk_at dksX9_placed_0 23 rfl rfl)
theorem dX9_placed_24 : decode cX9_placed 24 = .ok (.iaload, 1) := dk_46 (dk_at dksX9_placed_1 0 rfl rfl)
theorem dX9_placed_25 : decode cX9_placed 25 = .ok (.ireturn, 1) := dk_172 (dk_at dksX9_placed_1 1 rfl rfl)
abbrev cX9_price : ByteArray := prog_16_method_51_code
def yX9_price : MethodName := ⟨RX9, "price", "(I)I"⟩
def dkwX9_price_2 : List UInt8 := [21, 4, 182, 0, 247, 153, 0, 9, 21, 4, 62, 167, 0, 8, 21, 4, 4, 96, 61, 167, 255, 223, 28, 172]
abbrev dktX9_price_2 : List UInt8 := dkwX9_price_2 ++ []
def dkwX9_price_1 : List UInt8 := [154, 0, 5, 2, 172, 4, 61, 16, 99, 62, 28, 29, 162, 0, 34, 28, 29, 96, 5, 108, 54, 4, 42, 27]
abbrev dktX9_price_1 : List UInt8 := dkwX9_price_1 ++ dktX9_price_2
def dkwX9_price_0 : List UInt8 := [42, 27, 182, 0, 187, 154, 0, 6, 16, 254, 172, 42, 182, 0, 237, 42, 27, 16, 99, 182, 0, 247]
abbrev dktX9_price_0 : List UInt8 := dkwX9_price_0 ++ dktX9_price_1
theorem dksX9_price_0 : cX9_price.data.toList.drop 0 = dktX9_price_0 := by decide +kernel
theorem dksX9_price_1 : cX9_price.data.toList.drop 22 = dktX9_price_1 := dk_seg dksX9_price_0 22 rfl rfl
theorem dksX9_price_2 : cX9_price.data.toList.drop 46 = dktX9_price_2 := dk_seg dksX9_price_1 24 rfl rfl
theorem dX9_price_0 : decode cX9_price 0 = .ok (.aload_n 0, 1) := dk_42 (dk_at dksX9_price_0 0 rfl rfl)
theorem dX9_price_1 : decode cX9_price 1 = .ok (.iload_n 1, 1) := dk_27 (dk_at dksX9_price_0 1 rfl rfl)
theorem dX9_price_2 : decode cX9_price 2 = .ok (.invokevirtual 187, 3) := dk_182 0 187 (dk_at dksX9_price_0 2 rfl rfl)
theorem dX9_price_5 : decode cX9_price 5 = .ok (.ifCond .ne 6, 3) := dk_154 0 6 (dk_at dksX9_price_0 5 rfl rfl)
theorem dX9_price_8 : decode cX9_price 8 = .ok (.bipush (-2), 2) := dk_16 254 (dk_at dksX9_price_0 8 rfl rfl)
theorem dX9_price_10 : decode cX9_price 10 = .ok (.ireturn, 1) := dk_172 (dk_at dksX9_price_0 10 rfl rfl)
theorem dX9_price_11 : decode cX9_price 11 = .ok (.aload_n 0, 1) := dk_42 (dk_at dksX9_price_0 11 rfl rfl)
theorem dX9_price_12 : decode cX9_price 12 = .ok (.invokevirtual 237, 3) := dk_182 0 237 (dk_at dksX9_price_0 12 rfl rfl)
theorem dX9_price_15 : decode cX9_price 15 = .ok (.aload_n 0, 1) := dk_42 (dk_at dksX9_price_0 15 rfl rfl)
theorem dX9_price_16 : decode cX9_price 16 = .ok (.iload_n 1, 1) := dk_27 (dk_at dksX9_price_0 16 rfl rfl)
theorem dX9_price_17 : decode cX9_price 17 = .ok (.bipush 99, 2) := dk_16 99 (dk_at dksX9_price_0 17 rfl rfl)
theorem dX9_price_19 : decode cX9_price 19 = .ok (.invokevirtual 247, 3) := dk_182 0 247 (dk_at dksX9_price_0 19 rfl rfl)
theorem dX9_price_22 : decode cX9_price 22 = .ok (.ifCond .ne 5, 3) := dk_154 0 5 (dk_at dksX9_price_1 0 rfl rfl)
theorem dX9_price_25 : decode cX9_price 25 = .ok (.iconst (-1), 1) := dk_2 (dk_at dksX9_price_1 3 rfl rfl)
theorem dX9_price_26 : decode cX9_price 26 = .ok (.ireturn, 1) := dk_172 (dk_at dksX9_price_1 4 rfl rfl)
theorem dX9_price_27 : decode cX9_price 27 = .ok (.iconst 1, 1) := dk_4 (dk_at dksX9_price_1 5 rfl rfl)
theorem dX9_price_28 : decode cX9_price 28 = .ok (.istore_n 2, 1) := dk_61 (dk_at dksX9_price_1 6 rfl rfl)
theorem dX9_price_29 : decode cX9_price 29 = .ok (.bipush 99, 2) := dk_16 99 (dk_at dksX9_price_1 7 rfl rfl)
theorem dX9_price_31 : decode cX9_price 31 = .ok (.istore_n 3, 1) := dk_62 (dk_at dksX9_price_1 9 rfl rfl)
theorem dX9_price_32 : decode cX9_price 32 = .ok (.iload_n 2, 1) := dk_28 (dk_at dksX9_price_1 10 rfl rfl)
theorem dX9_price_33 : decode cX9_price 33 = .ok (.iload_n 3, 1) := dk_29 (dk_at dksX9_price_1 11 rfl rfl)
theorem dX9_price_34 : decode cX9_price 34 = .ok (.if_icmp .ge 34, 3) := dk_162 0 34 (dk_at dksX9_price_1 12 rfl rfl)
theorem dX9_price_37 : decode cX9_price 37 = .ok (.iload_n 2, 1) := dk_28 (dk_at dksX9_price_1 15 rfl rfl)
theorem dX9_price_38 : decode cX9_price 38 = .ok (.iload_n 3, 1) := dk_29 (dk_at dksX9_price_1 16 rfl rfl)
theorem dX9_price_39 : decode cX9_price 39 = .ok (.iadd, 1) := dk_96 (dk_at dksX9_price_1 17 rfl rfl)
theorem dX9_price_40 : decode cX9_price 40 = .ok (.iconst 2, 1) := dk_5 (dk_at dksX9_price_1 18 rfl rfl)
theorem dX9_price_41 : decode cX9_price 41 = .ok (.idiv, 1) := dk_108 (dk_at dksX9_price_1 19 rfl rfl)
theorem dX9_price_42 : decode cX9_price 42 = .ok (.istore 4, 2) := dk_54 4 (dk_at dksX9_price_1 20 rfl rfl)
theorem dX9_price_44 : decode cX9_price 44 = .ok (.aload_n 0, 1) := dk_42 (dk_at dksX9_price_1 22 rfl rfl)
theorem dX9_price_45 : decode cX9_price 45 = .ok (.iload_n 1, 1) := dk_27 (dk_at dksX9_price_1 23 rfl rfl)
theorem dX9_price_46 : decode cX9_price 46 = .ok (.iload 4, 2) := dk_21 4 (dk_at dksX9_price_2 0 rfl rfl)
theorem dX9_price_48 : decode cX9_price 48 = .ok (.invokevirtual 247, 3) := dk_182 0 247 (dk_at dksX9_price_2 2 rfl rfl)
theorem dX9_price_51 : decode cX9_price 51 = .ok (.ifCond .eq 9, 3) := dk_153 0 9 (dk_at dksX9_price_2 5 rfl rfl)
theorem dX9_price_54 : decode cX9_price 54 = .ok (.iload 4, 2) := dk_21 4 (dk_at dksX9_price_2 8 rfl rfl)
theorem dX9_price_56 : decode cX9_price 56 = .ok (.istore_n 3, 1) := dk_62 (dk_at dksX9_price_2 10 rfl rfl)
theorem dX9_price_57 : decode cX9_price 57 = .ok (.goto 8, 3) := dk_167 0 8 (dk_at dksX9_price_2 11 rfl rfl)
theorem dX9_price_60 : decode cX9_price 60 = .ok (.iload 4, 2) := dk_21 4 (dk_at dksX9_price_2 14 rfl rfl)
theorem dX9_price_62 : decode cX9_price 62 = .ok (.iconst 1, 1) := dk_4 (dk_at dksX9_price_2 16 rfl rfl)
theorem dX9_price_63 : decode cX9_price 63 = .ok (.iadd, 1) := dk_96 (dk_at dksX9_price_2 17 rfl rfl)
theorem dX9_price_64 : decode cX9_price 64 = .ok (.istore_n 2, 1) := dk_61 (dk_at dksX9_price_2 18 rfl rfl)
theorem dX9_price_65 : decode cX9_price 65 = .ok (.goto (-33), 3) := dk_167 255 223 (dk_at dksX9_price_2 19 rfl rfl)
theorem dX9_price_68 : decode cX9_price 68 = .ok (.iload_n 2, 1) := dk_28 (dk_at dksX9_price_2 22 rfl rfl)
theorem dX9_price_69 : decode cX9_price 69 = .ok (.ireturn, 1) := dk_172 (dk_at dksX9_price_2 23 rfl rfl)
abbrev cX9_isInAt : ByteArray := prog_16_method_50_code
def yX9_isInAt : MethodName := ⟨RX9, "isInAt", "(II)Z"⟩
def dkwX9_isInAt_2 : List UInt8 := [159, 0, 7, 4, 167, 0, 4, 3, 172]
abbrev dktX9_isInAt_2 : List UInt8 := dkwX9_isInAt_2 ++ []
def dkwX9_isInAt_1 : List UInt8 := [42, 182, 0, 240, 42, 180, 0, 47, 16, 23, 27, 104, 6, 96, 29, 79, 42, 180, 0, 66, 27, 46, 2]
abbrev dktX9_isInAt_1 : List UInt8 := dkwX9_isInAt_1 ++ dktX9_isInAt_2
def dkwX9_isInAt_0 : List UInt8 := [42, 180, 0, 47, 16, 23, 27, 104, 6, 96, 46, 62, 42, 180, 0, 47, 16, 23, 27, 104, 6, 96, 28, 79]
abbrev dktX9_isInAt_0 : List UInt8 := dkwX9_isInAt_0 ++ dktX9_isInAt_1
theorem dksX9_isInAt_0 : cX9_isInAt.data.toList.drop 0 = dktX9_isInAt_0 := by decide +kernel
theorem dksX9_isInAt_1 : cX9_isInAt.data.toList.drop 24 = dktX9_isInAt_1 := dk_seg dksX9_isInAt_0 24 rfl rfl
theorem dksX9_isInAt_2 : cX9_isInAt.data.toList.drop 47 = dktX9_isInAt_2 := dk_seg dksX9_isInAt_1 23 rfl rfl
theorem dX9_isInAt_0 : decode cX9_isInAt 0 = .ok (.aload_n 0, 1) := dk_42 (dk_at dksX9_isInAt_0 0 rfl rfl)
theorem dX9_isInAt_1 : decode cX9_isInAt 1 = .ok (.getfield 47, 3) := dk_180 0 47 (dk_at dksX9_isInAt_0 1 rfl rfl)
theorem dX9_isInAt_4 : decode cX9_isInAt 4 = .ok (.bipush 23, 2) := dk_16 23 (dk_at dksX9_isInAt_0 4 rfl rfl)
theorem dX9_isInAt_6 : decode cX9_isInAt 6 = .ok (.iload_n 1, 1) := dk_27 (dk_at dksX9_isInAt_0 6 rfl rfl)
theorem dX9_isInAt_7 : decode cX9_isInAt 7 = .ok (.imul, 1) := dk_104 (dk_at dksX9_isInAt_0 7 rfl rfl)
theorem dX9_isInAt_8 : decode cX9_isInAt 8 = .ok (.iconst 3, 1) := dk_6 (dk_at dksX9_isInAt_0 8 rfl rfl)
theorem dX9_isInAt_9 : decode cX9_isInAt 9 = .ok (.iadd, 1) := dk_96 (dk_at dksX9_isInAt_0 9 rfl rfl)
theorem dX9_isInAt_10 : decode cX9_isInAt 10 = .ok (.iaload, 1) := dk_46 (dk_at dksX9_isInAt_0 10 rfl rfl)
theorem dX9_isInAt_11 : decode cX9_isInAt 11 = .ok (.istore_n 3, 1) := dk_62 (dk_at dksX9_isInAt_0 11 rfl rfl)
theorem dX9_isInAt_12 : decode cX9_isInAt 12 = .ok (.aload_n 0, 1) := dk_42 (dk_at dksX9_isInAt_0 12 rfl rfl)
theorem dX9_isInAt_13 : decode cX9_isInAt 13 = .ok (.getfield 47, 3) := dk_180 0 47 (dk_at dksX9_isInAt_0 13 rfl rfl)
theorem dX9_isInAt_16 : decode cX9_isInAt 16 = .ok (.bipush 23, 2) := dk_16 23 (dk_at dksX9_isInAt_0 16 rfl rfl)
theorem dX9_isInAt_18 : decode cX9_isInAt 18 = .ok (.iload_n 1, 1) := dk_27 (dk_at dksX9_isInAt_0 18 rfl rfl)
theorem dX9_isInAt_19 : decode cX9_isInAt 19 = .ok (.imul, 1) := dk_104 (dk_at dksX9_isInAt_0 19 rfl rfl)
theorem dX9_isInAt_20 : decode cX9_isInAt 20 = .ok (.iconst 3, 1) := dk_6 (dk_at dksX9_isInAt_0 20 rfl rfl)
theorem dX9_isInAt_21 : decode cX9_isInAt 21 = .ok (.iadd, 1) := dk_96 (dk_at dksX9_isInAt_0 21 rfl rfl)
theorem dX9_isInAt_22 : decode cX9_isInAt 22 = .ok (.iload_n 2, 1) := dk_28 (dk_at dksX9_isInAt_0 22 rfl rfl)
theorem dX9_isInAt_23 : decode cX9_isInAt 23 = .ok (.iastore, 1) := dk_79 (dk_at dksX9_isInAt_0 23 rfl rfl)
theorem dX9_isInAt_24 : decode cX9_isInAt 24 = .ok (.aload_n 0, 1) := dk_42 (dk_at dksX9_isInAt_1 0 rfl rfl)
theorem dX9_isInAt_25 : decode cX9_isInAt 25 = .ok (.invokevirtual 240, 3) := dk_182 0 240 (dk_at dksX9_isInAt_1 1 rfl rfl)
theorem dX9_isInAt_28 : decode cX9_isInAt 28 = .ok (.aload_n 0, 1) := dk_42 (dk_at dksX9_isInAt_1 4 rfl rfl)
theorem dX9_isInAt_29 : decode cX9_isInAt 29 = .ok (.getfield 47, 3) := dk_180 0 47 (dk_at dksX9_isInAt_1 5 rfl rfl)
theorem dX9_isInAt_32 : decode cX9_isInAt 32 = .ok (.bipush 23, 2) := dk_16 23 (dk_at dksX9_isInAt_1 8 rfl rfl)
theorem dX9_isInAt_34 : decode cX9_isInAt 34 = .ok (.iload_n 1, 1) := dk_27 (dk_at dksX9_isInAt_1 10 rfl rfl)
theorem dX9_isInAt_35 : decode cX9_isInAt 35 = .ok (.imul, 1) := dk_104 (dk_at dksX9_isInAt_1 11 rfl rfl)
theorem dX9_isInAt_36 : decode cX9_isInAt 36 = .ok (.iconst 3, 1) := dk_6 (dk_at dksX9_isInAt_1 12 rfl rfl)
theorem dX9_isInAt_37 : decode cX9_isInAt 37 = .ok (.iadd, 1) := dk_96 (dk_at dksX9_isInAt_1 13 rfl rfl)
theorem dX9_isInAt_38 : decode cX9_isInAt 38 = .ok (.iload_n 3, 1) := dk_29 (dk_at dksX9_isInAt_1 14 rfl rfl)
theorem dX9_isInAt_39 : decode cX9_isInAt 39 = .ok (.iastore, 1) := dk_79 (dk_at dksX9_isInAt_1 15 rfl rfl)
theorem dX9_isInAt_40 : decode cX9_isInAt 40 = .ok (.aload_n 0, 1) := dk_42 (dk_at dksX9_isInAt_1 16 rfl rfl)
theorem dX9_isInAt_41 : decode cX9_isInAt 41 = .ok (.getfield 66, 3) := dk_180 0 66 (dk_at dksX9_isInAt_1 17 rfl rfl)
theorem dX9_isInAt_44 : decode cX9_isInAt 44 = .ok (.iload_n 1, 1) := dk_27 (dk_at dksX9_isInAt_1 20 rfl rfl)
theorem dX9_isInAt_45 : decode cX9_isInAt 45 = .ok (.iaload, 1) := dk_46 (dk_at dksX9_isInAt_1 21 rfl rfl)
theorem dX9_isInAt_46 : decode cX9_isInAt 46 = .ok (.iconst (-1), 1) := dk_2 (dk_at dksX9_isInAt_1 22 rfl rfl)
theorem dX9_isInAt_47 : decode cX9_isInAt 47 = .ok (.if_icmp .eq 7, 3) := dk_159 0 7 (dk_at dksX9_isInAt_2 0 rfl rfl)
theorem dX9_isInAt_50 : decode cX9_isInAt 50 = .ok (.iconst 1, 1) := dk_4 (dk_at dksX9_isInAt_2 3 rfl rfl)
theorem dX9_isInAt_51 : decode cX9_isInAt 51 = .ok (.goto 4, 3) := dk_167 0 4 (dk_at dksX9_isInAt_2 4 rfl rfl)
theorem dX9_isInAt_54 : decode cX9_isInAt 54 = .ok (.iconst 0, 1) := dk_3 (dk_at dksX9_isInAt_2 7 rfl rfl)
theorem dX9_isInAt_55 : decode cX9_isInAt 55 = .ok (.ireturn, 1) := dk_172 (dk_at dksX9_isInAt_2 8 rfl rfl)
abbrev cX9_empty : ByteArray := prog_16_method_52_code
def yX9_empty : MethodName := ⟨RX9, "empty", "(I)I"⟩
def dkwX9_empty_8 : List UInt8 := [167, 0, 4, 28, 61, 132, 4, 1, 167, 255, 106, 132, 3, 1, 167, 255, 89, 28, 172]
abbrev dktX9_empty_8 : List UInt8 := dkwX9_empty_8 ++ []
def dkwX9_empty_7 : List UInt8 := [3, 54, 5, 132, 6, 1, 167, 255, 180, 21, 5, 153, 0, 7, 6, 167, 0, 13, 28, 4, 160, 0, 7, 5]
abbrev dktX9_empty_7 : List UInt8 := dkwX9_empty_7 ++ dktX9_empty_8
def dkwX9_empty_6 : List UInt8 := [96, 46, 42, 180, 0, 47, 16, 23, 21, 6, 104, 4, 96, 46, 182, 0, 219, 153, 0, 7, 4, 167, 0, 4]
abbrev dktX9_empty_6 : List UInt8 := dkwX9_empty_6 ++ dktX9_empty_7
def dkwX9_empty_5 : List UInt8 := [159, 0, 44, 42, 29, 21, 4, 42, 180, 0, 53, 17, 0, 200, 21, 6, 104, 42, 180, 0, 66, 21, 6, 46]
abbrev dktX9_empty_5 : List UInt8 := dkwX9_empty_5 ++ dktX9_empty_6
def dkwX9_empty_4 : List UInt8 := [54, 6, 21, 6, 42, 180, 0, 94, 162, 0, 73, 21, 5, 153, 0, 59, 42, 180, 0, 66, 21, 6, 46, 2]
abbrev dktX9_empty_4 : List UInt8 := dkwX9_empty_4 ++ dktX9_empty_5
def dkwX9_empty_3 : List UInt8 := [180, 0, 53, 17, 0, 200, 29, 104, 21, 4, 96, 46, 27, 122, 4, 126, 4, 160, 0, 108, 4, 54, 5, 3]
abbrev dktX9_empty_3 : List UInt8 := dkwX9_empty_3 ++ dktX9_empty_4
def dkwX9_empty_2 : List UInt8 := [21, 4, 42, 180, 0, 50, 29, 46, 162, 0, 145, 42, 180, 0, 66, 29, 46, 2, 160, 0, 135, 42]
abbrev dktX9_empty_2 : List UInt8 := dkwX9_empty_2 ++ dktX9_empty_3
def dkwX9_empty_1 : List UInt8 := [122, 4, 126, 4, 160, 0, 5, 3, 172, 4, 61, 3, 62, 29, 42, 180, 0, 94, 162, 0, 165, 3, 54, 4]
abbrev dktX9_empty_1 : List UInt8 := dkwX9_empty_1 ++ dktX9_empty_2
def dkwX9_empty_0 : List UInt8 := [42, 27, 182, 0, 111, 154, 0, 6, 16, 254, 172, 42, 182, 0, 237, 42, 182, 0, 240, 42, 182, 0, 243, 27]
abbrev dktX9_empty_0 : List UInt8 := dkwX9_empty_0 ++ dktX9_empty_1
theorem dksX9_empty_0 : cX9_empty.data.toList.drop 0 = dktX9_empty_0 := by decide +kernel
theorem dksX9_empty_1 : cX9_empty.data.toList.drop 24 = dktX9_empty_1 := dk_seg dksX9_empty_0 24 rfl rfl
theorem dksX9_empty_2 : cX9_empty.data.toList.drop 48 = dktX9_empty_2 := dk_seg dksX9_empty_1 24 rfl rfl
theorem dksX9_empty_3 : cX9_empty.data.toList.drop 70 = dktX9_empty_3 := dk_seg dksX9_empty_2 22 rfl rfl
theorem dksX9_empty_4 : cX9_empty.data.toList.drop 94 = dktX9_empty_4 := dk_seg dksX9_empty_3 24 rfl rfl
theorem dksX9_empty_5 : cX9_empty.data.toList.drop 118 = dktX9_empty_5 := dk_seg dksX9_empty_4 24 rfl rfl
theorem dksX9_empty_6 : cX9_empty.data.toList.drop 142 = dktX9_empty_6 := dk_seg dksX9_empty_5 24 rfl rfl
theorem dksX9_empty_7 : cX9_empty.data.toList.drop 166 = dktX9_empty_7 := dk_seg dksX9_empty_6 24 rfl rfl
theorem dksX9_empty_8 : cX9_empty.data.toList.drop 190 = dktX9_empty_8 := dk_seg dksX9_empty_7 24 rfl rfl
theorem dX9_empty_0 : decode cX9_empty 0 = .ok (.aload_n 0, 1) := dk_42 (dk_at dksX9_empty_0 0 rfl rfl)
theorem dX9_empty_1 : decode cX9_empty 1 = .ok (.iload_n 1, 1) := dk_27 (dk_at dksX9_empty_0 1 rfl rfl)
theorem dX9_empty_2 : decode cX9_empty 2 = .ok (.invokevirtual 111, 3) := dk_182 0 111 (dk_at dksX9_empty_0 2 rfl rfl)
theorem dX9_empty_5 : decode cX9_empty 5 = .ok (.ifCond .ne 6, 3) := dk_154 0 6 (dk_at dksX9_empty_0 5 rfl rfl)
theorem dX9_empty_8 : decode cX9_empty 8 = .ok (.bipush (-2), 2) := dk_16 254 (dk_at dksX9_empty_0 8 rfl rfl)
theorem dX9_empty_10 : decode cX9_empty 10 = .ok (.ireturn, 1) := dk_172 (dk_at dksX9_empty_0 10 rfl rfl)
theorem dX9_empty_11 : decode cX9_empty 11 = .ok (.aload_n 0, 1) := dk_42 (dk_at dksX9_empty_0 11 rfl rfl)
theorem dX9_empty_12 : decode cX9_empty 12 = .ok (.invokevirtual 237, 3) := dk_182 0 237 (dk_at dksX9_empty_0 12 rfl rfl)
theorem dX9_empty_15 : decode cX9_empty 15 = .ok (.aload_n 0, 1) := dk_42 (dk_at dksX9_empty_0 15 rfl rfl)
theorem dX9_empty_16 : decode cX9_empty 16 = .ok (.invokevirtual 240, 3) := dk_182 0 240 (dk_at dksX9_empty_0 16 rfl rfl)
theorem dX9_empty_19 : decode cX9_empty 19 = .ok (.aload_n 0, 1) := dk_42 (dk_at dksX9_empty_0 19 rfl rfl)
theorem dX9_empty_20 : decode cX9_empty 20 = .ok (.invokevirtual 243, 3) := dk_182 0 243 (dk_at dksX9_empty_0 20 rfl rfl)
theorem dX9_empty_23 : decode cX9_empty 23 = .ok (.iload_n 1, 1) := dk_27 (dk_at dksX9_empty_0 23 rfl rfl)
theorem dX9_empty_24 : decode cX9_empty 24 = .ok (.ishr, 1) := dk_122 (dk_at dksX9_empty_1 0 rfl rfl)
theorem dX9_empty_25 : decode cX9_empty 25 = .ok (.iconst 1, 1) := dk_4 (dk_at dksX9_empty_1 1 rfl rfl)
theorem dX9_empty_26 : decode cX9_empty 26 = .ok (.iand, 1) := dk_126 (dk_at dksX9_empty_1 2 rfl rfl)
theorem dX9_empty_27 : decode cX9_empty 27 = .ok (.iconst 1, 1) := dk_4 (dk_at dksX9_empty_1 3 rfl rfl)
theorem dX9_empty_28 : decode cX9_empty 28 = .ok (.if_icmp .ne 5, 3) := dk_160 0 5 (dk_at dksX9_empty_1 4 rfl rfl)
theorem dX9_empty_31 : decode cX9_empty 31 = .ok (.iconst 0, 1) := dk_3 (dk_at dksX9_empty_1 7 rfl rfl)
theorem dX9_empty_32 : decode cX9_empty 32 = .ok (.ireturn, 1) := dk_172 (dk_at dksX9_empty_1 8 rfl rfl)
theorem dX9_empty_33 : decode cX9_empty 33 = .ok (.iconst 1, 1) := dk_4 (dk_at dksX9_empty_1 9 rfl rfl)
theorem dX9_empty_34 : decode cX9_empty 34 = .ok (.istore_n 2, 1) := dk_61 (dk_at dksX9_empty_1 10 rfl rfl)
theorem dX9_empty_35 : decode cX9_empty 35 = .ok (.iconst 0, 1) := dk_3 (dk_at dksX9_empty_1 11 rfl rfl)
theorem dX9_empty_36 : decode cX9_empty 36 = .ok (.istore_n 3, 1) := dk_62 (dk_at dksX9_empty_1 12 rfl rfl)
theorem dX9_empty_37 : decode cX9_empty 37 = .ok (.iload_n 3, 1) := dk_29 (dk_at dksX9_empty_1 13 rfl rfl)
theorem dX9_empty_38 : decode cX9_empty 38 = .ok (.aload_n 0, 1) := dk_42 (dk_at dksX9_empty_1 14 rfl rfl)
theorem dX9_empty_39 : decode cX9_empty 39 = .ok (.getfield 94, 3) := dk_180 0 94 (dk_at dksX9_empty_1 15 rfl rfl)
theorem dX9_empty_42 : decode cX9_empty 42 = .ok (.if_icmp .ge 165, 3) := dk_162 0 165 (dk_at dksX9_empty_1 18 rfl rfl)
theorem dX9_empty_45 : decode cX9_empty 45 = .ok (.iconst 0, 1) := dk_3 (dk_at dksX9_empty_1 21 rfl rfl)
theorem dX9_empty_46 : decode cX9_empty 46 = .ok (.istore 4, 2) := dk_54 4 (dk_at dksX9_empty_1 22 rfl rfl)
theorem dX9_empty_48 : decode cX9_empty 48 = .ok (.iload 4, 2) := dk_21 4 (dk_at dksX9_empty_2 0 rfl rfl)
theorem dX9_empty_50 : decode cX9_empty 50 = .ok (.aload_n 0, 1) := dk_42 (dk_at dksX9_empty_2 2 rfl rfl)
theorem dX9_empty_51 : decode cX9_empty 51 = .ok (.getfield 50, 3) := dk_180 0 50 (dk_at dksX9_empty_2 3 rfl rfl)
theorem dX9_empty_54 : decode cX9_empty 54 = .ok (.iload_n 3, 1) := dk_29 (dk_at dksX9_empty_2 6 rfl rfl)
theorem dX9_empty_55 : decode cX9_empty 55 = .ok (.iaload, 1) := dk_46 (dk_at dksX9_empty_2 7 rfl rfl)
theorem dX9_empty_56 : decode cX9_empty 56 = .ok (.if_icmp .ge 145, 3) := dk_162 0 145 (dk_at dksX9_empty_2 8 rfl rfl)
theorem dX9_empty_59 : decode cX9_empty 59 = .ok (.aload_n 0, 1) := dk_42 (dk_at dksX9_empty_2 11 rfl rfl)
theorem dX9_empty_60 : decode cX9_empty 60 = .ok (.getfield 66, 3) := dk_180 0 66 (dk_at dksX9_empty_2 12 rfl rfl)
theorem dX9_empty_63 : decode cX9_empty 63 = .ok (.iload_n 3, 1) := dk_29 (dk_at dksX9_empty_2 15 rfl rfl)
theorem dX9_empty_64 : decode cX9_empty 64 = .ok (.iaload, 1) := dk_46 (dk_at dksX9_empty_2 16 rfl rfl)
theorem dX9_empty_65 : decode cX9_empty 65 = .ok (.iconst (-1), 1) := dk_2 (dk_at dksX9_empty_2 17 rfl rfl)
theorem dX9_empty_66 : decode cX9_empty 66 = .ok (.if_icmp .ne 135, 3) := dk_160 0 135 (dk_at dksX9_empty_2 18 rfl rfl)
theorem dX9_empty_69 : decode cX9_empty 69 = .ok (.aload_n 0, 1) := dk_42 (dk_at dksX9_empty_2 21 rfl rfl)
theorem dX9_empty_70 : decode cX9_empty 70 = .ok (.getfield 53, 3) := dk_180 0 53 (dk_at dksX9_empty_3 0 rfl rfl)
theorem dX9_empty_73 : decode cX9_empty 73 = .ok (.sipush 200, 3) := dk_17 0 200 (dk_at dksX9_empty_3 3 rfl rfl)
theorem dX9_empty_76 : decode cX9_empty 76 = .ok (.iload_n 3, 1) := dk_29 (dk_at dksX9_empty_3 6 rfl rfl)
theorem dX9_empty_77 : decode cX9_empty 77 = .ok (.imul, 1) := dk_104 (dk_at dksX9_empty_3 7 rfl rfl)
theorem dX9_empty_78 : decode cX9_empty 78 = .ok (.iload 4, 2) := dk_21 4 (dk_at dksX9_empty_3 8 rfl rfl)
theorem dX9_empty_80 : decode cX9_empty 80 = .ok (.iadd, 1) := dk_96 (dk_at dksX9_empty_3 10 rfl rfl)
theorem dX9_empty_81 : decode cX9_empty 81 = .ok (.iaload, 1) := dk_46 (dk_at dksX9_empty_3 11 rfl rfl)
theorem dX9_empty_82 : decode cX9_empty 82 = .ok (.iload_n 1, 1) := dk_27 (dk_at dksX9_empty_3 12 rfl rfl)
theorem dX9_empty_83 : decode cX9_empty 83 = .ok (.ishr, 1) := dk_122 (dk_at dksX9_empty_3 13 rfl rfl)
theorem dX9_empty_84 : decode cX9_empty 84 = .ok (.iconst 1, 1) := dk_4 (dk_at dksX9_empty_3 14 rfl rfl)
theorem dX9_empty_85 : decode cX9_empty 85 = .ok (.iand, 1) := dk_126 (dk_at dksX9_empty_3 15 rfl rfl)
theorem dX9_empty_86 : decode cX9_empty 86 = .ok (.iconst 1, 1) := dk_4 (dk_at dksX9_empty_3 16 rfl rfl)
theorem dX9_empty_87 : decode cX9_empty 87 = .ok (.if_icmp .ne 108, 3) := dk_160 0 108 (dk_at dksX9_empty_3 17 rfl rfl)
theorem dX9_empty_90 : decode cX9_empty 90 = .ok (.iconst 1, 1) := dk_4 (dk_at dksX9_empty_3 20 rfl rfl)
theorem dX9_empty_91 : decode cX9_empty 91 = .ok (.istore 5, 2) := dk_54 5 (dk_at dksX9_empty_3 21 rfl rfl)
theorem dX9_empty_93 : decode cX9_empty 93 = .ok (.iconst 0, 1) := dk_3 (dk_at dksX9_empty_3 23 rfl rfl)
theorem dX9_empty_94 : decode cX9_empty 94 = .ok (.istore 6, 2) := dk_54 6 (dk_at dksX9_empty_4 0 rfl rfl)
theorem dX9_empty_96 : decode cX9_empty 96 = .ok (.iload 6, 2) := dk_21 6 (dk_at dksX9_empty_4 2 rfl rfl)
theorem dX9_empty_98 : decode cX9_empty 98 = .ok (.aload_n 0, 1) := dk_42 (dk_at dksX9_empty_4 4 rfl rfl)
theorem dX9_empty_99 : decode cX9_empty 99 = .ok (.getfield 94, 3) := dk_180 0 94 (dk_at dksX9_empty_4 5 rfl rfl)
theorem dX9_empty_102 : decode cX9_empty 102 = .ok (.if_icmp .ge 73, 3) := dk_162 0 73 (dk_at dksX9_empty_4 8 rfl rfl)
theorem dX9_empty_105 : decode cX9_empty 105 = .ok (.iload 5, 2) := dk_21 5 (dk_at dksX9_empty_4 11 rfl rfl)
theorem dX9_empty_107 : decode cX9_empty 107 = .ok (.ifCond .eq 59, 3) := dk_153 0 59 (dk_at dksX9_empty_4 13 rfl rfl)
theorem dX9_empty_110 : decode cX9_empty 110 = .ok (.aload_n 0, 1) := dk_42 (dk_at dksX9_empty_4 16 rfl rfl)
theorem dX9_empty_111 : decode cX9_empty 111 = .ok (.getfield 66, 3) := dk_180 0 66 (dk_at dksX9_empty_4 17 rfl rfl)
theorem dX9_empty_114 : decode cX9_empty 114 = .ok (.iload 6, 2) := dk_21 6 (dk_at dksX9_empty_4 20 rfl rfl)
theorem dX9_empty_116 : decode cX9_empty 116 = .ok (.iaload, 1) := dk_46 (dk_at dksX9_empty_4 22 rfl rfl)
theorem dX9_empty_117 : decode cX9_empty 117 = .ok (.iconst (-1), 1) := dk_2 (dk_at dksX9_empty_4 23 rfl rfl)
theorem dX9_empty_118 : decode cX9_empty 118 = .ok (.if_icmp .eq 44, 3) := dk_159 0 44 (dk_at dksX9_empty_5 0 rfl rfl)
theorem dX9_empty_121 : decode cX9_empty 121 = .ok (.aload_n 0, 1) := dk_42 (dk_at dksX9_empty_5 3 rfl rfl)
theorem dX9_empty_122 : decode cX9_empty 122 = .ok (.iload_n 3, 1) := dk_29 (dk_at dksX9_empty_5 4 rfl rfl)
theorem dX9_empty_123 : decode cX9_empty 123 = .ok (.iload 4, 2) := dk_21 4 (dk_at dksX9_empty_5 5 rfl rfl)
theorem dX9_empty_125 : decode cX9_empty 125 = .ok (.aload_n 0, 1) := dk_42 (dk_at dksX9_empty_5 7 rfl rfl)
theorem dX9_empty_126 : decode cX9_empty 126 = .ok (.getfield 53, 3) := dk_180 0 53 (dk_at dksX9_empty_5 8 rfl rfl)
theorem dX9_empty_129 : decode cX9_empty 129 = .ok (.sipush 200, 3) := dk_17 0 200 (dk_at dksX9_empty_5 11 rfl rfl)
theorem dX9_empty_132 : decode cX9_empty 132 = .ok (.iload 6, 2) := dk_21 6 (dk_at dksX9_empty_5 14 rfl rfl)
theorem dX9_empty_134 : decode cX9_empty 134 = .ok (.imul, 1) := dk_104 (dk_at dksX9_empty_5 16 rfl rfl)
theorem dX9_empty_135 : decode cX9_empty 135 = .ok (.aload_n 0, 1) := dk_42 (dk_at dksX9_empty_5 17 rfl rfl)
theorem dX9_empty_136 : decode cX9_empty 136 = .ok (.getfield 66, 3) := dk_180 0 66 (dk_at dksX9_empty_5 18 rfl rfl)
theorem dX9_empty_139 : decode cX9_empty 139 = .ok (.iload 6, 2) := dk_21 6 (dk_at dksX9_empty_5 21 rfl rfl)
theorem dX9_empty_141 : decode cX9_empty 141 = .ok (.iaload, 1) := dk_46 (dk_at dksX9_empty_5 23 rfl rfl)
theorem dX9_empty_142 : decode cX9_empty 142 = .ok (.iadd, 1) := dk_96 (dk_at dksX9_empty_6 0 rfl rfl)
theorem dX9_empty_143 : decode cX9_empty 143 = .ok (.iaload, 1) := dk_46 (dk_at dksX9_empty_6 1 rfl rfl)
theorem dX9_empty_144 : decode cX9_empty 144 = .ok (.aload_n 0, 1) := dk_42 (dk_at dksX9_empty_6 2 rfl rfl)
theorem dX9_empty_145 : decode cX9_empty 145 = .ok (.getfield 47, 3) := dk_180 0 47 (dk_at dksX9_empty_6 3 rfl rfl)
theorem dX9_empty_148 : decode cX9_empty 148 = .ok (.bipush 23, 2) := dk_16 23 (dk_at dksX9_empty_6 6 rfl rfl)
theorem dX9_empty_150 : decode cX9_empty 150 = .ok (.iload 6, 2) := dk_21 6 (dk_at dksX9_empty_6 8 rfl rfl)
theorem dX9_empty_152 : decode cX9_empty 152 = .ok (.imul, 1) := dk_104 (dk_at dksX9_empty_6 10 rfl rfl)
theorem dX9_empty_153 : decode cX9_empty 153 = .ok (.iconst 1, 1) := dk_4 (dk_at dksX9_empty_6 11 rfl rfl)
theorem dX9_empty_154 : decode cX9_empty 154 = .ok (.iadd, 1) := dk_96 (dk_at dksX9_empty_6 12 rfl rfl)
theorem dX9_empty_155 : decode cX9_empty 155 = .ok (.iaload, 1) := dk_46 (dk_at dksX9_empty_6 13 rfl rfl)
theorem dX9_empty_156 : decode cX9_empty 156 = .ok (.invokevirtual 219, 3) := dk_182 0 219 (dk_at dksX9_empty_6 14 rfl rfl)
theorem dX9_empty_159 : decode cX9_empty 159 = .ok (.ifCond .eq 7, 3) := dk_153 0 7 (dk_at dksX9_empty_6 17 rfl rfl)
theorem dX9_empty_162 : decode cX9_empty 162 = .ok (.iconst 1, 1) := dk_4 (dk_at dksX9_empty_6 20 rfl rfl)
theorem dX9_empty_163 : decode cX9_empty 163 = .ok (.goto 4, 3) := dk_167 0 4 (dk_at dksX9_empty_6 21 rfl rfl)
theorem dX9_empty_166 : decode cX9_empty 166 = .ok (.iconst 0, 1) := dk_3 (dk_at dksX9_empty_7 0 rfl rfl)
theorem dX9_empty_167 : decode cX9_empty 167 = .ok (.istore 5, 2) := dk_54 5 (dk_at dksX9_empty_7 1 rfl rfl)
theorem dX9_empty_169 : decode cX9_empty 169 = .ok (.iinc 6 1, 3) := dk_132 6 1 (dk_at dksX9_empty_7 3 rfl rfl)
theorem dX9_empty_172 : decode cX9_empty 172 = .ok (.goto (-76), 3) := dk_167 255 180 (dk_at dksX9_empty_7 6 rfl rfl)
theorem dX9_empty_175 : decode cX9_empty 175 = .ok (.iload 5, 2) := dk_21 5 (dk_at dksX9_empty_7 9 rfl rfl)
theorem dX9_empty_177 : decode cX9_empty 177 = .ok (.ifCond .eq 7, 3) := dk_153 0 7 (dk_at dksX9_empty_7 11 rfl rfl)
theorem dX9_empty_180 : decode cX9_empty 180 = .ok (.iconst 3, 1) := dk_6 (dk_at dksX9_empty_7 14 rfl rfl)
theorem dX9_empty_181 : decode cX9_empty 181 = .ok (.goto 13, 3) := dk_167 0 13 (dk_at dksX9_empty_7 15 rfl rfl)
theorem dX9_empty_184 : decode cX9_empty 184 = .ok (.iload_n 2, 1) := dk_28 (dk_at dksX9_empty_7 18 rfl rfl)
theorem dX9_empty_185 : decode cX9_empty 185 = .ok (.iconst 1, 1) := dk_4 (dk_at dksX9_empty_7 19 rfl rfl)
theorem dX9_empty_186 : decode cX9_empty 186 = .ok (.if_icmp .ne 7, 3) := dk_160 0 7 (dk_at dksX9_empty_7 20 rfl rfl)
theorem dX9_empty_189 : decode cX9_empty 189 = .ok (.iconst 2, 1) := dk_5 (dk_at dksX9_empty_7 23 rfl rfl)
theorem dX9_empty_190 : decode cX9_empty 190 = .ok (.goto 4, 3) := dk_167 0 4 (dk_at dksX9_empty_8 0 rfl rfl)
theorem dX9_empty_193 : decode cX9_empty 193 = .ok (.iload_n 2, 1) := dk_28 (dk_at dksX9_empty_8 3 rfl rfl)
theorem dX9_empty_194 : decode cX9_empty 194 = .ok (.istore_n 2, 1) := dk_61 (dk_at dksX9_empty_8 4 rfl rfl)
theorem dX9_empty_195 : decode cX9_empty 195 = .ok (.iinc 4 1, 3) := dk_132 4 1 (dk_at dksX9_empty_8 5 rfl rfl)
theorem dX9_empty_198 : decode cX9_empty 198 = .ok (.goto (-150), 3) := dk_167 255 106 (dk_at dksX9_empty_8 8 rfl rfl)
theorem dX9_empty_201 : decode cX9_empty 201 = .ok (.iinc 3 1, 3) := dk_132 3 1 (dk_at dksX9_empty_8 11 rfl rfl)
theorem dX9_empty_204 : decode cX9_empty 204 = .ok (.goto (-167), 3) := dk_167 255 89 (dk_at dksX9_empty_8 14 rfl rfl)
theorem dX9_empty_207 : decode cX9_empty 207 = .ok (.iload_n 2, 1) := dk_28 (dk_at dksX9_empty_8 17 rfl rfl)
theorem dX9_empty_208 : decode cX9_empty 208 = .ok (.ireturn, 1) := dk_172 (dk_at dksX9_empty_8 18 rfl rfl)
abbrev cX9_again : ByteArray := prog_16_method_53_code
def yX9_again : MethodName := ⟨RX9, "again", "(I)I"⟩
def dkwX9_again_0 : List UInt8 := [27, 3, 4, 184, 0, 87, 154, 0, 6, 16, 253, 172, 42, 180, 0, 250, 61, 42, 27, 181, 0, 250, 28, 172]
abbrev dktX9_again_0 : List UInt8 := dkwX9_again_0 ++ []
theorem dksX9_again_0 : cX9_again.data.toList.drop 0 = dktX9_again_0 := by decide +kernel
theorem dX9_again_0 : decode cX9_again 0 = .ok (.iload_n 1, 1) := dk_27 (dk_at dksX9_again_0 0 rfl rfl)
theorem dX9_again_1 : decode cX9_again 1 = .ok (.iconst 0, 1) := dk_3 (dk_at dksX9_again_0 1 rfl rfl)
theorem dX9_again_2 : decode cX9_again 2 = .ok (.iconst 1, 1) := dk_4 (dk_at dksX9_again_0 2 rfl rfl)
theorem dX9_again_3 : decode cX9_again 3 = .ok (.invokestatic 87, 3) := dk_184 0 87 (dk_at dksX9_again_0 3 rfl rfl)
theorem dX9_again_6 : decode cX9_again 6 = .ok (.ifCond .ne 6, 3) := dk_154 0 6 (dk_at dksX9_again_0 6 rfl rfl)
theorem dX9_again_9 : decode cX9_again 9 = .ok (.bipush (-3), 2) := dk_16 253 (dk_at dksX9_again_0 9 rfl rfl)
theorem dX9_again_11 : decode cX9_again 11 = .ok (.ireturn, 1) := dk_172 (dk_at dksX9_again_0 11 rfl rfl)
theorem dX9_again_12 : decode cX9_again 12 = .ok (.aload_n 0, 1) := dk_42 (dk_at dksX9_again_0 12 rfl rfl)
theorem dX9_again_13 : decode cX9_again 13 = .ok (.getfield 250, 3) := dk_180 0 250 (dk_at dksX9_again_0 13 rfl rfl)
theorem dX9_again_16 : decode cX9_again 16 = .ok (.istore_n 2, 1) := dk_61 (dk_at dksX9_again_0 16 rfl rfl)
theorem dX9_again_17 : decode cX9_again 17 = .ok (.aload_n 0, 1) := dk_42 (dk_at dksX9_again_0 17 rfl rfl)
theorem dX9_again_18 : decode cX9_again 18 = .ok (.iload_n 1, 1) := dk_27 (dk_at dksX9_again_0 18 rfl rfl)
theorem dX9_again_19 : decode cX9_again 19 = .ok (.putfield 250, 3) := dk_181 0 250 (dk_at dksX9_again_0 19 rfl rfl)
theorem dX9_again_22 : decode cX9_again 22 = .ok (.iload_n 2, 1) := dk_28 (dk_at dksX9_again_0 22 rfl rfl)
theorem dX9_again_23 : decode cX9_again 23 = .ok (.ireturn, 1) := dk_172 (dk_at dksX9_again_0 23 rfl rfl)
abbrev cX9_watch : ByteArray := prog_16_method_59_code
def yX9_watch : MethodName := ⟨RX9, "watch", "(II)I"⟩
def dkwX9_watch_1 : List UInt8 := [27, 28, 42, 180, 0, 7, 182, 1, 12, 42, 180, 1, 0, 172]
abbrev dktX9_watch_1 : List UInt8 := dkwX9_watch_1 ++ []
def dkwX9_watch_0 : List UInt8 := [42, 28, 182, 0, 124, 154, 0, 6, 16, 254, 172, 27, 3, 5, 184, 0, 87, 154, 0, 6, 16, 253, 172, 42]
abbrev dktX9_watch_0 : List UInt8 := dkwX9_watch_0 ++ dktX9_watch_1
theorem dksX9_watch_0 : cX9_watch.data.toList.drop 0 = dktX9_watch_0 := by decide +kernel
theorem dksX9_watch_1 : cX9_watch.data.toList.drop 24 = dktX9_watch_1 := dk_seg dksX9_watch_0 24 rfl rfl
theorem dX9_watch_0 : decode cX9_watch 0 = .ok (.aload_n 0, 1) := dk_42 (dk_at dksX9_watch_0 0 rfl rfl)
theorem dX9_watch_1 : decode cX9_watch 1 = .ok (.iload_n 2, 1) := dk_28 (dk_at dksX9_watch_0 1 rfl rfl)
theorem dX9_watch_2 : decode cX9_watch 2 = .ok (.invokevirtual 124, 3) := dk_182 0 124 (dk_at dksX9_watch_0 2 rfl rfl)
theorem dX9_watch_5 : decode cX9_watch 5 = .ok (.ifCond .ne 6, 3) := dk_154 0 6 (dk_at dksX9_watch_0 5 rfl rfl)
theorem dX9_watch_8 : decode cX9_watch 8 = .ok (.bipush (-2), 2) := dk_16 254 (dk_at dksX9_watch_0 8 rfl rfl)
theorem dX9_watch_10 : decode cX9_watch 10 = .ok (.ireturn, 1) := dk_172 (dk_at dksX9_watch_0 10 rfl rfl)
theorem dX9_watch_11 : decode cX9_watch 11 = .ok (.iload_n 1, 1) := dk_27 (dk_at dksX9_watch_0 11 rfl rfl)
theorem dX9_watch_12 : decode cX9_watch 12 = .ok (.iconst 0, 1) := dk_3 (dk_at dksX9_watch_0 12 rfl rfl)
theorem dX9_watch_13 : decode cX9_watch 13 = .ok (.iconst 2, 1) := dk_5 (dk_at dksX9_watch_0 13 rfl rfl)
theorem dX9_watch_14 : decode cX9_watch 14 = .ok (.invokestatic 87, 3) := dk_184 0 87 (dk_at dksX9_watch_0 14 rfl rfl)
theorem dX9_watch_17 : decode cX9_watch 17 = .ok (.ifCond .ne 6, 3) := dk_154 0 6 (dk_at dksX9_watch_0 17 rfl rfl)
theorem dX9_watch_20 : decode cX9_watch 20 = .ok (.bipush (-3), 2) := dk_16 253 (dk_at dksX9_watch_0 20 rfl rfl)
theorem dX9_watch_22 : decode cX9_watch 22 = .ok (.ireturn, 1) := dk_172 (dk_at dksX9_watch_0 22 rfl rfl)
theorem dX9_watch_23 : decode cX9_watch 23 = .ok (.aload_n 0, 1) := dk_42 (dk_at dksX9_watch_0 23 rfl rfl)
theorem dX9_watch_24 : decode cX9_watch 24 = .ok (.iload_n 1, 1) := dk_27 (dk_at dksX9_watch_1 0 rfl rfl)
theorem dX9_watch_25 : decode cX9_watch 25 = .ok (.iload_n 2, 1) := dk_28 (dk_at dksX9_watch_1 1 rfl rfl)
theorem dX9_watch_26 : decode cX9_watch 26 = .ok (.aload_n 0, 1) := dk_42 (dk_at dksX9_watch_1 2 rfl rfl)
theorem dX9_watch_27 : decode cX9_watch 27 = .ok (.getfield 7, 3) := dk_180 0 7 (dk_at dksX9_watch_1 3 rfl rfl)
theorem dX9_watch_30 : decode cX9_watch 30 = .ok (.invokevirtual 268, 3) := dk_182 1 12 (dk_at dksX9_watch_1 6 rfl rfl)
theorem dX9_watch_33 : decode cX9_watch 33 = .ok (.aload_n 0, 1) := dk_42 (dk_at dksX9_watch_1 9 rfl rfl)
theorem dX9_watch_34 : decode cX9_watch 34 = .ok (.getfield 256, 3) := dk_180 1 0 (dk_at dksX9_watch_1 10 rfl rfl)
theorem dX9_watch_37 : decode cX9_watch 37 = .ok (.ireturn, 1) := dk_172 (dk_at dksX9_watch_1 13 rfl rfl)
abbrev cX9_watchTo : ByteArray := prog_16_method_58_code
def yX9_watchTo : MethodName := ⟨RX9, "watchTo", "(III)V"⟩
def dkwX9_watchTo_19 : List UInt8 := [132, 7, 1, 167, 254, 117, 177]
abbrev dktX9_watchTo_19 : List UInt8 := dkwX9_watchTo_19 ++ []
def dkwX9_watchTo_18 : List UInt8 := [167, 0, 24, 42, 180, 0, 78, 21, 7, 16, 10, 21, 5, 96, 79, 42, 21, 5, 182, 1, 3, 2, 54, 5]
abbrev dktX9_watchTo_18 : List UInt8 := dkwX9_watchTo_18 ++ dktX9_watchTo_19
def dkwX9_watchTo_17 : List UInt8 := [46, 16, 8, 160, 0, 12, 42, 21, 5, 182, 0, 222, 167, 0, 4, 3, 96, 181, 1, 0, 2, 54, 5]
abbrev dktX9_watchTo_17 : List UInt8 := dkwX9_watchTo_17 ++ dktX9_watchTo_18
def dkwX9_watchTo_16 : List UInt8 := [167, 0, 12, 42, 180, 0, 69, 21, 5, 46, 4, 96, 79, 42, 89, 180, 1, 0, 42, 180, 0, 69, 21, 5]
abbrev dktX9_watchTo_16 : List UInt8 := dkwX9_watchTo_16 ++ dktX9_watchTo_17
def dkwX9_watchTo_15 : List UInt8 := [21, 5, 42, 180, 0, 69, 21, 5, 46, 4, 96, 42, 21, 5, 182, 0, 209, 160, 0, 8, 16, 8]
abbrev dktX9_watchTo_15 : List UInt8 := dkwX9_watchTo_15 ++ dktX9_watchTo_16
def dkwX9_watchTo_14 : List UInt8 := [79, 132, 6, 255, 21, 6, 154, 0, 111, 42, 180, 0, 72, 21, 5, 21, 7, 4, 96, 79, 42, 180, 0, 69]
abbrev dktX9_watchTo_14 : List UInt8 := dkwX9_watchTo_14 ++ dktX9_watchTo_15
def dkwX9_watchTo_13 : List UInt8 := [42, 180, 0, 69, 21, 5, 46, 21, 7, 28, 182, 0, 202, 153, 0, 107, 42, 180, 0, 78, 21, 7, 21, 5]
abbrev dktX9_watchTo_13 : List UInt8 := dkwX9_watchTo_13 ++ dktX9_watchTo_14
def dkwX9_watchTo_12 : List UInt8 := [21, 8, 42, 180, 0, 69, 21, 8, 46, 3, 182, 0, 194, 54, 6, 21, 5, 2, 159, 0, 147, 42, 21, 5]
abbrev dktX9_watchTo_12 : List UInt8 := dkwX9_watchTo_12 ++ dktX9_watchTo_13
def dkwX9_watchTo_11 : List UInt8 := [104, 4, 96, 46, 54, 4, 42, 180, 0, 78, 21, 7, 16, 20, 79, 167, 0, 23, 21, 8, 54, 5, 42]
abbrev dktX9_watchTo_11 : List UInt8 := dkwX9_watchTo_11 ++ dktX9_watchTo_12
def dkwX9_watchTo_10 : List UInt8 := [180, 0, 47, 16, 23, 21, 8, 104, 4, 96, 46, 21, 4, 159, 0, 29, 42, 180, 0, 47, 16, 23, 21, 8]
abbrev dktX9_watchTo_10 : List UInt8 := dkwX9_watchTo_10 ++ dktX9_watchTo_11
def dkwX9_watchTo_9 : List UInt8 := [16, 12, 28, 104, 21, 7, 96, 46, 7, 160, 0, 8, 16, 21, 167, 0, 5, 16, 22, 79, 167, 0, 66, 42]
abbrev dktX9_watchTo_9 : List UInt8 := dkwX9_watchTo_9 ++ dktX9_watchTo_10
def dkwX9_watchTo_8 : List UInt8 := [54, 8, 132, 9, 1, 167, 255, 203, 21, 8, 2, 160, 0, 36, 42, 180, 0, 78, 21, 7, 42, 180, 0, 26]
abbrev dktX9_watchTo_8 : List UInt8 := dkwX9_watchTo_8 ++ dktX9_watchTo_9
def dkwX9_watchTo_7 : List UInt8 := [159, 0, 17, 42, 27, 21, 9, 21, 8, 21, 7, 182, 1, 9, 153, 0, 8, 21, 9, 167, 0, 5, 21, 8]
abbrev dktX9_watchTo_7 : List UInt8 := dkwX9_watchTo_7 ++ dktX9_watchTo_8
def dkwX9_watchTo_6 : List UInt8 := [21, 9, 42, 180, 0, 94, 162, 0, 50, 42, 21, 9, 21, 7, 28, 182, 1, 6, 153, 0, 28, 21, 8, 2]
abbrev dktX9_watchTo_6 : List UInt8 := dkwX9_watchTo_6 ++ dktX9_watchTo_7
def dkwX9_watchTo_5 : List UInt8 := [182, 0, 194, 164, 0, 9, 42, 21, 8, 182, 1, 3, 132, 8, 1, 167, 255, 196, 2, 54, 8, 3, 54, 9]
abbrev dktX9_watchTo_5 : List UInt8 := dkwX9_watchTo_5 ++ dktX9_watchTo_6
def dkwX9_watchTo_4 : List UInt8 := [153, 0, 36, 21, 7, 42, 180, 0, 72, 21, 8, 46, 100, 42, 21, 8, 42, 180, 0, 69, 21, 8, 46, 8]
abbrev dktX9_watchTo_4 : List UInt8 := dkwX9_watchTo_4 ++ dktX9_watchTo_5
def dkwX9_watchTo_3 : List UInt8 := [54, 8, 21, 8, 42, 180, 0, 94, 162, 0, 57, 42, 180, 0, 69, 21, 8, 46, 4, 5, 184, 0, 87]
abbrev dktX9_watchTo_3 : List UInt8 := dkwX9_watchTo_3 ++ dktX9_watchTo_4
def dkwX9_watchTo_2 : List UInt8 := [54, 4, 2, 54, 5, 3, 54, 6, 3, 54, 7, 21, 7, 29, 162, 1, 139, 21, 5, 2, 160, 0, 233, 3]
abbrev dktX9_watchTo_2 : List UInt8 := dkwX9_watchTo_2 ++ dktX9_watchTo_3
def dkwX9_watchTo_1 : List UInt8 := [21, 4, 3, 79, 42, 180, 0, 75, 21, 4, 3, 84, 132, 4, 1, 167, 255, 220, 42, 3, 181, 1, 0, 3]
abbrev dktX9_watchTo_1 : List UInt8 := dkwX9_watchTo_1 ++ dktX9_watchTo_2
def dkwX9_watchTo_0 : List UInt8 := [3, 54, 4, 21, 4, 42, 180, 0, 94, 162, 0, 33, 42, 180, 0, 69, 21, 4, 3, 79, 42, 180, 0, 72]
abbrev dktX9_watchTo_0 : List UInt8 := dkwX9_watchTo_0 ++ dktX9_watchTo_1
theorem dksX9_watchTo_0 : cX9_watchTo.data.toList.drop 0 = dktX9_watchTo_0 := by decide +kernel
theorem dksX9_watchTo_1 : cX9_watchTo.data.toList.drop 24 = dktX9_watchTo_1 := dk_seg dksX9_watchTo_0 24 rfl rfl
theorem dksX9_watchTo_2 : cX9_watchTo.data.toList.drop 48 = dktX9_watchTo_2 := dk_seg dksX9_watchTo_1 24 rfl rfl
theorem dksX9_watchTo_3 : cX9_watchTo.data.toList.drop 72 = dktX9_watchTo_3 := dk_seg dksX9_watchTo_2 24 rfl rfl
theorem dksX9_watchTo_4 : cX9_watchTo.data.toList.drop 95 = dktX9_watchTo_4 := dk_seg dksX9_watchTo_3 23 rfl rfl
theorem dksX9_watchTo_5 : cX9_watchTo.data.toList.drop 119 = dktX9_watchTo_5 := dk_seg dksX9_watchTo_4 24 rfl rfl
theorem dksX9_watchTo_6 : cX9_watchTo.data.toList.drop 143 = dktX9_watchTo_6 := dk_seg dksX9_watchTo_5 24 rfl rfl
theorem dksX9_watchTo_7 : cX9_watchTo.data.toList.drop 167 = dktX9_watchTo_7 := dk_seg dksX9_watchTo_6 24 rfl rfl
theorem dksX9_watchTo_8 : cX9_watchTo.data.toList.drop 191 = dktX9_watchTo_8 := dk_seg dksX9_watchTo_7 24 rfl rfl
theorem dksX9_watchTo_9 : cX9_watchTo.data.toList.drop 215 = dktX9_watchTo_9 := dk_seg dksX9_watchTo_8 24 rfl rfl
theorem dksX9_watchTo_10 : cX9_watchTo.data.toList.drop 239 = dktX9_watchTo_10 := dk_seg dksX9_watchTo_9 24 rfl rfl
theorem dksX9_watchTo_11 : cX9_watchTo.data.toList.drop 263 = dktX9_watchTo_11 := dk_seg dksX9_watchTo_10 24 rfl rfl
theorem dksX9_watchTo_12 : cX9_watchTo.data.toList.drop 286 = dktX9_watchTo_12 := dk_seg dksX9_watchTo_11 23 rfl rfl
theorem dksX9_watchTo_13 : cX9_watchTo.data.toList.drop 310 = dktX9_watchTo_13 := dk_seg dksX9_watchTo_12 24 rfl rfl
theorem dksX9_watchTo_14 : cX9_watchTo.data.toList.drop 334 = dktX9_watchTo_14 := dk_seg dksX9_watchTo_13 24 rfl rfl
theorem dksX9_watchTo_15 : cX9_watchTo.data.toList.drop 358 = dktX9_watchTo_15 := dk_seg dksX9_watchTo_14 24 rfl rfl
theorem dksX9_watchTo_16 : cX9_watchTo.data.toList.drop 380 = dktX9_watchTo_16 := dk_seg dksX9_watchTo_15 22 rfl rfl
theorem dksX9_watchTo_17 : cX9_watchTo.data.toList.drop 404 = dktX9_watchTo_17 := dk_seg dksX9_watchTo_16 24 rfl rfl
theorem dksX9_watchTo_18 : cX9_watchTo.data.toList.drop 427 = dktX9_watchTo_18 := dk_seg dksX9_watchTo_17 23 rfl rfl
theorem dksX9_watchTo_19 : cX9_watchTo.data.toList.drop 451 = dktX9_watchTo_19 := dk_seg dksX9_watchTo_18 24 rfl rfl
theorem dX9_watchTo_0 : decode cX9_watchTo 0 = .ok (.iconst 0, 1) := dk_3 (dk_at dksX9_watchTo_0 0 rfl rfl)
theorem dX9_watchTo_1 : decode cX9_watchTo 1 = .ok (.istore 4, 2) := dk_54 4 (dk_at dksX9_watchTo_0 1 rfl rfl)
theorem dX9_watchTo_3 : decode cX9_watchTo 3 = .ok (.iload 4, 2) := dk_21 4 (dk_at dksX9_watchTo_0 3 rfl rfl)
theorem dX9_watchTo_5 : decode cX9_watchTo 5 = .ok (.aload_n 0, 1) := dk_42 (dk_at dksX9_watchTo_0 5 rfl rfl)
theorem dX9_watchTo_6 : decode cX9_watchTo 6 = .ok (.getfield 94, 3) := dk_180 0 94 (dk_at dksX9_watchTo_0 6 rfl rfl)
theorem dX9_watchTo_9 : decode cX9_watchTo 9 = .ok (.if_icmp .ge 33, 3) := dk_162 0 33 (dk_at dksX9_watchTo_0 9 rfl rfl)
theorem dX9_watchTo_12 : decode cX9_watchTo 12 = .ok (.aload_n 0, 1) := dk_42 (dk_at dksX9_watchTo_0 12 rfl rfl)
theorem dX9_watchTo_13 : decode cX9_watchTo 13 = .ok (.getfield 69, 3) := dk_180 0 69 (dk_at dksX9_watchTo_0 13 rfl rfl)
theorem dX9_watchTo_16 : decode cX9_watchTo 16 = .ok (.iload 4, 2) := dk_21 4 (dk_at dksX9_watchTo_0 16 rfl rfl)
theorem dX9_watchTo_18 : decode cX9_watchTo 18 = .ok (.iconst 0, 1) := dk_3 (dk_at dksX9_watchTo_0 18 rfl rfl)
theorem dX9_watchTo_19 : decode cX9_watchTo 19 = .ok (.iastore, 1) := dk_79 (dk_at dksX9_watchTo_0 19 rfl rfl)
theorem dX9_watchTo_20 : decode cX9_watchTo 20 = .ok (.aload_n 0, 1) := dk_42 (dk_at dksX9_watchTo_0 20 rfl rfl)
theorem dX9_watchTo_21 : decode cX9_watchTo 21 = .ok (.getfield 72, 3) := dk_180 0 72 (dk_at dksX9_watchTo_0 21 rfl rfl)
theorem dX9_watchTo_24 : decode cX9_watchTo 24 = .ok (.iload 4, 2) := dk_21 4 (dk_at dksX9_watchTo_1 0 rfl rfl)
theorem dX9_watchTo_26 : decode cX9_watchTo 26 = .ok (.iconst 0, 1) := dk_3 (dk_at dksX9_watchTo_1 2 rfl rfl)
theorem dX9_watchTo_27 : decode cX9_watchTo 27 = .ok (.iastore, 1) := dk_79 (dk_at dksX9_watchTo_1 3 rfl rfl)
theorem dX9_watchTo_28 : decode cX9_watchTo 28 = .ok (.aload_n 0, 1) := dk_42 (dk_at dksX9_watchTo_1 4 rfl rfl)
theorem dX9_watchTo_29 : decode cX9_watchTo 29 = .ok (.getfield 75, 3) := dk_180 0 75 (dk_at dksX9_watchTo_1 5 rfl rfl)
theorem dX9_watchTo_32 : decode cX9_watchTo 32 = .ok (.iload 4, 2) := dk_21 4 (dk_at dksX9_watchTo_1 8 rfl rfl)
theorem dX9_watchTo_34 : decode cX9_watchTo 34 = .ok (.iconst 0, 1) := dk_3 (dk_at dksX9_watchTo_1 10 rfl rfl)
theorem dX9_watchTo_35 : decode cX9_watchTo 35 = .ok (.bastore, 1) := dk_84 (dk_at dksX9_watchTo_1 11 rfl rfl)
theorem dX9_watchTo_36 : decode cX9_watchTo 36 = .ok (.iinc 4 1, 3) := dk_132 4 1 (dk_at dksX9_watchTo_1 12 rfl rfl)
theorem dX9_watchTo_39 : decode cX9_watchTo 39 = .ok (.goto (-36), 3) := dk_167 255 220 (dk_at dksX9_watchTo_1 15 rfl rfl)
theorem dX9_watchTo_42 : decode cX9_watchTo 42 = .ok (.aload_n 0, 1) := dk_42 (dk_at dksX9_watchTo_1 18 rfl rfl)
theorem dX9_watchTo_43 : decode cX9_watchTo 43 = .ok (.iconst 0, 1) := dk_3 (dk_at dksX9_watchTo_1 19 rfl rfl)
theorem dX9_watchTo_44 : decode cX9_watchTo 44 = .ok (.putfield 256, 3) := dk_181 1 0 (dk_at dksX9_watchTo_1 20 rfl rfl)
theorem dX9_watchTo_47 : decode cX9_watchTo 47 = .ok (.iconst 0, 1) := dk_3 (dk_at dksX9_watchTo_1 23 rfl rfl)
theorem dX9_watchTo_48 : decode cX9_watchTo 48 = .ok (.istore 4, 2) := dk_54 4 (dk_at dksX9_watchTo_2 0 rfl rfl)
theorem dX9_watchTo_50 : decode cX9_watchTo 50 = .ok (.iconst (-1), 1) := dk_2 (dk_at dksX9_watchTo_2 2 rfl rfl)
theorem dX9_watchTo_51 : decode cX9_watchTo 51 = .ok (.istore 5, 2) := dk_54 5 (dk_at dksX9_watchTo_2 3 rfl rfl)
theorem dX9_watchTo_53 : decode cX9_watchTo 53 = .ok (.iconst 0, 1) := dk_3 (dk_at dksX9_watchTo_2 5 rfl rfl)
theorem dX9_watchTo_54 : decode cX9_watchTo 54 = .ok (.istore 6, 2) := dk_54 6 (dk_at dksX9_watchTo_2 6 rfl rfl)
theorem dX9_watchTo_56 : decode cX9_watchTo 56 = .ok (.iconst 0, 1) := dk_3 (dk_at dksX9_watchTo_2 8 rfl rfl)
theorem dX9_watchTo_57 : decode cX9_watchTo 57 = .ok (.istore 7, 2) := dk_54 7 (dk_at dksX9_watchTo_2 9 rfl rfl)
theorem dX9_watchTo_59 : decode cX9_watchTo 59 = .ok (.iload 7, 2) := dk_21 7 (dk_at dksX9_watchTo_2 11 rfl rfl)
theorem dX9_watchTo_61 : decode cX9_watchTo 61 = .ok (.iload_n 3, 1) := dk_29 (dk_at dksX9_watchTo_2 13 rfl rfl)
theorem dX9_watchTo_62 : decode cX9_watchTo 62 = .ok (.if_icmp .ge 395, 3) := dk_162 1 139 (dk_at dksX9_watchTo_2 14 rfl rfl)
theorem dX9_watchTo_65 : decode cX9_watchTo 65 = .ok (.iload 5, 2) := dk_21 5 (dk_at dksX9_watchTo_2 17 rfl rfl)
theorem dX9_watchTo_67 : decode cX9_watchTo 67 = .ok (.iconst (-1), 1) := dk_2 (dk_at dksX9_watchTo_2 19 rfl rfl)
theorem dX9_watchTo_68 : decode cX9_watchTo 68 = .ok (.if_icmp .ne 233, 3) := dk_160 0 233 (dk_at dksX9_watchTo_2 20 rfl rfl)
theorem dX9_watchTo_71 : decode cX9_watchTo 71 = .ok (.iconst 0, 1) := dk_3 (dk_at dksX9_watchTo_2 23 rfl rfl)
theorem dX9_watchTo_72 : decode cX9_watchTo 72 = .ok (.istore 8, 2) := dk_54 8 (dk_at dksX9_watchTo_3 0 rfl rfl)
theorem dX9_watchTo_74 : decode cX9_watchTo 74 = .ok (.iload 8, 2) := dk_21 8 (dk_at dksX9_watchTo_3 2 rfl rfl)
theorem dX9_watchTo_76 : decode cX9_watchTo 76 = .ok (.aload_n 0, 1) := dk_42 (dk_at dksX9_watchTo_3 4 rfl rfl)
theorem dX9_watchTo_77 : decode cX9_watchTo 77 = .ok (.getfield 94, 3) := dk_180 0 94 (dk_at dksX9_watchTo_3 5 rfl rfl)
theorem dX9_watchTo_80 : decode cX9_watchTo 80 = .ok (.if_icmp .ge 57, 3) := dk_162 0 57 (dk_at dksX9_watchTo_3 8 rfl rfl)
theorem dX9_watchTo_83 : decode cX9_watchTo 83 = .ok (.aload_n 0, 1) := dk_42 (dk_at dksX9_watchTo_3 11 rfl rfl)
theorem dX9_watchTo_84 : decode cX9_watchTo 84 = .ok (.getfield 69, 3) := dk_180 0 69 (dk_at dksX9_watchTo_3 12 rfl rfl)
theorem dX9_watchTo_87 : decode cX9_watchTo 87 = .ok (.iload 8, 2) := dk_21 8 (dk_at dksX9_watchTo_3 15 rfl rfl)
theorem dX9_watchTo_89 : decode cX9_watchTo 89 = .ok (.iaload, 1) := dk_46 (dk_at dksX9_watchTo_3 17 rfl rfl)
theorem dX9_watchTo_90 : decode cX9_watchTo 90 = .ok (.iconst 1, 1) := dk_4 (dk_at dksX9_watchTo_3 18 rfl rfl)
theorem dX9_watchTo_91 : decode cX9_watchTo 91 = .ok (.iconst 2, 1) := dk_5 (dk_at dksX9_watchTo_3 19 rfl rfl)
theorem dX9_watchTo_92 : decode cX9_watchTo 92 = .ok (.invokestatic 87, 3) := dk_184 0 87 (dk_at dksX9_watchTo_3 20 rfl rfl)
theorem dX9_watchTo_95 : decode cX9_watchTo 95 = .ok (.ifCond .eq 36, 3) := dk_153 0 36 (dk_at dksX9_watchTo_4 0 rfl rfl)
theorem dX9_watchTo_98 : decode cX9_watchTo 98 = .ok (.iload 7, 2) := dk_21 7 (dk_at dksX9_watchTo_4 3 rfl rfl)
theorem dX9_watchTo_100 : decode cX9_watchTo 100 = .ok (.aload_n 0, 1) := dk_42 (dk_at dksX9_watchTo_4 5 rfl rfl)
theorem dX9_watchTo_101 : decode cX9_watchTo 101 = .ok (.getfield 72, 3) := dk_180 0 72 (dk_at dksX9_watchTo_4 6 rfl rfl)
theorem dX9_watchTo_104 : decode cX9_watchTo 104 = .ok (.iload 8, 2) := dk_21 8 (dk_at dksX9_watchTo_4 9 rfl rfl)
theorem dX9_watchTo_106 : decode cX9_watchTo 106 = .ok (.iaload, 1) := dk_46 (dk_at dksX9_watchTo_4 11 rfl rfl)
theorem dX9_watchTo_107 : decode cX9_watchTo 107 = .ok (.isub, 1) := dk_100 (dk_at dksX9_watchTo_4 12 rfl rfl)
theorem dX9_watchTo_108 : decode cX9_watchTo 108 = .ok (.aload_n 0, 1) := dk_42 (dk_at dksX9_watchTo_4 13 rfl rfl)
theorem dX9_watchTo_109 : decode cX9_watchTo 109 = .ok (.iload 8, 2) := dk_21 8 (dk_at dksX9_watchTo_4 14 rfl rfl)
theorem dX9_watchTo_111 : decode cX9_watchTo 111 = .ok (.aload_n 0, 1) := dk_42 (dk_at dksX9_watchTo_4 16 rfl rfl)
theorem dX9_watchTo_112 : decode cX9_watchTo 112 = .ok (.getfield 69, 3) := dk_180 0 69 (dk_at dksX9_watchTo_4 17 rfl rfl)
theorem dX9_watchTo_115 : decode cX9_watchTo 115 = .ok (.iload 8, 2) := dk_21 8 (dk_at dksX9_watchTo_4 20 rfl rfl)
theorem dX9_watchTo_117 : decode cX9_watchTo 117 = .ok (.iaload, 1) := dk_46 (dk_at dksX9_watchTo_4 22 rfl rfl)
theorem dX9_watchTo_118 : decode cX9_watchTo 118 = .ok (.iconst 5, 1) := dk_8 (dk_at dksX9_watchTo_4 23 rfl rfl)
theorem dX9_watchTo_119 : decode cX9_watchTo 119 = .ok (.invokevirtual 194, 3) := dk_182 0 194 (dk_at dksX9_watchTo_5 0 rfl rfl)
theorem dX9_watchTo_122 : decode cX9_watchTo 122 = .ok (.if_icmp .le 9, 3) := dk_164 0 9 (dk_at dksX9_watchTo_5 3 rfl rfl)
theorem dX9_watchTo_125 : decode cX9_watchTo 125 = .ok (.aload_n 0, 1) := dk_42 (dk_at dksX9_watchTo_5 6 rfl rfl)
theorem dX9_watchTo_126 : decode cX9_watchTo 126 = .ok (.iload 8, 2) := dk_21 8 (dk_at dksX9_watchTo_5 7 rfl rfl)
theorem dX9_watchTo_128 : decode cX9_watchTo 128 = .ok (.invokevirtual 259, 3) := dk_182 1 3 (dk_at dksX9_watchTo_5 9 rfl rfl)
theorem dX9_watchTo_131 : decode cX9_watchTo 131 = .ok (.iinc 8 1, 3) := dk_132 8 1 (dk_at dksX9_watchTo_5 12 rfl rfl)
theorem dX9_watchTo_134 : decode cX9_watchTo 134 = .ok (.goto (-60), 3) := dk_167 255 196 (dk_at dksX9_watchTo_5 15 rfl rfl)
theorem dX9_watchTo_137 : decode cX9_watchTo 137 = .ok (.iconst (-1), 1) := dk_2 (dk_at dksX9_watchTo_5 18 rfl rfl)
theorem dX9_watchTo_138 : decode cX9_watchTo 138 = .ok (.istore 8, 2) := dk_54 8 (dk_at dksX9_watchTo_5 19 rfl rfl)
theorem dX9_watchTo_140 : decode cX9_watchTo 140 = .ok (.iconst 0, 1) := dk_3 (dk_at dksX9_watchTo_5 21 rfl rfl)
theorem dX9_watchTo_141 : decode cX9_watchTo 141 = .ok (.istore 9, 2) := dk_54 9 (dk_at dksX9_watchTo_5 22 rfl rfl)
theorem dX9_watchTo_143 : decode cX9_watchTo 143 = .ok (.iload 9, 2) := dk_21 9 (dk_at dksX9_watchTo_6 0 rfl rfl)
theorem dX9_watchTo_145 : decode cX9_watchTo 145 = .ok (.aload_n 0, 1) := dk_42 (dk_at dksX9_watchTo_6 2 rfl rfl)
theorem dX9_watchTo_146 : decode cX9_watchTo 146 = .ok (.getfield 94, 3) := dk_180 0 94 (dk_at dksX9_watchTo_6 3 rfl rfl)
theorem dX9_watchTo_149 : decode cX9_watchTo 149 = .ok (.if_icmp .ge 50, 3) := dk_162 0 50 (dk_at dksX9_watchTo_6 6 rfl rfl)
theorem dX9_watchTo_152 : decode cX9_watchTo 152 = .ok (.aload_n 0, 1) := dk_42 (dk_at dksX9_watchTo_6 9 rfl rfl)
theorem dX9_watchTo_153 : decode cX9_watchTo 153 = .ok (.iload 9, 2) := dk_21 9 (dk_at dksX9_watchTo_6 10 rfl rfl)
theorem dX9_watchTo_155 : decode cX9_watchTo 155 = .ok (.iload 7, 2) := dk_21 7 (dk_at dksX9_watchTo_6 12 rfl rfl)
theorem dX9_watchTo_157 : decode cX9_watchTo 157 = .ok (.iload_n 2, 1) := dk_28 (dk_at dksX9_watchTo_6 14 rfl rfl)
theorem dX9_watchTo_158 : decode cX9_watchTo 158 = .ok (.invokevirtual 262, 3) := dk_182 1 6 (dk_at dksX9_watchTo_6 15 rfl rfl)
theorem dX9_watchTo_161 : decode cX9_watchTo 161 = .ok (.ifCond .eq 28, 3) := dk_153 0 28 (dk_at dksX9_watchTo_6 18 rfl rfl)
theorem dX9_watchTo_164 : decode cX9_watchTo 164 = .ok (.iload 8, 2) := dk_21 8 (dk_at dksX9_watchTo_6 21 rfl rfl)
theorem dX9_watchTo_166 : decode cX9_watchTo 166 = .ok (.iconst (-1), 1) := dk_2 (dk_at dksX9_watchTo_6 23 rfl rfl)
theorem dX9_watchTo_167 : decode cX9_watchTo 167 = .ok (.if_icmp .eq 17, 3) := dk_159 0 17 (dk_at dksX9_watchTo_7 0 rfl rfl)
theorem dX9_watchTo_170 : decode cX9_watchTo 170 = .ok (.aload_n 0, 1) := dk_42 (dk_at dksX9_watchTo_7 3 rfl rfl)
theorem dX9_watchTo_171 : decode cX9_watchTo 171 = .ok (.iload_n 1, 1) := dk_27 (dk_at dksX9_watchTo_7 4 rfl rfl)
theorem dX9_watchTo_172 : decode cX9_watchTo 172 = .ok (.iload 9, 2) := dk_21 9 (dk_at dksX9_watchTo_7 5 rfl rfl)
theorem dX9_watchTo_174 : decode cX9_watchTo 174 = .ok (.iload 8, 2) := dk_21 8 (dk_at dksX9_watchTo_7 7 rfl rfl)
theorem dX9_watchTo_176 : decode cX9_watchTo 176 = .ok (.iload 7, 2) := dk_21 7 (dk_at dksX9_watchTo_7 9 rfl rfl)
theorem dX9_watchTo_178 : decode cX9_watchTo 178 = .ok (.invokevirtual 265, 3) := dk_182 1 9 (dk_at dksX9_watchTo_7 11 rfl rfl)
theorem dX9_watchTo_181 : decode cX9_watchTo 181 = .ok (.ifCond .eq 8, 3) := dk_153 0 8 (dk_at dksX9_watchTo_7 14 rfl rfl)
theorem dX9_watchTo_184 : decode cX9_watchTo 184 = .ok (.iload 9, 2) := dk_21 9 (dk_at dksX9_watchTo_7 17 rfl rfl)
theorem dX9_watchTo_186 : decode cX9_watchTo 186 = .ok (.goto 5, 3) := dk_167 0 5 (dk_at dksX9_watchTo_7 19 rfl rfl)
theorem dX9_watchTo_189 : decode cX9_watchTo 189 = .ok (.iload 8, 2) := dk_21 8 (dk_at dksX9_watchTo_7 22 rfl rfl)
theorem dX9_watchTo_191 : decode cX9_watchTo 191 = .ok (.istore 8, 2) := dk_54 8 (dk_at dksX9_watchTo_8 0 rfl rfl)
theorem dX9_watchTo_193 : decode cX9_watchTo 193 = .ok (.iinc 9 1, 3) := dk_132 9 1 (dk_at dksX9_watchTo_8 2 rfl rfl)
theorem dX9_watchTo_196 : decode cX9_watchTo 196 = .ok (.goto (-53), 3) := dk_167 255 203 (dk_at dksX9_watchTo_8 5 rfl rfl)
theorem dX9_watchTo_199 : decode cX9_watchTo 199 = .ok (.iload 8, 2) := dk_21 8 (dk_at dksX9_watchTo_8 8 rfl rfl)
theorem dX9_watchTo_201 : decode cX9_watchTo 201 = .ok (.iconst (-1), 1) := dk_2 (dk_at dksX9_watchTo_8 10 rfl rfl)
theorem dX9_watchTo_202 : decode cX9_watchTo 202 = .ok (.if_icmp .ne 36, 3) := dk_160 0 36 (dk_at dksX9_watchTo_8 11 rfl rfl)
theorem dX9_watchTo_205 : decode cX9_watchTo 205 = .ok (.aload_n 0, 1) := dk_42 (dk_at dksX9_watchTo_8 14 rfl rfl)
theorem dX9_watchTo_206 : decode cX9_watchTo 206 = .ok (.getfield 78, 3) := dk_180 0 78 (dk_at dksX9_watchTo_8 15 rfl rfl)
theorem dX9_watchTo_209 : decode cX9_watchTo 209 = .ok (.iload 7, 2) := dk_21 7 (dk_at dksX9_watchTo_8 18 rfl rfl)
theorem dX9_watchTo_211 : decode cX9_watchTo 211 = .ok (.aload_n 0, 1) := dk_42 (dk_at dksX9_watchTo_8 20 rfl rfl)
theorem dX9_watchTo_212 : decode cX9_watchTo 212 = .ok (.getfield 26, 3) := dk_180 0 26 (dk_at dksX9_watchTo_8 21 rfl rfl)
theorem dX9_watchTo_215 : decode cX9_watchTo 215 = .ok (.bipush 12, 2) := dk_16 12 (dk_at dksX9_watchTo_9 0 rfl rfl)
theorem dX9_watchTo_217 : decode cX9_watchTo 217 = .ok (.iload_n 2, 1) := dk_28 (dk_at dksX9_watchTo_9 2 rfl rfl)
theorem dX9_watchTo_218 : decode cX9_watchTo 218 = .ok (.imul, 1) := dk_104 (dk_at dksX9_watchTo_9 3 rfl rfl)
theorem dX9_watchTo_219 : decode cX9_watchTo 219 = .ok (.iload 7, 2) := dk_21 7 (dk_at dksX9_watchTo_9 4 rfl rfl)
theorem dX9_watchTo_221 : decode cX9_watchTo 221 = .ok (.iadd, 1) := dk_96 (dk_at dksX9_watchTo_9 6 rfl rfl)
theorem dX9_watchTo_222 : decode cX9_watchTo 222 = .ok (.iaload, 1) := dk_46 (dk_at dksX9_watchTo_9 7 rfl rfl)
theorem dX9_watchTo_223 : decode cX9_watchTo 223 = .ok (.iconst 4, 1) := dk_7 (dk_at dksX9_watchTo_9 8 rfl rfl)
theorem dX9_watchTo_224 : decode cX9_watchTo 224 = .ok (.if_icmp .ne 8, 3) := dk_160 0 8 (dk_at dksX9_watchTo_9 9 rfl rfl)
theorem dX9_watchTo_227 : decode cX9_watchTo 227 = .ok (.bipush 21, 2) := dk_16 21 (dk_at dksX9_watchTo_9 12 rfl rfl)
theorem dX9_watchTo_229 : decode cX9_watchTo 229 = .ok (.goto 5, 3) := dk_167 0 5 (dk_at dksX9_watchTo_9 14 rfl rfl)
theorem dX9_watchTo_232 : decode cX9_watchTo 232 = .ok (.bipush 22, 2) := dk_16 22 (dk_at dksX9_watchTo_9 17 rfl rfl)
theorem dX9_watchTo_234 : decode cX9_watchTo 234 = .ok (.iastore, 1) := dk_79 (dk_at dksX9_watchTo_9 19 rfl rfl)
theorem dX9_watchTo_235 : decode cX9_watchTo 235 = .ok (.goto 66, 3) := dk_167 0 66 (dk_at dksX9_watchTo_9 20 rfl rfl)
theorem dX9_watchTo_238 : decode cX9_watchTo 238 = .ok (.aload_n 0, 1) := dk_42 (dk_at dksX9_watchTo_9 23 rfl rfl)
theorem dX9_watchTo_239 : decode cX9_watchTo 239 = .ok (.getfield 47, 3) := dk_180 0 47 (dk_at dksX9_watchTo_10 0 rfl rfl)
theorem dX9_watchTo_242 : decode cX9_watchTo 242 = .ok (.bipush 23, 2) := dk_16 23 (dk_at dksX9_watchTo_10 3 rfl rfl)
theorem dX9_watchTo_244 : decode cX9_watchTo 244 = .ok (.iload 8, 2) := dk_21 8 (dk_at dksX9_watchTo_10 5 rfl rfl)
theorem dX9_watchTo_246 : decode cX9_watchTo 246 = .ok (.imul, 1) := dk_104 (dk_at dksX9_watchTo_10 7 rfl rfl)
theorem dX9_watchTo_247 : decode cX9_watchTo 247 = .ok (.iconst 1, 1) := dk_4 (dk_at dksX9_watchTo_10 8 rfl rfl)
theorem dX9_watchTo_248 : decode cX9_watchTo 248 = .ok (.iadd, 1) := dk_96 (dk_at dksX9_watchTo_10 9 rfl rfl)
theorem dX9_watchTo_249 : decode cX9_watchTo 249 = .ok (.iaload, 1) := dk_46 (dk_at dksX9_watchTo_10 10 rfl rfl)
theorem dX9_watchTo_250 : decode cX9_watchTo 250 = .ok (.iload 4, 2) := dk_21 4 (dk_at dksX9_watchTo_10 11 rfl rfl)
theorem dX9_watchTo_252 : decode cX9_watchTo 252 = .ok (.if_icmp .eq 29, 3) := dk_159 0 29 (dk_at dksX9_watchTo_10 13 rfl rfl)
theorem dX9_watchTo_255 : decode cX9_watchTo 255 = .ok (.aload_n 0, 1) := dk_42 (dk_at dksX9_watchTo_10 16 rfl rfl)
theorem dX9_watchTo_256 : decode cX9_watchTo 256 = .ok (.getfield 47, 3) := dk_180 0 47 (dk_at dksX9_watchTo_10 17 rfl rfl)
theorem dX9_watchTo_259 : decode cX9_watchTo 259 = .ok (.bipush 23, 2) := dk_16 23 (dk_at dksX9_watchTo_10 20 rfl rfl)
theorem dX9_watchTo_261 : decode cX9_watchTo 261 = .ok (.iload 8, 2) := dk_21 8 (dk_at dksX9_watchTo_10 22 rfl rfl)
theorem dX9_watchTo_263 : decode cX9_watchTo 263 = .ok (.imul, 1) := dk_104 (dk_at dksX9_watchTo_11 0 rfl rfl)
theorem dX9_watchTo_264 : decode cX9_watchTo 264 = .ok (.iconst 1, 1) := dk_4 (dk_at dksX9_watchTo_11 1 rfl rfl)
theorem dX9_watchTo_265 : decode cX9_watchTo 265 = .ok (.iadd, 1) := dk_96 (dk_at dksX9_watchTo_11 2 rfl rfl)
theorem dX9_watchTo_266 : decode cX9_watchTo 266 = .ok (.iaload, 1) := dk_46 (dk_at dksX9_watchTo_11 3 rfl rfl)
theorem dX9_watchTo_267 : decode cX9_watchTo 267 = .ok (.istore 4, 2) := dk_54 4 (dk_at dksX9_watchTo_11 4 rfl rfl)
theorem dX9_watchTo_269 : decode cX9_watchTo 269 = .ok (.aload_n 0, 1) := dk_42 (dk_at dksX9_watchTo_11 6 rfl rfl)
theorem dX9_watchTo_270 : decode cX9_watchTo 270 = .ok (.getfield 78, 3) := dk_180 0 78 (dk_at dksX9_watchTo_11 7 rfl rfl)
theorem dX9_watchTo_273 : decode cX9_watchTo 273 = .ok (.iload 7, 2) := dk_21 7 (dk_at dksX9_watchTo_11 10 rfl rfl)
theorem dX9_watchTo_275 : decode cX9_watchTo 275 = .ok (.bipush 20, 2) := dk_16 20 (dk_at dksX9_watchTo_11 12 rfl rfl)
theorem dX9_watchTo_277 : decode cX9_watchTo 277 = .ok (.iastore, 1) := dk_79 (dk_at dksX9_watchTo_11 14 rfl rfl)
theorem dX9_watchTo_278 : decode cX9_watchTo 278 = .ok (.goto 23, 3) := dk_167 0 23 (dk_at dksX9_watchTo_11 15 rfl rfl)
theorem dX9_watchTo_281 : decode cX9_watchTo 281 = .ok (.iload 8, 2) := dk_21 8 (dk_at dksX9_watchTo_11 18 rfl rfl)
theorem dX9_watchTo_283 : decode cX9_watchTo 283 = .ok (.istore 5, 2) := dk_54 5 (dk_at dksX9_watchTo_11 20 rfl rfl)
theorem dX9_watchTo_285 : decode cX9_watchTo 285 = .ok (.aload_n 0, 1) := dk_42 (dk_at dksX9_watchTo_11 22 rfl rfl)
theorem dX9_watchTo_286 : decode cX9_watchTo 286 = .ok (.iload 8, 2) := dk_21 8 (dk_at dksX9_watchTo_12 0 rfl rfl)
theorem dX9_watchTo_288 : decode cX9_watchTo 288 = .ok (.aload_n 0, 1) := dk_42 (dk_at dksX9_watchTo_12 2 rfl rfl)
theorem dX9_watchTo_289 : decode cX9_watchTo 289 = .ok (.getfield 69, 3) := dk_180 0 69 (dk_at dksX9_watchTo_12 3 rfl rfl)
theorem dX9_watchTo_292 : decode cX9_watchTo 292 = .ok (.iload 8, 2) := dk_21 8 (dk_at dksX9_watchTo_12 6 rfl rfl)
theorem dX9_watchTo_294 : decode cX9_watchTo 294 = .ok (.iaload, 1) := dk_46 (dk_at dksX9_watchTo_12 8 rfl rfl)
theorem dX9_watchTo_295 : decode cX9_watchTo 295 = .ok (.iconst 0, 1) := dk_3 (dk_at dksX9_watchTo_12 9 rfl rfl)
theorem dX9_watchTo_296 : decode cX9_watchTo 296 = .ok (.invokevirtual 194, 3) := dk_182 0 194 (dk_at dksX9_watchTo_12 10 rfl rfl)
theorem dX9_watchTo_299 : decode cX9_watchTo 299 = .ok (.istore 6, 2) := dk_54 6 (dk_at dksX9_watchTo_12 13 rfl rfl)
theorem dX9_watchTo_301 : decode cX9_watchTo 301 = .ok (.iload 5, 2) := dk_21 5 (dk_at dksX9_watchTo_12 15 rfl rfl)
theorem dX9_watchTo_303 : decode cX9_watchTo 303 = .ok (.iconst (-1), 1) := dk_2 (dk_at dksX9_watchTo_12 17 rfl rfl)
theorem dX9_watchTo_304 : decode cX9_watchTo 304 = .ok (.if_icmp .eq 147, 3) := dk_159 0 147 (dk_at dksX9_watchTo_12 18 rfl rfl)
theorem dX9_watchTo_307 : decode cX9_watchTo 307 = .ok (.aload_n 0, 1) := dk_42 (dk_at dksX9_watchTo_12 21 rfl rfl)
theorem dX9_watchTo_308 : decode cX9_watchTo 308 = .ok (.iload 5, 2) := dk_21 5 (dk_at dksX9_watchTo_12 22 rfl rfl)
theorem dX9_watchTo_310 : decode cX9_watchTo 310 = .ok (.aload_n 0, 1) := dk_42 (dk_at dksX9_watchTo_13 0 rfl rfl)
theorem dX9_watchTo_311 : decode cX9_watchTo 311 = .ok (.getfield 69, 3) := dk_180 0 69 (dk_at dksX9_watchTo_13 1 rfl rfl)
theorem dX9_watchTo_314 : decode cX9_watchTo 314 = .ok (.iload 5, 2) := dk_21 5 (dk_at dksX9_watchTo_13 4 rfl rfl)
theorem dX9_watchTo_316 : decode cX9_watchTo 316 = .ok (.iaload, 1) := dk_46 (dk_at dksX9_watchTo_13 6 rfl rfl)
theorem dX9_watchTo_317 : decode cX9_watchTo 317 = .ok (.iload 7, 2) := dk_21 7 (dk_at dksX9_watchTo_13 7 rfl rfl)
theorem dX9_watchTo_319 : decode cX9_watchTo 319 = .ok (.iload_n 2, 1) := dk_28 (dk_at dksX9_watchTo_13 9 rfl rfl)
theorem dX9_watchTo_320 : decode cX9_watchTo 320 = .ok (.invokevirtual 202, 3) := dk_182 0 202 (dk_at dksX9_watchTo_13 10 rfl rfl)
theorem dX9_watchTo_323 : decode cX9_watchTo 323 = .ok (.ifCond .eq 107, 3) := dk_153 0 107 (dk_at dksX9_watchTo_13 13 rfl rfl)
theorem dX9_watchTo_326 : decode cX9_watchTo 326 = .ok (.aload_n 0, 1) := dk_42 (dk_at dksX9_watchTo_13 16 rfl rfl)
theorem dX9_watchTo_327 : decode cX9_watchTo 327 = .ok (.getfield 78, 3) := dk_180 0 78 (dk_at dksX9_watchTo_13 17 rfl rfl)
theorem dX9_watchTo_330 : decode cX9_watchTo 330 = .ok (.iload 7, 2) := dk_21 7 (dk_at dksX9_watchTo_13 20 rfl rfl)
theorem dX9_watchTo_332 : decode cX9_watchTo 332 = .ok (.iload 5, 2) := dk_21 5 (dk_at dksX9_watchTo_13 22 rfl rfl)
theorem dX9_watchTo_334 : decode cX9_watchTo 334 = .ok (.iastore, 1) := dk_79 (dk_at dksX9_watchTo_14 0 rfl rfl)
theorem dX9_watchTo_335 : decode cX9_watchTo 335 = .ok (.iinc 6 (-1), 3) := dk_132 6 255 (dk_at dksX9_watchTo_14 1 rfl rfl)
theorem dX9_watchTo_338 : decode cX9_watchTo 338 = .ok (.iload 6, 2) := dk_21 6 (dk_at dksX9_watchTo_14 4 rfl rfl)
theorem dX9_watchTo_340 : decode cX9_watchTo 340 = .ok (.ifCond .ne 111, 3) := dk_154 0 111 (dk_at dksX9_watchTo_14 6 rfl rfl)
theorem dX9_watchTo_343 : decode cX9_watchTo 343 = .ok (.aload_n 0, 1) := dk_42 (dk_at dksX9_watchTo_14 9 rfl rfl)
theorem dX9_watchTo_344 : decode cX9_watchTo 344 = .ok (.getfield 72, 3) := dk_180 0 72 (dk_at dksX9_watchTo_14 10 rfl rfl)
theorem dX9_watchTo_347 : decode cX9_watchTo 347 = .ok (.iload 5, 2) := dk_21 5 (dk_at dksX9_watchTo_14 13 rfl rfl)
theorem dX9_watchTo_349 : decode cX9_watchTo 349 = .ok (.iload 7, 2) := dk_21 7 (dk_at dksX9_watchTo_14 15 rfl rfl)
theorem dX9_watchTo_351 : decode cX9_watchTo 351 = .ok (.iconst 1, 1) := dk_4 (dk_at dksX9_watchTo_14 17 rfl rfl)
theorem dX9_watchTo_352 : decode cX9_watchTo 352 = .ok (.iadd, 1) := dk_96 (dk_at dksX9_watchTo_14 18 rfl rfl)
theorem dX9_watchTo_353 : decode cX9_watchTo 353 = .ok (.iastore, 1) := dk_79 (dk_at dksX9_watchTo_14 19 rfl rfl)
theorem dX9_watchTo_354 : decode cX9_watchTo 354 = .ok (.aload_n 0, 1) := dk_42 (dk_at dksX9_watchTo_14 20 rfl rfl)
theorem dX9_watchTo_355 : decode cX9_watchTo 355 = .ok (.getfield 69, 3) := dk_180 0 69 (dk_at dksX9_watchTo_14 21 rfl rfl)
theorem dX9_watchTo_358 : decode cX9_watchTo 358 = .ok (.iload 5, 2) := dk_21 5 (dk_at dksX9_watchTo_15 0 rfl rfl)
theorem dX9_watchTo_360 : decode cX9_watchTo 360 = .ok (.aload_n 0, 1) := dk_42 (dk_at dksX9_watchTo_15 2 rfl rfl)
theorem dX9_watchTo_361 : decode cX9_watchTo 361 = .ok (.getfield 69, 3) := dk_180 0 69 (dk_at dksX9_watchTo_15 3 rfl rfl)
theorem dX9_watchTo_364 : decode cX9_watchTo 364 = .ok (.iload 5, 2) := dk_21 5 (dk_at dksX9_watchTo_15 6 rfl rfl)
theorem dX9_watchTo_366 : decode cX9_watchTo 366 = .ok (.iaload, 1) := dk_46 (dk_at dksX9_watchTo_15 8 rfl rfl)
theorem dX9_watchTo_367 : decode cX9_watchTo 367 = .ok (.iconst 1, 1) := dk_4 (dk_at dksX9_watchTo_15 9 rfl rfl)
theorem dX9_watchTo_368 : decode cX9_watchTo 368 = .ok (.iadd, 1) := dk_96 (dk_at dksX9_watchTo_15 10 rfl rfl)
theorem dX9_watchTo_369 : decode cX9_watchTo 369 = .ok (.aload_n 0, 1) := dk_42 (dk_at dksX9_watchTo_15 11 rfl rfl)
theorem dX9_watchTo_370 : decode cX9_watchTo 370 = .ok (.iload 5, 2) := dk_21 5 (dk_at dksX9_watchTo_15 12 rfl rfl)
theorem dX9_watchTo_372 : decode cX9_watchTo 372 = .ok (.invokevirtual 209, 3) := dk_182 0 209 (dk_at dksX9_watchTo_15 14 rfl rfl)
theorem dX9_watchTo_375 : decode cX9_watchTo 375 = .ok (.if_icmp .ne 8, 3) := dk_160 0 8 (dk_at dksX9_watchTo_15 17 rfl rfl)
theorem dX9_watchTo_378 : decode cX9_watchTo 378 = .ok (.bipush 8, 2) := dk_16 8 (dk_at dksX9_watchTo_15 20 rfl rfl)
theorem dX9_watchTo_380 : decode cX9_watchTo 380 = .ok (.goto 12, 3) := dk_167 0 12 (dk_at dksX9_watchTo_16 0 rfl rfl)
theorem dX9_watchTo_383 : decode cX9_watchTo 383 = .ok (.aload_n 0, 1) := dk_42 (dk_at dksX9_watchTo_16 3 rfl rfl)
theorem dX9_watchTo_384 : decode cX9_watchTo 384 = .ok (.getfield 69, 3) := dk_180 0 69 (dk_at dksX9_watchTo_16 4 rfl rfl)
theorem dX9_watchTo_387 : decode cX9_watchTo 387 = .ok (.iload 5, 2) := dk_21 5 (dk_at dksX9_watchTo_16 7 rfl rfl)
theorem dX9_watchTo_389 : decode cX9_watchTo 389 = .ok (.iaload, 1) := dk_46 (dk_at dksX9_watchTo_16 9 rfl rfl)
theorem dX9_watchTo_390 : decode cX9_watchTo 390 = .ok (.iconst 1, 1) := dk_4 (dk_at dksX9_watchTo_16 10 rfl rfl)
theorem dX9_watchTo_391 : decode cX9_watchTo 391 = .ok (.iadd, 1) := dk_96 (dk_at dksX9_watchTo_16 11 rfl rfl)
theorem dX9_watchTo_392 : decode cX9_watchTo 392 = .ok (.iastore, 1) := dk_79 (dk_at dksX9_watchTo_16 12 rfl rfl)
theorem dX9_watchTo_393 : decode cX9_watchTo 393 = .ok (.aload_n 0, 1) := dk_42 (dk_at dksX9_watchTo_16 13 rfl rfl)
theorem dX9_watchTo_394 : decode cX9_watchTo 394 = .ok (.dup, 1) := dk_89 (dk_at dksX9_watchTo_16 14 rfl rfl)
theorem dX9_watchTo_395 : decode cX9_watchTo 395 = .ok (.getfield 256, 3) := dk_180 1 0 (dk_at dksX9_watchTo_16 15 rfl rfl)
theorem dX9_watchTo_398 : decode cX9_watchTo 398 = .ok (.aload_n 0, 1) := dk_42 (dk_at dksX9_watchTo_16 18 rfl rfl)
theorem dX9_watchTo_399 : decode cX9_watchTo 399 = .ok (.getfield 69, 3) := dk_180 0 69 (dk_at dksX9_watchTo_16 19 rfl rfl)
theorem dX9_watchTo_402 : decode cX9_watchTo 402 = .ok (.iload 5, 2) := dk_21 5 (dk_at dksX9_watchTo_16 22 rfl rfl)
theorem dX9_watchTo_404 : decode cX9_watchTo 404 = .ok (.iaload, 1) := dk_46 (dk_at dksX9_watchTo_17 0 rfl rfl)
theorem dX9_watchTo_405 : decode cX9_watchTo 405 = .ok (.bipush 8, 2) := dk_16 8 (dk_at dksX9_watchTo_17 1 rfl rfl)
theorem dX9_watchTo_407 : decode cX9_watchTo 407 = .ok (.if_icmp .ne 12, 3) := dk_160 0 12 (dk_at dksX9_watchTo_17 3 rfl rfl)
theorem dX9_watchTo_410 : decode cX9_watchTo 410 = .ok (.aload_n 0, 1) := dk_42 (dk_at dksX9_watchTo_17 6 rfl rfl)
theorem dX9_watchTo_411 : decode cX9_watchTo 411 = .ok (.iload 5, 2) := dk_21 5 (dk_at dksX9_watchTo_17 7 rfl rfl)
theorem dX9_watchTo_413 : decode cX9_watchTo 413 = .ok (.invokevirtual 222, 3) := dk_182 0 222 (dk_at dksX9_watchTo_17 9 rfl rfl)
theorem dX9_watchTo_416 : decode cX9_watchTo 416 = .ok (.goto 4, 3) := dk_167 0 4 (dk_at dksX9_watchTo_17 12 rfl rfl)
theorem dX9_watchTo_419 : decode cX9_watchTo 419 = .ok (.iconst 0, 1) := dk_3 (dk_at dksX9_watchTo_17 15 rfl rfl)
theorem dX9_watchTo_420 : decode cX9_watchTo 420 = .ok (.iadd, 1) := dk_96 (dk_at dksX9_watchTo_17 16 rfl rfl)
theorem dX9_watchTo_421 : decode cX9_watchTo 421 = .ok (.putfield 256, 3) := dk_181 1 0 (dk_at dksX9_watchTo_17 17 rfl rfl)
theorem dX9_watchTo_424 : decode cX9_watchTo 424 = .ok (.iconst (-1), 1) := dk_2 (dk_at dksX9_watchTo_17 20 rfl rfl)
theorem dX9_watchTo_425 : decode cX9_watchTo 425 = .ok (.istore 5, 2) := dk_54 5 (dk_at dksX9_watchTo_17 21 rfl rfl)
theorem dX9_watchTo_427 : decode cX9_watchTo 427 = .ok (.goto 24, 3) := dk_167 0 24 (dk_at dksX9_watchTo_18 0 rfl rfl)
theorem dX9_watchTo_430 : decode cX9_watchTo 430 = .ok (.aload_n 0, 1) := dk_42 (dk_at dksX9_watchTo_18 3 rfl rfl)
theorem dX9_watchTo_431 : decode cX9_watchTo 431 = .ok (.getfield 78, 3) := dk_180 0 78 (dk_at dksX9_watchTo_18 4 rfl rfl)
theorem dX9_watchTo_434 : decode cX9_watchTo 434 = .ok (.iload 7, 2) := dk_21 7 (dk_at dksX9_watchTo_18 7 rfl rfl)
theorem dX9_watchTo_436 : decode cX9_watchTo 436 = .ok (.bipush 10, 2) := dk_16 10 (dk_at dksX9_watchTo_18 9 rfl rfl)
theorem dX9_watchTo_438 : decode cX9_watchTo 438 = .ok (.iload 5, 2) := dk_21 5 (dk_at dksX9_watchTo_18 11 rfl rfl)
theorem dX9_watchTo_440 : decode cX9_watchTo 440 = .ok (.iadd, 1) := dk_96 (dk_at dksX9_watchTo_18 13 rfl rfl)
theorem dX9_watchTo_441 : decode cX9_watchTo 441 = .ok (.iastore, 1) := dk_79 (dk_at dksX9_watchTo_18 14 rfl rfl)
theorem dX9_watchTo_442 : decode cX9_watchTo 442 = .ok (.aload_n 0, 1) := dk_42 (dk_at dksX9_watchTo_18 15 rfl rfl)
theorem dX9_watchTo_443 : decode cX9_watchTo 443 = .ok (.iload 5, 2) := dk_21 5 (dk_at dksX9_watchTo_18 16 rfl rfl)
theorem dX9_watchTo_445 : decode cX9_watchTo 445 = .ok (.invokevirtual 259, 3) := dk_182 1 3 (dk_at dksX9_watchTo_18 18 rfl rfl)
theorem dX9_watchTo_448 : decode cX9_watchTo 448 = .ok (.iconst (-1), 1) := dk_2 (dk_at dksX9_watchTo_18 21 rfl rfl)
theorem dX9_watchTo_449 : decode cX9_watchTo 449 = .ok (.istore 5, 2) := dk_54 5 (dk_at dksX9_watchTo_18 22 rfl rfl)
theorem dX9_watchTo_451 : decode cX9_watchTo 451 = .ok (.iinc 7 1, 3) := dk_132 7 1 (dk_at dksX9_watchTo_19 0 rfl rfl)
theorem dX9_watchTo_454 : decode cX9_watchTo 454 = .ok (.goto (-395), 3) := dk_167 254 117 (dk_at dksX9_watchTo_19 3 rfl rfl)
theorem dX9_watchTo_457 : decode cX9_watchTo 457 = .ok (.return_, 1) := dk_177 (dk_at dksX9_watchTo_19 6 rfl rfl)
abbrev cX9_breakChain : ByteArray := prog_16_method_54_code
def yX9_breakChain : MethodName := ⟨RX9, "breakChain", "(I)V"⟩
def dkwX9_breakChain_1 : List UInt8 := [180, 0, 75, 27, 4, 84, 42, 180, 0, 69, 27, 28, 153, 0, 7, 3, 167, 0, 5, 16, 9, 79, 177]
abbrev dktX9_breakChain_1 : List UInt8 := dkwX9_breakChain_1 ++ []
def dkwX9_breakChain_0 : List UInt8 := [42, 180, 0, 250, 4, 160, 0, 16, 42, 180, 0, 75, 27, 51, 154, 0, 7, 4, 167, 0, 4, 3, 61, 42]
abbrev dktX9_breakChain_0 : List UInt8 := dkwX9_breakChain_0 ++ dktX9_breakChain_1
theorem dksX9_breakChain_0 : cX9_breakChain.data.toList.drop 0 = dktX9_breakChain_0 := by decide +kernel
theorem dksX9_breakChain_1 : cX9_breakChain.data.toList.drop 24 = dktX9_breakChain_1 := dk_seg dksX9_breakChain_0 24 rfl rfl
theorem dX9_breakChain_0 : decode cX9_breakChain 0 = .ok (.aload_n 0, 1) := dk_42 (dk_at dksX9_breakChain_0 0 rfl rfl)
theorem dX9_breakChain_1 : decode cX9_breakChain 1 = .ok (.getfield 250, 3) := dk_180 0 250 (dk_at dksX9_breakChain_0 1 rfl rfl)
theorem dX9_breakChain_4 : decode cX9_breakChain 4 = .ok (.iconst 1, 1) := dk_4 (dk_at dksX9_breakChain_0 4 rfl rfl)
theorem dX9_breakChain_5 : decode cX9_breakChain 5 = .ok (.if_icmp .ne 16, 3) := dk_160 0 16 (dk_at dksX9_breakChain_0 5 rfl rfl)
theorem dX9_breakChain_8 : decode cX9_breakChain 8 = .ok (.aload_n 0, 1) := dk_42 (dk_at dksX9_breakChain_0 8 rfl rfl)
theorem dX9_breakChain_9 : decode cX9_breakChain 9 = .ok (.getfield 75, 3) := dk_180 0 75 (dk_at dksX9_breakChain_0 9 rfl rfl)
theorem dX9_breakChain_12 : decode cX9_breakChain 12 = .ok (.iload_n 1, 1) := dk_27 (dk_at dksX9_breakChain_0 12 rfl rfl)
theorem dX9_breakChain_13 : decode cX9_breakChain 13 = .ok (.baload, 1) := dk_51 (dk_at dksX9_breakChain_0 13 rfl rfl)
theorem dX9_breakChain_14 : decode cX9_breakChain 14 = .ok (.ifCond .ne 7, 3) := dk_154 0 7 (dk_at dksX9_breakChain_0 14 rfl rfl)
theorem dX9_breakChain_17 : decode cX9_breakChain 17 = .ok (.iconst 1, 1) := dk_4 (dk_at dksX9_breakChain_0 17 rfl rfl)
theorem dX9_breakChain_18 : decode cX9_breakChain 18 = .ok (.goto 4, 3) := dk_167 0 4 (dk_at dksX9_breakChain_0 18 rfl rfl)
theorem dX9_breakChain_21 : decode cX9_breakChain 21 = .ok (.iconst 0, 1) := dk_3 (dk_at dksX9_breakChain_0 21 rfl rfl)
theorem dX9_breakChain_22 : decode cX9_breakChain 22 = .ok (.istore_n 2, 1) := dk_61 (dk_at dksX9_breakChain_0 22 rfl rfl)
theorem dX9_breakChain_23 : decode cX9_breakChain 23 = .ok (.aload_n 0, 1) := dk_42 (dk_at dksX9_breakChain_0 23 rfl rfl)
theorem dX9_breakChain_24 : decode cX9_breakChain 24 = .ok (.getfield 75, 3) := dk_180 0 75 (dk_at dksX9_breakChain_1 0 rfl rfl)
theorem dX9_breakChain_27 : decode cX9_breakChain 27 = .ok (.iload_n 1, 1) := dk_27 (dk_at dksX9_breakChain_1 3 rfl rfl)
theorem dX9_breakChain_28 : decode cX9_breakChain 28 = .ok (.iconst 1, 1) := dk_4 (dk_at dksX9_breakChain_1 4 rfl rfl)
theorem dX9_breakChain_29 : decode cX9_breakChain 29 = .ok (.bastore, 1) := dk_84 (dk_at dksX9_breakChain_1 5 rfl rfl)
theorem dX9_breakChain_30 : decode cX9_breakChain 30 = .ok (.aload_n 0, 1) := dk_42 (dk_at dksX9_breakChain_1 6 rfl rfl)
theorem dX9_breakChain_31 : decode cX9_breakChain 31 = .ok (.getfield 69, 3) := dk_180 0 69 (dk_at dksX9_breakChain_1 7 rfl rfl)
theorem dX9_breakChain_34 : decode cX9_breakChain 34 = .ok (.iload_n 1, 1) := dk_27 (dk_at dksX9_breakChain_1 10 rfl rfl)
theorem dX9_breakChain_35 : decode cX9_breakChain 35 = .ok (.iload_n 2, 1) := dk_28 (dk_at dksX9_breakChain_1 11 rfl rfl)
theorem dX9_breakChain_36 : decode cX9_breakChain 36 = .ok (.ifCond .eq 7, 3) := dk_153 0 7 (dk_at dksX9_breakChain_1 12 rfl rfl)
theorem dX9_breakChain_39 : decode cX9_breakChain 39 = .ok (.iconst 0, 1) := dk_3 (dk_at dksX9_breakChain_1 15 rfl rfl)
theorem dX9_breakChain_40 : decode cX9_breakChain 40 = .ok (.goto 5, 3) := dk_167 0 5 (dk_at dksX9_breakChain_1 16 rfl rfl)
theorem dX9_breakChain_43 : decode cX9_breakChain 43 = .ok (.bipush 9, 2) := dk_16 9 (dk_at dksX9_breakChain_1 19 rfl rfl)
theorem dX9_breakChain_45 : decode cX9_breakChain 45 = .ok (.iastore, 1) := dk_79 (dk_at dksX9_breakChain_1 21 rfl rfl)
theorem dX9_breakChain_46 : decode cX9_breakChain 46 = .ok (.return_, 1) := dk_177 (dk_at dksX9_breakChain_1 22 rfl rfl)
abbrev cX9_mayBegin : ByteArray := prog_16_method_56_code
def yX9_mayBegin : MethodName := ⟨RX9, "mayBegin", "(III)Z"⟩
def dkwX9_mayBegin_3 : List UInt8 := [27, 46, 7, 182, 0, 194, 161, 0, 7, 4, 167, 0, 4, 3, 172]
abbrev dktX9_mayBegin_3 : List UInt8 := dkwX9_mayBegin_3 ++ []
def dkwX9_mayBegin_2 : List UInt8 := [172, 42, 180, 0, 69, 27, 46, 153, 0, 26, 28, 42, 180, 0, 72, 27, 46, 100, 42, 27, 42, 180, 0, 69]
abbrev dktX9_mayBegin_2 : List UInt8 := dkwX9_mayBegin_2 ++ dktX9_mayBegin_3
def dkwX9_mayBegin_1 : List UInt8 := [42, 180, 0, 7, 163, 0, 19, 42, 27, 42, 180, 0, 69, 27, 46, 28, 29, 182, 0, 202, 154, 0, 5, 3]
abbrev dktX9_mayBegin_1 : List UInt8 := dkwX9_mayBegin_1 ++ dktX9_mayBegin_2
def dkwX9_mayBegin_0 : List UInt8 := [42, 180, 0, 69, 27, 46, 5, 163, 0, 40, 28, 42, 27, 42, 180, 0, 69, 27, 46, 3, 182, 0, 194, 96]
abbrev dktX9_mayBegin_0 : List UInt8 := dkwX9_mayBegin_0 ++ dktX9_mayBegin_1
theorem dksX9_mayBegin_0 : cX9_mayBegin.data.toList.drop 0 = dktX9_mayBegin_0 := by decide +kernel
theorem dksX9_mayBegin_1 : cX9_mayBegin.data.toList.drop 24 = dktX9_mayBegin_1 := dk_seg dksX9_mayBegin_0 24 rfl rfl
theorem dksX9_mayBegin_2 : cX9_mayBegin.data.toList.drop 48 = dktX9_mayBegin_2 := dk_seg dksX9_mayBegin_1 24 rfl rfl
theorem dksX9_mayBegin_3 : cX9_mayBegin.data.toList.drop 72 = dktX9_mayBegin_3 := dk_seg dksX9_mayBegin_2 24 rfl rfl
theorem dX9_mayBegin_0 : decode cX9_mayBegin 0 = .ok (.aload_n 0, 1) := dk_42 (dk_at dksX9_mayBegin_0 0 rfl rfl)
theorem dX9_mayBegin_1 : decode cX9_mayBegin 1 = .ok (.getfield 69, 3) := dk_180 0 69 (dk_at dksX9_mayBegin_0 1 rfl rfl)
theorem dX9_mayBegin_4 : decode cX9_mayBegin 4 = .ok (.iload_n 1, 1) := dk_27 (dk_at dksX9_mayBegin_0 4 rfl rfl)
theorem dX9_mayBegin_5 : decode cX9_mayBegin 5 = .ok (.iaload, 1) := dk_46 (dk_at dksX9_mayBegin_0 5 rfl rfl)
theorem dX9_mayBegin_6 : decode cX9_mayBegin 6 = .ok (.iconst 2, 1) := dk_5 (dk_at dksX9_mayBegin_0 6 rfl rfl)
theorem dX9_mayBegin_7 : decode cX9_mayBegin 7 = .ok (.if_icmp .gt 40, 3) := dk_163 0 40 (dk_at dksX9_mayBegin_0 7 rfl rfl)
theorem dX9_mayBegin_10 : decode cX9_mayBegin 10 = .ok (.iload_n 2, 1) := dk_28 (dk_at dksX9_mayBegin_0 10 rfl rfl)
theorem dX9_mayBegin_11 : decode cX9_mayBegin 11 = .ok (.aload_n 0, 1) := dk_42 (dk_at dksX9_mayBegin_0 11 rfl rfl)
theorem dX9_mayBegin_12 : decode cX9_mayBegin 12 = .ok (.iload_n 1, 1) := dk_27 (dk_at dksX9_mayBegin_0 12 rfl rfl)
theorem dX9_mayBegin_13 : decode cX9_mayBegin 13 = .ok (.aload_n 0, 1) := dk_42 (dk_at dksX9_mayBegin_0 13 rfl rfl)
theorem dX9_mayBegin_14 : decode cX9_mayBegin 14 = .ok (.getfield 69, 3) := dk_180 0 69 (dk_at dksX9_mayBegin_0 14 rfl rfl)
theorem dX9_mayBegin_17 : decode cX9_mayBegin 17 = .ok (.iload_n 1, 1) := dk_27 (dk_at dksX9_mayBegin_0 17 rfl rfl)
theorem dX9_mayBegin_18 : decode cX9_mayBegin 18 = .ok (.iaload, 1) := dk_46 (dk_at dksX9_mayBegin_0 18 rfl rfl)
theorem dX9_mayBegin_19 : decode cX9_mayBegin 19 = .ok (.iconst 0, 1) := dk_3 (dk_at dksX9_mayBegin_0 19 rfl rfl)
theorem dX9_mayBegin_20 : decode cX9_mayBegin 20 = .ok (.invokevirtual 194, 3) := dk_182 0 194 (dk_at dksX9_mayBegin_0 20 rfl rfl)
theorem dX9_mayBegin_23 : decode cX9_mayBegin 23 = .ok (.iadd, 1) := dk_96 (dk_at dksX9_mayBegin_0 23 rfl rfl)
theorem dX9_mayBegin_24 : decode cX9_mayBegin 24 = .ok (.aload_n 0, 1) := dk_42 (dk_at dksX9_mayBegin_1 0 rfl rfl)
theorem dX9_mayBegin_25 : decode cX9_mayBegin 25 = .ok (.getfield 7, 3) := dk_180 0 7 (dk_at dksX9_mayBegin_1 1 rfl rfl)
theorem dX9_mayBegin_28 : decode cX9_mayBegin 28 = .ok (.if_icmp .gt 19, 3) := dk_163 0 19 (dk_at dksX9_mayBegin_1 4 rfl rfl)
theorem dX9_mayBegin_31 : decode cX9_mayBegin 31 = .ok (.aload_n 0, 1) := dk_42 (dk_at dksX9_mayBegin_1 7 rfl rfl)
theorem dX9_mayBegin_32 : decode cX9_mayBegin 32 = .ok (.iload_n 1, 1) := dk_27 (dk_at dksX9_mayBegin_1 8 rfl rfl)
theorem dX9_mayBegin_33 : decode cX9_mayBegin 33 = .ok (.aload_n 0, 1) := dk_42 (dk_at dksX9_mayBegin_1 9 rfl rfl)
theorem dX9_mayBegin_34 : decode cX9_mayBegin 34 = .ok (.getfield 69, 3) := dk_180 0 69 (dk_at dksX9_mayBegin_1 10 rfl rfl)
theorem dX9_mayBegin_37 : decode cX9_mayBegin 37 = .ok (.iload_n 1, 1) := dk_27 (dk_at dksX9_mayBegin_1 13 rfl rfl)
theorem dX9_mayBegin_38 : decode cX9_mayBegin 38 = .ok (.iaload, 1) := dk_46 (dk_at dksX9_mayBegin_1 14 rfl rfl)
theorem dX9_mayBegin_39 : decode cX9_mayBegin 39 = .ok (.iload_n 2, 1) := dk_28 (dk_at dksX9_mayBegin_1 15 rfl rfl)
theorem dX9_mayBegin_40 : decode cX9_mayBegin 40 = .ok (.iload_n 3, 1) := dk_29 (dk_at dksX9_mayBegin_1 16 rfl rfl)
theorem dX9_mayBegin_41 : decode cX9_mayBegin 41 = .ok (.invokevirtual 202, 3) := dk_182 0 202 (dk_at dksX9_mayBegin_1 17 rfl rfl)
theorem dX9_mayBegin_44 : decode cX9_mayBegin 44 = .ok (.ifCond .ne 5, 3) := dk_154 0 5 (dk_at dksX9_mayBegin_1 20 rfl rfl)
theorem dX9_mayBegin_47 : decode cX9_mayBegin 47 = .ok (.iconst 0, 1) := dk_3 (dk_at dksX9_mayBegin_1 23 rfl rfl)
theorem dX9_mayBegin_48 : decode cX9_mayBegin 48 = .ok (.ireturn, 1) := dk_172 (dk_at dksX9_mayBegin_2 0 rfl rfl)
theorem dX9_mayBegin_49 : decode cX9_mayBegin 49 = .ok (.aload_n 0, 1) := dk_42 (dk_at dksX9_mayBegin_2 1 rfl rfl)
theorem dX9_mayBegin_50 : decode cX9_mayBegin 50 = .ok (.getfield 69, 3) := dk_180 0 69 (dk_at dksX9_mayBegin_2 2 rfl rfl)
theorem dX9_mayBegin_53 : decode cX9_mayBegin 53 = .ok (.iload_n 1, 1) := dk_27 (dk_at dksX9_mayBegin_2 5 rfl rfl)
theorem dX9_mayBegin_54 : decode cX9_mayBegin 54 = .ok (.iaload, 1) := dk_46 (dk_at dksX9_mayBegin_2 6 rfl rfl)
theorem dX9_mayBegin_55 : decode cX9_mayBegin 55 = .ok (.ifCond .eq 26, 3) := dk_153 0 26 (dk_at dksX9_mayBegin_2 7 rfl rfl)
theorem dX9_mayBegin_58 : decode cX9_mayBegin 58 = .ok (.iload_n 2, 1) := dk_28 (dk_at dksX9_mayBegin_2 10 rfl rfl)
theorem dX9_mayBegin_59 : decode cX9_mayBegin 59 = .ok (.aload_n 0, 1) := dk_42 (dk_at dksX9_mayBegin_2 11 rfl rfl)
theorem dX9_mayBegin_60 : decode cX9_mayBegin 60 = .ok (.getfield 72, 3) := dk_180 0 72 (dk_at dksX9_mayBegin_2 12 rfl rfl)
theorem dX9_mayBegin_63 : decode cX9_mayBegin 63 = .ok (.iload_n 1, 1) := dk_27 (dk_at dksX9_mayBegin_2 15 rfl rfl)
theorem dX9_mayBegin_64 : decode cX9_mayBegin 64 = .ok (.iaload, 1) := dk_46 (dk_at dksX9_mayBegin_2 16 rfl rfl)
theorem dX9_mayBegin_65 : decode cX9_mayBegin 65 = .ok (.isub, 1) := dk_100 (dk_at dksX9_mayBegin_2 17 rfl rfl)
theorem dX9_mayBegin_66 : decode cX9_mayBegin 66 = .ok (.aload_n 0, 1) := dk_42 (dk_at dksX9_mayBegin_2 18 rfl rfl)
theorem dX9_mayBegin_67 : decode cX9_mayBegin 67 = .ok (.iload_n 1, 1) := dk_27 (dk_at dksX9_mayBegin_2 19 rfl rfl)
theorem dX9_mayBegin_68 : decode cX9_mayBegin 68 = .ok (.aload_n 0, 1) := dk_42 (dk_at dksX9_mayBegin_2 20 rfl rfl)
theorem dX9_mayBegin_69 : decode cX9_mayBegin 69 = .ok (.getfield 69, 3) := dk_180 0 69 (dk_at dksX9_mayBegin_2 21 rfl rfl)
theorem dX9_mayBegin_72 : decode cX9_mayBegin 72 = .ok (.iload_n 1, 1) := dk_27 (dk_at dksX9_mayBegin_3 0 rfl rfl)
theorem dX9_mayBegin_73 : decode cX9_mayBegin 73 = .ok (.iaload, 1) := dk_46 (dk_at dksX9_mayBegin_3 1 rfl rfl)
theorem dX9_mayBegin_74 : decode cX9_mayBegin 74 = .ok (.iconst 4, 1) := dk_7 (dk_at dksX9_mayBegin_3 2 rfl rfl)
theorem dX9_mayBegin_75 : decode cX9_mayBegin 75 = .ok (.invokevirtual 194, 3) := dk_182 0 194 (dk_at dksX9_mayBegin_3 3 rfl rfl)
theorem dX9_mayBegin_78 : decode cX9_mayBegin 78 = .ok (.if_icmp .lt 7, 3) := dk_161 0 7 (dk_at dksX9_mayBegin_3 6 rfl rfl)
theorem dX9_mayBegin_81 : decode cX9_mayBegin 81 = .ok (.iconst 1, 1) := dk_4 (dk_at dksX9_mayBegin_3 9 rfl rfl)
theorem dX9_mayBegin_82 : decode cX9_mayBegin 82 = .ok (.goto 4, 3) := dk_167 0 4 (dk_at dksX9_mayBegin_3 10 rfl rfl)
theorem dX9_mayBegin_85 : decode cX9_mayBegin 85 = .ok (.iconst 0, 1) := dk_3 (dk_at dksX9_mayBegin_3 13 rfl rfl)
theorem dX9_mayBegin_86 : decode cX9_mayBegin 86 = .ok (.ireturn, 1) := dk_172 (dk_at dksX9_mayBegin_3 14 rfl rfl)
abbrev cX9_isAhead : ByteArray := prog_16_method_57_code
def yX9_isAhead : MethodName := ⟨RX9, "isAhead", "(IIII)Z"⟩
def dkwX9_isAhead_3 : List UInt8 := [42, 28, 182, 0, 253, 42, 29, 182, 0, 253, 162, 0, 7, 4, 167, 0, 4, 3, 172]
abbrev dktX9_isAhead_3 : List UInt8 := dkwX9_isAhead_3 ++ []
def dkwX9_isAhead_2 : List UInt8 := [180, 0, 47, 16, 23, 29, 104, 5, 96, 46, 21, 4, 182, 0, 103, 162, 0, 7, 4, 167, 0, 4, 3, 172]
abbrev dktX9_isAhead_2 : List UInt8 := dkwX9_isAhead_2 ++ dktX9_isAhead_3
def dkwX9_isAhead_1 : List UInt8 := [4, 160, 0, 46, 42, 42, 180, 0, 47, 16, 23, 28, 104, 5, 96, 46, 21, 4, 182, 0, 103, 42, 42]
abbrev dktX9_isAhead_1 : List UInt8 := dkwX9_isAhead_1 ++ dktX9_isAhead_2
def dkwX9_isAhead_0 : List UInt8 := [27, 154, 0, 22, 42, 28, 182, 0, 222, 42, 29, 182, 0, 222, 164, 0, 7, 4, 167, 0, 4, 3, 172, 27]
abbrev dktX9_isAhead_0 : List UInt8 := dkwX9_isAhead_0 ++ dktX9_isAhead_1
theorem dksX9_isAhead_0 : cX9_isAhead.data.toList.drop 0 = dktX9_isAhead_0 := by decide +kernel
theorem dksX9_isAhead_1 : cX9_isAhead.data.toList.drop 24 = dktX9_isAhead_1 := dk_seg dksX9_isAhead_0 24 rfl rfl
theorem dksX9_isAhead_2 : cX9_isAhead.data.toList.drop 47 = dktX9_isAhead_2 := dk_seg dksX9_isAhead_1 23 rfl rfl
theorem dksX9_isAhead_3 : cX9_isAhead.data.toList.drop 71 = dktX9_isAhead_3 := dk_seg dksX9_isAhead_2 24 rfl rfl
theorem dX9_isAhead_0 : decode cX9_isAhead 0 = .ok (.iload_n 1, 1) := dk_27 (dk_at dksX9_isAhead_0 0 rfl rfl)
theorem dX9_isAhead_1 : decode cX9_isAhead 1 = .ok (.ifCond .ne 22, 3) := dk_154 0 22 (dk_at dksX9_isAhead_0 1 rfl rfl)
theorem dX9_isAhead_4 : decode cX9_isAhead 4 = .ok (.aload_n 0, 1) := dk_42 (dk_at dksX9_isAhead_0 4 rfl rfl)
theorem dX9_isAhead_5 : decode cX9_isAhead 5 = .ok (.iload_n 2, 1) := dk_28 (dk_at dksX9_isAhead_0 5 rfl rfl)
theorem dX9_isAhead_6 : decode cX9_isAhead 6 = .ok (.invokevirtual 222, 3) := dk_182 0 222 (dk_at dksX9_isAhead_0 6 rfl rfl)
theorem dX9_isAhead_9 : decode cX9_isAhead 9 = .ok (.aload_n 0, 1) := dk_42 (dk_at dksX9_isAhead_0 9 rfl rfl)
theorem dX9_isAhead_10 : decode cX9_isAhead 10 = .ok (.iload_n 3, 1) := dk_29 (dk_at dksX9_isAhead_0 10 rfl rfl)
theorem dX9_isAhead_11 : decode cX9_isAhead 11 = .ok (.invokevirtual 222, 3) := dk_182 0 222 (dk_at dksX9_isAhead_0 11 rfl rfl)
theorem dX9_isAhead_14 : decode cX9_isAhead 14 = .ok (.if_icmp .le 7, 3) := dk_164 0 7 (dk_at dksX9_isAhead_0 14 rfl rfl)
theorem dX9_isAhead_17 : decode cX9_isAhead 17 = .ok (.iconst 1, 1) := dk_4 (dk_at dksX9_isAhead_0 17 rfl rfl)
theorem dX9_isAhead_18 : decode cX9_isAhead 18 = .ok (.goto 4, 3) := dk_167 0 4 (dk_at dksX9_isAhead_0 18 rfl rfl)
theorem dX9_isAhead_21 : decode cX9_isAhead 21 = .ok (.iconst 0, 1) := dk_3 (dk_at dksX9_isAhead_0 21 rfl rfl)
theorem dX9_isAhead_22 : decode cX9_isAhead 22 = .ok (.ireturn, 1) := dk_172 (dk_at dksX9_isAhead_0 22 rfl rfl)
theorem dX9_isAhead_23 : decode cX9_isAhead 23 = .ok (.iload_n 1, 1) := dk_27 (dk_at dksX9_isAhead_0 23 rfl rfl)
theorem dX9_isAhead_24 : decode cX9_isAhead 24 = .ok (.iconst 1, 1) := dk_4 (dk_at dksX9_isAhead_1 0 rfl rfl)
theorem dX9_isAhead_25 : decode cX9_isAhead 25 = .ok (.if_icmp .ne 46, 3) := dk_160 0 46 (dk_at dksX9_isAhead_1 1 rfl rfl)
theorem dX9_isAhead_28 : decode cX9_isAhead 28 = .ok (.aload_n 0, 1) := dk_42 (dk_at dksX9_isAhead_1 4 rfl rfl)
theorem dX9_isAhead_29 : decode cX9_isAhead 29 = .ok (.aload_n 0, 1) := dk_42 (dk_at dksX9_isAhead_1 5 rfl rfl)
theorem dX9_isAhead_30 : decode cX9_isAhead 30 = .ok (.getfield 47, 3) := dk_180 0 47 (dk_at dksX9_isAhead_1 6 rfl rfl)
theorem dX9_isAhead_33 : decode cX9_isAhead 33 = .ok (.bipush 23, 2) := dk_16 23 (dk_at dksX9_isAhead_1 9 rfl rfl)
theorem dX9_isAhead_35 : decode cX9_isAhead 35 = .ok (.iload_n 2, 1) := dk_28 (dk_at dksX9_isAhead_1 11 rfl rfl)
theorem dX9_isAhead_36 : decode cX9_isAhead 36 = .ok (.imul, 1) := dk_104 (dk_at dksX9_isAhead_1 12 rfl rfl)
theorem dX9_isAhead_37 : decode cX9_isAhead 37 = .ok (.iconst 2, 1) := dk_5 (dk_at dksX9_isAhead_1 13 rfl rfl)
theorem dX9_isAhead_38 : decode cX9_isAhead 38 = .ok (.iadd, 1) := dk_96 (dk_at dksX9_isAhead_1 14 rfl rfl)
theorem dX9_isAhead_39 : decode cX9_isAhead 39 = .ok (.iaload, 1) := dk_46 (dk_at dksX9_isAhead_1 15 rfl rfl)
theorem dX9_isAhead_40 : decode cX9_isAhead 40 = .ok (.iload 4, 2) := dk_21 4 (dk_at dksX9_isAhead_1 16 rfl rfl)
theorem dX9_isAhead_42 : decode cX9_isAhead 42 = .ok (.invokevirtual 103, 3) := dk_182 0 103 (dk_at dksX9_isAhead_1 18 rfl rfl)
theorem dX9_isAhead_45 : decode cX9_isAhead 45 = .ok (.aload_n 0, 1) := dk_42 (dk_at dksX9_isAhead_1 21 rfl rfl)
theorem dX9_isAhead_46 : decode cX9_isAhead 46 = .ok (.aload_n 0, 1) := dk_42 (dk_at dksX9_isAhead_1 22 rfl rfl)
theorem dX9_isAhead_47 : decode cX9_isAhead 47 = .ok (.getfield 47, 3) := dk_180 0 47 (dk_at dksX9_isAhead_2 0 rfl rfl)
theorem dX9_isAhead_50 : decode cX9_isAhead 50 = .ok (.bipush 23, 2) := dk_16 23 (dk_at dksX9_isAhead_2 3 rfl rfl)
theorem dX9_isAhead_52 : decode cX9_isAhead 52 = .ok (.iload_n 3, 1) := dk_29 (dk_at dksX9_isAhead_2 5 rfl rfl)
theorem dX9_isAhead_53 : decode cX9_isAhead 53 = .ok (.imul, 1) := dk_104 (dk_at dksX9_isAhead_2 6 rfl rfl)
theorem dX9_isAhead_54 : decode cX9_isAhead 54 = .ok (.iconst 2, 1) := dk_5 (dk_at dksX9_isAhead_2 7 rfl rfl)
theorem dX9_isAhead_55 : decode cX9_isAhead 55 = .ok (.iadd, 1) := dk_96 (dk_at dksX9_isAhead_2 8 rfl rfl)
theorem dX9_isAhead_56 : decode cX9_isAhead 56 = .ok (.iaload, 1) := dk_46 (dk_at dksX9_isAhead_2 9 rfl rfl)
theorem dX9_isAhead_57 : decode cX9_isAhead 57 = .ok (.iload 4, 2) := dk_21 4 (dk_at dksX9_isAhead_2 10 rfl rfl)
theorem dX9_isAhead_59 : decode cX9_isAhead 59 = .ok (.invokevirtual 103, 3) := dk_182 0 103 (dk_at dksX9_isAhead_2 12 rfl rfl)
theorem dX9_isAhead_62 : decode cX9_isAhead 62 = .ok (.if_icmp .ge 7, 3) := dk_162 0 7 (dk_at dksX9_isAhead_2 15 rfl rfl)
theorem dX9_isAhead_65 : decode cX9_isAhead 65 = .ok (.iconst 1, 1) := dk_4 (dk_at dksX9_isAhead_2 18 rfl rfl)
theorem dX9_isAhead_66 : decode cX9_isAhead 66 = .ok (.goto 4, 3) := dk_167 0 4 (dk_at dksX9_isAhead_2 19 rfl rfl)
theorem dX9_isAhead_69 : decode cX9_isAhead 69 = .ok (.iconst 0, 1) := dk_3 (dk_at dksX9_isAhead_2 22 rfl rfl)
theorem dX9_isAhead_70 : decode cX9_isAhead 70 = .ok (.ireturn, 1) := dk_172 (dk_at dksX9_isAhead_2 23 rfl rfl)
theorem dX9_isAhead_71 : decode cX9_isAhead 71 = .ok (.aload_n 0, 1) := dk_42 (dk_at dksX9_isAhead_3 0 rfl rfl)
theorem dX9_isAhead_72 : decode cX9_isAhead 72 = .ok (.iload_n 2, 1) := dk_28 (dk_at dksX9_isAhead_3 1 rfl rfl)
theorem dX9_isAhead_73 : decode cX9_isAhead 73 = .ok (.invokevirtual 253, 3) := dk_182 0 253 (dk_at dksX9_isAhead_3 2 rfl rfl)
theorem dX9_isAhead_76 : decode cX9_isAhead 76 = .ok (.aload_n 0, 1) := dk_42 (dk_at dksX9_isAhead_3 5 rfl rfl)
theorem dX9_isAhead_77 : decode cX9_isAhead 77 = .ok (.iload_n 3, 1) := dk_29 (dk_at dksX9_isAhead_3 6 rfl rfl)
theorem dX9_isAhead_78 : decode cX9_isAhead 78 = .ok (.invokevirtual 253, 3) := dk_182 0 253 (dk_at dksX9_isAhead_3 7 rfl rfl)
theorem dX9_isAhead_81 : decode cX9_isAhead 81 = .ok (.if_icmp .ge 7, 3) := dk_162 0 7 (dk_at dksX9_isAhead_3 10 rfl rfl)
theorem dX9_isAhead_84 : decode cX9_isAhead 84 = .ok (.iconst 1, 1) := dk_4 (dk_at dksX9_isAhead_3 13 rfl rfl)
theorem dX9_isAhead_85 : decode cX9_isAhead 85 = .ok (.goto 4, 3) := dk_167 0 4 (dk_at dksX9_isAhead_3 14 rfl rfl)
theorem dX9_isAhead_88 : decode cX9_isAhead 88 = .ok (.iconst 0, 1) := dk_3 (dk_at dksX9_isAhead_3 17 rfl rfl)
theorem dX9_isAhead_89 : decode cX9_isAhead 89 = .ok (.ireturn, 1) := dk_172 (dk_at dksX9_isAhead_3 18 rfl rfl)
abbrev cX9_lastVisible : ByteArray := prog_16_method_55_code
def yX9_lastVisible : MethodName := ⟨RX9, "lastVisible", "(I)I"⟩
def dkwX9_lastVisible_1 : List UInt8 := [29, 182, 0, 114, 153, 0, 7, 29, 167, 0, 4, 28, 61, 132, 3, 1, 167, 255, 220, 28, 172]
abbrev dktX9_lastVisible_1 : List UInt8 := dkwX9_lastVisible_1 ++ []
def dkwX9_lastVisible_0 : List UInt8 := [2, 61, 3, 62, 29, 42, 180, 0, 7, 162, 0, 34, 42, 42, 180, 0, 47, 16, 23, 27, 104, 5, 96, 46]
abbrev dktX9_lastVisible_0 : List UInt8 := dkwX9_lastVisible_0 ++ dktX9_lastVisible_1
theorem dksX9_lastVisible_0 : cX9_lastVisible.data.toList.drop 0 = dktX9_lastVisible_0 := by decide +kernel
theorem dksX9_lastVisible_1 : cX9_lastVisible.data.toList.drop 24 = dktX9_lastVisible_1 := dk_seg dksX9_lastVisible_0 24 rfl rfl
theorem dX9_lastVisible_0 : decode cX9_lastVisible 0 = .ok (.iconst (-1), 1) := dk_2 (dk_at dksX9_lastVisible_0 0 rfl rfl)
theorem dX9_lastVisible_1 : decode cX9_lastVisible 1 = .ok (.istore_n 2, 1) := dk_61 (dk_at dksX9_lastVisible_0 1 rfl rfl)
theorem dX9_lastVisible_2 : decode cX9_lastVisible 2 = .ok (.iconst 0, 1) := dk_3 (dk_at dksX9_lastVisible_0 2 rfl rfl)
theorem dX9_lastVisible_3 : decode cX9_lastVisible 3 = .ok (.istore_n 3, 1) := dk_62 (dk_at dksX9_lastVisible_0 3 rfl rfl)
theorem dX9_lastVisible_4 : decode cX9_lastVisible 4 = .ok (.iload_n 3, 1) := dk_29 (dk_at dksX9_lastVisible_0 4 rfl rfl)
theorem dX9_lastVisible_5 : decode cX9_lastVisible 5 = .ok (.aload_n 0, 1) := dk_42 (dk_at dksX9_lastVisible_0 5 rfl rfl)
theorem dX9_lastVisible_6 : decode cX9_lastVisible 6 = .ok (.getfield 7, 3) := dk_180 0 7 (dk_at dksX9_lastVisible_0 6 rfl rfl)
theorem dX9_lastVisible_9 : decode cX9_lastVisible 9 = .ok (.if_icmp .ge 34, 3) := dk_162 0 34 (dk_at dksX9_lastVisible_0 9 rfl rfl)
theorem dX9_lastVisible_12 : decode cX9_lastVisible 12 = .ok (.aload_n 0, 1) := dk_42 (dk_at dksX9_lastVisible_0 12 rfl rfl)
theorem dX9_lastVisible_13 : decode cX9_lastVisible 13 = .ok (.aload_n 0, 1) := dk_42 (dk_at dksX9_lastVisible_0 13 rfl rfl)
theorem dX9_lastVisible_14 : decode cX9_lastVisible 14 = .ok (.getfield 47, 3) := dk_180 0 47 (dk_at dksX9_lastVisible_0 14 rfl rfl)
theorem dX9_lastVisible_17 : decode cX9_lastVisible 17 = .ok (.bipush 23, 2) := dk_16 23 (dk_at dksX9_lastVisible_0 17 rfl rfl)
theorem dX9_lastVisible_19 : decode cX9_lastVisible 19 = .ok (.iload_n 1, 1) := dk_27 (dk_at dksX9_lastVisible_0 19 rfl rfl)
theorem dX9_lastVisible_20 : decode cX9_lastVisible 20 = .ok (.imul, 1) := dk_104 (dk_at dksX9_lastVisible_0 20 rfl rfl)
theorem dX9_lastVisible_21 : decode cX9_lastVisible 21 = .ok (.iconst 2, 1) := dk_5 (dk_at dksX9_lastVisible_0 21 rfl rfl)
theorem dX9_lastVisible_22 : decode cX9_lastVisible 22 = .ok (.iadd, 1) := dk_96 (dk_at dksX9_lastVisible_0 22 rfl rfl)
theorem dX9_lastVisible_23 : decode cX9_lastVisible 23 = .ok (.iaload, 1) := dk_46 (dk_at dksX9_lastVisible_0 23 rfl rfl)
theorem dX9_lastVisible_24 : decode cX9_lastVisible 24 = .ok (.iload_n 3, 1) := dk_29 (dk_at dksX9_lastVisible_1 0 rfl rfl)
theorem dX9_lastVisible_25 : decode cX9_lastVisible 25 = .ok (.invokevirtual 114, 3) := dk_182 0 114 (dk_at dksX9_lastVisible_1 1 rfl rfl)
theorem dX9_lastVisible_28 : decode cX9_lastVisible 28 = .ok (.ifCond .eq 7, 3) := dk_153 0 7 (dk_at dksX9_lastVisible_1 4 rfl rfl)
theorem dX9_lastVisible_31 : decode cX9_lastVisible 31 = .ok (.iload_n 3, 1) := dk_29 (dk_at dksX9_lastVisible_1 7 rfl rfl)
theorem dX9_lastVisible_32 : decode cX9_lastVisible 32 = .ok (.goto 4, 3) := dk_167 0 4 (dk_at dksX9_lastVisible_1 8 rfl rfl)
theorem dX9_lastVisible_35 : decode cX9_lastVisible 35 = .ok (.iload_n 2, 1) := dk_28 (dk_at dksX9_lastVisible_1 11 rfl rfl)
theorem dX9_lastVisible_36 : decode cX9_lastVisible 36 = .ok (.istore_n 2, 1) := dk_61 (dk_at dksX9_lastVisible_1 12 rfl rfl)
theorem dX9_lastVisible_37 : decode cX9_lastVisible 37 = .ok (.iinc 3 1, 3) := dk_132 3 1 (dk_at dksX9_lastVisible_1 13 rfl rfl)
theorem dX9_lastVisible_40 : decode cX9_lastVisible 40 = .ok (.goto (-36), 3) := dk_167 255 220 (dk_at dksX9_lastVisible_1 16 rfl rfl)
theorem dX9_lastVisible_43 : decode cX9_lastVisible 43 = .ok (.iload_n 2, 1) := dk_28 (dk_at dksX9_lastVisible_1 19 rfl rfl)
theorem dX9_lastVisible_44 : decode cX9_lastVisible 44 = .ok (.ireturn, 1) := dk_172 (dk_at dksX9_lastVisible_1 20 rfl rfl)
abbrev cX9_log : ByteArray := prog_16_method_60_code
def yX9_log : MethodName := ⟨RX9, "log", "(III)I"⟩
def dkwX9_log_2 : List UInt8 := [46, 172]
abbrev dktX9_log_2 : List UInt8 := dkwX9_log_2 ++ []
def dkwX9_log_1 : List UInt8 := [184, 0, 87, 154, 0, 6, 16, 253, 172, 42, 27, 28, 42, 180, 0, 7, 182, 1, 12, 42, 180, 0, 78, 29]
abbrev dktX9_log_1 : List UInt8 := dkwX9_log_1 ++ dktX9_log_2
def dkwX9_log_0 : List UInt8 := [42, 28, 182, 0, 124, 153, 0, 11, 42, 29, 182, 0, 111, 154, 0, 6, 16, 254, 172, 27, 3, 5]
abbrev dktX9_log_0 : List UInt8 := dkwX9_log_0 ++ dktX9_log_1
theorem dksX9_log_0 : cX9_log.data.toList.drop 0 = dktX9_log_0 := by decide +kernel
theorem dksX9_log_1 : cX9_log.data.toList.drop 22 = dktX9_log_1 := dk_seg dksX9_log_0 22 rfl rfl
theorem dksX9_log_2 : cX9_log.data.toList.drop 46 = dktX9_log_2 := dk_seg dksX9_log_1 24 rfl rfl
theorem dX9_log_0 : decode cX9_log 0 = .ok (.aload_n 0, 1) := dk_42 (dk_at dksX9_log_0 0 rfl rfl)
theorem dX9_log_1 : decode cX9_log 1 = .ok (.iload_n 2, 1) := dk_28 (dk_at dksX9_log_0 1 rfl rfl)
theorem dX9_log_2 : decode cX9_log 2 = .ok (.invokevirtual 124, 3) := dk_182 0 124 (dk_at dksX9_log_0 2 rfl rfl)
theorem dX9_log_5 : decode cX9_log 5 = .ok (.ifCond .eq 11, 3) := dk_153 0 11 (dk_at dksX9_log_0 5 rfl rfl)
theorem dX9_log_8 : decode cX9_log 8 = .ok (.aload_n 0, 1) := dk_42 (dk_at dksX9_log_0 8 rfl rfl)
theorem dX9_log_9 : decode cX9_log 9 = .ok (.iload_n 3, 1) := dk_29 (dk_at dksX9_log_0 9 rfl rfl)
theorem dX9_log_10 : decode cX9_log 10 = .ok (.invokevirtual 111, 3) := dk_182 0 111 (dk_at dksX9_log_0 10 rfl rfl)
theorem dX9_log_13 : decode cX9_log 13 = .ok (.ifCond .ne 6, 3) := dk_154 0 6 (dk_at dksX9_log_0 13 rfl rfl)
theorem dX9_log_16 : decode cX9_log 16 = .ok (.bipush (-2), 2) := dk_16 254 (dk_at dksX9_log_0 16 rfl rfl)
theorem dX9_log_18 : decode cX9_log 18 = .ok (.ireturn, 1) := dk_172 (dk_at dksX9_log_0 18 rfl rfl)
theorem dX9_log_19 : decode cX9_log 19 = .ok (.iload_n 1, 1) := dk_27 (dk_at dksX9_log_0 19 rfl rfl)
theorem dX9_log_20 : decode cX9_log 20 = .ok (.iconst 0, 1) := dk_3 (dk_at dksX9_log_0 20 rfl rfl)
theorem dX9_log_21 : decode cX9_log 21 = .ok (.iconst 2, 1) := dk_5 (dk_at dksX9_log_0 21 rfl rfl)
theorem dX9_log_22 : decode cX9_log 22 = .ok (.invokestatic 87, 3) := dk_184 0 87 (dk_at dksX9_log_1 0 rfl rfl)
theorem dX9_log_25 : decode cX9_log 25 = .ok (.ifCond .ne 6, 3) := dk_154 0 6 (dk_at dksX9_log_1 3 rfl rfl)
theorem dX9_log_28 : decode cX9_log 28 = .ok (.bipush (-3), 2) := dk_16 253 (dk_at dksX9_log_1 6 rfl rfl)
theorem dX9_log_30 : decode cX9_log 30 = .ok (.ireturn, 1) := dk_172 (dk_at dksX9_log_1 8 rfl rfl)
theorem dX9_log_31 : decode cX9_log 31 = .ok (.aload_n 0, 1) := dk_42 (dk_at dksX9_log_1 9 rfl rfl)
theorem dX9_log_32 : decode cX9_log 32 = .ok (.iload_n 1, 1) := dk_27 (dk_at dksX9_log_1 10 rfl rfl)
theorem dX9_log_33 : decode cX9_log 33 = .ok (.iload_n 2, 1) := dk_28 (dk_at dksX9_log_1 11 rfl rfl)
theorem dX9_log_34 : decode cX9_log 34 = .ok (.aload_n 0, 1) := dk_42 (dk_at dksX9_log_1 12 rfl rfl)
theorem dX9_log_35 : decode cX9_log 35 = .ok (.getfield 7, 3) := dk_180 0 7 (dk_at dksX9_log_1 13 rfl rfl)
theorem dX9_log_38 : decode cX9_log 38 = .ok (.invokevirtual 268, 3) := dk_182 1 12 (dk_at dksX9_log_1 16 rfl rfl)
theorem dX9_log_41 : decode cX9_log 41 = .ok (.aload_n 0, 1) := dk_42 (dk_at dksX9_log_1 19 rfl rfl)
theorem dX9_log_42 : decode cX9_log 42 = .ok (.getfield 78, 3) := dk_180 0 78 (dk_at dksX9_log_1 20 rfl rfl)
theorem dX9_log_45 : decode cX9_log 45 = .ok (.iload_n 3, 1) := dk_29 (dk_at dksX9_log_1 23 rfl rfl)
theorem dX9_log_46 : decode cX9_log 46 = .ok (.iaload, 1) := dk_46 (dk_at dksX9_log_2 0 rfl rfl)
theorem dX9_log_47 : decode cX9_log 47 = .ok (.ireturn, 1) := dk_172 (dk_at dksX9_log_2 1 rfl rfl)
abbrev cX9_state : ByteArray := prog_16_method_61_code
def yX9_state : MethodName := ⟨RX9, "state", "(IIII)I"⟩
def dkwX9_state_2 : List UInt8 := [28, 21, 4, 182, 1, 12, 42, 180, 0, 69, 29, 46, 172]
abbrev dktX9_state_2 : List UInt8 := dkwX9_state_2 ++ []
def dkwX9_state_1 : List UInt8 := [184, 0, 87, 153, 0, 16, 21, 4, 3, 42, 180, 0, 7, 184, 0, 87, 154, 0, 6, 16, 253, 172, 42, 27]
abbrev dktX9_state_1 : List UInt8 := dkwX9_state_1 ++ dktX9_state_2
def dkwX9_state_0 : List UInt8 := [42, 28, 182, 0, 124, 153, 0, 11, 42, 29, 182, 0, 187, 154, 0, 6, 16, 254, 172, 27, 3, 5]
abbrev dktX9_state_0 : List UInt8 := dkwX9_state_0 ++ dktX9_state_1
theorem dksX9_state_0 : cX9_state.data.toList.drop 0 = dktX9_state_0 := by decide +kernel
theorem dksX9_state_1 : cX9_state.data.toList.drop 22 = dktX9_state_1 := dk_seg dksX9_state_0 22 rfl rfl
theorem dksX9_state_2 : cX9_state.data.toList.drop 46 = dktX9_state_2 := dk_seg dksX9_state_1 24 rfl rfl
theorem dX9_state_0 : decode cX9_state 0 = .ok (.aload_n 0, 1) := dk_42 (dk_at dksX9_state_0 0 rfl rfl)
theorem dX9_state_1 : decode cX9_state 1 = .ok (.iload_n 2, 1) := dk_28 (dk_at dksX9_state_0 1 rfl rfl)
theorem dX9_state_2 : decode cX9_state 2 = .ok (.invokevirtual 124, 3) := dk_182 0 124 (dk_at dksX9_state_0 2 rfl rfl)
theorem dX9_state_5 : decode cX9_state 5 = .ok (.ifCond .eq 11, 3) := dk_153 0 11 (dk_at dksX9_state_0 5 rfl rfl)
theorem dX9_state_8 : decode cX9_state 8 = .ok (.aload_n 0, 1) := dk_42 (dk_at dksX9_state_0 8 rfl rfl)
theorem dX9_state_9 : decode cX9_state 9 = .ok (.iload_n 3, 1) := dk_29 (dk_at dksX9_state_0 9 rfl rfl)
theorem dX9_state_10 : decode cX9_state 10 = .ok (.invokevirtual 187, 3) := dk_182 0 187 (dk_at dksX9_state_0 10 rfl rfl)
theorem dX9_state_13 : decode cX9_state 13 = .ok (.ifCond .ne 6, 3) := dk_154 0 6 (dk_at dksX9_state_0 13 rfl rfl)
theorem dX9_state_16 : decode cX9_state 16 = .ok (.bipush (-2), 2) := dk_16 254 (dk_at dksX9_state_0 16 rfl rfl)
theorem dX9_state_18 : decode cX9_state 18 = .ok (.ireturn, 1) := dk_172 (dk_at dksX9_state_0 18 rfl rfl)
theorem dX9_state_19 : decode cX9_state 19 = .ok (.iload_n 1, 1) := dk_27 (dk_at dksX9_state_0 19 rfl rfl)
theorem dX9_state_20 : decode cX9_state 20 = .ok (.iconst 0, 1) := dk_3 (dk_at dksX9_state_0 20 rfl rfl)
theorem dX9_state_21 : decode cX9_state 21 = .ok (.iconst 2, 1) := dk_5 (dk_at dksX9_state_0 21 rfl rfl)
theorem dX9_state_22 : decode cX9_state 22 = .ok (.invokestatic 87, 3) := dk_184 0 87 (dk_at dksX9_state_1 0 rfl rfl)
theorem dX9_state_25 : decode cX9_state 25 = .ok (.ifCond .eq 16, 3) := dk_153 0 16 (dk_at dksX9_state_1 3 rfl rfl)
theorem dX9_state_28 : decode cX9_state 28 = .ok (.iload 4, 2) := dk_21 4 (dk_at dksX9_state_1 6 rfl rfl)
theorem dX9_state_30 : decode cX9_state 30 = .ok (.iconst 0, 1) := dk_3 (dk_at dksX9_state_1 8 rfl rfl)
theorem dX9_state_31 : decode cX9_state 31 = .ok (.aload_n 0, 1) := dk_42 (dk_at dksX9_state_1 9 rfl rfl)
theorem dX9_state_32 : decode cX9_state 32 = .ok (.getfield 7, 3) := dk_180 0 7 (dk_at dksX9_state_1 10 rfl rfl)
theorem dX9_state_35 : decode cX9_state 35 = .ok (.invokestatic 87, 3) := dk_184 0 87 (dk_at dksX9_state_1 13 rfl rfl)
theorem dX9_state_38 : decode cX9_state 38 = .ok (.ifCond .ne 6, 3) := dk_154 0 6 (dk_at dksX9_state_1 16 rfl rfl)
theorem dX9_state_41 : decode cX9_state 41 = .ok (.bipush (-3), 2) := dk_16 253 (dk_at dksX9_state_1 19 rfl rfl)
theorem dX9_state_43 : decode cX9_state 43 = .ok (.ireturn, 1) := dk_172 (dk_at dksX9_state_1 21 rfl rfl)
theorem dX9_state_44 : decode cX9_state 44 = .ok (.aload_n 0, 1) := dk_42 (dk_at dksX9_state_1 22 rfl rfl)
theorem dX9_state_45 : decode cX9_state 45 = .ok (.iload_n 1, 1) := dk_27 (dk_at dksX9_state_1 23 rfl rfl)
theorem dX9_state_46 : decode cX9_state 46 = .ok (.iload_n 2, 1) := dk_28 (dk_at dksX9_state_2 0 rfl rfl)
theorem dX9_state_47 : decode cX9_state 47 = .ok (.iload 4, 2) := dk_21 4 (dk_at dksX9_state_2 1 rfl rfl)
theorem dX9_state_49 : decode cX9_state 49 = .ok (.invokevirtual 268, 3) := dk_182 1 12 (dk_at dksX9_state_2 3 rfl rfl)
theorem dX9_state_52 : decode cX9_state 52 = .ok (.aload_n 0, 1) := dk_42 (dk_at dksX9_state_2 6 rfl rfl)
theorem dX9_state_53 : decode cX9_state 53 = .ok (.getfield 69, 3) := dk_180 0 69 (dk_at dksX9_state_2 7 rfl rfl)
theorem dX9_state_56 : decode cX9_state 56 = .ok (.iload_n 3, 1) := dk_29 (dk_at dksX9_state_2 10 rfl rfl)
theorem dX9_state_57 : decode cX9_state 57 = .ok (.iaload, 1) := dk_46 (dk_at dksX9_state_2 11 rfl rfl)
theorem dX9_state_58 : decode cX9_state 58 = .ok (.ireturn, 1) := dk_172 (dk_at dksX9_state_2 12 rfl rfl)
abbrev cX9_value : ByteArray := prog_16_method_64_code
def yX9_value : MethodName := ⟨RX9, "value", "(II)I"⟩
def dkwX9_value_2 : List UInt8 := [66, 28, 154, 0, 10, 42, 180, 1, 15, 167, 0, 7, 42, 180, 1, 19, 33, 109, 136, 172]
abbrev dktX9_value_2 : List UInt8 := dkwX9_value_2 ++ []
def dkwX9_value_1 : List UInt8 := [180, 0, 97, 154, 0, 5, 2, 172, 42, 27, 182, 1, 22, 42, 180, 1, 15, 42, 180, 1, 19, 184, 1, 25]
abbrev dktX9_value_1 : List UInt8 := dkwX9_value_1 ++ dktX9_value_2
def dkwX9_value_0 : List UInt8 := [27, 3, 5, 184, 0, 87, 153, 0, 12, 28, 3, 4, 184, 0, 87, 154, 0, 6, 16, 253, 172, 42]
abbrev dktX9_value_0 : List UInt8 := dkwX9_value_0 ++ dktX9_value_1
theorem dksX9_value_0 : cX9_value.data.toList.drop 0 = dktX9_value_0 := by decide +kernel
theorem dksX9_value_1 : cX9_value.data.toList.drop 22 = dktX9_value_1 := dk_seg dksX9_value_0 22 rfl rfl
theorem dksX9_value_2 : cX9_value.data.toList.drop 46 = dktX9_value_2 := dk_seg dksX9_value_1 24 rfl rfl
theorem dX9_value_0 : decode cX9_value 0 = .ok (.iload_n 1, 1) := dk_27 (dk_at dksX9_value_0 0 rfl rfl)
theorem dX9_value_1 : decode cX9_value 1 = .ok (.iconst 0, 1) := dk_3 (dk_at dksX9_value_0 1 rfl rfl)
theorem dX9_value_2 : decode cX9_value 2 = .ok (.iconst 2, 1) := dk_5 (dk_at dksX9_value_0 2 rfl rfl)
theorem dX9_value_3 : decode cX9_value 3 = .ok (.invokestatic 87, 3) := dk_184 0 87 (dk_at dksX9_value_0 3 rfl rfl)
theorem dX9_value_6 : decode cX9_value 6 = .ok (.ifCond .eq 12, 3) := dk_153 0 12 (dk_at dksX9_value_0 6 rfl rfl)
theorem dX9_value_9 : decode cX9_value 9 = .ok (.iload_n 2, 1) := dk_28 (dk_at dksX9_value_0 9 rfl rfl)
theorem dX9_value_10 : decode cX9_value 10 = .ok (.iconst 0, 1) := dk_3 (dk_at dksX9_value_0 10 rfl rfl)
theorem dX9_value_11 : decode cX9_value 11 = .ok (.iconst 1, 1) := dk_4 (dk_at dksX9_value_0 11 rfl rfl)
theorem dX9_value_12 : decode cX9_value 12 = .ok (.invokestatic 87, 3) := dk_184 0 87 (dk_at dksX9_value_0 12 rfl rfl)
theorem dX9_value_15 : decode cX9_value 15 = .ok (.ifCond .ne 6, 3) := dk_154 0 6 (dk_at dksX9_value_0 15 rfl rfl)
theorem dX9_value_18 : decode cX9_value 18 = .ok (.bipush (-3), 2) := dk_16 253 (dk_at dksX9_value_0 18 rfl rfl)
theorem dX9_value_20 : decode cX9_value 20 = .ok (.ireturn, 1) := dk_172 (dk_at dksX9_value_0 20 rfl rfl)
theorem dX9_value_21 : decode cX9_value 21 = .ok (.aload_n 0, 1) := dk_42 (dk_at dksX9_value_0 21 rfl rfl)
theorem dX9_value_22 : decode cX9_value 22 = .ok (.getfield 97, 3) := dk_180 0 97 (dk_at dksX9_value_1 0 rfl rfl)
theorem dX9_value_25 : decode cX9_value 25 = .ok (.ifCond .ne 5, 3) := dk_154 0 5 (dk_at dksX9_value_1 3 rfl rfl)
theorem dX9_value_28 : decode cX9_value 28 = .ok (.iconst (-1), 1) := dk_2 (dk_at dksX9_value_1 6 rfl rfl)
theorem dX9_value_29 : decode cX9_value 29 = .ok (.ireturn, 1) := dk_172 (dk_at dksX9_value_1 7 rfl rfl)
theorem dX9_value_30 : decode cX9_value 30 = .ok (.aload_n 0, 1) := dk_42 (dk_at dksX9_value_1 8 rfl rfl)
theorem dX9_value_31 : decode cX9_value 31 = .ok (.iload_n 1, 1) := dk_27 (dk_at dksX9_value_1 9 rfl rfl)
theorem dX9_value_32 : decode cX9_value 32 = .ok (.invokevirtual 278, 3) := dk_182 1 22 (dk_at dksX9_value_1 10 rfl rfl)
theorem dX9_value_35 : decode cX9_value 35 = .ok (.aload_n 0, 1) := dk_42 (dk_at dksX9_value_1 13 rfl rfl)
theorem dX9_value_36 : decode cX9_value 36 = .ok (.getfield 271, 3) := dk_180 1 15 (dk_at dksX9_value_1 14 rfl rfl)
theorem dX9_value_39 : decode cX9_value 39 = .ok (.aload_n 0, 1) := dk_42 (dk_at dksX9_value_1 17 rfl rfl)
theorem dX9_value_40 : decode cX9_value 40 = .ok (.getfield 275, 3) := dk_180 1 19 (dk_at dksX9_value_1 18 rfl rfl)
theorem dX9_value_43 : decode cX9_value 43 = .ok (.invokestatic 281, 3) := dk_184 1 25 (dk_at dksX9_value_1 21 rfl rfl)
theorem dX9_value_46 : decode cX9_value 46 = .ok (.lstore_n 3, 1) := dk_66 (dk_at dksX9_value_2 0 rfl rfl)
theorem dX9_value_47 : decode cX9_value 47 = .ok (.iload_n 2, 1) := dk_28 (dk_at dksX9_value_2 1 rfl rfl)
theorem dX9_value_48 : decode cX9_value 48 = .ok (.ifCond .ne 10, 3) := dk_154 0 10 (dk_at dksX9_value_2 2 rfl rfl)
theorem dX9_value_51 : decode cX9_value 51 = .ok (.aload_n 0, 1) := dk_42 (dk_at dksX9_value_2 5 rfl rfl)
theorem dX9_value_52 : decode cX9_value 52 = .ok (.getfield 271, 3) := dk_180 1 15 (dk_at dksX9_value_2 6 rfl rfl)
theorem dX9_value_55 : decode cX9_value 55 = .ok (.goto 7, 3) := dk_167 0 7 (dk_at dksX9_value_2 9 rfl rfl)
theorem dX9_value_58 : decode cX9_value 58 = .ok (.aload_n 0, 1) := dk_42 (dk_at dksX9_value_2 12 rfl rfl)
theorem dX9_value_59 : decode cX9_value 59 = .ok (.getfield 275, 3) := dk_180 1 19 (dk_at dksX9_value_2 13 rfl rfl)
theorem dX9_value_62 : decode cX9_value 62 = .ok (.lload_n 3, 1) := dk_33 (dk_at dksX9_value_2 16 rfl rfl)
theorem dX9_value_63 : decode cX9_value 63 = .ok (.ldiv, 1) := dk_109 (dk_at dksX9_value_2 17 rfl rfl)
theorem dX9_value_64 : decode cX9_value 64 = .ok (.l2i, 1) := dk_136 (dk_at dksX9_value_2 18 rfl rfl)
theorem dX9_value_65 : decode cX9_value 65 = .ok (.ireturn, 1) := dk_172 (dk_at dksX9_value_2 19 rfl rfl)
abbrev cX9_findValue : ByteArray := prog_16_method_63_code
def yX9_findValue : MethodName := ⟨RX9, "findValue", "(I)V"⟩
def dkwX9_findValue_3 : List UInt8 := [167, 255, 196, 177]
abbrev dktX9_findValue_3 : List UInt8 := dkwX9_findValue_3 ++ []
def dkwX9_findValue_2 : List UInt8 := [133, 97, 181, 1, 15, 42, 89, 180, 1, 19, 42, 180, 0, 29, 28, 46, 133, 97, 181, 1, 19, 132, 2, 1]
abbrev dktX9_findValue_2 : List UInt8 := dkwX9_findValue_2 ++ dktX9_findValue_3
def dkwX9_findValue_1 : List UInt8 := [96, 42, 180, 0, 7, 182, 1, 12, 42, 89, 180, 1, 15, 42, 180, 0, 29, 28, 46, 42, 180, 1, 0, 104]
abbrev dktX9_findValue_1 : List UInt8 := dkwX9_findValue_1 ++ dktX9_findValue_2
def dkwX9_findValue_0 : List UInt8 := [42, 9, 181, 1, 15, 42, 9, 181, 1, 19, 3, 61, 28, 42, 180, 0, 97, 162, 0, 58, 42, 27, 5, 28]
abbrev dktX9_findValue_0 : List UInt8 := dkwX9_findValue_0 ++ dktX9_findValue_1
theorem dksX9_findValue_0 : cX9_findValue.data.toList.drop 0 = dktX9_findValue_0 := by decide +kernel
theorem dksX9_findValue_1 : cX9_findValue.data.toList.drop 24 = dktX9_findValue_1 := dk_seg dksX9_findValue_0 24 rfl rfl
theorem dksX9_findValue_2 : cX9_findValue.data.toList.drop 48 = dktX9_findValue_2 := dk_seg dksX9_findValue_1 24 rfl rfl
theorem dksX9_findValue_3 : cX9_findValue.data.toList.drop 72 = dktX9_findValue_3 := dk_seg dksX9_findValue_2 24 rfl rfl
theorem dX9_findValue_0 : decode cX9_findValue 0 = .ok (.aload_n 0, 1) := dk_42 (dk_at dksX9_findValue_0 0 rfl rfl)
theorem dX9_findValue_1 : decode cX9_findValue 1 = .ok (.lconst 0, 1) := dk_9 (dk_at dksX9_findValue_0 1 rfl rfl)
theorem dX9_findValue_2 : decode cX9_findValue 2 = .ok (.putfield 271, 3) := dk_181 1 15 (dk_at dksX9_findValue_0 2 rfl rfl)
theorem dX9_findValue_5 : decode cX9_findValue 5 = .ok (.aload_n 0, 1) := dk_42 (dk_at dksX9_findValue_0 5 rfl rfl)
theorem dX9_findValue_6 : decode cX9_findValue 6 = .ok (.lconst 0, 1) := dk_9 (dk_at dksX9_findValue_0 6 rfl rfl)
theorem dX9_findValue_7 : decode cX9_findValue 7 = .ok (.putfield 275, 3) := dk_181 1 19 (dk_at dksX9_findValue_0 7 rfl rfl)
theorem dX9_findValue_10 : decode cX9_findValue 10 = .ok (.iconst 0, 1) := dk_3 (dk_at dksX9_findValue_0 10 rfl rfl)
theorem dX9_findValue_11 : decode cX9_findValue 11 = .ok (.istore_n 2, 1) := dk_61 (dk_at dksX9_findValue_0 11 rfl rfl)
theorem dX9_findValue_12 : decode cX9_findValue 12 = .ok (.iload_n 2, 1) := dk_28 (dk_at dksX9_findValue_0 12 rfl rfl)
theorem dX9_findValue_13 : decode cX9_findValue 13 = .ok (.aload_n 0, 1) := dk_42 (dk_at dksX9_findValue_0 13 rfl rfl)
theorem dX9_findValue_14 : decode cX9_findValue 14 = .ok (.getfield 97, 3) := dk_180 0 97 (dk_at dksX9_findValue_0 14 rfl rfl)
theorem dX9_findValue_17 : decode cX9_findValue 17 = .ok (.if_icmp .ge 58, 3) := dk_162 0 58 (dk_at dksX9_findValue_0 17 rfl rfl)
theorem dX9_findValue_20 : decode cX9_findValue 20 = .ok (.aload_n 0, 1) := dk_42 (dk_at dksX9_findValue_0 20 rfl rfl)
theorem dX9_findValue_21 : decode cX9_findValue 21 = .ok (.iload_n 1, 1) := dk_27 (dk_at dksX9_findValue_0 21 rfl rfl)
theorem dX9_findValue_22 : decode cX9_findValue 22 = .ok (.iconst 2, 1) := dk_5 (dk_at dksX9_findValue_0 22 rfl rfl)
theorem dX9_findValue_23 : decode cX9_findValue 23 = .ok (.iload_n 2, 1) := dk_28 (dk_at dksX9_findValue_0 23 rfl rfl)
theorem dX9_findValue_24 : decode cX9_findValue 24 = .ok (.iadd, 1) := dk_96 (dk_at dksX9_findValue_1 0 rfl rfl)
theorem dX9_findValue_25 : decode cX9_findValue 25 = .ok (.aload_n 0, 1) := dk_42 (dk_at dksX9_findValue_1 1 rfl rfl)
theorem dX9_findValue_26 : decode cX9_findValue 26 = .ok (.getfield 7, 3) := dk_180 0 7 (dk_at dksX9_findValue_1 2 rfl rfl)
theorem dX9_findValue_29 : decode cX9_findValue 29 = .ok (.invokevirtual 268, 3) := dk_182 1 12 (dk_at dksX9_findValue_1 5 rfl rfl)
theorem dX9_findValue_32 : decode cX9_findValue 32 = .ok (.aload_n 0, 1) := dk_42 (dk_at dksX9_findValue_1 8 rfl rfl)
theorem dX9_findValue_33 : decode cX9_findValue 33 = .ok (.dup, 1) := dk_89 (dk_at dksX9_findValue_1 9 rfl rfl)
theorem dX9_findValue_34 : decode cX9_findValue 34 = .ok (.getfield 271, 3) := dk_180 1 15 (dk_at dksX9_findValue_1 10 rfl rfl)
theorem dX9_findValue_37 : decode cX9_findValue 37 = .ok (.aload_n 0, 1) := dk_42 (dk_at dksX9_findValue_1 13 rfl rfl)
theorem dX9_findValue_38 : decode cX9_findValue 38 = .ok (.getfield 29, 3) := dk_180 0 29 (dk_at dksX9_findValue_1 14 rfl rfl)
theorem dX9_findValue_41 : decode cX9_findValue 41 = .ok (.iload_n 2, 1) := dk_28 (dk_at dksX9_findValue_1 17 rfl rfl)
theorem dX9_findValue_42 : decode cX9_findValue 42 = .ok (.iaload, 1) := dk_46 (dk_at dksX9_findValue_1 18 rfl rfl)
theorem dX9_findValue_43 : decode cX9_findValue 43 = .ok (.aload_n 0, 1) := dk_42 (dk_at dksX9_findValue_1 19 rfl rfl)
theorem dX9_findValue_44 : decode cX9_findValue 44 = .ok (.getfield 256, 3) := dk_180 1 0 (dk_at dksX9_findValue_1 20 rfl rfl)
theorem dX9_findValue_47 : decode cX9_findValue 47 = .ok (.imul, 1) := dk_104 (dk_at dksX9_findValue_1 23 rfl rfl)
theorem dX9_findValue_48 : decode cX9_findValue 48 = .ok (.i2l, 1) := dk_133 (dk_at dksX9_findValue_2 0 rfl rfl)
theorem dX9_findValue_49 : decode cX9_findValue 49 = .ok (.ladd, 1) := dk_97 (dk_at dksX9_findValue_2 1 rfl rfl)
theorem dX9_findValue_50 : decode cX9_findValue 50 = .ok (.putfield 271, 3) := dk_181 1 15 (dk_at dksX9_findValue_2 2 rfl rfl)
theorem dX9_findValue_53 : decode cX9_findValue 53 = .ok (.aload_n 0, 1) := dk_42 (dk_at dksX9_findValue_2 5 rfl rfl)
theorem dX9_findValue_54 : decode cX9_findValue 54 = .ok (.dup, 1) := dk_89 (dk_at dksX9_findValue_2 6 rfl rfl)
theorem dX9_findValue_55 : decode cX9_findValue 55 = .ok (.getfield 275, 3) := dk_180 1 19 (dk_at dksX9_findValue_2 7 rfl rfl)
theorem dX9_findValue_58 : decode cX9_findValue 58 = .ok (.aload_n 0, 1) := dk_42 (dk_at dksX9_findValue_2 10 rfl rfl)
theorem dX9_findValue_59 : decode cX9_findValue 59 = .ok (.getfield 29, 3) := dk_180 0 29 (dk_at dksX9_findValue_2 11 rfl rfl)
theorem dX9_findValue_62 : decode cX9_findValue 62 = .ok (.iload_n 2, 1) := dk_28 (dk_at dksX9_findValue_2 14 rfl rfl)
theorem dX9_findValue_63 : decode cX9_findValue 63 = .ok (.iaload, 1) := dk_46 (dk_at dksX9_findValue_2 15 rfl rfl)
theorem dX9_findValue_64 : decode cX9_findValue 64 = .ok (.i2l, 1) := dk_133 (dk_at dksX9_findValue_2 16 rfl rfl)
theorem dX9_findValue_65 : decode cX9_findValue 65 = .ok (.ladd, 1) := dk_97 (dk_at dksX9_findValue_2 17 rfl rfl)
theorem dX9_findValue_66 : decode cX9_findValue 66 = .ok (.putfield 275, 3) := dk_181 1 19 (dk_at dksX9_findValue_2 18 rfl rfl)
theorem dX9_findValue_69 : decode cX9_findValue 69 = .ok (.iinc 2 1, 3) := dk_132 2 1 (dk_at dksX9_findValue_2 21 rfl rfl)
theorem dX9_findValue_72 : decode cX9_findValue 72 = .ok (.goto (-60), 3) := dk_167 255 196 (dk_at dksX9_findValue_3 0 rfl rfl)
theorem dX9_findValue_75 : decode cX9_findValue 75 = .ok (.return_, 1) := dk_177 (dk_at dksX9_findValue_3 3 rfl rfl)
abbrev cX9_common : ByteArray := prog_16_method_62_code
def yX9_common : MethodName := ⟨RX9, "common", "(JJ)J"⟩
def dkwX9_common_1 : List UInt8 := [22, 8, 55, 6, 167, 255, 234, 22, 4, 173]
abbrev dktX9_common_1 : List UInt8 := dkwX9_common_1 ++ []
def dkwX9_common_0 : List UInt8 := [30, 55, 4, 32, 55, 6, 22, 6, 9, 148, 153, 0, 21, 22, 4, 22, 6, 113, 55, 8, 22, 6, 55, 4]
abbrev dktX9_common_0 : List UInt8 := dkwX9_common_0 ++ dktX9_common_1
theorem dksX9_common_0 : cX9_common.data.toList.drop 0 = dktX9_common_0 := by decide +kernel
theorem dksX9_common_1 : cX9_common.data.toList.drop 24 = dktX9_common_1 := dk_seg dksX9_common_0 24 rfl rfl
theorem dX9_common_0 : decode cX9_common 0 = .ok (.lload_n 0, 1) := dk_30 (dk_at dksX9_common_0 0 rfl rfl)
theorem dX9_common_1 : decode cX9_common 1 = .ok (.lstore 4, 2) := dk_55 4 (dk_at dksX9_common_0 1 rfl rfl)
theorem dX9_common_3 : decode cX9_common 3 = .ok (.lload_n 2, 1) := dk_32 (dk_at dksX9_common_0 3 rfl rfl)
theorem dX9_common_4 : decode cX9_common 4 = .ok (.lstore 6, 2) := dk_55 6 (dk_at dksX9_common_0 4 rfl rfl)
theorem dX9_common_6 : decode cX9_common 6 = .ok (.lload 6, 2) := dk_22 6 (dk_at dksX9_common_0 6 rfl rfl)
theorem dX9_common_8 : decode cX9_common 8 = .ok (.lconst 0, 1) := dk_9 (dk_at dksX9_common_0 8 rfl rfl)
theorem dX9_common_9 : decode cX9_common 9 = .ok (.lcmp, 1) := dk_148 (dk_at dksX9_common_0 9 rfl rfl)
theorem dX9_common_10 : decode cX9_common 10 = .ok (.ifCond .eq 21, 3) := dk_153 0 21 (dk_at dksX9_common_0 10 rfl rfl)
theorem dX9_common_13 : decode cX9_common 13 = .ok (.lload 4, 2) := dk_22 4 (dk_at dksX9_common_0 13 rfl rfl)
theorem dX9_common_15 : decode cX9_common 15 = .ok (.lload 6, 2) := dk_22 6 (dk_at dksX9_common_0 15 rfl rfl)
theorem dX9_common_17 : decode cX9_common 17 = .ok (.lrem, 1) := dk_113 (dk_at dksX9_common_0 17 rfl rfl)
theorem dX9_common_18 : decode cX9_common 18 = .ok (.lstore 8, 2) := dk_55 8 (dk_at dksX9_common_0 18 rfl rfl)
theorem dX9_common_20 : decode cX9_common 20 = .ok (.lload 6, 2) := dk_22 6 (dk_at dksX9_common_0 20 rfl rfl)
theorem dX9_common_22 : decode cX9_common 22 = .ok (.lstore 4, 2) := dk_55 4 (dk_at dksX9_common_0 22 rfl rfl)
theorem dX9_common_24 : decode cX9_common 24 = .ok (.lload 8, 2) := dk_22 8 (dk_at dksX9_common_1 0 rfl rfl)
theorem dX9_common_26 : decode cX9_common 26 = .ok (.lstore 6, 2) := dk_55 6 (dk_at dksX9_common_1 2 rfl rfl)
theorem dX9_common_28 : decode cX9_common 28 = .ok (.goto (-22), 3) := dk_167 255 234 (dk_at dksX9_common_1 4 rfl rfl)
theorem dX9_common_31 : decode cX9_common 31 = .ok (.lload 4, 2) := dk_22 4 (dk_at dksX9_common_1 7 rfl rfl)
theorem dX9_common_33 : decode cX9_common 33 = .ok (.lreturn, 1) := dk_173 (dk_at dksX9_common_1 9 rfl rfl)
abbrev cX9_sure : ByteArray := prog_16_method_65_code
def yX9_sure : MethodName := ⟨RX9, "sure", "(I)I"⟩
def dkwX9_sure_2 : List UInt8 := [162, 0, 10, 42, 180, 1, 0, 167, 0, 4, 28, 61, 132, 3, 1, 167, 255, 211, 28, 172]
abbrev dktX9_sure_2 : List UInt8 := dkwX9_sure_2 ++ []
def dkwX9_sure_1 : List UInt8 := [42, 27, 5, 29, 96, 42, 180, 0, 7, 182, 1, 12, 28, 2, 159, 0, 11, 42, 180, 1, 0, 28]
abbrev dktX9_sure_1 : List UInt8 := dkwX9_sure_1 ++ dktX9_sure_2
def dkwX9_sure_0 : List UInt8 := [27, 3, 5, 184, 0, 87, 154, 0, 6, 16, 253, 172, 2, 61, 3, 62, 29, 42, 180, 0, 97, 162, 0, 43]
abbrev dktX9_sure_0 : List UInt8 := dkwX9_sure_0 ++ dktX9_sure_1
theorem dksX9_sure_0 : cX9_sure.data.toList.drop 0 = dktX9_sure_0 := by decide +kernel
theorem dksX9_sure_1 : cX9_sure.data.toList.drop 24 = dktX9_sure_1 := dk_seg dksX9_sure_0 24 rfl rfl
theorem dksX9_sure_2 : cX9_sure.data.toList.drop 46 = dktX9_sure_2 := dk_seg dksX9_sure_1 22 rfl rfl
theorem dX9_sure_0 : decode cX9_sure 0 = .ok (.iload_n 1, 1) := dk_27 (dk_at dksX9_sure_0 0 rfl rfl)
theorem dX9_sure_1 : decode cX9_sure 1 = .ok (.iconst 0, 1) := dk_3 (dk_at dksX9_sure_0 1 rfl rfl)
theorem dX9_sure_2 : decode cX9_sure 2 = .ok (.iconst 2, 1) := dk_5 (dk_at dksX9_sure_0 2 rfl rfl)
theorem dX9_sure_3 : decode cX9_sure 3 = .ok (.invokestatic 87, 3) := dk_184 0 87 (dk_at dksX9_sure_0 3 rfl rfl)
theorem dX9_sure_6 : decode cX9_sure 6 = .ok (.ifCond .ne 6, 3) := dk_154 0 6 (dk_at dksX9_sure_0 6 rfl rfl)
theorem dX9_sure_9 : decode cX9_sure 9 = .ok (.bipush (-3), 2) := dk_16 253 (dk_at dksX9_sure_0 9 rfl rfl)
theorem dX9_sure_11 : decode cX9_sure 11 = .ok (.ireturn, 1) := dk_172 (dk_at dksX9_sure_0 11 rfl rfl)
theorem dX9_sure_12 : decode cX9_sure 12 = .ok (.iconst (-1), 1) := dk_2 (dk_at dksX9_sure_0 12 rfl rfl)
theorem dX9_sure_13 : decode cX9_sure 13 = .ok (.istore_n 2, 1) := dk_61 (dk_at dksX9_sure_0 13 rfl rfl)
theorem dX9_sure_14 : decode cX9_sure 14 = .ok (.iconst 0, 1) := dk_3 (dk_at dksX9_sure_0 14 rfl rfl)
theorem dX9_sure_15 : decode cX9_sure 15 = .ok (.istore_n 3, 1) := dk_62 (dk_at dksX9_sure_0 15 rfl rfl)
theorem dX9_sure_16 : decode cX9_sure 16 = .ok (.iload_n 3, 1) := dk_29 (dk_at dksX9_sure_0 16 rfl rfl)
theorem dX9_sure_17 : decode cX9_sure 17 = .ok (.aload_n 0, 1) := dk_42 (dk_at dksX9_sure_0 17 rfl rfl)
theorem dX9_sure_18 : decode cX9_sure 18 = .ok (.getfield 97, 3) := dk_180 0 97 (dk_at dksX9_sure_0 18 rfl rfl)
theorem dX9_sure_21 : decode cX9_sure 21 = .ok (.if_icmp .ge 43, 3) := dk_162 0 43 (dk_at dksX9_sure_0 21 rfl rfl)
theorem dX9_sure_24 : decode cX9_sure 24 = .ok (.aload_n 0, 1) := dk_42 (dk_at dksX9_sure_1 0 rfl rfl)
theorem dX9_sure_25 : decode cX9_sure 25 = .ok (.iload_n 1, 1) := dk_27 (dk_at dksX9_sure_1 1 rfl rfl)
theorem dX9_sure_26 : decode cX9_sure 26 = .ok (.iconst 2, 1) := dk_5 (dk_at dksX9_sure_1 2 rfl rfl)
theorem dX9_sure_27 : decode cX9_sure 27 = .ok (.iload_n 3, 1) := dk_29 (dk_at dksX9_sure_1 3 rfl rfl)
theorem dX9_sure_28 : decode cX9_sure 28 = .ok (.iadd, 1) := dk_96 (dk_at dksX9_sure_1 4 rfl rfl)
theorem dX9_sure_29 : decode cX9_sure 29 = .ok (.aload_n 0, 1) := dk_42 (dk_at dksX9_sure_1 5 rfl rfl)
theorem dX9_sure_30 : decode cX9_sure 30 = .ok (.getfield 7, 3) := dk_180 0 7 (dk_at dksX9_sure_1 6 rfl rfl)
theorem dX9_sure_33 : decode cX9_sure 33 = .ok (.invokevirtual 268, 3) := dk_182 1 12 (dk_at dksX9_sure_1 9 rfl rfl)
theorem dX9_sure_36 : decode cX9_sure 36 = .ok (.iload_n 2, 1) := dk_28 (dk_at dksX9_sure_1 12 rfl rfl)
theorem dX9_sure_37 : decode cX9_sure 37 = .ok (.iconst (-1), 1) := dk_2 (dk_at dksX9_sure_1 13 rfl rfl)
theorem dX9_sure_38 : decode cX9_sure 38 = .ok (.if_icmp .eq 11, 3) := dk_159 0 11 (dk_at dksX9_sure_1 14 rfl rfl)
theorem dX9_sure_41 : decode cX9_sure 41 = .ok (.aload_n 0, 1) := dk_42 (dk_at dksX9_sure_1 17 rfl rfl)
theorem dX9_sure_42 : decode cX9_sure 42 = .ok (.getfield 256, 3) := dk_180 1 0 (dk_at dksX9_sure_1 18 rfl rfl)
theorem dX9_sure_45 : decode cX9_sure 45 = .ok (.iload_n 2, 1) := dk_28 (dk_at dksX9_sure_1 21 rfl rfl)
theorem dX9_sure_46 : decode cX9_sure 46 = .ok (.if_icmp .ge 10, 3) := dk_162 0 10 (dk_at dksX9_sure_2 0 rfl rfl)
theorem dX9_sure_49 : decode cX9_sure 49 = .ok (.aload_n 0, 1) := dk_42 (dk_at dksX9_sure_2 3 rfl rfl)
theorem dX9_sure_50 : decode cX9_sure 50 = .ok (.getfield 256, 3) := dk_180 1 0 (dk_at dksX9_sure_2 4 rfl rfl)
theorem dX9_sure_53 : decode cX9_sure 53 = .ok (.goto 4, 3) := dk_167 0 4 (dk_at dksX9_sure_2 7 rfl rfl)
theorem dX9_sure_56 : decode cX9_sure 56 = .ok (.iload_n 2, 1) := dk_28 (dk_at dksX9_sure_2 10 rfl rfl)
theorem dX9_sure_57 : decode cX9_sure 57 = .ok (.istore_n 2, 1) := dk_61 (dk_at dksX9_sure_2 11 rfl rfl)
theorem dX9_sure_58 : decode cX9_sure 58 = .ok (.iinc 3 1, 3) := dk_132 3 1 (dk_at dksX9_sure_2 12 rfl rfl)
theorem dX9_sure_61 : decode cX9_sure 61 = .ok (.goto (-45), 3) := dk_167 255 211 (dk_at dksX9_sure_2 15 rfl rfl)
theorem dX9_sure_64 : decode cX9_sure 64 = .ok (.iload_n 2, 1) := dk_28 (dk_at dksX9_sure_2 18 rfl rfl)
theorem dX9_sure_65 : decode cX9_sure 65 = .ok (.ireturn, 1) := dk_172 (dk_at dksX9_sure_2 19 rfl rfl)
abbrev cX9_rule : ByteArray := prog_16_method_66_code
def yX9_rule : MethodName := ⟨RX9, "rule", "()I"⟩
def dkwX9_rule_3 : List UInt8 := [27, 172]
abbrev dktX9_rule_3 : List UInt8 := dkwX9_rule_3 ++ []
def dkwX9_rule_2 : List UInt8 := [42, 180, 1, 15, 32, 148, 158, 0, 10, 42, 180, 1, 15, 167, 0, 4, 32, 65, 132, 4, 1, 167, 255, 195]
abbrev dktX9_rule_2 : List UInt8 := dkwX9_rule_2 ++ dktX9_rule_3
def dkwX9_rule_1 : List UInt8 := [182, 1, 22, 27, 2, 159, 0, 12, 42, 180, 1, 15, 32, 148, 158, 0, 8, 21, 4, 167, 0, 4, 27, 60]
abbrev dktX9_rule_1 : List UInt8 := dkwX9_rule_1 ++ dktX9_rule_2
def dkwX9_rule_0 : List UInt8 := [2, 60, 9, 65, 3, 54, 4, 21, 4, 6, 162, 0, 61, 42, 180, 0, 97, 158, 0, 54, 42, 21, 4]
abbrev dktX9_rule_0 : List UInt8 := dkwX9_rule_0 ++ dktX9_rule_1
theorem dksX9_rule_0 : cX9_rule.data.toList.drop 0 = dktX9_rule_0 := by decide +kernel
theorem dksX9_rule_1 : cX9_rule.data.toList.drop 23 = dktX9_rule_1 := dk_seg dksX9_rule_0 23 rfl rfl
theorem dksX9_rule_2 : cX9_rule.data.toList.drop 47 = dktX9_rule_2 := dk_seg dksX9_rule_1 24 rfl rfl
theorem dksX9_rule_3 : cX9_rule.data.toList.drop 71 = dktX9_rule_3 := dk_seg dksX9_rule_2 24 rfl rfl
theorem dX9_rule_0 : decode cX9_rule 0 = .ok (.iconst (-1), 1) := dk_2 (dk_at dksX9_rule_0 0 rfl rfl)
theorem dX9_rule_1 : decode cX9_rule 1 = .ok (.istore_n 1, 1) := dk_60 (dk_at dksX9_rule_0 1 rfl rfl)
theorem dX9_rule_2 : decode cX9_rule 2 = .ok (.lconst 0, 1) := dk_9 (dk_at dksX9_rule_0 2 rfl rfl)
theorem dX9_rule_3 : decode cX9_rule 3 = .ok (.lstore_n 2, 1) := dk_65 (dk_at dksX9_rule_0 3 rfl rfl)
theorem dX9_rule_4 : decode cX9_rule 4 = .ok (.iconst 0, 1) := dk_3 (dk_at dksX9_rule_0 4 rfl rfl)
theorem dX9_rule_5 : decode cX9_rule 5 = .ok (.istore 4, 2) := dk_54 4 (dk_at dksX9_rule_0 5 rfl rfl)
theorem dX9_rule_7 : decode cX9_rule 7 = .ok (.iload 4, 2) := dk_21 4 (dk_at dksX9_rule_0 7 rfl rfl)
theorem dX9_rule_9 : decode cX9_rule 9 = .ok (.iconst 3, 1) := dk_6 (dk_at dksX9_rule_0 9 rfl rfl)
theorem dX9_rule_10 : decode cX9_rule 10 = .ok (.if_icmp .ge 61, 3) := dk_162 0 61 (dk_at dksX9_rule_0 10 rfl rfl)
theorem dX9_rule_13 : decode cX9_rule 13 = .ok (.aload_n 0, 1) := dk_42 (dk_at dksX9_rule_0 13 rfl rfl)
theorem dX9_rule_14 : decode cX9_rule 14 = .ok (.getfield 97, 3) := dk_180 0 97 (dk_at dksX9_rule_0 14 rfl rfl)
theorem dX9_rule_17 : decode cX9_rule 17 = .ok (.ifCond .le 54, 3) := dk_158 0 54 (dk_at dksX9_rule_0 17 rfl rfl)
theorem dX9_rule_20 : decode cX9_rule 20 = .ok (.aload_n 0, 1) := dk_42 (dk_at dksX9_rule_0 20 rfl rfl)
theorem dX9_rule_21 : decode cX9_rule 21 = .ok (.iload 4, 2) := dk_21 4 (dk_at dksX9_rule_0 21 rfl rfl)
theorem dX9_rule_23 : decode cX9_rule 23 = .ok (.invokevirtual 278, 3) := dk_182 1 22 (dk_at dksX9_rule_1 0 rfl rfl)
theorem dX9_rule_26 : decode cX9_rule 26 = .ok (.iload_n 1, 1) := dk_27 (dk_at dksX9_rule_1 3 rfl rfl)
theorem dX9_rule_27 : decode cX9_rule 27 = .ok (.iconst (-1), 1) := dk_2 (dk_at dksX9_rule_1 4 rfl rfl)
theorem dX9_rule_28 : decode cX9_rule 28 = .ok (.if_icmp .eq 12, 3) := dk_159 0 12 (dk_at dksX9_rule_1 5 rfl rfl)
theorem dX9_rule_31 : decode cX9_rule 31 = .ok (.aload_n 0, 1) := dk_42 (dk_at dksX9_rule_1 8 rfl rfl)
theorem dX9_rule_32 : decode cX9_rule 32 = .ok (.getfield 271, 3) := dk_180 1 15 (dk_at dksX9_rule_1 9 rfl rfl)
theorem dX9_rule_35 : decode cX9_rule 35 = .ok (.lload_n 2, 1) := dk_32 (dk_at dksX9_rule_1 12 rfl rfl)
theorem dX9_rule_36 : decode cX9_rule 36 = .ok (.lcmp, 1) := dk_148 (dk_at dksX9_rule_1 13 rfl rfl)
theorem dX9_rule_37 : decode cX9_rule 37 = .ok (.ifCond .le 8, 3) := dk_158 0 8 (dk_at dksX9_rule_1 14 rfl rfl)
theorem dX9_rule_40 : decode cX9_rule 40 = .ok (.iload 4, 2) := dk_21 4 (dk_at dksX9_rule_1 17 rfl rfl)
theorem dX9_rule_42 : decode cX9_rule 42 = .ok (.goto 4, 3) := dk_167 0 4 (dk_at dksX9_rule_1 19 rfl rfl)
theorem dX9_rule_45 : decode cX9_rule 45 = .ok (.iload_n 1, 1) := dk_27 (dk_at dksX9_rule_1 22 rfl rfl)
theorem dX9_rule_46 : decode cX9_rule 46 = .ok (.istore_n 1, 1) := dk_60 (dk_at dksX9_rule_1 23 rfl rfl)
theorem dX9_rule_47 : decode cX9_rule 47 = .ok (.aload_n 0, 1) := dk_42 (dk_at dksX9_rule_2 0 rfl rfl)
theorem dX9_rule_48 : decode cX9_rule 48 = .ok (.getfield 271, 3) := dk_180 1 15 (dk_at dksX9_rule_2 1 rfl rfl)
theorem dX9_rule_51 : decode cX9_rule 51 = .ok (.lload_n 2, 1) := dk_32 (dk_at dksX9_rule_2 4 rfl rfl)
theorem dX9_rule_52 : decode cX9_rule 52 = .ok (.lcmp, 1) := dk_148 (dk_at dksX9_rule_2 5 rfl rfl)
theorem dX9_rule_53 : decode cX9_rule 53 = .ok (.ifCond .le 10, 3) := dk_158 0 10 (dk_at dksX9_rule_2 6 rfl rfl)
theorem dX9_rule_56 : decode cX9_rule 56 = .ok (.aload_n 0, 1) := dk_42 (dk_at dksX9_rule_2 9 rfl rfl)
theorem dX9_rule_57 : decode cX9_rule 57 = .ok (.getfield 271, 3) := dk_180 1 15 (dk_at dksX9_rule_2 10 rfl rfl)
theorem dX9_rule_60 : decode cX9_rule 60 = .ok (.goto 4, 3) := dk_167 0 4 (dk_at dksX9_rule_2 13 rfl rfl)
theorem dX9_rule_63 : decode cX9_rule 63 = .ok (.lload_n 2, 1) := dk_32 (dk_at dksX9_rule_2 16 rfl rfl)
theorem dX9_rule_64 : decode cX9_rule 64 = .ok (.lstore_n 2, 1) := dk_65 (dk_at dksX9_rule_2 17 rfl rfl)
theorem dX9_rule_65 : decode cX9_rule 65 = .ok (.iinc 4 1, 3) := dk_132 4 1 (dk_at dksX9_rule_2 18 rfl rfl)
theorem dX9_rule_68 : decode cX9_rule 68 = .ok (.goto (-61), 3) := dk_167 255 195 (dk_at dksX9_rule_2 21 rfl rfl)
theorem dX9_rule_71 : decode cX9_rule 71 = .ok (.iload_n 1, 1) := dk_27 (dk_at dksX9_rule_3 0 rfl rfl)
theorem dX9_rule_72 : decode cX9_rule 72 = .ok (.ireturn, 1) := dk_172 (dk_at dksX9_rule_3 1 rfl rfl)
abbrev cX9_alert : ByteArray := prog_16_method_68_code
def yX9_alert : MethodName := ⟨RX9, "alert", "(IIIIII)I"⟩
def dkwX9_alert_5 : List UInt8 := [154, 0, 10, 42, 180, 1, 29, 167, 0, 7, 42, 180, 1, 32, 172]
abbrev dktX9_alert_5 : List UInt8 := dkwX9_alert_5 ++ []
def dkwX9_alert_4 : List UInt8 := [184, 0, 87, 154, 0, 6, 16, 253, 172, 42, 27, 28, 29, 21, 4, 21, 5, 182, 1, 35, 21, 6]
abbrev dktX9_alert_4 : List UInt8 := dkwX9_alert_4 ++ dktX9_alert_5
def dkwX9_alert_3 : List UInt8 := [153, 0, 29, 42, 21, 5, 182, 0, 111, 153, 0, 20, 21, 4, 21, 5, 163, 0, 13, 21, 6, 3, 4]
abbrev dktX9_alert_3 : List UInt8 := dkwX9_alert_3 ++ dktX9_alert_4
def dkwX9_alert_2 : List UInt8 := [16, 10, 112, 16, 8, 163, 0, 46, 29, 16, 10, 112, 4, 163, 0, 38, 42, 21, 4, 182, 0, 111]
abbrev dktX9_alert_2 : List UInt8 := dkwX9_alert_2 ++ dktX9_alert_3
def dkwX9_alert_1 : List UInt8 := [17, 19, 135, 184, 0, 87, 153, 0, 69, 29, 16, 100, 108, 16, 10, 112, 6, 163, 0, 58, 29, 16, 10, 108]
abbrev dktX9_alert_1 : List UInt8 := dkwX9_alert_1 ++ dktX9_alert_2
def dkwX9_alert_0 : List UInt8 := [42, 27, 182, 0, 107, 154, 0, 6, 16, 254, 172, 28, 3, 5, 184, 0, 87, 153, 0, 82, 29, 17, 3, 232]
abbrev dktX9_alert_0 : List UInt8 := dkwX9_alert_0 ++ dktX9_alert_1
theorem dksX9_alert_0 : cX9_alert.data.toList.drop 0 = dktX9_alert_0 := by decide +kernel
theorem dksX9_alert_1 : cX9_alert.data.toList.drop 24 = dktX9_alert_1 := dk_seg dksX9_alert_0 24 rfl rfl
theorem dksX9_alert_2 : cX9_alert.data.toList.drop 48 = dktX9_alert_2 := dk_seg dksX9_alert_1 24 rfl rfl
theorem dksX9_alert_3 : cX9_alert.data.toList.drop 70 = dktX9_alert_3 := dk_seg dksX9_alert_2 22 rfl rfl
theorem dksX9_alert_4 : cX9_alert.data.toList.drop 93 = dktX9_alert_4 := dk_seg dksX9_alert_3 23 rfl rfl
theorem dksX9_alert_5 : cX9_alert.data.toList.drop 115 = dktX9_alert_5 := dk_seg dksX9_alert_4 22 rfl rfl
theorem dX9_alert_0 : decode cX9_alert 0 = .ok (.aload_n 0, 1) := dk_42 (dk_at dksX9_alert_0 0 rfl rfl)
theorem dX9_alert_1 : decode cX9_alert 1 = .ok (.iload_n 1, 1) := dk_27 (dk_at dksX9_alert_0 1 rfl rfl)
theorem dX9_alert_2 : decode cX9_alert 2 = .ok (.invokevirtual 107, 3) := dk_182 0 107 (dk_at dksX9_alert_0 2 rfl rfl)
theorem dX9_alert_5 : decode cX9_alert 5 = .ok (.ifCond .ne 6, 3) := dk_154 0 6 (dk_at dksX9_alert_0 5 rfl rfl)
theorem dX9_alert_8 : decode cX9_alert 8 = .ok (.bipush (-2), 2) := dk_16 254 (dk_at dksX9_alert_0 8 rfl rfl)
theorem dX9_alert_10 : decode cX9_alert 10 = .ok (.ireturn, 1) := dk_172 (dk_at dksX9_alert_0 10 rfl rfl)
theorem dX9_alert_11 : decode cX9_alert 11 = .ok (.iload_n 2, 1) := dk_28 (dk_at dksX9_alert_0 11 rfl rfl)
theorem dX9_alert_12 : decode cX9_alert 12 = .ok (.iconst 0, 1) := dk_3 (dk_at dksX9_alert_0 12 rfl rfl)
theorem dX9_alert_13 : decode cX9_alert 13 = .ok (.iconst 2, 1) := dk_5 (dk_at dksX9_alert_0 13 rfl rfl)
theorem dX9_alert_14 : decode cX9_alert 14 = .ok (.invokestatic 87, 3) := dk_184 0 87 (dk_at dksX9_alert_0 14 rfl rfl)
theorem dX9_alert_17 : decode cX9_alert 17 = .ok (.ifCond .eq 82, 3) := dk_153 0 82 (dk_at dksX9_alert_0 17 rfl rfl)
theorem dX9_alert_20 : decode cX9_alert 20 = .ok (.iload_n 3, 1) := dk_29 (dk_at dksX9_alert_0 20 rfl rfl)
theorem dX9_alert_21 : decode cX9_alert 21 = .ok (.sipush 1000, 3) := dk_17 3 232 (dk_at dksX9_alert_0 21 rfl rfl)
theorem dX9_alert_24 : decode cX9_alert 24 = .ok (.sipush 4999, 3) := dk_17 19 135 (dk_at dksX9_alert_1 0 rfl rfl)
theorem dX9_alert_27 : decode cX9_alert 27 = .ok (.invokestatic 87, 3) := dk_184 0 87 (dk_at dksX9_alert_1 3 rfl rfl)
theorem dX9_alert_30 : decode cX9_alert 30 = .ok (.ifCond .eq 69, 3) := dk_153 0 69 (dk_at dksX9_alert_1 6 rfl rfl)
theorem dX9_alert_33 : decode cX9_alert 33 = .ok (.iload_n 3, 1) := dk_29 (dk_at dksX9_alert_1 9 rfl rfl)
theorem dX9_alert_34 : decode cX9_alert 34 = .ok (.bipush 100, 2) := dk_16 100 (dk_at dksX9_alert_1 10 rfl rfl)
theorem dX9_alert_36 : decode cX9_alert 36 = .ok (.idiv, 1) := dk_108 (dk_at dksX9_alert_1 12 rfl rfl)
theorem dX9_alert_37 : decode cX9_alert 37 = .ok (.bipush 10, 2) := dk_16 10 (dk_at dksX9_alert_1 13 rfl rfl)
theorem dX9_alert_39 : decode cX9_alert 39 = .ok (.irem, 1) := dk_112 (dk_at dksX9_alert_1 15 rfl rfl)
theorem dX9_alert_40 : decode cX9_alert 40 = .ok (.iconst 3, 1) := dk_6 (dk_at dksX9_alert_1 16 rfl rfl)
theorem dX9_alert_41 : decode cX9_alert 41 = .ok (.if_icmp .gt 58, 3) := dk_163 0 58 (dk_at dksX9_alert_1 17 rfl rfl)
theorem dX9_alert_44 : decode cX9_alert 44 = .ok (.iload_n 3, 1) := dk_29 (dk_at dksX9_alert_1 20 rfl rfl)
theorem dX9_alert_45 : decode cX9_alert 45 = .ok (.bipush 10, 2) := dk_16 10 (dk_at dksX9_alert_1 21 rfl rfl)
theorem dX9_alert_47 : decode cX9_alert 47 = .ok (.idiv, 1) := dk_108 (dk_at dksX9_alert_1 23 rfl rfl)
theorem dX9_alert_48 : decode cX9_alert 48 = .ok (.bipush 10, 2) := dk_16 10 (dk_at dksX9_alert_2 0 rfl rfl)
theorem dX9_alert_50 : decode cX9_alert 50 = .ok (.irem, 1) := dk_112 (dk_at dksX9_alert_2 2 rfl rfl)
theorem dX9_alert_51 : decode cX9_alert 51 = .ok (.bipush 8, 2) := dk_16 8 (dk_at dksX9_alert_2 3 rfl rfl)
theorem dX9_alert_53 : decode cX9_alert 53 = .ok (.if_icmp .gt 46, 3) := dk_163 0 46 (dk_at dksX9_alert_2 5 rfl rfl)
theorem dX9_alert_56 : decode cX9_alert 56 = .ok (.iload_n 3, 1) := dk_29 (dk_at dksX9_alert_2 8 rfl rfl)
theorem dX9_alert_57 : decode cX9_alert 57 = .ok (.bipush 10, 2) := dk_16 10 (dk_at dksX9_alert_2 9 rfl rfl)
theorem dX9_alert_59 : decode cX9_alert 59 = .ok (.irem, 1) := dk_112 (dk_at dksX9_alert_2 11 rfl rfl)
theorem dX9_alert_60 : decode cX9_alert 60 = .ok (.iconst 1, 1) := dk_4 (dk_at dksX9_alert_2 12 rfl rfl)
theorem dX9_alert_61 : decode cX9_alert 61 = .ok (.if_icmp .gt 38, 3) := dk_163 0 38 (dk_at dksX9_alert_2 13 rfl rfl)
theorem dX9_alert_64 : decode cX9_alert 64 = .ok (.aload_n 0, 1) := dk_42 (dk_at dksX9_alert_2 16 rfl rfl)
theorem dX9_alert_65 : decode cX9_alert 65 = .ok (.iload 4, 2) := dk_21 4 (dk_at dksX9_alert_2 17 rfl rfl)
theorem dX9_alert_67 : decode cX9_alert 67 = .ok (.invokevirtual 111, 3) := dk_182 0 111 (dk_at dksX9_alert_2 19 rfl rfl)
theorem dX9_alert_70 : decode cX9_alert 70 = .ok (.ifCond .eq 29, 3) := dk_153 0 29 (dk_at dksX9_alert_3 0 rfl rfl)
theorem dX9_alert_73 : decode cX9_alert 73 = .ok (.aload_n 0, 1) := dk_42 (dk_at dksX9_alert_3 3 rfl rfl)
theorem dX9_alert_74 : decode cX9_alert 74 = .ok (.iload 5, 2) := dk_21 5 (dk_at dksX9_alert_3 4 rfl rfl)
theorem dX9_alert_76 : decode cX9_alert 76 = .ok (.invokevirtual 111, 3) := dk_182 0 111 (dk_at dksX9_alert_3 6 rfl rfl)
theorem dX9_alert_79 : decode cX9_alert 79 = .ok (.ifCond .eq 20, 3) := dk_153 0 20 (dk_at dksX9_alert_3 9 rfl rfl)
theorem dX9_alert_82 : decode cX9_alert 82 = .ok (.iload 4, 2) := dk_21 4 (dk_at dksX9_alert_3 12 rfl rfl)
theorem dX9_alert_84 : decode cX9_alert 84 = .ok (.iload 5, 2) := dk_21 5 (dk_at dksX9_alert_3 14 rfl rfl)
theorem dX9_alert_86 : decode cX9_alert 86 = .ok (.if_icmp .gt 13, 3) := dk_163 0 13 (dk_at dksX9_alert_3 16 rfl rfl)
theorem dX9_alert_89 : decode cX9_alert 89 = .ok (.iload 6, 2) := dk_21 6 (dk_at dksX9_alert_3 19 rfl rfl)
theorem dX9_alert_91 : decode cX9_alert 91 = .ok (.iconst 0, 1) := dk_3 (dk_at dksX9_alert_3 21 rfl rfl)
theorem dX9_alert_92 : decode cX9_alert 92 = .ok (.iconst 1, 1) := dk_4 (dk_at dksX9_alert_3 22 rfl rfl)
theorem dX9_alert_93 : decode cX9_alert 93 = .ok (.invokestatic 87, 3) := dk_184 0 87 (dk_at dksX9_alert_4 0 rfl rfl)
theorem dX9_alert_96 : decode cX9_alert 96 = .ok (.ifCond .ne 6, 3) := dk_154 0 6 (dk_at dksX9_alert_4 3 rfl rfl)
theorem dX9_alert_99 : decode cX9_alert 99 = .ok (.bipush (-3), 2) := dk_16 253 (dk_at dksX9_alert_4 6 rfl rfl)
theorem dX9_alert_101 : decode cX9_alert 101 = .ok (.ireturn, 1) := dk_172 (dk_at dksX9_alert_4 8 rfl rfl)
theorem dX9_alert_102 : decode cX9_alert 102 = .ok (.aload_n 0, 1) := dk_42 (dk_at dksX9_alert_4 9 rfl rfl)
theorem dX9_alert_103 : decode cX9_alert 103 = .ok (.iload_n 1, 1) := dk_27 (dk_at dksX9_alert_4 10 rfl rfl)
theorem dX9_alert_104 : decode cX9_alert 104 = .ok (.iload_n 2, 1) := dk_28 (dk_at dksX9_alert_4 11 rfl rfl)
theorem dX9_alert_105 : decode cX9_alert 105 = .ok (.iload_n 3, 1) := dk_29 (dk_at dksX9_alert_4 12 rfl rfl)
theorem dX9_alert_106 : decode cX9_alert 106 = .ok (.iload 4, 2) := dk_21 4 (dk_at dksX9_alert_4 13 rfl rfl)
theorem dX9_alert_108 : decode cX9_alert 108 = .ok (.iload 5, 2) := dk_21 5 (dk_at dksX9_alert_4 15 rfl rfl)
theorem dX9_alert_110 : decode cX9_alert 110 = .ok (.invokevirtual 291, 3) := dk_182 1 35 (dk_at dksX9_alert_4 17 rfl rfl)
theorem dX9_alert_113 : decode cX9_alert 113 = .ok (.iload 6, 2) := dk_21 6 (dk_at dksX9_alert_4 20 rfl rfl)
theorem dX9_alert_115 : decode cX9_alert 115 = .ok (.ifCond .ne 10, 3) := dk_154 0 10 (dk_at dksX9_alert_5 0 rfl rfl)
theorem dX9_alert_118 : decode cX9_alert 118 = .ok (.aload_n 0, 1) := dk_42 (dk_at dksX9_alert_5 3 rfl rfl)
theorem dX9_alert_119 : decode cX9_alert 119 = .ok (.getfield 285, 3) := dk_180 1 29 (dk_at dksX9_alert_5 4 rfl rfl)
theorem dX9_alert_122 : decode cX9_alert 122 = .ok (.goto 7, 3) := dk_167 0 7 (dk_at dksX9_alert_5 7 rfl rfl)
theorem dX9_alert_125 : decode cX9_alert 125 = .ok (.aload_n 0, 1) := dk_42 (dk_at dksX9_alert_5 10 rfl rfl)
theorem dX9_alert_126 : decode cX9_alert 126 = .ok (.getfield 288, 3) := dk_180 1 32 (dk_at dksX9_alert_5 11 rfl rfl)
theorem dX9_alert_129 : decode cX9_alert 129 = .ok (.ireturn, 1) := dk_172 (dk_at dksX9_alert_5 14 rfl rfl)
abbrev cX9_findAlert : ByteArray := prog_16_method_67_code
def yX9_findAlert : MethodName := ⟨RX9, "findAlert", "(IIIII)V"⟩
def dkwX9_findAlert_10 : List UInt8 := [181, 1, 29, 42, 21, 6, 42, 180, 0, 228, 100, 181, 1, 32, 132, 7, 1, 167, 255, 36, 177]
abbrev dktX9_findAlert_10 : List UInt8 := dkwX9_findAlert_10 ++ []
def dkwX9_findAlert_9 : List UInt8 := [180, 1, 29, 2, 159, 0, 17, 21, 6, 42, 180, 0, 228, 100, 42, 180, 1, 32, 162, 0, 20, 42, 21, 7]
abbrev dktX9_findAlert_9 : List UInt8 := dkwX9_findAlert_9 ++ dktX9_findAlert_10
def dkwX9_findAlert_8 : List UInt8 := [167, 0, 4, 3, 84, 132, 11, 1, 167, 255, 208, 132, 10, 1, 167, 255, 190, 42, 182, 0, 240, 42]
abbrev dktX9_findAlert_8 : List UInt8 := dkwX9_findAlert_8 ++ dktX9_findAlert_9
def dkwX9_findAlert_7 : List UInt8 := [17, 0, 200, 21, 10, 104, 21, 11, 96, 42, 21, 10, 21, 11, 21, 8, 28, 182, 0, 219, 154, 0, 7, 4]
abbrev dktX9_findAlert_7 : List UInt8 := dkwX9_findAlert_7 ++ dktX9_findAlert_8
def dkwX9_findAlert_6 : List UInt8 := [162, 0, 63, 3, 54, 11, 21, 11, 42, 180, 0, 50, 21, 10, 46, 162, 0, 42, 42, 180, 0, 59]
abbrev dktX9_findAlert_6 : List UInt8 := dkwX9_findAlert_6 ++ dktX9_findAlert_7
def dkwX9_findAlert_5 : List UInt8 := [54, 8, 132, 10, 1, 167, 255, 198, 21, 9, 153, 0, 118, 3, 54, 10, 21, 10, 42, 180, 0, 94]
abbrev dktX9_findAlert_5 : List UInt8 := dkwX9_findAlert_5 ++ dktX9_findAlert_6
def dkwX9_findAlert_4 : List UInt8 := [112, 29, 16, 10, 108, 16, 10, 112, 29, 16, 10, 112, 182, 0, 198, 54, 9, 21, 8, 4, 21, 10, 120, 128]
abbrev dktX9_findAlert_4 : List UInt8 := dkwX9_findAlert_4 ++ dktX9_findAlert_5
def dkwX9_findAlert_3 : List UInt8 := [17, 3, 232, 108, 96, 162, 0, 51, 21, 9, 153, 0, 46, 42, 27, 21, 10, 3, 29, 16, 100, 108, 16, 10]
abbrev dktX9_findAlert_3 : List UInt8 := dkwX9_findAlert_3 ++ dktX9_findAlert_4
def dkwX9_findAlert_2 : List UInt8 := [180, 0, 7, 163, 0, 7, 4, 167, 0, 4, 3, 54, 9, 21, 7, 54, 10, 21, 10, 21, 7, 29]
abbrev dktX9_findAlert_2 : List UInt8 := dkwX9_findAlert_2 ++ dktX9_findAlert_3
def dkwX9_findAlert_1 : List UInt8 := [21, 4, 54, 7, 21, 7, 21, 5, 163, 0, 219, 3, 54, 8, 21, 7, 29, 17, 3, 232, 108, 96, 42]
abbrev dktX9_findAlert_1 : List UInt8 := dkwX9_findAlert_1 ++ dktX9_findAlert_2
def dkwX9_findAlert_0 : List UInt8 := [42, 182, 0, 237, 42, 182, 0, 240, 42, 180, 0, 228, 54, 6, 42, 2, 181, 1, 29, 42, 2, 181, 1, 32]
abbrev dktX9_findAlert_0 : List UInt8 := dkwX9_findAlert_0 ++ dktX9_findAlert_1
theorem dksX9_findAlert_0 : cX9_findAlert.data.toList.drop 0 = dktX9_findAlert_0 := by decide +kernel
theorem dksX9_findAlert_1 : cX9_findAlert.data.toList.drop 24 = dktX9_findAlert_1 := dk_seg dksX9_findAlert_0 24 rfl rfl
theorem dksX9_findAlert_2 : cX9_findAlert.data.toList.drop 47 = dktX9_findAlert_2 := dk_seg dksX9_findAlert_1 23 rfl rfl
theorem dksX9_findAlert_3 : cX9_findAlert.data.toList.drop 69 = dktX9_findAlert_3 := dk_seg dksX9_findAlert_2 22 rfl rfl
theorem dksX9_findAlert_4 : cX9_findAlert.data.toList.drop 93 = dktX9_findAlert_4 := dk_seg dksX9_findAlert_3 24 rfl rfl
theorem dksX9_findAlert_5 : cX9_findAlert.data.toList.drop 117 = dktX9_findAlert_5 := dk_seg dksX9_findAlert_4 24 rfl rfl
theorem dksX9_findAlert_6 : cX9_findAlert.data.toList.drop 139 = dktX9_findAlert_6 := dk_seg dksX9_findAlert_5 22 rfl rfl
theorem dksX9_findAlert_7 : cX9_findAlert.data.toList.drop 161 = dktX9_findAlert_7 := dk_seg dksX9_findAlert_6 22 rfl rfl
theorem dksX9_findAlert_8 : cX9_findAlert.data.toList.drop 185 = dktX9_findAlert_8 := dk_seg dksX9_findAlert_7 24 rfl rfl
theorem dksX9_findAlert_9 : cX9_findAlert.data.toList.drop 207 = dktX9_findAlert_9 := dk_seg dksX9_findAlert_8 22 rfl rfl
theorem dksX9_findAlert_10 : cX9_findAlert.data.toList.drop 231 = dktX9_findAlert_10 := dk_seg dksX9_findAlert_9 24 rfl rfl
theorem dX9_findAlert_0 : decode cX9_findAlert 0 = .ok (.aload_n 0, 1) := dk_42 (dk_at dksX9_findAlert_0 0 rfl rfl)
theorem dX9_findAlert_1 : decode cX9_findAlert 1 = .ok (.invokevirtual 237, 3) := dk_182 0 237 (dk_at dksX9_findAlert_0 1 rfl rfl)
theorem dX9_findAlert_4 : decode cX9_findAlert 4 = .ok (.aload_n 0, 1) := dk_42 (dk_at dksX9_findAlert_0 4 rfl rfl)
theorem dX9_findAlert_5 : decode cX9_findAlert 5 = .ok (.invokevirtual 240, 3) := dk_182 0 240 (dk_at dksX9_findAlert_0 5 rfl rfl)
theorem dX9_findAlert_8 : decode cX9_findAlert 8 = .ok (.aload_n 0, 1) := dk_42 (dk_at dksX9_findAlert_0 8 rfl rfl)
theorem dX9_findAlert_9 : decode cX9_findAlert 9 = .ok (.getfield 228, 3) := dk_180 0 228 (dk_at dksX9_findAlert_0 9 rfl rfl)
theorem dX9_findAlert_12 : decode cX9_findAlert 12 = .ok (.istore 6, 2) := dk_54 6 (dk_at dksX9_findAlert_0 12 rfl rfl)
theorem dX9_findAlert_14 : decode cX9_findAlert 14 = .ok (.aload_n 0, 1) := dk_42 (dk_at dksX9_findAlert_0 14 rfl rfl)
theorem dX9_findAlert_15 : decode cX9_findAlert 15 = .ok (.iconst (-1), 1) := dk_2 (dk_at dksX9_findAlert_0 15 rfl rfl)
theorem dX9_findAlert_16 : decode cX9_findAlert 16 = .ok (.putfield 285, 3) := dk_181 1 29 (dk_at dksX9_findAlert_0 16 rfl rfl)
theorem dX9_findAlert_19 : decode cX9_findAlert 19 = .ok (.aload_n 0, 1) := dk_42 (dk_at dksX9_findAlert_0 19 rfl rfl)
theorem dX9_findAlert_20 : decode cX9_findAlert 20 = .ok (.iconst (-1), 1) := dk_2 (dk_at dksX9_findAlert_0 20 rfl rfl)
theorem dX9_findAlert_21 : decode cX9_findAlert 21 = .ok (.putfield 288, 3) := dk_181 1 32 (dk_at dksX9_findAlert_0 21 rfl rfl)
theorem dX9_findAlert_24 : decode cX9_findAlert 24 = .ok (.iload 4, 2) := dk_21 4 (dk_at dksX9_findAlert_1 0 rfl rfl)
theorem dX9_findAlert_26 : decode cX9_findAlert 26 = .ok (.istore 7, 2) := dk_54 7 (dk_at dksX9_findAlert_1 2 rfl rfl)
theorem dX9_findAlert_28 : decode cX9_findAlert 28 = .ok (.iload 7, 2) := dk_21 7 (dk_at dksX9_findAlert_1 4 rfl rfl)
theorem dX9_findAlert_30 : decode cX9_findAlert 30 = .ok (.iload 5, 2) := dk_21 5 (dk_at dksX9_findAlert_1 6 rfl rfl)
theorem dX9_findAlert_32 : decode cX9_findAlert 32 = .ok (.if_icmp .gt 219, 3) := dk_163 0 219 (dk_at dksX9_findAlert_1 8 rfl rfl)
theorem dX9_findAlert_35 : decode cX9_findAlert 35 = .ok (.iconst 0, 1) := dk_3 (dk_at dksX9_findAlert_1 11 rfl rfl)
theorem dX9_findAlert_36 : decode cX9_findAlert 36 = .ok (.istore 8, 2) := dk_54 8 (dk_at dksX9_findAlert_1 12 rfl rfl)
theorem dX9_findAlert_38 : decode cX9_findAlert 38 = .ok (.iload 7, 2) := dk_21 7 (dk_at dksX9_findAlert_1 14 rfl rfl)
theorem dX9_findAlert_40 : decode cX9_findAlert 40 = .ok (.iload_n 3, 1) := dk_29 (dk_at dksX9_findAlert_1 16 rfl rfl)
theorem dX9_findAlert_41 : decode cX9_findAlert 41 = .ok (.sipush 1000, 3) := dk_17 3 232 (dk_at dksX9_findAlert_1 17 rfl rfl)
theorem dX9_findAlert_44 : decode cX9_findAlert 44 = .ok (.idiv, 1) := dk_108 (dk_at dksX9_findAlert_1 20 rfl rfl)
theorem dX9_findAlert_45 : decode cX9_findAlert 45 = .ok (.iadd, 1) := dk_96 (dk_at dksX9_findAlert_1 21 rfl rfl)
theorem dX9_findAlert_46 : decode cX9_findAlert 46 = .ok (.aload_n 0, 1) := dk_42 (dk_at dksX9_findAlert_1 22 rfl rfl)
theorem dX9_findAlert_47 : decode cX9_findAlert 47 = .ok (.getfield 7, 3) := dk_180 0 7 (dk_at dksX9_findAlert_2 0 rfl rfl)
theorem dX9_findAlert_50 : decode cX9_findAlert 50 = .ok (.if_icmp .gt 7, 3) := dk_163 0 7 (dk_at dksX9_findAlert_2 3 rfl rfl)
theorem dX9_findAlert_53 : decode cX9_findAlert 53 = .ok (.iconst 1, 1) := dk_4 (dk_at dksX9_findAlert_2 6 rfl rfl)
theorem dX9_findAlert_54 : decode cX9_findAlert 54 = .ok (.goto 4, 3) := dk_167 0 4 (dk_at dksX9_findAlert_2 7 rfl rfl)
theorem dX9_findAlert_57 : decode cX9_findAlert 57 = .ok (.iconst 0, 1) := dk_3 (dk_at dksX9_findAlert_2 10 rfl rfl)
theorem dX9_findAlert_58 : decode cX9_findAlert 58 = .ok (.istore 9, 2) := dk_54 9 (dk_at dksX9_findAlert_2 11 rfl rfl)
theorem dX9_findAlert_60 : decode cX9_findAlert 60 = .ok (.iload 7, 2) := dk_21 7 (dk_at dksX9_findAlert_2 13 rfl rfl)
theorem dX9_findAlert_62 : decode cX9_findAlert 62 = .ok (.istore 10, 2) := dk_54 10 (dk_at dksX9_findAlert_2 15 rfl rfl)
theorem dX9_findAlert_64 : decode cX9_findAlert 64 = .ok (.iload 10, 2) := dk_21 10 (dk_at dksX9_findAlert_2 17 rfl rfl)
theorem dX9_findAlert_66 : decode cX9_findAlert 66 = .ok (.iload 7, 2) := dk_21 7 (dk_at dksX9_findAlert_2 19 rfl rfl)
theorem dX9_findAlert_68 : decode cX9_findAlert 68 = .ok (.iload_n 3, 1) := dk_29 (dk_at dksX9_findAlert_2 21 rfl rfl)
theorem dX9_findAlert_69 : decode cX9_findAlert 69 = .ok (.sipush 1000, 3) := dk_17 3 232 (dk_at dksX9_findAlert_3 0 rfl rfl)
theorem dX9_findAlert_72 : decode cX9_findAlert 72 = .ok (.idiv, 1) := dk_108 (dk_at dksX9_findAlert_3 3 rfl rfl)
theorem dX9_findAlert_73 : decode cX9_findAlert 73 = .ok (.iadd, 1) := dk_96 (dk_at dksX9_findAlert_3 4 rfl rfl)
theorem dX9_findAlert_74 : decode cX9_findAlert 74 = .ok (.if_icmp .ge 51, 3) := dk_162 0 51 (dk_at dksX9_findAlert_3 5 rfl rfl)
theorem dX9_findAlert_77 : decode cX9_findAlert 77 = .ok (.iload 9, 2) := dk_21 9 (dk_at dksX9_findAlert_3 8 rfl rfl)
theorem dX9_findAlert_79 : decode cX9_findAlert 79 = .ok (.ifCond .eq 46, 3) := dk_153 0 46 (dk_at dksX9_findAlert_3 10 rfl rfl)
theorem dX9_findAlert_82 : decode cX9_findAlert 82 = .ok (.aload_n 0, 1) := dk_42 (dk_at dksX9_findAlert_3 13 rfl rfl)
theorem dX9_findAlert_83 : decode cX9_findAlert 83 = .ok (.iload_n 1, 1) := dk_27 (dk_at dksX9_findAlert_3 14 rfl rfl)
theorem dX9_findAlert_84 : decode cX9_findAlert 84 = .ok (.iload 10, 2) := dk_21 10 (dk_at dksX9_findAlert_3 15 rfl rfl)
theorem dX9_findAlert_86 : decode cX9_findAlert 86 = .ok (.iconst 0, 1) := dk_3 (dk_at dksX9_findAlert_3 17 rfl rfl)
theorem dX9_findAlert_87 : decode cX9_findAlert 87 = .ok (.iload_n 3, 1) := dk_29 (dk_at dksX9_findAlert_3 18 rfl rfl)
theorem dX9_findAlert_88 : decode cX9_findAlert 88 = .ok (.bipush 100, 2) := dk_16 100 (dk_at dksX9_findAlert_3 19 rfl rfl)
theorem dX9_findAlert_90 : decode cX9_findAlert 90 = .ok (.idiv, 1) := dk_108 (dk_at dksX9_findAlert_3 21 rfl rfl)
theorem dX9_findAlert_91 : decode cX9_findAlert 91 = .ok (.bipush 10, 2) := dk_16 10 (dk_at dksX9_findAlert_3 22 rfl rfl)
theorem dX9_findAlert_93 : decode cX9_findAlert 93 = .ok (.irem, 1) := dk_112 (dk_at dksX9_findAlert_4 0 rfl rfl)
theorem dX9_findAlert_94 : decode cX9_findAlert 94 = .ok (.iload_n 3, 1) := dk_29 (dk_at dksX9_findAlert_4 1 rfl rfl)
theorem dX9_findAlert_95 : decode cX9_findAlert 95 = .ok (.bipush 10, 2) := dk_16 10 (dk_at dksX9_findAlert_4 2 rfl rfl)
theorem dX9_findAlert_97 : decode cX9_findAlert 97 = .ok (.idiv, 1) := dk_108 (dk_at dksX9_findAlert_4 4 rfl rfl)
theorem dX9_findAlert_98 : decode cX9_findAlert 98 = .ok (.bipush 10, 2) := dk_16 10 (dk_at dksX9_findAlert_4 5 rfl rfl)
theorem dX9_findAlert_100 : decode cX9_findAlert 100 = .ok (.irem, 1) := dk_112 (dk_at dksX9_findAlert_4 7 rfl rfl)
theorem dX9_findAlert_101 : decode cX9_findAlert 101 = .ok (.iload_n 3, 1) := dk_29 (dk_at dksX9_findAlert_4 8 rfl rfl)
theorem dX9_findAlert_102 : decode cX9_findAlert 102 = .ok (.bipush 10, 2) := dk_16 10 (dk_at dksX9_findAlert_4 9 rfl rfl)
theorem dX9_findAlert_104 : decode cX9_findAlert 104 = .ok (.irem, 1) := dk_112 (dk_at dksX9_findAlert_4 11 rfl rfl)
theorem dX9_findAlert_105 : decode cX9_findAlert 105 = .ok (.invokevirtual 198, 3) := dk_182 0 198 (dk_at dksX9_findAlert_4 12 rfl rfl)
theorem dX9_findAlert_108 : decode cX9_findAlert 108 = .ok (.istore 9, 2) := dk_54 9 (dk_at dksX9_findAlert_4 15 rfl rfl)
theorem dX9_findAlert_110 : decode cX9_findAlert 110 = .ok (.iload 8, 2) := dk_21 8 (dk_at dksX9_findAlert_4 17 rfl rfl)
theorem dX9_findAlert_112 : decode cX9_findAlert 112 = .ok (.iconst 1, 1) := dk_4 (dk_at dksX9_findAlert_4 19 rfl rfl)
theorem dX9_findAlert_113 : decode cX9_findAlert 113 = .ok (.iload 10, 2) := dk_21 10 (dk_at dksX9_findAlert_4 20 rfl rfl)
theorem dX9_findAlert_115 : decode cX9_findAlert 115 = .ok (.ishl, 1) := dk_120 (dk_at dksX9_findAlert_4 22 rfl rfl)
theorem dX9_findAlert_116 : decode cX9_findAlert 116 = .ok (.ior, 1) := dk_128 (dk_at dksX9_findAlert_4 23 rfl rfl)
theorem dX9_findAlert_117 : decode cX9_findAlert 117 = .ok (.istore 8, 2) := dk_54 8 (dk_at dksX9_findAlert_5 0 rfl rfl)
theorem dX9_findAlert_119 : decode cX9_findAlert 119 = .ok (.iinc 10 1, 3) := dk_132 10 1 (dk_at dksX9_findAlert_5 2 rfl rfl)
theorem dX9_findAlert_122 : decode cX9_findAlert 122 = .ok (.goto (-58), 3) := dk_167 255 198 (dk_at dksX9_findAlert_5 5 rfl rfl)
theorem dX9_findAlert_125 : decode cX9_findAlert 125 = .ok (.iload 9, 2) := dk_21 9 (dk_at dksX9_findAlert_5 8 rfl rfl)
theorem dX9_findAlert_127 : decode cX9_findAlert 127 = .ok (.ifCond .eq 118, 3) := dk_153 0 118 (dk_at dksX9_findAlert_5 10 rfl rfl)
theorem dX9_findAlert_130 : decode cX9_findAlert 130 = .ok (.iconst 0, 1) := dk_3 (dk_at dksX9_findAlert_5 13 rfl rfl)
theorem dX9_findAlert_131 : decode cX9_findAlert 131 = .ok (.istore 10, 2) := dk_54 10 (dk_at dksX9_findAlert_5 14 rfl rfl)
theorem dX9_findAlert_133 : decode cX9_findAlert 133 = .ok (.iload 10, 2) := dk_21 10 (dk_at dksX9_findAlert_5 16 rfl rfl)
theorem dX9_findAlert_135 : decode cX9_findAlert 135 = .ok (.aload_n 0, 1) := dk_42 (dk_at dksX9_findAlert_5 18 rfl rfl)
theorem dX9_findAlert_136 : decode cX9_findAlert 136 = .ok (.getfield 94, 3) := dk_180 0 94 (dk_at dksX9_findAlert_5 19 rfl rfl)
theorem dX9_findAlert_139 : decode cX9_findAlert 139 = .ok (.if_icmp .ge 63, 3) := dk_162 0 63 (dk_at dksX9_findAlert_6 0 rfl rfl)
theorem dX9_findAlert_142 : decode cX9_findAlert 142 = .ok (.iconst 0, 1) := dk_3 (dk_at dksX9_findAlert_6 3 rfl rfl)
theorem dX9_findAlert_143 : decode cX9_findAlert 143 = .ok (.istore 11, 2) := dk_54 11 (dk_at dksX9_findAlert_6 4 rfl rfl)
theorem dX9_findAlert_145 : decode cX9_findAlert 145 = .ok (.iload 11, 2) := dk_21 11 (dk_at dksX9_findAlert_6 6 rfl rfl)
theorem dX9_findAlert_147 : decode cX9_findAlert 147 = .ok (.aload_n 0, 1) := dk_42 (dk_at dksX9_findAlert_6 8 rfl rfl)
theorem dX9_findAlert_148 : decode cX9_findAlert 148 = .ok (.getfield 50, 3) := dk_180 0 50 (dk_at dksX9_findAlert_6 9 rfl rfl)
theorem dX9_findAlert_151 : decode cX9_findAlert 151 = .ok (.iload 10, 2) := dk_21 10 (dk_at dksX9_findAlert_6 12 rfl rfl)
theorem dX9_findAlert_153 : decode cX9_findAlert 153 = .ok (.iaload, 1) := dk_46 (dk_at dksX9_findAlert_6 14 rfl rfl)
theorem dX9_findAlert_154 : decode cX9_findAlert 154 = .ok (.if_icmp .ge 42, 3) := dk_162 0 42 (dk_at dksX9_findAlert_6 15 rfl rfl)
theorem dX9_findAlert_157 : decode cX9_findAlert 157 = .ok (.aload_n 0, 1) := dk_42 (dk_at dksX9_findAlert_6 18 rfl rfl)
theorem dX9_findAlert_158 : decode cX9_findAlert 158 = .ok (.getfield 59, 3) := dk_180 0 59 (dk_at dksX9_findAlert_6 19 rfl rfl)
theorem dX9_findAlert_161 : decode cX9_findAlert 161 = .ok (.sipush 200, 3) := dk_17 0 200 (dk_at dksX9_findAlert_7 0 rfl rfl)
theorem dX9_findAlert_164 : decode cX9_findAlert 164 = .ok (.iload 10, 2) := dk_21 10 (dk_at dksX9_findAlert_7 3 rfl rfl)
theorem dX9_findAlert_166 : decode cX9_findAlert 166 = .ok (.imul, 1) := dk_104 (dk_at dksX9_findAlert_7 5 rfl rfl)
theorem dX9_findAlert_167 : decode cX9_findAlert 167 = .ok (.iload 11, 2) := dk_21 11 (dk_at dksX9_findAlert_7 6 rfl rfl)
theorem dX9_findAlert_169 : decode cX9_findAlert 169 = .ok (.iadd, 1) := dk_96 (dk_at dksX9_findAlert_7 8 rfl rfl)
theorem dX9_findAlert_170 : decode cX9_findAlert 170 = .ok (.aload_n 0, 1) := dk_42 (dk_at dksX9_findAlert_7 9 rfl rfl)
theorem dX9_findAlert_171 : decode cX9_findAlert 171 = .ok (.iload 10, 2) := dk_21 10 (dk_at dksX9_findAlert_7 10 rfl rfl)
theorem dX9_findAlert_173 : decode cX9_findAlert 173 = .ok (.iload 11, 2) := dk_21 11 (dk_at dksX9_findAlert_7 12 rfl rfl)
theorem dX9_findAlert_175 : decode cX9_findAlert 175 = .ok (.iload 8, 2) := dk_21 8 (dk_at dksX9_findAlert_7 14 rfl rfl)
theorem dX9_findAlert_177 : decode cX9_findAlert 177 = .ok (.iload_n 2, 1) := dk_28 (dk_at dksX9_findAlert_7 16 rfl rfl)
theorem dX9_findAlert_178 : decode cX9_findAlert 178 = .ok (.invokevirtual 219, 3) := dk_182 0 219 (dk_at dksX9_findAlert_7 17 rfl rfl)
theorem dX9_findAlert_181 : decode cX9_findAlert 181 = .ok (.ifCond .ne 7, 3) := dk_154 0 7 (dk_at dksX9_findAlert_7 20 rfl rfl)
theorem dX9_findAlert_184 : decode cX9_findAlert 184 = .ok (.iconst 1, 1) := dk_4 (dk_at dksX9_findAlert_7 23 rfl rfl)
theorem dX9_findAlert_185 : decode cX9_findAlert 185 = .ok (.goto 4, 3) := dk_167 0 4 (dk_at dksX9_findAlert_8 0 rfl rfl)
theorem dX9_findAlert_188 : decode cX9_findAlert 188 = .ok (.iconst 0, 1) := dk_3 (dk_at dksX9_findAlert_8 3 rfl rfl)
theorem dX9_findAlert_189 : decode cX9_findAlert 189 = .ok (.bastore, 1) := dk_84 (dk_at dksX9_findAlert_8 4 rfl rfl)
theorem dX9_findAlert_190 : decode cX9_findAlert 190 = .ok (.iinc 11 1, 3) := dk_132 11 1 (dk_at dksX9_findAlert_8 5 rfl rfl)
theorem dX9_findAlert_193 : decode cX9_findAlert 193 = .ok (.goto (-48), 3) := dk_167 255 208 (dk_at dksX9_findAlert_8 8 rfl rfl)
theorem dX9_findAlert_196 : decode cX9_findAlert 196 = .ok (.iinc 10 1, 3) := dk_132 10 1 (dk_at dksX9_findAlert_8 11 rfl rfl)
theorem dX9_findAlert_199 : decode cX9_findAlert 199 = .ok (.goto (-66), 3) := dk_167 255 190 (dk_at dksX9_findAlert_8 14 rfl rfl)
theorem dX9_findAlert_202 : decode cX9_findAlert 202 = .ok (.aload_n 0, 1) := dk_42 (dk_at dksX9_findAlert_8 17 rfl rfl)
theorem dX9_findAlert_203 : decode cX9_findAlert 203 = .ok (.invokevirtual 240, 3) := dk_182 0 240 (dk_at dksX9_findAlert_8 18 rfl rfl)
theorem dX9_findAlert_206 : decode cX9_findAlert 206 = .ok (.aload_n 0, 1) := dk_42 (dk_at dksX9_findAlert_8 21 rfl rfl)
theorem dX9_findAlert_207 : decode cX9_findAlert 207 = .ok (.getfield 285, 3) := dk_180 1 29 (dk_at dksX9_findAlert_9 0 rfl rfl)
theorem dX9_findAlert_210 : decode cX9_findAlert 210 = .ok (.iconst (-1), 1) := dk_2 (dk_at dksX9_findAlert_9 3 rfl rfl)
theorem dX9_findAlert_211 : decode cX9_findAlert 211 = .ok (.if_icmp .eq 17, 3) := dk_159 0 17 (dk_at dksX9_findAlert_9 4 rfl rfl)
theorem dX9_findAlert_214 : decode cX9_findAlert 214 = .ok (.iload 6, 2) := dk_21 6 (dk_at dksX9_findAlert_9 7 rfl rfl)
theorem dX9_findAlert_216 : decode cX9_findAlert 216 = .ok (.aload_n 0, 1) := dk_42 (dk_at dksX9_findAlert_9 9 rfl rfl)
theorem dX9_findAlert_217 : decode cX9_findAlert 217 = .ok (.getfield 228, 3) := dk_180 0 228 (dk_at dksX9_findAlert_9 10 rfl rfl)
theorem dX9_findAlert_220 : decode cX9_findAlert 220 = .ok (.isub, 1) := dk_100 (dk_at dksX9_findAlert_9 13 rfl rfl)
theorem dX9_findAlert_221 : decode cX9_findAlert 221 = .ok (.aload_n 0, 1) := dk_42 (dk_at dksX9_findAlert_9 14 rfl rfl)
theorem dX9_findAlert_222 : decode cX9_findAlert 222 = .ok (.getfield 288, 3) := dk_180 1 32 (dk_at dksX9_findAlert_9 15 rfl rfl)
theorem dX9_findAlert_225 : decode cX9_findAlert 225 = .ok (.if_icmp .ge 20, 3) := dk_162 0 20 (dk_at dksX9_findAlert_9 18 rfl rfl)
theorem dX9_findAlert_228 : decode cX9_findAlert 228 = .ok (.aload_n 0, 1) := dk_42 (dk_at dksX9_findAlert_9 21 rfl rfl)
theorem dX9_findAlert_229 : decode cX9_findAlert 229 = .ok (.iload 7, 2) := dk_21 7 (dk_at dksX9_findAlert_9 22 rfl rfl)
theorem dX9_findAlert_231 : decode cX9_findAlert 231 = .ok (.putfield 285, 3) := dk_181 1 29 (dk_at dksX9_findAlert_10 0 rfl rfl)
theorem dX9_findAlert_234 : decode cX9_findAlert 234 = .ok (.aload_n 0, 1) := dk_42 (dk_at dksX9_findAlert_10 3 rfl rfl)
theorem dX9_findAlert_235 : decode cX9_findAlert 235 = .ok (.iload 6, 2) := dk_21 6 (dk_at dksX9_findAlert_10 4 rfl rfl)
theorem dX9_findAlert_237 : decode cX9_findAlert 237 = .ok (.aload_n 0, 1) := dk_42 (dk_at dksX9_findAlert_10 6 rfl rfl)
theorem dX9_findAlert_238 : decode cX9_findAlert 238 = .ok (.getfield 228, 3) := dk_180 0 228 (dk_at dksX9_findAlert_10 7 rfl rfl)
theorem dX9_findAlert_241 : decode cX9_findAlert 241 = .ok (.isub, 1) := dk_100 (dk_at dksX9_findAlert_10 10 rfl rfl)
theorem dX9_findAlert_242 : decode cX9_findAlert 242 = .ok (.putfield 288, 3) := dk_181 1 32 (dk_at dksX9_findAlert_10 11 rfl rfl)
theorem dX9_findAlert_245 : decode cX9_findAlert 245 = .ok (.iinc 7 1, 3) := dk_132 7 1 (dk_at dksX9_findAlert_10 14 rfl rfl)
theorem dX9_findAlert_248 : decode cX9_findAlert 248 = .ok (.goto (-220), 3) := dk_167 255 36 (dk_at dksX9_findAlert_10 17 rfl rfl)
theorem dX9_findAlert_251 : decode cX9_findAlert 251 = .ok (.return_, 1) := dk_177 (dk_at dksX9_findAlert_10 20 rfl rfl)
abbrev cX9_share : ByteArray := prog_16_method_69_code
def yX9_share : MethodName := ⟨RX9, "share", "(II)I"⟩
def dkwX9_share_1 : List UInt8 := [172, 42, 180, 0, 81, 27, 46, 62, 42, 180, 0, 81, 27, 28, 79, 29, 172]
abbrev dktX9_share_1 : List UInt8 := dkwX9_share_1 ++ []
def dkwX9_share_0 : List UInt8 := [27, 3, 6, 184, 0, 87, 154, 0, 6, 16, 254, 172, 28, 4, 16, 20, 184, 0, 87, 154, 0, 6, 16, 253]
abbrev dktX9_share_0 : List UInt8 := dkwX9_share_0 ++ dktX9_share_1
theorem dksX9_share_0 : cX9_share.data.toList.drop 0 = dktX9_share_0 := by decide +kernel
theorem dksX9_share_1 : cX9_share.data.toList.drop 24 = dktX9_share_1 := dk_seg dksX9_share_0 24 rfl rfl
theorem dX9_share_0 : decode cX9_share 0 = .ok (.iload_n 1, 1) := dk_27 (dk_at dksX9_share_0 0 rfl rfl)
theorem dX9_share_1 : decode cX9_share 1 = .ok (.iconst 0, 1) := dk_3 (dk_at dksX9_share_0 1 rfl rfl)
theorem dX9_share_2 : decode cX9_share 2 = .ok (.iconst 3, 1) := dk_6 (dk_at dksX9_share_0 2 rfl rfl)
theorem dX9_share_3 : decode cX9_share 3 = .ok (.invokestatic 87, 3) := dk_184 0 87 (dk_at dksX9_share_0 3 rfl rfl)
theorem dX9_share_6 : decode cX9_share 6 = .ok (.ifCond .ne 6, 3) := dk_154 0 6 (dk_at dksX9_share_0 6 rfl rfl)
theorem dX9_share_9 : decode cX9_share 9 = .ok (.bipush (-2), 2) := dk_16 254 (dk_at dksX9_share_0 9 rfl rfl)
theorem dX9_share_11 : decode cX9_share 11 = .ok (.ireturn, 1) := dk_172 (dk_at dksX9_share_0 11 rfl rfl)
theorem dX9_share_12 : decode cX9_share 12 = .ok (.iload_n 2, 1) := dk_28 (dk_at dksX9_share_0 12 rfl rfl)
theorem dX9_share_13 : decode cX9_share 13 = .ok (.iconst 1, 1) := dk_4 (dk_at dksX9_share_0 13 rfl rfl)
theorem dX9_share_14 : decode cX9_share 14 = .ok (.bipush 20, 2) := dk_16 20 (dk_at dksX9_share_0 14 rfl rfl)
theorem dX9_share_16 : decode cX9_share 16 = .ok (.invokestatic 87, 3) := dk_184 0 87 (dk_at dksX9_share_0 16 rfl rfl)
theorem dX9_share_19 : decode cX9_share 19 = .ok (.ifCond .ne 6, 3) := dk_154 0 6 (dk_at dksX9_share_0 19 rfl rfl)
theorem dX9_share_22 : decode cX9_share 22 = .ok (.bipush (-3), 2) := dk_16 253 (dk_at dksX9_share_0 22 rfl rfl)
theorem dX9_share_24 : decode cX9_share 24 = .ok (.ireturn, 1) := dk_172 (dk_at dksX9_share_1 0 rfl rfl)
theorem dX9_share_25 : decode cX9_share 25 = .ok (.aload_n 0, 1) := dk_42 (dk_at dksX9_share_1 1 rfl rfl)
theorem dX9_share_26 : decode cX9_share 26 = .ok (.getfield 81, 3) := dk_180 0 81 (dk_at dksX9_share_1 2 rfl rfl)
theorem dX9_share_29 : decode cX9_share 29 = .ok (.iload_n 1, 1) := dk_27 (dk_at dksX9_share_1 5 rfl rfl)
theorem dX9_share_30 : decode cX9_share 30 = .ok (.iaload, 1) := dk_46 (dk_at dksX9_share_1 6 rfl rfl)
theorem dX9_share_31 : decode cX9_share 31 = .ok (.istore_n 3, 1) := dk_62 (dk_at dksX9_share_1 7 rfl rfl)
theorem dX9_share_32 : decode cX9_share 32 = .ok (.aload_n 0, 1) := dk_42 (dk_at dksX9_share_1 8 rfl rfl)
theorem dX9_share_33 : decode cX9_share 33 = .ok (.getfield 81, 3) := dk_180 0 81 (dk_at dksX9_share_1 9 rfl rfl)
theorem dX9_share_36 : decode cX9_share 36 = .ok (.iload_n 1, 1) := dk_27 (dk_at dksX9_share_1 12 rfl rfl)
theorem dX9_share_37 : decode cX9_share 37 = .ok (.iload_n 2, 1) := dk_28 (dk_at dksX9_share_1 13 rfl rfl)
theorem dX9_share_38 : decode cX9_share 38 = .ok (.iastore, 1) := dk_79 (dk_at dksX9_share_1 14 rfl rfl)
theorem dX9_share_39 : decode cX9_share 39 = .ok (.iload_n 3, 1) := dk_29 (dk_at dksX9_share_1 15 rfl rfl)
theorem dX9_share_40 : decode cX9_share 40 = .ok (.ireturn, 1) := dk_172 (dk_at dksX9_share_1 16 rfl rfl)
abbrev cX9_close : ByteArray := prog_16_method_70_code
def yX9_close : MethodName := ⟨RX9, "close", "(I)I"⟩
def dkwX9_close_8 : List UInt8 := [42, 180, 1, 0, 172]
abbrev dktX9_close_8 : List UInt8 := dkwX9_close_8 ++ []
def dkwX9_close_7 : List UInt8 := [181, 0, 23, 3, 61, 28, 16, 24, 162, 0, 16, 42, 180, 0, 26, 28, 4, 79, 132, 2, 1, 167, 255, 240]
abbrev dktX9_close_7 : List UInt8 := dkwX9_close_7 ++ dktX9_close_8
def dkwX9_close_6 : List UInt8 := [180, 1, 39, 42, 180, 1, 0, 96, 181, 1, 39, 42, 89, 180, 0, 100, 4, 96, 181, 0, 100, 42, 2]
abbrev dktX9_close_6 : List UInt8 := dkwX9_close_6 ++ dktX9_close_7
def dkwX9_close_5 : List UInt8 := [180, 0, 69, 28, 46, 16, 8, 160, 0, 8, 42, 28, 182, 0, 190, 132, 2, 255, 167, 255, 233, 42, 89]
abbrev dktX9_close_5 : List UInt8 := dkwX9_close_5 ++ dktX9_close_6
def dkwX9_close_4 : List UInt8 := [46, 4, 96, 79, 132, 2, 1, 167, 255, 193, 42, 180, 0, 94, 4, 100, 61, 28, 155, 0, 25, 42]
abbrev dktX9_close_4 : List UInt8 := dkwX9_close_4 ++ dktX9_close_5
def dkwX9_close_3 : List UInt8 := [16, 10, 112, 104, 46, 167, 0, 7, 29, 16, 16, 100, 92, 46, 4, 96, 79, 42, 180, 0, 84, 16, 7, 92]
abbrev dktX9_close_3 : List UInt8 := dkwX9_close_3 ++ dktX9_close_4
def dkwX9_close_2 : List UInt8 := [180, 0, 78, 28, 46, 62, 42, 180, 0, 84, 29, 16, 20, 162, 0, 18, 42, 180, 0, 47, 16, 23, 29]
abbrev dktX9_close_2 : List UInt8 := dkwX9_close_2 ++ dktX9_close_3
def dkwX9_close_1 : List UInt8 := [172, 42, 27, 4, 42, 180, 0, 7, 182, 1, 12, 3, 61, 28, 42, 180, 0, 7, 162, 0, 61, 42]
abbrev dktX9_close_1 : List UInt8 := dkwX9_close_1 ++ dktX9_close_2
def dkwX9_close_0 : List UInt8 := [27, 3, 5, 184, 0, 87, 154, 0, 6, 16, 253, 172, 42, 180, 0, 100, 17, 1, 44, 160, 0, 6, 16, 252]
abbrev dktX9_close_0 : List UInt8 := dkwX9_close_0 ++ dktX9_close_1
theorem dksX9_close_0 : cX9_close.data.toList.drop 0 = dktX9_close_0 := by decide +kernel
theorem dksX9_close_1 : cX9_close.data.toList.drop 24 = dktX9_close_1 := dk_seg dksX9_close_0 24 rfl rfl
theorem dksX9_close_2 : cX9_close.data.toList.drop 46 = dktX9_close_2 := dk_seg dksX9_close_1 22 rfl rfl
theorem dksX9_close_3 : cX9_close.data.toList.drop 69 = dktX9_close_3 := dk_seg dksX9_close_2 23 rfl rfl
theorem dksX9_close_4 : cX9_close.data.toList.drop 93 = dktX9_close_4 := dk_seg dksX9_close_3 24 rfl rfl
theorem dksX9_close_5 : cX9_close.data.toList.drop 115 = dktX9_close_5 := dk_seg dksX9_close_4 22 rfl rfl
theorem dksX9_close_6 : cX9_close.data.toList.drop 138 = dktX9_close_6 := dk_seg dksX9_close_5 23 rfl rfl
theorem dksX9_close_7 : cX9_close.data.toList.drop 161 = dktX9_close_7 := dk_seg dksX9_close_6 23 rfl rfl
theorem dksX9_close_8 : cX9_close.data.toList.drop 185 = dktX9_close_8 := dk_seg dksX9_close_7 24 rfl rfl
theorem dX9_close_0 : decode cX9_close 0 = .ok (.iload_n 1, 1) := dk_27 (dk_at dksX9_close_0 0 rfl rfl)
theorem dX9_close_1 : decode cX9_close 1 = .ok (.iconst 0, 1) := dk_3 (dk_at dksX9_close_0 1 rfl rfl)
theorem dX9_close_2 : decode cX9_close 2 = .ok (.iconst 2, 1) := dk_5 (dk_at dksX9_close_0 2 rfl rfl)
theorem dX9_close_3 : decode cX9_close 3 = .ok (.invokestatic 87, 3) := dk_184 0 87 (dk_at dksX9_close_0 3 rfl rfl)
theorem dX9_close_6 : decode cX9_close 6 = .ok (.ifCond .ne 6, 3) := dk_154 0 6 (dk_at dksX9_close_0 6 rfl rfl)
theorem dX9_close_9 : decode cX9_close 9 = .ok (.bipush (-3), 2) := dk_16 253 (dk_at dksX9_close_0 9 rfl rfl)
theorem dX9_close_11 : decode cX9_close 11 = .ok (.ireturn, 1) := dk_172 (dk_at dksX9_close_0 11 rfl rfl)
theorem dX9_close_12 : decode cX9_close 12 = .ok (.aload_n 0, 1) := dk_42 (dk_at dksX9_close_0 12 rfl rfl)
theorem dX9_close_13 : decode cX9_close 13 = .ok (.getfield 100, 3) := dk_180 0 100 (dk_at dksX9_close_0 13 rfl rfl)
theorem dX9_close_16 : decode cX9_close 16 = .ok (.sipush 300, 3) := dk_17 1 44 (dk_at dksX9_close_0 16 rfl rfl)
theorem dX9_close_19 : decode cX9_close 19 = .ok (.if_icmp .ne 6, 3) := dk_160 0 6 (dk_at dksX9_close_0 19 rfl rfl)
theorem dX9_close_22 : decode cX9_close 22 = .ok (.bipush (-4), 2) := dk_16 252 (dk_at dksX9_close_0 22 rfl rfl)
theorem dX9_close_24 : decode cX9_close 24 = .ok (.ireturn, 1) := dk_172 (dk_at dksX9_close_1 0 rfl rfl)
theorem dX9_close_25 : decode cX9_close 25 = .ok (.aload_n 0, 1) := dk_42 (dk_at dksX9_close_1 1 rfl rfl)
theorem dX9_close_26 : decode cX9_close 26 = .ok (.iload_n 1, 1) := dk_27 (dk_at dksX9_close_1 2 rfl rfl)
theorem dX9_close_27 : decode cX9_close 27 = .ok (.iconst 1, 1) := dk_4 (dk_at dksX9_close_1 3 rfl rfl)
theorem dX9_close_28 : decode cX9_close 28 = .ok (.aload_n 0, 1) := dk_42 (dk_at dksX9_close_1 4 rfl rfl)
theorem dX9_close_29 : decode cX9_close 29 = .ok (.getfield 7, 3) := dk_180 0 7 (dk_at dksX9_close_1 5 rfl rfl)
theorem dX9_close_32 : decode cX9_close 32 = .ok (.invokevirtual 268, 3) := dk_182 1 12 (dk_at dksX9_close_1 8 rfl rfl)
theorem dX9_close_35 : decode cX9_close 35 = .ok (.iconst 0, 1) := dk_3 (dk_at dksX9_close_1 11 rfl rfl)
theorem dX9_close_36 : decode cX9_close 36 = .ok (.istore_n 2, 1) := dk_61 (dk_at dksX9_close_1 12 rfl rfl)
theorem dX9_close_37 : decode cX9_close 37 = .ok (.iload_n 2, 1) := dk_28 (dk_at dksX9_close_1 13 rfl rfl)
theorem dX9_close_38 : decode cX9_close 38 = .ok (.aload_n 0, 1) := dk_42 (dk_at dksX9_close_1 14 rfl rfl)
theorem dX9_close_39 : decode cX9_close 39 = .ok (.getfield 7, 3) := dk_180 0 7 (dk_at dksX9_close_1 15 rfl rfl)
theorem dX9_close_42 : decode cX9_close 42 = .ok (.if_icmp .ge 61, 3) := dk_162 0 61 (dk_at dksX9_close_1 18 rfl rfl)
theorem dX9_close_45 : decode cX9_close 45 = .ok (.aload_n 0, 1) := dk_42 (dk_at dksX9_close_1 21 rfl rfl)
theorem dX9_close_46 : decode cX9_close 46 = .ok (.getfield 78, 3) := dk_180 0 78 (dk_at dksX9_close_2 0 rfl rfl)
theorem dX9_close_49 : decode cX9_close 49 = .ok (.iload_n 2, 1) := dk_28 (dk_at dksX9_close_2 3 rfl rfl)
theorem dX9_close_50 : decode cX9_close 50 = .ok (.iaload, 1) := dk_46 (dk_at dksX9_close_2 4 rfl rfl)
theorem dX9_close_51 : decode cX9_close 51 = .ok (.istore_n 3, 1) := dk_62 (dk_at dksX9_close_2 5 rfl rfl)
theorem dX9_close_52 : decode cX9_close 52 = .ok (.aload_n 0, 1) := dk_42 (dk_at dksX9_close_2 6 rfl rfl)
theorem dX9_close_53 : decode cX9_close 53 = .ok (.getfield 84, 3) := dk_180 0 84 (dk_at dksX9_close_2 7 rfl rfl)
theorem dX9_close_56 : decode cX9_close 56 = .ok (.iload_n 3, 1) := dk_29 (dk_at dksX9_close_2 10 rfl rfl)
theorem dX9_close_57 : decode cX9_close 57 = .ok (.bipush 20, 2) := dk_16 20 (dk_at dksX9_close_2 11 rfl rfl)
theorem dX9_close_59 : decode cX9_close 59 = .ok (.if_icmp .ge 18, 3) := dk_162 0 18 (dk_at dksX9_close_2 13 rfl rfl)
theorem dX9_close_62 : decode cX9_close 62 = .ok (.aload_n 0, 1) := dk_42 (dk_at dksX9_close_2 16 rfl rfl)
theorem dX9_close_63 : decode cX9_close 63 = .ok (.getfield 47, 3) := dk_180 0 47 (dk_at dksX9_close_2 17 rfl rfl)
theorem dX9_close_66 : decode cX9_close 66 = .ok (.bipush 23, 2) := dk_16 23 (dk_at dksX9_close_2 20 rfl rfl)
theorem dX9_close_68 : decode cX9_close 68 = .ok (.iload_n 3, 1) := dk_29 (dk_at dksX9_close_2 22 rfl rfl)
theorem dX9_close_69 : decode cX9_close 69 = .ok (.bipush 10, 2) := dk_16 10 (dk_at dksX9_close_3 0 rfl rfl)
theorem dX9_close_71 : decode cX9_close 71 = .ok (.irem, 1) := dk_112 (dk_at dksX9_close_3 2 rfl rfl)
theorem dX9_close_72 : decode cX9_close 72 = .ok (.imul, 1) := dk_104 (dk_at dksX9_close_3 3 rfl rfl)
theorem dX9_close_73 : decode cX9_close 73 = .ok (.iaload, 1) := dk_46 (dk_at dksX9_close_3 4 rfl rfl)
theorem dX9_close_74 : decode cX9_close 74 = .ok (.goto 7, 3) := dk_167 0 7 (dk_at dksX9_close_3 5 rfl rfl)
theorem dX9_close_77 : decode cX9_close 77 = .ok (.iload_n 3, 1) := dk_29 (dk_at dksX9_close_3 8 rfl rfl)
theorem dX9_close_78 : decode cX9_close 78 = .ok (.bipush 16, 2) := dk_16 16 (dk_at dksX9_close_3 9 rfl rfl)
theorem dX9_close_80 : decode cX9_close 80 = .ok (.isub, 1) := dk_100 (dk_at dksX9_close_3 11 rfl rfl)
theorem dX9_close_81 : decode cX9_close 81 = .ok (.dup2, 1) := dk_92 (dk_at dksX9_close_3 12 rfl rfl)
theorem dX9_close_82 : decode cX9_close 82 = .ok (.iaload, 1) := dk_46 (dk_at dksX9_close_3 13 rfl rfl)
theorem dX9_close_83 : decode cX9_close 83 = .ok (.iconst 1, 1) := dk_4 (dk_at dksX9_close_3 14 rfl rfl)
theorem dX9_close_84 : decode cX9_close 84 = .ok (.iadd, 1) := dk_96 (dk_at dksX9_close_3 15 rfl rfl)
theorem dX9_close_85 : decode cX9_close 85 = .ok (.iastore, 1) := dk_79 (dk_at dksX9_close_3 16 rfl rfl)
theorem dX9_close_86 : decode cX9_close 86 = .ok (.aload_n 0, 1) := dk_42 (dk_at dksX9_close_3 17 rfl rfl)
theorem dX9_close_87 : decode cX9_close 87 = .ok (.getfield 84, 3) := dk_180 0 84 (dk_at dksX9_close_3 18 rfl rfl)
theorem dX9_close_90 : decode cX9_close 90 = .ok (.bipush 7, 2) := dk_16 7 (dk_at dksX9_close_3 21 rfl rfl)
theorem dX9_close_92 : decode cX9_close 92 = .ok (.dup2, 1) := dk_92 (dk_at dksX9_close_3 23 rfl rfl)
theorem dX9_close_93 : decode cX9_close 93 = .ok (.iaload, 1) := dk_46 (dk_at dksX9_close_4 0 rfl rfl)
theorem dX9_close_94 : decode cX9_close 94 = .ok (.iconst 1, 1) := dk_4 (dk_at dksX9_close_4 1 rfl rfl)
theorem dX9_close_95 : decode cX9_close 95 = .ok (.iadd, 1) := dk_96 (dk_at dksX9_close_4 2 rfl rfl)
theorem dX9_close_96 : decode cX9_close 96 = .ok (.iastore, 1) := dk_79 (dk_at dksX9_close_4 3 rfl rfl)
theorem dX9_close_97 : decode cX9_close 97 = .ok (.iinc 2 1, 3) := dk_132 2 1 (dk_at dksX9_close_4 4 rfl rfl)
theorem dX9_close_100 : decode cX9_close 100 = .ok (.goto (-63), 3) := dk_167 255 193 (dk_at dksX9_close_4 7 rfl rfl)
theorem dX9_close_103 : decode cX9_close 103 = .ok (.aload_n 0, 1) := dk_42 (dk_at dksX9_close_4 10 rfl rfl)
theorem dX9_close_104 : decode cX9_close 104 = .ok (.getfield 94, 3) := dk_180 0 94 (dk_at dksX9_close_4 11 rfl rfl)
theorem dX9_close_107 : decode cX9_close 107 = .ok (.iconst 1, 1) := dk_4 (dk_at dksX9_close_4 14 rfl rfl)
theorem dX9_close_108 : decode cX9_close 108 = .ok (.isub, 1) := dk_100 (dk_at dksX9_close_4 15 rfl rfl)
theorem dX9_close_109 : decode cX9_close 109 = .ok (.istore_n 2, 1) := dk_61 (dk_at dksX9_close_4 16 rfl rfl)
theorem dX9_close_110 : decode cX9_close 110 = .ok (.iload_n 2, 1) := dk_28 (dk_at dksX9_close_4 17 rfl rfl)
theorem dX9_close_111 : decode cX9_close 111 = .ok (.ifCond .lt 25, 3) := dk_155 0 25 (dk_at dksX9_close_4 18 rfl rfl)
theorem dX9_close_114 : decode cX9_close 114 = .ok (.aload_n 0, 1) := dk_42 (dk_at dksX9_close_4 21 rfl rfl)
theorem dX9_close_115 : decode cX9_close 115 = .ok (.getfield 69, 3) := dk_180 0 69 (dk_at dksX9_close_5 0 rfl rfl)
theorem dX9_close_118 : decode cX9_close 118 = .ok (.iload_n 2, 1) := dk_28 (dk_at dksX9_close_5 3 rfl rfl)
theorem dX9_close_119 : decode cX9_close 119 = .ok (.iaload, 1) := dk_46 (dk_at dksX9_close_5 4 rfl rfl)
theorem dX9_close_120 : decode cX9_close 120 = .ok (.bipush 8, 2) := dk_16 8 (dk_at dksX9_close_5 5 rfl rfl)
theorem dX9_close_122 : decode cX9_close 122 = .ok (.if_icmp .ne 8, 3) := dk_160 0 8 (dk_at dksX9_close_5 7 rfl rfl)
theorem dX9_close_125 : decode cX9_close 125 = .ok (.aload_n 0, 1) := dk_42 (dk_at dksX9_close_5 10 rfl rfl)
theorem dX9_close_126 : decode cX9_close 126 = .ok (.iload_n 2, 1) := dk_28 (dk_at dksX9_close_5 11 rfl rfl)
theorem dX9_close_127 : decode cX9_close 127 = .ok (.invokevirtual 190, 3) := dk_182 0 190 (dk_at dksX9_close_5 12 rfl rfl)
theorem dX9_close_130 : decode cX9_close 130 = .ok (.iinc 2 (-1), 3) := dk_132 2 255 (dk_at dksX9_close_5 15 rfl rfl)
theorem dX9_close_133 : decode cX9_close 133 = .ok (.goto (-23), 3) := dk_167 255 233 (dk_at dksX9_close_5 18 rfl rfl)
theorem dX9_close_136 : decode cX9_close 136 = .ok (.aload_n 0, 1) := dk_42 (dk_at dksX9_close_5 21 rfl rfl)
theorem dX9_close_137 : decode cX9_close 137 = .ok (.dup, 1) := dk_89 (dk_at dksX9_close_5 22 rfl rfl)
theorem dX9_close_138 : decode cX9_close 138 = .ok (.getfield 295, 3) := dk_180 1 39 (dk_at dksX9_close_6 0 rfl rfl)
theorem dX9_close_141 : decode cX9_close 141 = .ok (.aload_n 0, 1) := dk_42 (dk_at dksX9_close_6 3 rfl rfl)
theorem dX9_close_142 : decode cX9_close 142 = .ok (.getfield 256, 3) := dk_180 1 0 (dk_at dksX9_close_6 4 rfl rfl)
theorem dX9_close_145 : decode cX9_close 145 = .ok (.iadd, 1) := dk_96 (dk_at dksX9_close_6 7 rfl rfl)
theorem dX9_close_146 : decode cX9_close 146 = .ok (.putfield 295, 3) := dk_181 1 39 (dk_at dksX9_close_6 8 rfl rfl)
theorem dX9_close_149 : decode cX9_close 149 = .ok (.aload_n 0, 1) := dk_42 (dk_at dksX9_close_6 11 rfl rfl)
theorem dX9_close_150 : decode cX9_close 150 = .ok (.dup, 1) := dk_89 (dk_at dksX9_close_6 12 rfl rfl)
theorem dX9_close_151 : decode cX9_close 151 = .ok (.getfield 100, 3) := dk_180 0 100 (dk_at dksX9_close_6 13 rfl rfl)
theorem dX9_close_154 : decode cX9_close 154 = .ok (.iconst 1, 1) := dk_4 (dk_at dksX9_close_6 16 rfl rfl)
theorem dX9_close_155 : decode cX9_close 155 = .ok (.iadd, 1) := dk_96 (dk_at dksX9_close_6 17 rfl rfl)
theorem dX9_close_156 : decode cX9_close 156 = .ok (.putfield 100, 3) := dk_181 0 100 (dk_at dksX9_close_6 18 rfl rfl)
theorem dX9_close_159 : decode cX9_close 159 = .ok (.aload_n 0, 1) := dk_42 (dk_at dksX9_close_6 21 rfl rfl)
theorem dX9_close_160 : decode cX9_close 160 = .ok (.iconst (-1), 1) := dk_2 (dk_at dksX9_close_6 22 rfl rfl)
theorem dX9_close_161 : decode cX9_close 161 = .ok (.putfield 23, 3) := dk_181 0 23 (dk_at dksX9_close_7 0 rfl rfl)
theorem dX9_close_164 : decode cX9_close 164 = .ok (.iconst 0, 1) := dk_3 (dk_at dksX9_close_7 3 rfl rfl)
theorem dX9_close_165 : decode cX9_close 165 = .ok (.istore_n 2, 1) := dk_61 (dk_at dksX9_close_7 4 rfl rfl)
theorem dX9_close_166 : decode cX9_close 166 = .ok (.iload_n 2, 1) := dk_28 (dk_at dksX9_close_7 5 rfl rfl)
theorem dX9_close_167 : decode cX9_close 167 = .ok (.bipush 24, 2) := dk_16 24 (dk_at dksX9_close_7 6 rfl rfl)
theorem dX9_close_169 : decode cX9_close 169 = .ok (.if_icmp .ge 16, 3) := dk_162 0 16 (dk_at dksX9_close_7 8 rfl rfl)
theorem dX9_close_172 : decode cX9_close 172 = .ok (.aload_n 0, 1) := dk_42 (dk_at dksX9_close_7 11 rfl rfl)
theorem dX9_close_173 : decode cX9_close 173 = .ok (.getfield 26, 3) := dk_180 0 26 (dk_at dksX9_close_7 12 rfl rfl)
theorem dX9_close_176 : decode cX9_close 176 = .ok (.iload_n 2, 1) := dk_28 (dk_at dksX9_close_7 15 rfl rfl)
theorem dX9_close_177 : decode cX9_close 177 = .ok (.iconst 1, 1) := dk_4 (dk_at dksX9_close_7 16 rfl rfl)
theorem dX9_close_178 : decode cX9_close 178 = .ok (.iastore, 1) := dk_79 (dk_at dksX9_close_7 17 rfl rfl)
theorem dX9_close_179 : decode cX9_close 179 = .ok (.iinc 2 1, 3) := dk_132 2 1 (dk_at dksX9_close_7 18 rfl rfl)
theorem dX9_close_182 : decode cX9_close 182 = .ok (.goto (-16), 3) := dk_167 255 240 (dk_at dksX9_close_7 21 rfl rfl)
theorem dX9_close_185 : decode cX9_close 185 = .ok (.aload_n 0, 1) := dk_42 (dk_at dksX9_close_8 0 rfl rfl)
theorem dX9_close_186 : decode cX9_close 186 = .ok (.getfield 256, 3) := dk_180 1 0 (dk_at dksX9_close_8 1 rfl rfl)
theorem dX9_close_189 : decode cX9_close 189 = .ok (.ireturn, 1) := dk_172 (dk_at dksX9_close_8 4 rfl rfl)
abbrev cX9_account : ByteArray := prog_16_method_71_code
def yX9_account : MethodName := ⟨RX9, "account", "(I)I"⟩
def dkwX9_account_0 : List UInt8 := [27, 3, 16, 7, 184, 0, 87, 153, 0, 12, 42, 180, 0, 84, 27, 46, 167, 0, 5, 16, 253, 172]
abbrev dktX9_account_0 : List UInt8 := dkwX9_account_0 ++ []
theorem dksX9_account_0 : cX9_account.data.toList.drop 0 = dktX9_account_0 := by decide +kernel
theorem dX9_account_0 : decode cX9_account 0 = .ok (.iload_n 1, 1) := dk_27 (dk_at dksX9_account_0 0 rfl rfl)
theorem dX9_account_1 : decode cX9_account 1 = .ok (.iconst 0, 1) := dk_3 (dk_at dksX9_account_0 1 rfl rfl)
theorem dX9_account_2 : decode cX9_account 2 = .ok (.bipush 7, 2) := dk_16 7 (dk_at dksX9_account_0 2 rfl rfl)
theorem dX9_account_4 : decode cX9_account 4 = .ok (.invokestatic 87, 3) := dk_184 0 87 (dk_at dksX9_account_0 4 rfl rfl)
theorem dX9_account_7 : decode cX9_account 7 = .ok (.ifCond .eq 12, 3) := dk_153 0 12 (dk_at dksX9_account_0 7 rfl rfl)
theorem dX9_account_10 : decode cX9_account 10 = .ok (.aload_n 0, 1) := dk_42 (dk_at dksX9_account_0 10 rfl rfl)
theorem dX9_account_11 : decode cX9_account 11 = .ok (.getfield 84, 3) := dk_180 0 84 (dk_at dksX9_account_0 11 rfl rfl)
theorem dX9_account_14 : decode cX9_account 14 = .ok (.iload_n 1, 1) := dk_27 (dk_at dksX9_account_0 14 rfl rfl)
theorem dX9_account_15 : decode cX9_account 15 = .ok (.iaload, 1) := dk_46 (dk_at dksX9_account_0 15 rfl rfl)
theorem dX9_account_16 : decode cX9_account 16 = .ok (.goto 5, 3) := dk_167 0 5 (dk_at dksX9_account_0 16 rfl rfl)
theorem dX9_account_19 : decode cX9_account 19 = .ok (.bipush (-3), 2) := dk_16 253 (dk_at dksX9_account_0 19 rfl rfl)
theorem dX9_account_21 : decode cX9_account 21 = .ok (.ireturn, 1) := dk_172 (dk_at dksX9_account_0 21 rfl rfl)
abbrev cX9_debt : ByteArray := prog_16_method_73_code
def yX9_debt : MethodName := ⟨RX9, "debt", "(I)I"⟩
def dkwX9_debt_0 : List UInt8 := [27, 3, 6, 184, 0, 87, 153, 0, 11, 42, 27, 182, 1, 42, 167, 0, 6, 19, 1, 45, 172]
abbrev dktX9_debt_0 : List UInt8 := dkwX9_debt_0 ++ []
theorem dksX9_debt_0 : cX9_debt.data.toList.drop 0 = dktX9_debt_0 := by decide +kernel
theorem dX9_debt_0 : decode cX9_debt 0 = .ok (.iload_n 1, 1) := dk_27 (dk_at dksX9_debt_0 0 rfl rfl)
theorem dX9_debt_1 : decode cX9_debt 1 = .ok (.iconst 0, 1) := dk_3 (dk_at dksX9_debt_0 1 rfl rfl)
theorem dX9_debt_2 : decode cX9_debt 2 = .ok (.iconst 3, 1) := dk_6 (dk_at dksX9_debt_0 2 rfl rfl)
theorem dX9_debt_3 : decode cX9_debt 3 = .ok (.invokestatic 87, 3) := dk_184 0 87 (dk_at dksX9_debt_0 3 rfl rfl)
theorem dX9_debt_6 : decode cX9_debt 6 = .ok (.ifCond .eq 11, 3) := dk_153 0 11 (dk_at dksX9_debt_0 6 rfl rfl)
theorem dX9_debt_9 : decode cX9_debt 9 = .ok (.aload_n 0, 1) := dk_42 (dk_at dksX9_debt_0 9 rfl rfl)
theorem dX9_debt_10 : decode cX9_debt 10 = .ok (.iload_n 1, 1) := dk_27 (dk_at dksX9_debt_0 10 rfl rfl)
theorem dX9_debt_11 : decode cX9_debt 11 = .ok (.invokevirtual 298, 3) := dk_182 1 42 (dk_at dksX9_debt_0 11 rfl rfl)
theorem dX9_debt_14 : decode cX9_debt 14 = .ok (.goto 6, 3) := dk_167 0 6 (dk_at dksX9_debt_0 14 rfl rfl)
theorem dX9_debt_17 : decode cX9_debt 17 = .ok (.ldc_w 301, 3) := dk_19 1 45 (dk_at dksX9_debt_0 17 rfl rfl)
theorem dX9_debt_20 : decode cX9_debt 20 = .ok (.ireturn, 1) := dk_172 (dk_at dksX9_debt_0 20 rfl rfl)
abbrev cX9_debtOf : ByteArray := prog_16_method_72_code
def yX9_debtOf : MethodName := ⟨RX9, "debtOf", "(I)I"⟩
def dkwX9_debtOf_2 : List UInt8 := [42, 180, 0, 84, 27, 46, 104, 100, 172]
abbrev dktX9_debtOf_2 : List UInt8 := dkwX9_debtOf_2 ++ []
def dkwX9_debtOf_1 : List UInt8 := [42, 180, 0, 81, 21, 4, 46, 96, 62, 132, 4, 1, 167, 255, 227, 42, 180, 0, 81, 27, 46, 28, 104, 29]
abbrev dktX9_debtOf_1 : List UInt8 := dkwX9_debtOf_1 ++ dktX9_debtOf_2
def dkwX9_debtOf_0 : List UInt8 := [3, 61, 3, 62, 3, 54, 4, 21, 4, 7, 162, 0, 29, 28, 42, 180, 0, 84, 21, 4, 46, 96, 61, 29]
abbrev dktX9_debtOf_0 : List UInt8 := dkwX9_debtOf_0 ++ dktX9_debtOf_1
theorem dksX9_debtOf_0 : cX9_debtOf.data.toList.drop 0 = dktX9_debtOf_0 := by decide +kernel
theorem dksX9_debtOf_1 : cX9_debtOf.data.toList.drop 24 = dktX9_debtOf_1 := dk_seg dksX9_debtOf_0 24 rfl rfl
theorem dksX9_debtOf_2 : cX9_debtOf.data.toList.drop 48 = dktX9_debtOf_2 := dk_seg dksX9_debtOf_1 24 rfl rfl
theorem dX9_debtOf_0 : decode cX9_debtOf 0 = .ok (.iconst 0, 1) := dk_3 (dk_at dksX9_debtOf_0 0 rfl rfl)
theorem dX9_debtOf_1 : decode cX9_debtOf 1 = .ok (.istore_n 2, 1) := dk_61 (dk_at dksX9_debtOf_0 1 rfl rfl)
theorem dX9_debtOf_2 : decode cX9_debtOf 2 = .ok (.iconst 0, 1) := dk_3 (dk_at dksX9_debtOf_0 2 rfl rfl)
theorem dX9_debtOf_3 : decode cX9_debtOf 3 = .ok (.istore_n 3, 1) := dk_62 (dk_at dksX9_debtOf_0 3 rfl rfl)
theorem dX9_debtOf_4 : decode cX9_debtOf 4 = .ok (.iconst 0, 1) := dk_3 (dk_at dksX9_debtOf_0 4 rfl rfl)
theorem dX9_debtOf_5 : decode cX9_debtOf 5 = .ok (.istore 4, 2) := dk_54 4 (dk_at dksX9_debtOf_0 5 rfl rfl)
theorem dX9_debtOf_7 : decode cX9_debtOf 7 = .ok (.iload 4, 2) := dk_21 4 (dk_at dksX9_debtOf_0 7 rfl rfl)
theorem dX9_debtOf_9 : decode cX9_debtOf 9 = .ok (.iconst 4, 1) := dk_7 (dk_at dksX9_debtOf_0 9 rfl rfl)
theorem dX9_debtOf_10 : decode cX9_debtOf 10 = .ok (.if_icmp .ge 29, 3) := dk_162 0 29 (dk_at dksX9_debtOf_0 10 rfl rfl)
theorem dX9_debtOf_13 : decode cX9_debtOf 13 = .ok (.iload_n 2, 1) := dk_28 (dk_at dksX9_debtOf_0 13 rfl rfl)
theorem dX9_debtOf_14 : decode cX9_debtOf 14 = .ok (.aload_n 0, 1) := dk_42 (dk_at dksX9_debtOf_0 14 rfl rfl)
theorem dX9_debtOf_15 : decode cX9_debtOf 15 = .ok (.getfield 84, 3) := dk_180 0 84 (dk_at dksX9_debtOf_0 15 rfl rfl)
theorem dX9_debtOf_18 : decode cX9_debtOf 18 = .ok (.iload 4, 2) := dk_21 4 (dk_at dksX9_debtOf_0 18 rfl rfl)
theorem dX9_debtOf_20 : decode cX9_debtOf 20 = .ok (.iaload, 1) := dk_46 (dk_at dksX9_debtOf_0 20 rfl rfl)
theorem dX9_debtOf_21 : decode cX9_debtOf 21 = .ok (.iadd, 1) := dk_96 (dk_at dksX9_debtOf_0 21 rfl rfl)
theorem dX9_debtOf_22 : decode cX9_debtOf 22 = .ok (.istore_n 2, 1) := dk_61 (dk_at dksX9_debtOf_0 22 rfl rfl)
theorem dX9_debtOf_23 : decode cX9_debtOf 23 = .ok (.iload_n 3, 1) := dk_29 (dk_at dksX9_debtOf_0 23 rfl rfl)
theorem dX9_debtOf_24 : decode cX9_debtOf 24 = .ok (.aload_n 0, 1) := dk_42 (dk_at dksX9_debtOf_1 0 rfl rfl)
theorem dX9_debtOf_25 : decode cX9_debtOf 25 = .ok (.getfield 81, 3) := dk_180 0 81 (dk_at dksX9_debtOf_1 1 rfl rfl)
theorem dX9_debtOf_28 : decode cX9_debtOf 28 = .ok (.iload 4, 2) := dk_21 4 (dk_at dksX9_debtOf_1 4 rfl rfl)
theorem dX9_debtOf_30 : decode cX9_debtOf 30 = .ok (.iaload, 1) := dk_46 (dk_at dksX9_debtOf_1 6 rfl rfl)
theorem dX9_debtOf_31 : decode cX9_debtOf 31 = .ok (.iadd, 1) := dk_96 (dk_at dksX9_debtOf_1 7 rfl rfl)
theorem dX9_debtOf_32 : decode cX9_debtOf 32 = .ok (.istore_n 3, 1) := dk_62 (dk_at dksX9_debtOf_1 8 rfl rfl)
theorem dX9_debtOf_33 : decode cX9_debtOf 33 = .ok (.iinc 4 1, 3) := dk_132 4 1 (dk_at dksX9_debtOf_1 9 rfl rfl)
theorem dX9_debtOf_36 : decode cX9_debtOf 36 = .ok (.goto (-29), 3) := dk_167 255 227 (dk_at dksX9_debtOf_1 12 rfl rfl)
theorem dX9_debtOf_39 : decode cX9_debtOf 39 = .ok (.aload_n 0, 1) := dk_42 (dk_at dksX9_debtOf_1 15 rfl rfl)
theorem dX9_debtOf_40 : decode cX9_debtOf 40 = .ok (.getfield 81, 3) := dk_180 0 81 (dk_at dksX9_debtOf_1 16 rfl rfl)
theorem dX9_debtOf_43 : decode cX9_debtOf 43 = .ok (.iload_n 1, 1) := dk_27 (dk_at dksX9_debtOf_1 19 rfl rfl)
theorem dX9_debtOf_44 : decode cX9_debtOf 44 = .ok (.iaload, 1) := dk_46 (dk_at dksX9_debtOf_1 20 rfl rfl)
theorem dX9_debtOf_45 : decode cX9_debtOf 45 = .ok (.iload_n 2, 1) := dk_28 (dk_at dksX9_debtOf_1 21 rfl rfl)
theorem dX9_debtOf_46 : decode cX9_debtOf 46 = .ok (.imul, 1) := dk_104 (dk_at dksX9_debtOf_1 22 rfl rfl)
theorem dX9_debtOf_47 : decode cX9_debtOf 47 = .ok (.iload_n 3, 1) := dk_29 (dk_at dksX9_debtOf_1 23 rfl rfl)
theorem dX9_debtOf_48 : decode cX9_debtOf 48 = .ok (.aload_n 0, 1) := dk_42 (dk_at dksX9_debtOf_2 0 rfl rfl)
theorem dX9_debtOf_49 : decode cX9_debtOf 49 = .ok (.getfield 84, 3) := dk_180 0 84 (dk_at dksX9_debtOf_2 1 rfl rfl)
theorem dX9_debtOf_52 : decode cX9_debtOf 52 = .ok (.iload_n 1, 1) := dk_27 (dk_at dksX9_debtOf_2 4 rfl rfl)
theorem dX9_debtOf_53 : decode cX9_debtOf 53 = .ok (.iaload, 1) := dk_46 (dk_at dksX9_debtOf_2 5 rfl rfl)
theorem dX9_debtOf_54 : decode cX9_debtOf 54 = .ok (.imul, 1) := dk_104 (dk_at dksX9_debtOf_2 6 rfl rfl)
theorem dX9_debtOf_55 : decode cX9_debtOf 55 = .ok (.isub, 1) := dk_100 (dk_at dksX9_debtOf_2 7 rfl rfl)
theorem dX9_debtOf_56 : decode cX9_debtOf 56 = .ok (.ireturn, 1) := dk_172 (dk_at dksX9_debtOf_2 8 rfl rfl)
abbrev cX9_next : ByteArray := prog_16_method_74_code
def yX9_next : MethodName := ⟨RX9, "next", "()I"⟩
def dkwX9_next_1 : List UInt8 := [167, 0, 4, 27, 60, 132, 2, 1, 167, 255, 229, 27, 172]
abbrev dktX9_next_1 : List UInt8 := dkwX9_next_1 ++ []
def dkwX9_next_0 : List UInt8 := [3, 60, 4, 61, 28, 7, 162, 0, 28, 42, 28, 182, 1, 42, 42, 27, 182, 1, 42, 164, 0, 7, 28]
abbrev dktX9_next_0 : List UInt8 := dkwX9_next_0 ++ dktX9_next_1
theorem dksX9_next_0 : cX9_next.data.toList.drop 0 = dktX9_next_0 := by decide +kernel
theorem dksX9_next_1 : cX9_next.data.toList.drop 23 = dktX9_next_1 := dk_seg dksX9_next_0 23 rfl rfl
theorem dX9_next_0 : decode cX9_next 0 = .ok (.iconst 0, 1) := dk_3 (dk_at dksX9_next_0 0 rfl rfl)
theorem dX9_next_1 : decode cX9_next 1 = .ok (.istore_n 1, 1) := dk_60 (dk_at dksX9_next_0 1 rfl rfl)
theorem dX9_next_2 : decode cX9_next 2 = .ok (.iconst 1, 1) := dk_4 (dk_at dksX9_next_0 2 rfl rfl)
theorem dX9_next_3 : decode cX9_next 3 = .ok (.istore_n 2, 1) := dk_61 (dk_at dksX9_next_0 3 rfl rfl)
theorem dX9_next_4 : decode cX9_next 4 = .ok (.iload_n 2, 1) := dk_28 (dk_at dksX9_next_0 4 rfl rfl)
theorem dX9_next_5 : decode cX9_next 5 = .ok (.iconst 4, 1) := dk_7 (dk_at dksX9_next_0 5 rfl rfl)
theorem dX9_next_6 : decode cX9_next 6 = .ok (.if_icmp .ge 28, 3) := dk_162 0 28 (dk_at dksX9_next_0 6 rfl rfl)
theorem dX9_next_9 : decode cX9_next 9 = .ok (.aload_n 0, 1) := dk_42 (dk_at dksX9_next_0 9 rfl rfl)
theorem dX9_next_10 : decode cX9_next 10 = .ok (.iload_n 2, 1) := dk_28 (dk_at dksX9_next_0 10 rfl rfl)
theorem dX9_next_11 : decode cX9_next 11 = .ok (.invokevirtual 298, 3) := dk_182 1 42 (dk_at dksX9_next_0 11 rfl rfl)
theorem dX9_next_14 : decode cX9_next 14 = .ok (.aload_n 0, 1) := dk_42 (dk_at dksX9_next_0 14 rfl rfl)
theorem dX9_next_15 : decode cX9_next 15 = .ok (.iload_n 1, 1) := dk_27 (dk_at dksX9_next_0 15 rfl rfl)
theorem dX9_next_16 : decode cX9_next 16 = .ok (.invokevirtual 298, 3) := dk_182 1 42 (dk_at dksX9_next_0 16 rfl rfl)
theorem dX9_next_19 : decode cX9_next 19 = .ok (.if_icmp .le 7, 3) := dk_164 0 7 (dk_at dksX9_next_0 19 rfl rfl)
theorem dX9_next_22 : decode cX9_next 22 = .ok (.iload_n 2, 1) := dk_28 (dk_at dksX9_next_0 22 rfl rfl)
theorem dX9_next_23 : decode cX9_next 23 = .ok (.goto 4, 3) := dk_167 0 4 (dk_at dksX9_next_1 0 rfl rfl)
theorem dX9_next_26 : decode cX9_next 26 = .ok (.iload_n 1, 1) := dk_27 (dk_at dksX9_next_1 3 rfl rfl)
theorem dX9_next_27 : decode cX9_next 27 = .ok (.istore_n 1, 1) := dk_60 (dk_at dksX9_next_1 4 rfl rfl)
theorem dX9_next_28 : decode cX9_next 28 = .ok (.iinc 2 1, 3) := dk_132 2 1 (dk_at dksX9_next_1 5 rfl rfl)
theorem dX9_next_31 : decode cX9_next 31 = .ok (.goto (-27), 3) := dk_167 255 229 (dk_at dksX9_next_1 8 rfl rfl)
theorem dX9_next_34 : decode cX9_next 34 = .ok (.iload_n 1, 1) := dk_27 (dk_at dksX9_next_1 11 rfl rfl)
theorem dX9_next_35 : decode cX9_next 35 = .ok (.ireturn, 1) := dk_172 (dk_at dksX9_next_1 12 rfl rfl)
abbrev cX9_count : ByteArray := prog_16_method_75_code
def yX9_count : MethodName := ⟨RX9, "count", "(I)I"⟩
def dkwX9_count_3 : List UInt8 := [172, 42, 180, 0, 127, 172, 42, 180, 1, 39, 172, 16, 253, 172]
abbrev dktX9_count_3 : List UInt8 := dkwX9_count_3 ++ []
def dkwX9_count_2 : List UInt8 := [42, 180, 0, 7, 172, 42, 180, 0, 100, 172, 42, 180, 0, 91, 172, 42, 180, 0, 94, 172, 42, 180, 0, 97]
abbrev dktX9_count_2 : List UInt8 := dkwX9_count_2 ++ dktX9_count_3
def dkwX9_count_1 : List UInt8 := [170, 0, 0, 0, 0, 0, 78, 0, 0, 0, 0, 0, 0, 0, 6, 0, 0, 0, 43, 0, 0, 0, 48, 0, 0, 0, 53, 0, 0, 0, 58, 0, 0, 0, 63, 0, 0, 0, 68, 0, 0, 0, 73]
abbrev dktX9_count_1 : List UInt8 := dkwX9_count_1 ++ dktX9_count_2
def dkwX9_count_0 : List UInt8 := [27]
abbrev dktX9_count_0 : List UInt8 := dkwX9_count_0 ++ dktX9_count_1
theorem dksX9_count_0 : cX9_count.data.toList.drop 0 = dktX9_count_0 := by decide +kernel
theorem dksX9_count_1 : cX9_count.data.toList.drop 1 = dktX9_count_1 := dk_seg dksX9_count_0 1 rfl rfl
theorem dksX9_count_2 : cX9_count.data.toList.drop 44 = dktX9_count_2 := dk_seg dksX9_count_1 43 rfl rfl
theorem dksX9_count_3 : cX9_count.data.toList.drop 68 = dktX9_count_3 := dk_seg dksX9_count_2 24 rfl rfl
theorem dX9_count_0 : decode cX9_count 0 = .ok (.iload_n 1, 1) := dk_27 (dk_at dksX9_count_0 0 rfl rfl)
theorem dX9_count_1 : decode cX9_count 1 = .ok (.tableswitch 78 0 6 #[43, 48, 53, 58, 63, 68, 73], 43) := by decide +kernel
theorem dX9_count_44 : decode cX9_count 44 = .ok (.aload_n 0, 1) := dk_42 (dk_at dksX9_count_2 0 rfl rfl)
theorem dX9_count_45 : decode cX9_count 45 = .ok (.getfield 7, 3) := dk_180 0 7 (dk_at dksX9_count_2 1 rfl rfl)
theorem dX9_count_48 : decode cX9_count 48 = .ok (.ireturn, 1) := dk_172 (dk_at dksX9_count_2 4 rfl rfl)
theorem dX9_count_49 : decode cX9_count 49 = .ok (.aload_n 0, 1) := dk_42 (dk_at dksX9_count_2 5 rfl rfl)
theorem dX9_count_50 : decode cX9_count 50 = .ok (.getfield 100, 3) := dk_180 0 100 (dk_at dksX9_count_2 6 rfl rfl)
theorem dX9_count_53 : decode cX9_count 53 = .ok (.ireturn, 1) := dk_172 (dk_at dksX9_count_2 9 rfl rfl)
theorem dX9_count_54 : decode cX9_count 54 = .ok (.aload_n 0, 1) := dk_42 (dk_at dksX9_count_2 10 rfl rfl)
theorem dX9_count_55 : decode cX9_count 55 = .ok (.getfield 91, 3) := dk_180 0 91 (dk_at dksX9_count_2 11 rfl rfl)
theorem dX9_count_58 : decode cX9_count 58 = .ok (.ireturn, 1) := dk_172 (dk_at dksX9_count_2 14 rfl rfl)
theorem dX9_count_59 : decode cX9_count 59 = .ok (.aload_n 0, 1) := dk_42 (dk_at dksX9_count_2 15 rfl rfl)
theorem dX9_count_60 : decode cX9_count 60 = .ok (.getfield 94, 3) := dk_180 0 94 (dk_at dksX9_count_2 16 rfl rfl)
theorem dX9_count_63 : decode cX9_count 63 = .ok (.ireturn, 1) := dk_172 (dk_at dksX9_count_2 19 rfl rfl)
theorem dX9_count_64 : decode cX9_count 64 = .ok (.aload_n 0, 1) := dk_42 (dk_at dksX9_count_2 20 rfl rfl)
theorem dX9_count_65 : decode cX9_count 65 = .ok (.getfield 97, 3) := dk_180 0 97 (dk_at dksX9_count_2 21 rfl rfl)
theorem dX9_count_68 : decode cX9_count 68 = .ok (.ireturn, 1) := dk_172 (dk_at dksX9_count_3 0 rfl rfl)
theorem dX9_count_69 : decode cX9_count 69 = .ok (.aload_n 0, 1) := dk_42 (dk_at dksX9_count_3 1 rfl rfl)
theorem dX9_count_70 : decode cX9_count 70 = .ok (.getfield 127, 3) := dk_180 0 127 (dk_at dksX9_count_3 2 rfl rfl)
theorem dX9_count_73 : decode cX9_count 73 = .ok (.ireturn, 1) := dk_172 (dk_at dksX9_count_3 5 rfl rfl)
theorem dX9_count_74 : decode cX9_count 74 = .ok (.aload_n 0, 1) := dk_42 (dk_at dksX9_count_3 6 rfl rfl)
theorem dX9_count_75 : decode cX9_count 75 = .ok (.getfield 295, 3) := dk_180 1 39 (dk_at dksX9_count_3 7 rfl rfl)
theorem dX9_count_78 : decode cX9_count 78 = .ok (.ireturn, 1) := dk_172 (dk_at dksX9_count_3 10 rfl rfl)
theorem dX9_count_79 : decode cX9_count 79 = .ok (.bipush (-3), 2) := dk_16 253 (dk_at dksX9_count_3 11 rfl rfl)
theorem dX9_count_81 : decode cX9_count 81 = .ok (.ireturn, 1) := dk_172 (dk_at dksX9_count_3 13 rfl rfl)
theorem q82 : (Jvm.Cond.initialized "SharedNightsModel") ∈ lw_all := lw_g (lw_at lw_m1 10 rfl) rfl
theorem q1038 : (Jvm.Cond.instantiable "SharedNightsModel" (44 : Nat)) ∈ lw_all := lw_g (lw_at lw_m5 6 rfl) rfl
theorem q1040 : (Jvm.Cond.instanceMethod ({ cls := "SharedNightsModel", name := "<init>", desc := "()V" } : Jvm.MethodName)) ∈ lw_all := lw_g (lw_at lw_m5 8 rfl) rfl
theorem q1041 : (Jvm.Cond.code ({ cls := "SharedNightsModel", name := "<init>", desc := "()V" } : Jvm.MethodName) prog_16_method_1_code (2 : Nat) (Option.none : Option Jvm.ClassFile.FieldType)) ∈ lw_all := lw_g (lw_at lw_m5 9 rfl) rfl
theorem q1042 : (Jvm.Cond.methodLink "SharedNightsModel" (1 : Nat) ({ cls := "java/lang/Object", name := "<init>", desc := "()V" } : Jvm.MethodName)) ∈ lw_all := lw_g (lw_at lw_m5 10 rfl) rfl
theorem q1043 : (Jvm.Cond.fieldLink "SharedNightsModel" (7 : Nat) "SharedNightsModel" "n" "I") ∈ lw_all := lw_g (lw_at lw_m5 11 rfl) rfl
theorem q1044 : (Jvm.Cond.fieldLink "SharedNightsModel" (100 : Nat) "SharedNightsModel" "tonight" "I") ∈ lw_all := lw_g (lw_at lw_m5 12 rfl) rfl
theorem q1045 : (Jvm.Cond.fieldLink "SharedNightsModel" (91 : Nat) "SharedNightsModel" "targets" "I") ∈ lw_all := lw_g (lw_at lw_m5 13 rfl) rfl
theorem q1046 : (Jvm.Cond.fieldLink "SharedNightsModel" (13 : Nat) "SharedNightsModel" "meridian" "[I") ∈ lw_all := lw_g (lw_at lw_m5 14 rfl) rfl
theorem q1047 : (Jvm.Cond.fieldLink "SharedNightsModel" (17 : Nat) "SharedNightsModel" "reach" "[I") ∈ lw_all := lw_g (lw_at lw_m5 15 rfl) rfl
theorem q1048 : (Jvm.Cond.fieldLink "SharedNightsModel" (20 : Nat) "SharedNightsModel" "region" "[I") ∈ lw_all := lw_g (lw_at lw_m5 16 rfl) rfl
theorem q1049 : (Jvm.Cond.fieldLink "SharedNightsModel" (23 : Nat) "SharedNightsModel" "moonRegion" "I") ∈ lw_all := lw_g (lw_at lw_m5 17 rfl) rfl
theorem q1050 : (Jvm.Cond.fieldLink "SharedNightsModel" (118 : Nat) "SharedNightsModel" "moonFrom" "I") ∈ lw_all := lw_g (lw_at lw_m5 18 rfl) rfl
theorem q1051 : (Jvm.Cond.fieldLink "SharedNightsModel" (121 : Nat) "SharedNightsModel" "moonTo" "I") ∈ lw_all := lw_g (lw_at lw_m5 19 rfl) rfl
theorem q1052 : (Jvm.Cond.fieldLink "SharedNightsModel" (26 : Nat) "SharedNightsModel" "sky" "[I") ∈ lw_all := lw_g (lw_at lw_m5 20 rfl) rfl
theorem q1053 : (Jvm.Cond.fieldLink "SharedNightsModel" (97 : Nat) "SharedNightsModel" "worlds" "I") ∈ lw_all := lw_g (lw_at lw_m5 21 rfl) rfl
theorem q1054 : (Jvm.Cond.fieldLink "SharedNightsModel" (29 : Nat) "SharedNightsModel" "weight" "[I") ∈ lw_all := lw_g (lw_at lw_m5 22 rfl) rfl
theorem q1055 : (Jvm.Cond.fieldLink "SharedNightsModel" (127 : Nat) "SharedNightsModel" "bytes" "I") ∈ lw_all := lw_g (lw_at lw_m5 23 rfl) rfl
theorem q1056 : (Jvm.Cond.fieldLink "SharedNightsModel" (32 : Nat) "SharedNightsModel" "text" "[I") ∈ lw_all := lw_g (lw_at lw_m5 24 rfl) rfl
theorem q1057 : (Jvm.Cond.fieldLink "SharedNightsModel" (152 : Nat) "SharedNightsModel" "tokens" "I") ∈ lw_all := lw_g (lw_at lw_m5 25 rfl) rfl
theorem q1058 : (Jvm.Cond.fieldLink "SharedNightsModel" (35 : Nat) "SharedNightsModel" "kind" "[I") ∈ lw_all := lw_g (lw_at lw_m5 26 rfl) rfl
theorem q1059 : (Jvm.Cond.fieldLink "SharedNightsModel" (38 : Nat) "SharedNightsModel" "value" "[I") ∈ lw_all := lw_g (lw_at lw_m5 27 rfl) rfl
theorem q1060 : (Jvm.Cond.fieldLink "SharedNightsModel" (41 : Nat) "SharedNightsModel" "place" "[I") ∈ lw_all := lw_g (lw_at lw_m5 28 rfl) rfl
theorem q1061 : (Jvm.Cond.fieldLink "SharedNightsModel" (169 : Nat) "SharedNightsModel" "faultAt" "I") ∈ lw_all := lw_g (lw_at lw_m5 29 rfl) rfl
theorem q1062 : (Jvm.Cond.fieldLink "SharedNightsModel" (166 : Nat) "SharedNightsModel" "canStand" "I") ∈ lw_all := lw_g (lw_at lw_m5 30 rfl) rfl
theorem q1063 : (Jvm.Cond.fieldLink "SharedNightsModel" (44 : Nat) "SharedNightsModel" "read" "[I") ∈ lw_all := lw_g (lw_at lw_m5 31 rfl) rfl
theorem q1064 : (Jvm.Cond.fieldLink "SharedNightsModel" (94 : Nat) "SharedNightsModel" "plans" "I") ∈ lw_all := lw_g (lw_at lw_m5 32 rfl) rfl
theorem q1065 : (Jvm.Cond.fieldLink "SharedNightsModel" (47 : Nat) "SharedNightsModel" "plan" "[I") ∈ lw_all := lw_g (lw_at lw_m5 33 rfl) rfl
theorem q1066 : (Jvm.Cond.fieldLink "SharedNightsModel" (50 : Nat) "SharedNightsModel" "many" "[I") ∈ lw_all := lw_g (lw_at lw_m5 34 rfl) rfl
theorem q1067 : (Jvm.Cond.fieldLink "SharedNightsModel" (53 : Nat) "SharedNightsModel" "slotsOf" "[I") ∈ lw_all := lw_g (lw_at lw_m5 35 rfl) rfl
theorem q1068 : (Jvm.Cond.fieldLink "SharedNightsModel" (56 : Nat) "SharedNightsModel" "nextTo" "[I") ∈ lw_all := lw_g (lw_at lw_m5 36 rfl) rfl
theorem q1069 : (Jvm.Cond.fieldLink "SharedNightsModel" (59 : Nat) "SharedNightsModel" "isBarred" "[Z") ∈ lw_all := lw_g (lw_at lw_m5 37 rfl) rfl
theorem q1070 : (Jvm.Cond.fieldLink "SharedNightsModel" (228 : Nat) "SharedNightsModel" "bestWorth" "I") ∈ lw_all := lw_g (lw_at lw_m5 38 rfl) rfl
theorem q1071 : (Jvm.Cond.fieldLink "SharedNightsModel" (231 : Nat) "SharedNightsModel" "bestSlots" "I") ∈ lw_all := lw_g (lw_at lw_m5 39 rfl) rfl
theorem q1072 : (Jvm.Cond.fieldLink "SharedNightsModel" (63 : Nat) "SharedNightsModel" "choice" "[I") ∈ lw_all := lw_g (lw_at lw_m5 40 rfl) rfl
theorem q1073 : (Jvm.Cond.fieldLink "SharedNightsModel" (66 : Nat) "SharedNightsModel" "best" "[I") ∈ lw_all := lw_g (lw_at lw_m5 41 rfl) rfl
theorem q1074 : (Jvm.Cond.fieldLink "SharedNightsModel" (250 : Nat) "SharedNightsModel" "againIs" "I") ∈ lw_all := lw_g (lw_at lw_m5 42 rfl) rfl
theorem q1075 : (Jvm.Cond.fieldLink "SharedNightsModel" (69 : Nat) "SharedNightsModel" "step" "[I") ∈ lw_all := lw_g (lw_at lw_m5 43 rfl) rfl
theorem q1076 : (Jvm.Cond.fieldLink "SharedNightsModel" (72 : Nat) "SharedNightsModel" "ended" "[I") ∈ lw_all := lw_g (lw_at lw_m5 44 rfl) rfl
theorem q1077 : (Jvm.Cond.fieldLink "SharedNightsModel" (75 : Nat) "SharedNightsModel" "wasBroken" "[Z") ∈ lw_all := lw_g (lw_at lw_m5 45 rfl) rfl
theorem q1078 : (Jvm.Cond.fieldLink "SharedNightsModel" (78 : Nat) "SharedNightsModel" "logOf" "[I") ∈ lw_all := lw_g (lw_at lw_m5 46 rfl) rfl
theorem q1079 : (Jvm.Cond.fieldLink "SharedNightsModel" (256 : Nat) "SharedNightsModel" "score" "I") ∈ lw_all := lw_g (lw_at lw_m5 47 rfl) rfl
theorem q1080 : (Jvm.Cond.fieldLink "SharedNightsModel" (81 : Nat) "SharedNightsModel" "shares" "[I") ∈ lw_all := lw_g (lw_at lw_m5 48 rfl) rfl
theorem q1081 : (Jvm.Cond.fieldLink "SharedNightsModel" (84 : Nat) "SharedNightsModel" "used" "[I") ∈ lw_all := lw_g (lw_at lw_m5 49 rfl) rfl
theorem q1082 : (Jvm.Cond.fieldLink "SharedNightsModel" (295 : Nat) "SharedNightsModel" "allDone" "I") ∈ lw_all := lw_g (lw_at lw_m5 50 rfl) rfl
theorem q1083 : (Jvm.Cond.fieldLink "SharedNightsModel" (285 : Nat) "SharedNightsModel" "alertBegin" "I") ∈ lw_all := lw_g (lw_at lw_m5 51 rfl) rfl
theorem q1084 : (Jvm.Cond.fieldLink "SharedNightsModel" (288 : Nat) "SharedNightsModel" "alertLoss" "I") ∈ lw_all := lw_g (lw_at lw_m5 52 rfl) rfl
theorem q1085 : (Jvm.Cond.fieldLink "SharedNightsModel" (271 : Nat) "SharedNightsModel" "valueUp" "J") ∈ lw_all := lw_g (lw_at lw_m5 53 rfl) rfl
theorem q1086 : (Jvm.Cond.fieldLink "SharedNightsModel" (275 : Nat) "SharedNightsModel" "valueDown" "J") ∈ lw_all := lw_g (lw_at lw_m5 54 rfl) rfl
theorem q1087 : (Jvm.Cond.lays "SharedNightsModel" "SharedNightsModel" "n" "I") ∈ lw_all := lw_g (lw_at lw_m5 55 rfl) rfl
theorem q1088 : (Jvm.Cond.soleField "SharedNightsModel" "n") ∈ lw_all := lw_g (lw_at lw_m5 56 rfl) rfl
theorem q1089 : (Jvm.Cond.lays "SharedNightsModel" "SharedNightsModel" "tonight" "I") ∈ lw_all := lw_g (lw_at lw_m5 57 rfl) rfl
theorem q1090 : (Jvm.Cond.soleField "SharedNightsModel" "tonight") ∈ lw_all := lw_g (lw_at lw_m5 58 rfl) rfl
theorem q1091 : (Jvm.Cond.lays "SharedNightsModel" "SharedNightsModel" "targets" "I") ∈ lw_all := lw_g (lw_at lw_m5 59 rfl) rfl
theorem q1092 : (Jvm.Cond.soleField "SharedNightsModel" "targets") ∈ lw_all := lw_g (lw_at lw_m5 60 rfl) rfl
theorem q1093 : (Jvm.Cond.laysFinal "SharedNightsModel" "SharedNightsModel" "meridian" "[I") ∈ lw_all := lw_g (lw_at lw_m5 61 rfl) rfl
theorem q1094 : (Jvm.Cond.soleField "SharedNightsModel" "meridian") ∈ lw_all := lw_g (lw_at lw_m5 62 rfl) rfl
theorem q1095 : (Jvm.Cond.laysFinal "SharedNightsModel" "SharedNightsModel" "reach" "[I") ∈ lw_all := lw_g (lw_at lw_m5 63 rfl) rfl
theorem q1096 : (Jvm.Cond.soleField "SharedNightsModel" "reach") ∈ lw_all := lw_g (lw_at lw_m5 64 rfl) rfl
theorem q1097 : (Jvm.Cond.laysFinal "SharedNightsModel" "SharedNightsModel" "region" "[I") ∈ lw_all := lw_g (lw_at lw_m5 65 rfl) rfl
theorem q1098 : (Jvm.Cond.soleField "SharedNightsModel" "region") ∈ lw_all := lw_g (lw_at lw_m5 66 rfl) rfl
theorem q1099 : (Jvm.Cond.lays "SharedNightsModel" "SharedNightsModel" "moonRegion" "I") ∈ lw_all := lw_g (lw_at lw_m5 67 rfl) rfl
theorem q1100 : (Jvm.Cond.soleField "SharedNightsModel" "moonRegion") ∈ lw_all := lw_g (lw_at lw_m5 68 rfl) rfl
theorem q1101 : (Jvm.Cond.lays "SharedNightsModel" "SharedNightsModel" "moonFrom" "I") ∈ lw_all := lw_g (lw_at lw_m5 69 rfl) rfl
theorem q1102 : (Jvm.Cond.soleField "SharedNightsModel" "moonFrom") ∈ lw_all := lw_g (lw_at lw_m5 70 rfl) rfl
theorem q1103 : (Jvm.Cond.lays "SharedNightsModel" "SharedNightsModel" "moonTo" "I") ∈ lw_all := lw_g (lw_at lw_m5 71 rfl) rfl
theorem q1104 : (Jvm.Cond.soleField "SharedNightsModel" "moonTo") ∈ lw_all := lw_g (lw_at lw_m5 72 rfl) rfl
theorem q1105 : (Jvm.Cond.laysFinal "SharedNightsModel" "SharedNightsModel" "sky" "[I") ∈ lw_all := lw_g (lw_at lw_m5 73 rfl) rfl
theorem q1106 : (Jvm.Cond.soleField "SharedNightsModel" "sky") ∈ lw_all := lw_g (lw_at lw_m5 74 rfl) rfl
theorem q1107 : (Jvm.Cond.lays "SharedNightsModel" "SharedNightsModel" "worlds" "I") ∈ lw_all := lw_g (lw_at lw_m5 75 rfl) rfl
theorem q1108 : (Jvm.Cond.soleField "SharedNightsModel" "worlds") ∈ lw_all := lw_g (lw_at lw_m5 76 rfl) rfl
theorem q1109 : (Jvm.Cond.laysFinal "SharedNightsModel" "SharedNightsModel" "weight" "[I") ∈ lw_all := lw_g (lw_at lw_m5 77 rfl) rfl
theorem q1110 : (Jvm.Cond.soleField "SharedNightsModel" "weight") ∈ lw_all := lw_g (lw_at lw_m5 78 rfl) rfl
theorem q1111 : (Jvm.Cond.lays "SharedNightsModel" "SharedNightsModel" "bytes" "I") ∈ lw_all := lw_g (lw_at lw_m5 79 rfl) rfl
theorem q1112 : (Jvm.Cond.soleField "SharedNightsModel" "bytes") ∈ lw_all := lw_g (lw_at lw_m5 80 rfl) rfl
theorem q1113 : (Jvm.Cond.laysFinal "SharedNightsModel" "SharedNightsModel" "text" "[I") ∈ lw_all := lw_g (lw_at lw_m5 81 rfl) rfl
theorem q1114 : (Jvm.Cond.soleField "SharedNightsModel" "text") ∈ lw_all := lw_g (lw_at lw_m5 82 rfl) rfl
theorem q1115 : (Jvm.Cond.lays "SharedNightsModel" "SharedNightsModel" "tokens" "I") ∈ lw_all := lw_g (lw_at lw_m5 83 rfl) rfl
theorem q1116 : (Jvm.Cond.soleField "SharedNightsModel" "tokens") ∈ lw_all := lw_g (lw_at lw_m5 84 rfl) rfl
theorem q1117 : (Jvm.Cond.laysFinal "SharedNightsModel" "SharedNightsModel" "kind" "[I") ∈ lw_all := lw_g (lw_at lw_m5 85 rfl) rfl
theorem q1118 : (Jvm.Cond.soleField "SharedNightsModel" "kind") ∈ lw_all := lw_g (lw_at lw_m5 86 rfl) rfl
theorem q1119 : (Jvm.Cond.laysFinal "SharedNightsModel" "SharedNightsModel" "value" "[I") ∈ lw_all := lw_g (lw_at lw_m5 87 rfl) rfl
theorem q1120 : (Jvm.Cond.soleField "SharedNightsModel" "value") ∈ lw_all := lw_g (lw_at lw_m5 88 rfl) rfl
theorem q1121 : (Jvm.Cond.laysFinal "SharedNightsModel" "SharedNightsModel" "place" "[I") ∈ lw_all := lw_g (lw_at lw_m5 89 rfl) rfl
theorem q1122 : (Jvm.Cond.soleField "SharedNightsModel" "place") ∈ lw_all := lw_g (lw_at lw_m5 90 rfl) rfl
theorem q1123 : (Jvm.Cond.lays "SharedNightsModel" "SharedNightsModel" "faultAt" "I") ∈ lw_all := lw_g (lw_at lw_m5 91 rfl) rfl
theorem q1124 : (Jvm.Cond.soleField "SharedNightsModel" "faultAt") ∈ lw_all := lw_g (lw_at lw_m5 92 rfl) rfl
theorem q1125 : (Jvm.Cond.lays "SharedNightsModel" "SharedNightsModel" "canStand" "I") ∈ lw_all := lw_g (lw_at lw_m5 93 rfl) rfl
theorem q1126 : (Jvm.Cond.soleField "SharedNightsModel" "canStand") ∈ lw_all := lw_g (lw_at lw_m5 94 rfl) rfl
theorem q1127 : (Jvm.Cond.laysFinal "SharedNightsModel" "SharedNightsModel" "read" "[I") ∈ lw_all := lw_g (lw_at lw_m5 95 rfl) rfl
theorem q1128 : (Jvm.Cond.soleField "SharedNightsModel" "read") ∈ lw_all := lw_g (lw_at lw_m5 96 rfl) rfl
theorem q1129 : (Jvm.Cond.lays "SharedNightsModel" "SharedNightsModel" "plans" "I") ∈ lw_all := lw_g (lw_at lw_m5 97 rfl) rfl
theorem q1130 : (Jvm.Cond.soleField "SharedNightsModel" "plans") ∈ lw_all := lw_g (lw_at lw_m5 98 rfl) rfl
theorem q1131 : (Jvm.Cond.laysFinal "SharedNightsModel" "SharedNightsModel" "plan" "[I") ∈ lw_all := lw_g (lw_at lw_m5 99 rfl) rfl
theorem q1132 : (Jvm.Cond.soleField "SharedNightsModel" "plan") ∈ lw_all := lw_g (lw_at lw_m5 100 rfl) rfl
theorem q1133 : (Jvm.Cond.laysFinal "SharedNightsModel" "SharedNightsModel" "many" "[I") ∈ lw_all := lw_g (lw_at lw_m5 101 rfl) rfl
theorem q1134 : (Jvm.Cond.soleField "SharedNightsModel" "many") ∈ lw_all := lw_g (lw_at lw_m5 102 rfl) rfl
theorem q1135 : (Jvm.Cond.laysFinal "SharedNightsModel" "SharedNightsModel" "slotsOf" "[I") ∈ lw_all := lw_g (lw_at lw_m5 103 rfl) rfl
theorem q1136 : (Jvm.Cond.soleField "SharedNightsModel" "slotsOf") ∈ lw_all := lw_g (lw_at lw_m5 104 rfl) rfl
theorem q1137 : (Jvm.Cond.laysFinal "SharedNightsModel" "SharedNightsModel" "nextTo" "[I") ∈ lw_all := lw_g (lw_at lw_m5 105 rfl) rfl
theorem q1138 : (Jvm.Cond.soleField "SharedNightsModel" "nextTo") ∈ lw_all := lw_g (lw_at lw_m5 106 rfl) rfl
theorem q1139 : (Jvm.Cond.laysFinal "SharedNightsModel" "SharedNightsModel" "isBarred" "[Z") ∈ lw_all := lw_g (lw_at lw_m5 107 rfl) rfl
theorem q1140 : (Jvm.Cond.soleField "SharedNightsModel" "isBarred") ∈ lw_all := lw_g (lw_at lw_m5 108 rfl) rfl
theorem q1141 : (Jvm.Cond.lays "SharedNightsModel" "SharedNightsModel" "bestWorth" "I") ∈ lw_all := lw_g (lw_at lw_m5 109 rfl) rfl
theorem q1142 : (Jvm.Cond.soleField "SharedNightsModel" "bestWorth") ∈ lw_all := lw_g (lw_at lw_m5 110 rfl) rfl
theorem q1143 : (Jvm.Cond.lays "SharedNightsModel" "SharedNightsModel" "bestSlots" "I") ∈ lw_all := lw_g (lw_at lw_m5 111 rfl) rfl
theorem q1144 : (Jvm.Cond.soleField "SharedNightsModel" "bestSlots") ∈ lw_all := lw_g (lw_at lw_m5 112 rfl) rfl
theorem q1145 : (Jvm.Cond.laysFinal "SharedNightsModel" "SharedNightsModel" "choice" "[I") ∈ lw_all := lw_g (lw_at lw_m5 113 rfl) rfl
theorem q1146 : (Jvm.Cond.soleField "SharedNightsModel" "choice") ∈ lw_all := lw_g (lw_at lw_m5 114 rfl) rfl
theorem q1147 : (Jvm.Cond.laysFinal "SharedNightsModel" "SharedNightsModel" "best" "[I") ∈ lw_all := lw_g (lw_at lw_m5 115 rfl) rfl
theorem q1148 : (Jvm.Cond.soleField "SharedNightsModel" "best") ∈ lw_all := lw_g (lw_at lw_m5 116 rfl) rfl
theorem q1149 : (Jvm.Cond.lays "SharedNightsModel" "SharedNightsModel" "againIs" "I") ∈ lw_all := lw_g (lw_at lw_m5 117 rfl) rfl
theorem q1150 : (Jvm.Cond.soleField "SharedNightsModel" "againIs") ∈ lw_all := lw_g (lw_at lw_m5 118 rfl) rfl
theorem q1151 : (Jvm.Cond.laysFinal "SharedNightsModel" "SharedNightsModel" "step" "[I") ∈ lw_all := lw_g (lw_at lw_m5 119 rfl) rfl
theorem q1152 : (Jvm.Cond.soleField "SharedNightsModel" "step") ∈ lw_all := lw_g (lw_at lw_m5 120 rfl) rfl
theorem q1153 : (Jvm.Cond.laysFinal "SharedNightsModel" "SharedNightsModel" "ended" "[I") ∈ lw_all := lw_g (lw_at lw_m5 121 rfl) rfl
theorem q1154 : (Jvm.Cond.soleField "SharedNightsModel" "ended") ∈ lw_all := lw_g (lw_at lw_m5 122 rfl) rfl
theorem q1155 : (Jvm.Cond.laysFinal "SharedNightsModel" "SharedNightsModel" "wasBroken" "[Z") ∈ lw_all := lw_g (lw_at lw_m5 123 rfl) rfl
theorem q1156 : (Jvm.Cond.soleField "SharedNightsModel" "wasBroken") ∈ lw_all := lw_g (lw_at lw_m5 124 rfl) rfl
theorem q1157 : (Jvm.Cond.laysFinal "SharedNightsModel" "SharedNightsModel" "logOf" "[I") ∈ lw_all := lw_g (lw_at lw_m5 125 rfl) rfl
theorem q1158 : (Jvm.Cond.soleField "SharedNightsModel" "logOf") ∈ lw_all := lw_g (lw_at lw_m5 126 rfl) rfl
theorem q1159 : (Jvm.Cond.lays "SharedNightsModel" "SharedNightsModel" "score" "I") ∈ lw_all := lw_g (lw_at lw_m5 127 rfl) rfl
theorem q1160 : (Jvm.Cond.soleField "SharedNightsModel" "score") ∈ lw_all := lw_g (lw_at lw_m5 128 rfl) rfl
theorem q1161 : (Jvm.Cond.laysFinal "SharedNightsModel" "SharedNightsModel" "shares" "[I") ∈ lw_all := lw_g (lw_at lw_m5 129 rfl) rfl
theorem q1162 : (Jvm.Cond.soleField "SharedNightsModel" "shares") ∈ lw_all := lw_g (lw_at lw_m5 130 rfl) rfl
theorem q1163 : (Jvm.Cond.laysFinal "SharedNightsModel" "SharedNightsModel" "used" "[I") ∈ lw_all := lw_g (lw_at lw_m5 131 rfl) rfl
theorem q1164 : (Jvm.Cond.soleField "SharedNightsModel" "used") ∈ lw_all := lw_g (lw_at lw_m5 132 rfl) rfl
theorem q1165 : (Jvm.Cond.lays "SharedNightsModel" "SharedNightsModel" "allDone" "I") ∈ lw_all := lw_g (lw_at lw_m5 133 rfl) rfl
theorem q1166 : (Jvm.Cond.soleField "SharedNightsModel" "allDone") ∈ lw_all := lw_g (lw_at lw_m5 134 rfl) rfl
theorem q1167 : (Jvm.Cond.lays "SharedNightsModel" "SharedNightsModel" "alertBegin" "I") ∈ lw_all := lw_g (lw_at lw_m5 135 rfl) rfl
theorem q1168 : (Jvm.Cond.soleField "SharedNightsModel" "alertBegin") ∈ lw_all := lw_g (lw_at lw_m5 136 rfl) rfl
theorem q1169 : (Jvm.Cond.lays "SharedNightsModel" "SharedNightsModel" "alertLoss" "I") ∈ lw_all := lw_g (lw_at lw_m5 137 rfl) rfl
theorem q1170 : (Jvm.Cond.soleField "SharedNightsModel" "alertLoss") ∈ lw_all := lw_g (lw_at lw_m5 138 rfl) rfl
theorem q1171 : (Jvm.Cond.lays "SharedNightsModel" "SharedNightsModel" "valueUp" "J") ∈ lw_all := lw_g (lw_at lw_m5 139 rfl) rfl
theorem q1172 : (Jvm.Cond.soleField "SharedNightsModel" "valueUp") ∈ lw_all := lw_g (lw_at lw_m5 140 rfl) rfl
theorem q1173 : (Jvm.Cond.lays "SharedNightsModel" "SharedNightsModel" "valueDown" "J") ∈ lw_all := lw_g (lw_at lw_m5 141 rfl) rfl
theorem q1174 : (Jvm.Cond.soleField "SharedNightsModel" "valueDown") ∈ lw_all := lw_g (lw_at lw_m5 142 rfl) rfl
theorem q1175 : (Jvm.Cond.superclass "SharedNightsModel" "java/lang/Object") ∈ lw_all := lw_g (lw_at lw_m5 143 rfl) rfl
theorem q1177 : (Jvm.Cond.instanceMethod ({ cls := "SharedNightsModel", name := "slots", desc := "(I)I" } : Jvm.MethodName)) ∈ lw_all := lw_g (lw_at lw_m5 145 rfl) rfl
theorem q1178 : (Jvm.Cond.selects "SharedNightsModel" ({ cls := "SharedNightsModel", name := "slots", desc := "(I)I" } : Jvm.MethodName) ({ cls := "SharedNightsModel", name := "slots", desc := "(I)I" } : Jvm.MethodName)) ∈ lw_all := lw_g (lw_at lw_m5 146 rfl) rfl
theorem q1179 : (Jvm.Cond.code ({ cls := "SharedNightsModel", name := "slots", desc := "(I)I" } : Jvm.MethodName) prog_16_method_7_code (4 : Nat) (Option.some Jvm.ClassFile.FieldType.int)) ∈ lw_all := lw_g (lw_at lw_m5 147 rfl) rfl
theorem q1180 : (Jvm.Cond.methodLink "SharedNightsModel" (87 : Nat) ({ cls := "SharedNightsModel", name := "in", desc := "(III)Z" } : Jvm.MethodName)) ∈ lw_all := lw_g (lw_at lw_m5 148 rfl) rfl
theorem q1181 : (Jvm.Cond.static ({ cls := "SharedNightsModel", name := "in", desc := "(III)Z" } : Jvm.MethodName)) ∈ lw_all := lw_g (lw_at lw_m5 149 rfl) rfl
theorem q1182 : (Jvm.Cond.code ({ cls := "SharedNightsModel", name := "in", desc := "(III)Z" } : Jvm.MethodName) prog_16_method_2_code (3 : Nat) (Option.some Jvm.ClassFile.FieldType.boolean)) ∈ lw_all := lw_g (lw_at lw_m5 150 rfl) rfl
theorem q1184 : (Jvm.Cond.instanceMethod ({ cls := "SharedNightsModel", name := "target", desc := "(III)I" } : Jvm.MethodName)) ∈ lw_all := lw_g (lw_at lw_m5 152 rfl) rfl
theorem q1185 : (Jvm.Cond.selects "SharedNightsModel" ({ cls := "SharedNightsModel", name := "target", desc := "(III)I" } : Jvm.MethodName) ({ cls := "SharedNightsModel", name := "target", desc := "(III)I" } : Jvm.MethodName)) ∈ lw_all := lw_g (lw_at lw_m5 153 rfl) rfl
theorem q1186 : (Jvm.Cond.code ({ cls := "SharedNightsModel", name := "target", desc := "(III)I" } : Jvm.MethodName) prog_16_method_8_code (4 : Nat) (Option.some Jvm.ClassFile.FieldType.int)) ∈ lw_all := lw_g (lw_at lw_m5 154 rfl) rfl
theorem q1188 : (Jvm.Cond.instanceMethod ({ cls := "SharedNightsModel", name := "air", desc := "(II)I" } : Jvm.MethodName)) ∈ lw_all := lw_g (lw_at lw_m5 156 rfl) rfl
theorem q1189 : (Jvm.Cond.selects "SharedNightsModel" ({ cls := "SharedNightsModel", name := "air", desc := "(II)I" } : Jvm.MethodName) ({ cls := "SharedNightsModel", name := "air", desc := "(II)I" } : Jvm.MethodName)) ∈ lw_all := lw_g (lw_at lw_m5 157 rfl) rfl
theorem q1190 : (Jvm.Cond.code ({ cls := "SharedNightsModel", name := "air", desc := "(II)I" } : Jvm.MethodName) prog_16_method_11_code (3 : Nat) (Option.some Jvm.ClassFile.FieldType.int)) ∈ lw_all := lw_g (lw_at lw_m5 158 rfl) rfl
theorem q1191 : (Jvm.Cond.methodLink "SharedNightsModel" (107 : Nat) ({ cls := "SharedNightsModel", name := "isTarget", desc := "(I)Z" } : Jvm.MethodName)) ∈ lw_all := lw_g (lw_at lw_m5 159 rfl) rfl
theorem q1192 : (Jvm.Cond.privateMethod ({ cls := "SharedNightsModel", name := "isTarget", desc := "(I)Z" } : Jvm.MethodName)) ∈ lw_tbl := lw_at lw_m5 160 rfl
theorem q1193 : (Jvm.Cond.instanceMethod ({ cls := "SharedNightsModel", name := "isTarget", desc := "(I)Z" } : Jvm.MethodName)) ∈ lw_all := lw_g (lw_at lw_m5 161 rfl) rfl
theorem q1194 : (Jvm.Cond.code ({ cls := "SharedNightsModel", name := "isTarget", desc := "(I)Z" } : Jvm.MethodName) prog_16_method_4_code (2 : Nat) (Option.some Jvm.ClassFile.FieldType.boolean)) ∈ lw_all := lw_g (lw_at lw_m5 162 rfl) rfl
theorem q1195 : (Jvm.Cond.methodLink "SharedNightsModel" (111 : Nat) ({ cls := "SharedNightsModel", name := "isSlot", desc := "(I)Z" } : Jvm.MethodName)) ∈ lw_all := lw_g (lw_at lw_m5 163 rfl) rfl
theorem q1196 : (Jvm.Cond.privateMethod ({ cls := "SharedNightsModel", name := "isSlot", desc := "(I)Z" } : Jvm.MethodName)) ∈ lw_tbl := lw_at lw_m5 164 rfl
theorem q1197 : (Jvm.Cond.instanceMethod ({ cls := "SharedNightsModel", name := "isSlot", desc := "(I)Z" } : Jvm.MethodName)) ∈ lw_all := lw_g (lw_at lw_m5 165 rfl) rfl
theorem q1198 : (Jvm.Cond.code ({ cls := "SharedNightsModel", name := "isSlot", desc := "(I)Z" } : Jvm.MethodName) prog_16_method_3_code (2 : Nat) (Option.some Jvm.ClassFile.FieldType.boolean)) ∈ lw_all := lw_g (lw_at lw_m5 166 rfl) rfl
theorem q1199 : (Jvm.Cond.methodLink "SharedNightsModel" (114 : Nat) ({ cls := "SharedNightsModel", name := "isVisible", desc := "(II)Z" } : Jvm.MethodName)) ∈ lw_all := lw_g (lw_at lw_m5 167 rfl) rfl
theorem q1200 : (Jvm.Cond.privateMethod ({ cls := "SharedNightsModel", name := "isVisible", desc := "(II)Z" } : Jvm.MethodName)) ∈ lw_tbl := lw_at lw_m5 168 rfl
theorem q1201 : (Jvm.Cond.instanceMethod ({ cls := "SharedNightsModel", name := "isVisible", desc := "(II)Z" } : Jvm.MethodName)) ∈ lw_all := lw_g (lw_at lw_m5 169 rfl) rfl
theorem q1202 : (Jvm.Cond.code ({ cls := "SharedNightsModel", name := "isVisible", desc := "(II)Z" } : Jvm.MethodName) prog_16_method_10_code (3 : Nat) (Option.some Jvm.ClassFile.FieldType.boolean)) ∈ lw_all := lw_g (lw_at lw_m5 170 rfl) rfl
theorem q1203 : (Jvm.Cond.methodLink "SharedNightsModel" (103 : Nat) ({ cls := "SharedNightsModel", name := "airOf", desc := "(II)I" } : Jvm.MethodName)) ∈ lw_all := lw_g (lw_at lw_m5 171 rfl) rfl
theorem q1204 : (Jvm.Cond.privateMethod ({ cls := "SharedNightsModel", name := "airOf", desc := "(II)I" } : Jvm.MethodName)) ∈ lw_tbl := lw_at lw_m5 172 rfl
theorem q1205 : (Jvm.Cond.instanceMethod ({ cls := "SharedNightsModel", name := "airOf", desc := "(II)I" } : Jvm.MethodName)) ∈ lw_all := lw_g (lw_at lw_m5 173 rfl) rfl
theorem q1206 : (Jvm.Cond.code ({ cls := "SharedNightsModel", name := "airOf", desc := "(II)I" } : Jvm.MethodName) prog_16_method_9_code (4 : Nat) (Option.some Jvm.ClassFile.FieldType.int)) ∈ lw_all := lw_g (lw_at lw_m5 174 rfl) rfl
theorem q1208 : (Jvm.Cond.instanceMethod ({ cls := "SharedNightsModel", name := "moon", desc := "(III)I" } : Jvm.MethodName)) ∈ lw_all := lw_g (lw_at lw_m5 176 rfl) rfl
theorem q1209 : (Jvm.Cond.selects "SharedNightsModel" ({ cls := "SharedNightsModel", name := "moon", desc := "(III)I" } : Jvm.MethodName) ({ cls := "SharedNightsModel", name := "moon", desc := "(III)I" } : Jvm.MethodName)) ∈ lw_all := lw_g (lw_at lw_m5 177 rfl) rfl
theorem q1210 : (Jvm.Cond.code ({ cls := "SharedNightsModel", name := "moon", desc := "(III)I" } : Jvm.MethodName) prog_16_method_12_code (4 : Nat) (Option.some Jvm.ClassFile.FieldType.int)) ∈ lw_all := lw_g (lw_at lw_m5 178 rfl) rfl
theorem q1212 : (Jvm.Cond.instanceMethod ({ cls := "SharedNightsModel", name := "seeing", desc := "(III)I" } : Jvm.MethodName)) ∈ lw_all := lw_g (lw_at lw_m5 180 rfl) rfl
theorem q1213 : (Jvm.Cond.selects "SharedNightsModel" ({ cls := "SharedNightsModel", name := "seeing", desc := "(III)I" } : Jvm.MethodName) ({ cls := "SharedNightsModel", name := "seeing", desc := "(III)I" } : Jvm.MethodName)) ∈ lw_all := lw_g (lw_at lw_m5 181 rfl) rfl
theorem q1214 : (Jvm.Cond.code ({ cls := "SharedNightsModel", name := "seeing", desc := "(III)I" } : Jvm.MethodName) prog_16_method_13_code (5 : Nat) (Option.some Jvm.ClassFile.FieldType.int)) ∈ lw_all := lw_g (lw_at lw_m5 182 rfl) rfl
theorem q1215 : (Jvm.Cond.methodLink "SharedNightsModel" (124 : Nat) ({ cls := "SharedNightsModel", name := "isSky", desc := "(I)Z" } : Jvm.MethodName)) ∈ lw_all := lw_g (lw_at lw_m5 183 rfl) rfl
theorem q1216 : (Jvm.Cond.privateMethod ({ cls := "SharedNightsModel", name := "isSky", desc := "(I)Z" } : Jvm.MethodName)) ∈ lw_tbl := lw_at lw_m5 184 rfl
theorem q1217 : (Jvm.Cond.instanceMethod ({ cls := "SharedNightsModel", name := "isSky", desc := "(I)Z" } : Jvm.MethodName)) ∈ lw_all := lw_g (lw_at lw_m5 185 rfl) rfl
theorem q1218 : (Jvm.Cond.code ({ cls := "SharedNightsModel", name := "isSky", desc := "(I)Z" } : Jvm.MethodName) prog_16_method_6_code (2 : Nat) (Option.some Jvm.ClassFile.FieldType.boolean)) ∈ lw_all := lw_g (lw_at lw_m5 186 rfl) rfl
theorem q1220 : (Jvm.Cond.instanceMethod ({ cls := "SharedNightsModel", name := "world", desc := "(I)I" } : Jvm.MethodName)) ∈ lw_all := lw_g (lw_at lw_m5 188 rfl) rfl
theorem q1221 : (Jvm.Cond.selects "SharedNightsModel" ({ cls := "SharedNightsModel", name := "world", desc := "(I)I" } : Jvm.MethodName) ({ cls := "SharedNightsModel", name := "world", desc := "(I)I" } : Jvm.MethodName)) ∈ lw_all := lw_g (lw_at lw_m5 189 rfl) rfl
theorem q1222 : (Jvm.Cond.code ({ cls := "SharedNightsModel", name := "world", desc := "(I)I" } : Jvm.MethodName) prog_16_method_14_code (3 : Nat) (Option.some Jvm.ClassFile.FieldType.int)) ∈ lw_all := lw_g (lw_at lw_m5 190 rfl) rfl
theorem q1224 : (Jvm.Cond.instanceMethod ({ cls := "SharedNightsModel", name := "unworld", desc := "()I" } : Jvm.MethodName)) ∈ lw_all := lw_g (lw_at lw_m5 192 rfl) rfl
theorem q1225 : (Jvm.Cond.selects "SharedNightsModel" ({ cls := "SharedNightsModel", name := "unworld", desc := "()I" } : Jvm.MethodName) ({ cls := "SharedNightsModel", name := "unworld", desc := "()I" } : Jvm.MethodName)) ∈ lw_all := lw_g (lw_at lw_m5 193 rfl) rfl
theorem q1226 : (Jvm.Cond.code ({ cls := "SharedNightsModel", name := "unworld", desc := "()I" } : Jvm.MethodName) prog_16_method_15_code (2 : Nat) (Option.some Jvm.ClassFile.FieldType.int)) ∈ lw_all := lw_g (lw_at lw_m5 194 rfl) rfl
theorem q1228 : (Jvm.Cond.instanceMethod ({ cls := "SharedNightsModel", name := "write", desc := "(JI)I" } : Jvm.MethodName)) ∈ lw_all := lw_g (lw_at lw_m5 196 rfl) rfl
theorem q1229 : (Jvm.Cond.selects "SharedNightsModel" ({ cls := "SharedNightsModel", name := "write", desc := "(JI)I" } : Jvm.MethodName) ({ cls := "SharedNightsModel", name := "write", desc := "(JI)I" } : Jvm.MethodName)) ∈ lw_all := lw_g (lw_at lw_m5 197 rfl) rfl
theorem q1230 : (Jvm.Cond.code ({ cls := "SharedNightsModel", name := "write", desc := "(JI)I" } : Jvm.MethodName) prog_16_method_16_code (5 : Nat) (Option.some Jvm.ClassFile.FieldType.int)) ∈ lw_all := lw_g (lw_at lw_m5 198 rfl) rfl
theorem q1231 : (Jvm.Cond.constantLong "SharedNightsModel" (130 : Nat) (255 : Int64)) ∈ lw_all := lw_g (lw_at lw_m5 199 rfl) rfl
theorem q1233 : (Jvm.Cond.instanceMethod ({ cls := "SharedNightsModel", name := "erase", desc := "()I" } : Jvm.MethodName)) ∈ lw_all := lw_g (lw_at lw_m5 201 rfl) rfl
theorem q1234 : (Jvm.Cond.selects "SharedNightsModel" ({ cls := "SharedNightsModel", name := "erase", desc := "()I" } : Jvm.MethodName) ({ cls := "SharedNightsModel", name := "erase", desc := "()I" } : Jvm.MethodName)) ∈ lw_all := lw_g (lw_at lw_m5 202 rfl) rfl
theorem q1235 : (Jvm.Cond.code ({ cls := "SharedNightsModel", name := "erase", desc := "()I" } : Jvm.MethodName) prog_16_method_17_code (2 : Nat) (Option.some Jvm.ClassFile.FieldType.int)) ∈ lw_all := lw_g (lw_at lw_m5 203 rfl) rfl
theorem q1237 : (Jvm.Cond.instanceMethod ({ cls := "SharedNightsModel", name := "fault", desc := "()I" } : Jvm.MethodName)) ∈ lw_all := lw_g (lw_at lw_m5 205 rfl) rfl
theorem q1238 : (Jvm.Cond.selects "SharedNightsModel" ({ cls := "SharedNightsModel", name := "fault", desc := "()I" } : Jvm.MethodName) ({ cls := "SharedNightsModel", name := "fault", desc := "()I" } : Jvm.MethodName)) ∈ lw_all := lw_g (lw_at lw_m5 206 rfl) rfl
theorem q1239 : (Jvm.Cond.code ({ cls := "SharedNightsModel", name := "fault", desc := "()I" } : Jvm.MethodName) prog_16_method_24_code (1 : Nat) (Option.some Jvm.ClassFile.FieldType.int)) ∈ lw_all := lw_g (lw_at lw_m5 207 rfl) rfl
theorem q1240 : (Jvm.Cond.methodLink "SharedNightsModel" (183 : Nat) ({ cls := "SharedNightsModel", name := "isRead", desc := "()Z" } : Jvm.MethodName)) ∈ lw_all := lw_g (lw_at lw_m5 208 rfl) rfl
theorem q1241 : (Jvm.Cond.privateMethod ({ cls := "SharedNightsModel", name := "isRead", desc := "()Z" } : Jvm.MethodName)) ∈ lw_tbl := lw_at lw_m5 209 rfl
theorem q1242 : (Jvm.Cond.instanceMethod ({ cls := "SharedNightsModel", name := "isRead", desc := "()Z" } : Jvm.MethodName)) ∈ lw_all := lw_g (lw_at lw_m5 210 rfl) rfl
theorem q1243 : (Jvm.Cond.code ({ cls := "SharedNightsModel", name := "isRead", desc := "()Z" } : Jvm.MethodName) prog_16_method_23_code (5 : Nat) (Option.some Jvm.ClassFile.FieldType.boolean)) ∈ lw_all := lw_g (lw_at lw_m5 211 rfl) rfl
theorem q1244 : (Jvm.Cond.methodLink "SharedNightsModel" (163 : Nat) ({ cls := "SharedNightsModel", name := "findTokens", desc := "()V" } : Jvm.MethodName)) ∈ lw_all := lw_g (lw_at lw_m5 212 rfl) rfl
theorem q1245 : (Jvm.Cond.privateMethod ({ cls := "SharedNightsModel", name := "findTokens", desc := "()V" } : Jvm.MethodName)) ∈ lw_tbl := lw_at lw_m5 213 rfl
theorem q1246 : (Jvm.Cond.instanceMethod ({ cls := "SharedNightsModel", name := "findTokens", desc := "()V" } : Jvm.MethodName)) ∈ lw_all := lw_g (lw_at lw_m5 214 rfl) rfl
theorem q1247 : (Jvm.Cond.code ({ cls := "SharedNightsModel", name := "findTokens", desc := "()V" } : Jvm.MethodName) prog_16_method_19_code (7 : Nat) (Option.none : Option Jvm.ClassFile.FieldType)) ∈ lw_all := lw_g (lw_at lw_m5 215 rfl) rfl
theorem q1248 : (Jvm.Cond.constantLong "SharedNightsModel" (155 : Nat) (27 : Int64)) ∈ lw_all := lw_g (lw_at lw_m5 216 rfl) rfl
theorem q1249 : (Jvm.Cond.constantLong "SharedNightsModel" (157 : Nat) (96 : Int64)) ∈ lw_all := lw_g (lw_at lw_m5 217 rfl) rfl
theorem q1250 : (Jvm.Cond.methodLink "SharedNightsModel" (159 : Nat) ({ cls := "SharedNightsModel", name := "wordOf", desc := "(J)I" } : Jvm.MethodName)) ∈ lw_all := lw_g (lw_at lw_m5 218 rfl) rfl
theorem q1251 : (Jvm.Cond.static ({ cls := "SharedNightsModel", name := "wordOf", desc := "(J)I" } : Jvm.MethodName)) ∈ lw_all := lw_g (lw_at lw_m5 219 rfl) rfl
theorem q1252 : (Jvm.Cond.code ({ cls := "SharedNightsModel", name := "wordOf", desc := "(J)I" } : Jvm.MethodName) prog_16_method_18_code (2 : Nat) (Option.some Jvm.ClassFile.FieldType.int)) ∈ lw_all := lw_g (lw_at lw_m5 220 rfl) rfl
theorem q1253 : (Jvm.Cond.constantLong "SharedNightsModel" (132 : Nat) (237307 : Int64)) ∈ lw_all := lw_g (lw_at lw_m5 221 rfl) rfl
theorem q1254 : (Jvm.Cond.constantLong "SharedNightsModel" (134 : Nat) (459818 : Int64)) ∈ lw_all := lw_g (lw_at lw_m5 222 rfl) rfl
theorem q1255 : (Jvm.Cond.constantLong "SharedNightsModel" (136 : Nat) (47 : Int64)) ∈ lw_all := lw_g (lw_at lw_m5 223 rfl) rfl
theorem q1256 : (Jvm.Cond.constantLong "SharedNightsModel" (138 : Nat) (12532058 : Int64)) ∈ lw_all := lw_g (lw_at lw_m5 224 rfl) rfl
theorem q1257 : (Jvm.Cond.constantLong "SharedNightsModel" (140 : Nat) (84825500 : Int64)) ∈ lw_all := lw_g (lw_at lw_m5 225 rfl) rfl
theorem q1258 : (Jvm.Cond.constantLong "SharedNightsModel" (142 : Nat) (275391799 : Int64)) ∈ lw_all := lw_g (lw_at lw_m5 226 rfl) rfl
theorem q1259 : (Jvm.Cond.constantLong "SharedNightsModel" (144 : Nat) (990 : Int64)) ∈ lw_all := lw_g (lw_at lw_m5 227 rfl) rfl
theorem q1260 : (Jvm.Cond.constantLong "SharedNightsModel" (146 : Nat) (453701 : Int64)) ∈ lw_all := lw_g (lw_at lw_m5 228 rfl) rfl
theorem q1261 : (Jvm.Cond.constantLong "SharedNightsModel" (148 : Nat) (555 : Int64)) ∈ lw_all := lw_g (lw_at lw_m5 229 rfl) rfl
theorem q1262 : (Jvm.Cond.constantLong "SharedNightsModel" (150 : Nat) (79958 : Int64)) ∈ lw_all := lw_g (lw_at lw_m5 230 rfl) rfl
theorem q1263 : (Jvm.Cond.methodLink "SharedNightsModel" (172 : Nat) ({ cls := "SharedNightsModel", name := "wantedAt", desc := "(I)I" } : Jvm.MethodName)) ∈ lw_all := lw_g (lw_at lw_m5 231 rfl) rfl
theorem q1264 : (Jvm.Cond.static ({ cls := "SharedNightsModel", name := "wantedAt", desc := "(I)I" } : Jvm.MethodName)) ∈ lw_all := lw_g (lw_at lw_m5 232 rfl) rfl
theorem q1265 : (Jvm.Cond.code ({ cls := "SharedNightsModel", name := "wantedAt", desc := "(I)I" } : Jvm.MethodName) prog_16_method_20_code (1 : Nat) (Option.some Jvm.ClassFile.FieldType.int)) ∈ lw_all := lw_g (lw_at lw_m5 233 rfl) rfl
theorem q1266 : (Jvm.Cond.methodLink "SharedNightsModel" (176 : Nat) ({ cls := "SharedNightsModel", name := "isNumber", desc := "(III)Z" } : Jvm.MethodName)) ∈ lw_all := lw_g (lw_at lw_m5 234 rfl) rfl
theorem q1267 : (Jvm.Cond.privateMethod ({ cls := "SharedNightsModel", name := "isNumber", desc := "(III)Z" } : Jvm.MethodName)) ∈ lw_tbl := lw_at lw_m5 235 rfl
theorem q1268 : (Jvm.Cond.instanceMethod ({ cls := "SharedNightsModel", name := "isNumber", desc := "(III)Z" } : Jvm.MethodName)) ∈ lw_all := lw_g (lw_at lw_m5 236 rfl) rfl
theorem q1269 : (Jvm.Cond.code ({ cls := "SharedNightsModel", name := "isNumber", desc := "(III)Z" } : Jvm.MethodName) prog_16_method_21_code (4 : Nat) (Option.some Jvm.ClassFile.FieldType.boolean)) ∈ lw_all := lw_g (lw_at lw_m5 237 rfl) rfl
theorem q1270 : (Jvm.Cond.methodLink "SharedNightsModel" (179 : Nat) ({ cls := "SharedNightsModel", name := "keep", desc := "(III)V" } : Jvm.MethodName)) ∈ lw_all := lw_g (lw_at lw_m5 238 rfl) rfl
theorem q1271 : (Jvm.Cond.privateMethod ({ cls := "SharedNightsModel", name := "keep", desc := "(III)V" } : Jvm.MethodName)) ∈ lw_tbl := lw_at lw_m5 239 rfl
theorem q1272 : (Jvm.Cond.instanceMethod ({ cls := "SharedNightsModel", name := "keep", desc := "(III)V" } : Jvm.MethodName)) ∈ lw_all := lw_g (lw_at lw_m6 0 rfl) rfl
theorem q1273 : (Jvm.Cond.code ({ cls := "SharedNightsModel", name := "keep", desc := "(III)V" } : Jvm.MethodName) prog_16_method_22_code (4 : Nat) (Option.none : Option Jvm.ClassFile.FieldType)) ∈ lw_all := lw_g (lw_at lw_m6 1 rfl) rfl
theorem q1275 : (Jvm.Cond.instanceMethod ({ cls := "SharedNightsModel", name := "stands", desc := "()I" } : Jvm.MethodName)) ∈ lw_all := lw_g (lw_at lw_m6 3 rfl) rfl
theorem q1276 : (Jvm.Cond.selects "SharedNightsModel" ({ cls := "SharedNightsModel", name := "stands", desc := "()I" } : Jvm.MethodName) ({ cls := "SharedNightsModel", name := "stands", desc := "()I" } : Jvm.MethodName)) ∈ lw_all := lw_g (lw_at lw_m6 4 rfl) rfl
theorem q1277 : (Jvm.Cond.code ({ cls := "SharedNightsModel", name := "stands", desc := "()I" } : Jvm.MethodName) prog_16_method_25_code (1 : Nat) (Option.some Jvm.ClassFile.FieldType.int)) ∈ lw_all := lw_g (lw_at lw_m6 5 rfl) rfl
theorem q1279 : (Jvm.Cond.instanceMethod ({ cls := "SharedNightsModel", name := "plan", desc := "()I" } : Jvm.MethodName)) ∈ lw_all := lw_g (lw_at lw_m6 7 rfl) rfl
theorem q1280 : (Jvm.Cond.selects "SharedNightsModel" ({ cls := "SharedNightsModel", name := "plan", desc := "()I" } : Jvm.MethodName) ({ cls := "SharedNightsModel", name := "plan", desc := "()I" } : Jvm.MethodName)) ∈ lw_all := lw_g (lw_at lw_m6 8 rfl) rfl
theorem q1281 : (Jvm.Cond.code ({ cls := "SharedNightsModel", name := "plan", desc := "()I" } : Jvm.MethodName) prog_16_method_26_code (2 : Nat) (Option.some Jvm.ClassFile.FieldType.int)) ∈ lw_all := lw_g (lw_at lw_m6 9 rfl) rfl
theorem q1283 : (Jvm.Cond.instanceMethod ({ cls := "SharedNightsModel", name := "drop", desc := "(I)I" } : Jvm.MethodName)) ∈ lw_all := lw_g (lw_at lw_m6 11 rfl) rfl
theorem q1284 : (Jvm.Cond.selects "SharedNightsModel" ({ cls := "SharedNightsModel", name := "drop", desc := "(I)I" } : Jvm.MethodName) ({ cls := "SharedNightsModel", name := "drop", desc := "(I)I" } : Jvm.MethodName)) ∈ lw_all := lw_g (lw_at lw_m6 12 rfl) rfl
theorem q1285 : (Jvm.Cond.code ({ cls := "SharedNightsModel", name := "drop", desc := "(I)I" } : Jvm.MethodName) prog_16_method_28_code (2 : Nat) (Option.some Jvm.ClassFile.FieldType.int)) ∈ lw_all := lw_g (lw_at lw_m6 13 rfl) rfl
theorem q1286 : (Jvm.Cond.methodLink "SharedNightsModel" (187 : Nat) ({ cls := "SharedNightsModel", name := "isPlan", desc := "(I)Z" } : Jvm.MethodName)) ∈ lw_all := lw_g (lw_at lw_m6 14 rfl) rfl
theorem q1287 : (Jvm.Cond.privateMethod ({ cls := "SharedNightsModel", name := "isPlan", desc := "(I)Z" } : Jvm.MethodName)) ∈ lw_tbl := lw_at lw_m6 15 rfl
theorem q1288 : (Jvm.Cond.instanceMethod ({ cls := "SharedNightsModel", name := "isPlan", desc := "(I)Z" } : Jvm.MethodName)) ∈ lw_all := lw_g (lw_at lw_m6 16 rfl) rfl
theorem q1289 : (Jvm.Cond.code ({ cls := "SharedNightsModel", name := "isPlan", desc := "(I)Z" } : Jvm.MethodName) prog_16_method_5_code (2 : Nat) (Option.some Jvm.ClassFile.FieldType.boolean)) ∈ lw_all := lw_g (lw_at lw_m6 17 rfl) rfl
theorem q1290 : (Jvm.Cond.methodLink "SharedNightsModel" (190 : Nat) ({ cls := "SharedNightsModel", name := "remove", desc := "(I)V" } : Jvm.MethodName)) ∈ lw_all := lw_g (lw_at lw_m6 18 rfl) rfl
theorem q1291 : (Jvm.Cond.privateMethod ({ cls := "SharedNightsModel", name := "remove", desc := "(I)V" } : Jvm.MethodName)) ∈ lw_tbl := lw_at lw_m6 19 rfl
theorem q1292 : (Jvm.Cond.instanceMethod ({ cls := "SharedNightsModel", name := "remove", desc := "(I)V" } : Jvm.MethodName)) ∈ lw_all := lw_g (lw_at lw_m6 20 rfl) rfl
theorem q1293 : (Jvm.Cond.code ({ cls := "SharedNightsModel", name := "remove", desc := "(I)V" } : Jvm.MethodName) prog_16_method_27_code (3 : Nat) (Option.none : Option Jvm.ClassFile.FieldType)) ∈ lw_all := lw_g (lw_at lw_m6 21 rfl) rfl
theorem q1295 : (Jvm.Cond.instanceMethod ({ cls := "SharedNightsModel", name := "told", desc := "(II)I" } : Jvm.MethodName)) ∈ lw_all := lw_g (lw_at lw_m6 23 rfl) rfl
theorem q1296 : (Jvm.Cond.selects "SharedNightsModel" ({ cls := "SharedNightsModel", name := "told", desc := "(II)I" } : Jvm.MethodName) ({ cls := "SharedNightsModel", name := "told", desc := "(II)I" } : Jvm.MethodName)) ∈ lw_all := lw_g (lw_at lw_m6 24 rfl) rfl
theorem q1297 : (Jvm.Cond.code ({ cls := "SharedNightsModel", name := "told", desc := "(II)I" } : Jvm.MethodName) prog_16_method_29_code (5 : Nat) (Option.some Jvm.ClassFile.FieldType.int)) ∈ lw_all := lw_g (lw_at lw_m6 25 rfl) rfl
theorem q1299 : (Jvm.Cond.instanceMethod ({ cls := "SharedNightsModel", name := "worth", desc := "(II)I" } : Jvm.MethodName)) ∈ lw_all := lw_g (lw_at lw_m6 27 rfl) rfl
theorem q1300 : (Jvm.Cond.selects "SharedNightsModel" ({ cls := "SharedNightsModel", name := "worth", desc := "(II)I" } : Jvm.MethodName) ({ cls := "SharedNightsModel", name := "worth", desc := "(II)I" } : Jvm.MethodName)) ∈ lw_all := lw_g (lw_at lw_m6 28 rfl) rfl
theorem q1301 : (Jvm.Cond.code ({ cls := "SharedNightsModel", name := "worth", desc := "(II)I" } : Jvm.MethodName) prog_16_method_30_code (4 : Nat) (Option.some Jvm.ClassFile.FieldType.int)) ∈ lw_all := lw_g (lw_at lw_m6 29 rfl) rfl
theorem q1303 : (Jvm.Cond.instanceMethod ({ cls := "SharedNightsModel", name := "placements", desc := "(I)I" } : Jvm.MethodName)) ∈ lw_all := lw_g (lw_at lw_m6 31 rfl) rfl
theorem q1304 : (Jvm.Cond.selects "SharedNightsModel" ({ cls := "SharedNightsModel", name := "placements", desc := "(I)I" } : Jvm.MethodName) ({ cls := "SharedNightsModel", name := "placements", desc := "(I)I" } : Jvm.MethodName)) ∈ lw_all := lw_g (lw_at lw_m6 32 rfl) rfl
theorem q1305 : (Jvm.Cond.code ({ cls := "SharedNightsModel", name := "placements", desc := "(I)I" } : Jvm.MethodName) prog_16_method_39_code (2 : Nat) (Option.some Jvm.ClassFile.FieldType.int)) ∈ lw_all := lw_g (lw_at lw_m6 33 rfl) rfl
theorem q1306 : (Jvm.Cond.methodLink "SharedNightsModel" (216 : Nat) ({ cls := "SharedNightsModel", name := "findPlacements", desc := "(I)V" } : Jvm.MethodName)) ∈ lw_all := lw_g (lw_at lw_m6 34 rfl) rfl
theorem q1307 : (Jvm.Cond.privateMethod ({ cls := "SharedNightsModel", name := "findPlacements", desc := "(I)V" } : Jvm.MethodName)) ∈ lw_tbl := lw_at lw_m6 35 rfl
theorem q1308 : (Jvm.Cond.instanceMethod ({ cls := "SharedNightsModel", name := "findPlacements", desc := "(I)V" } : Jvm.MethodName)) ∈ lw_all := lw_g (lw_at lw_m6 36 rfl) rfl
theorem q1309 : (Jvm.Cond.code ({ cls := "SharedNightsModel", name := "findPlacements", desc := "(I)V" } : Jvm.MethodName) prog_16_method_38_code (10 : Nat) (Option.none : Option Jvm.ClassFile.FieldType)) ∈ lw_all := lw_g (lw_at lw_m6 37 rfl) rfl
theorem q1310 : (Jvm.Cond.methodLink "SharedNightsModel" (206 : Nat) ({ cls := "SharedNightsModel", name := "stepSlots", desc := "(III)I" } : Jvm.MethodName)) ∈ lw_all := lw_g (lw_at lw_m6 38 rfl) rfl
theorem q1311 : (Jvm.Cond.privateMethod ({ cls := "SharedNightsModel", name := "stepSlots", desc := "(III)I" } : Jvm.MethodName)) ∈ lw_tbl := lw_at lw_m6 39 rfl
theorem q1312 : (Jvm.Cond.instanceMethod ({ cls := "SharedNightsModel", name := "stepSlots", desc := "(III)I" } : Jvm.MethodName)) ∈ lw_all := lw_g (lw_at lw_m6 40 rfl) rfl
theorem q1313 : (Jvm.Cond.code ({ cls := "SharedNightsModel", name := "stepSlots", desc := "(III)I" } : Jvm.MethodName) prog_16_method_36_code (6 : Nat) (Option.some Jvm.ClassFile.FieldType.int)) ∈ lw_all := lw_g (lw_at lw_m6 41 rfl) rfl
theorem q1314 : (Jvm.Cond.methodLink "SharedNightsModel" (194 : Nat) ({ cls := "SharedNightsModel", name := "ofStep", desc := "(III)I" } : Jvm.MethodName)) ∈ lw_all := lw_g (lw_at lw_m6 42 rfl) rfl
theorem q1315 : (Jvm.Cond.privateMethod ({ cls := "SharedNightsModel", name := "ofStep", desc := "(III)I" } : Jvm.MethodName)) ∈ lw_tbl := lw_at lw_m6 43 rfl
theorem q1316 : (Jvm.Cond.instanceMethod ({ cls := "SharedNightsModel", name := "ofStep", desc := "(III)I" } : Jvm.MethodName)) ∈ lw_all := lw_g (lw_at lw_m6 44 rfl) rfl
theorem q1317 : (Jvm.Cond.code ({ cls := "SharedNightsModel", name := "ofStep", desc := "(III)I" } : Jvm.MethodName) prog_16_method_33_code (4 : Nat) (Option.some Jvm.ClassFile.FieldType.int)) ∈ lw_all := lw_g (lw_at lw_m6 45 rfl) rfl
theorem q1318 : (Jvm.Cond.methodLink "SharedNightsModel" (202 : Nat) ({ cls := "SharedNightsModel", name := "fitsStep", desc := "(IIII)Z" } : Jvm.MethodName)) ∈ lw_all := lw_g (lw_at lw_m6 46 rfl) rfl
theorem q1319 : (Jvm.Cond.privateMethod ({ cls := "SharedNightsModel", name := "fitsStep", desc := "(IIII)Z" } : Jvm.MethodName)) ∈ lw_tbl := lw_at lw_m6 47 rfl
theorem q1320 : (Jvm.Cond.instanceMethod ({ cls := "SharedNightsModel", name := "fitsStep", desc := "(IIII)Z" } : Jvm.MethodName)) ∈ lw_all := lw_g (lw_at lw_m6 48 rfl) rfl
theorem q1321 : (Jvm.Cond.code ({ cls := "SharedNightsModel", name := "fitsStep", desc := "(IIII)Z" } : Jvm.MethodName) prog_16_method_35_code (5 : Nat) (Option.some Jvm.ClassFile.FieldType.boolean)) ∈ lw_all := lw_g (lw_at lw_m6 49 rfl) rfl
theorem q1322 : (Jvm.Cond.methodLink "SharedNightsModel" (198 : Nat) ({ cls := "SharedNightsModel", name := "fits", desc := "(IIIIII)Z" } : Jvm.MethodName)) ∈ lw_all := lw_g (lw_at lw_m6 50 rfl) rfl
theorem q1323 : (Jvm.Cond.privateMethod ({ cls := "SharedNightsModel", name := "fits", desc := "(IIIIII)Z" } : Jvm.MethodName)) ∈ lw_tbl := lw_at lw_m6 51 rfl
theorem q1324 : (Jvm.Cond.instanceMethod ({ cls := "SharedNightsModel", name := "fits", desc := "(IIIIII)Z" } : Jvm.MethodName)) ∈ lw_all := lw_g (lw_at lw_m6 52 rfl) rfl
theorem q1325 : (Jvm.Cond.code ({ cls := "SharedNightsModel", name := "fits", desc := "(IIIIII)Z" } : Jvm.MethodName) prog_16_method_34_code (8 : Nat) (Option.some Jvm.ClassFile.FieldType.boolean)) ∈ lw_all := lw_g (lw_at lw_m6 53 rfl) rfl
theorem q1326 : (Jvm.Cond.methodLink "SharedNightsModel" (209 : Nat) ({ cls := "SharedNightsModel", name := "stepsOf", desc := "(I)I" } : Jvm.MethodName)) ∈ lw_all := lw_g (lw_at lw_m6 54 rfl) rfl
theorem q1327 : (Jvm.Cond.privateMethod ({ cls := "SharedNightsModel", name := "stepsOf", desc := "(I)I" } : Jvm.MethodName)) ∈ lw_tbl := lw_at lw_m6 55 rfl
theorem q1328 : (Jvm.Cond.instanceMethod ({ cls := "SharedNightsModel", name := "stepsOf", desc := "(I)I" } : Jvm.MethodName)) ∈ lw_all := lw_g (lw_at lw_m6 56 rfl) rfl
theorem q1329 : (Jvm.Cond.code ({ cls := "SharedNightsModel", name := "stepsOf", desc := "(I)I" } : Jvm.MethodName) prog_16_method_32_code (2 : Nat) (Option.some Jvm.ClassFile.FieldType.int)) ∈ lw_all := lw_g (lw_at lw_m6 57 rfl) rfl
theorem q1330 : (Jvm.Cond.methodLink "SharedNightsModel" (212 : Nat) ({ cls := "SharedNightsModel", name := "addPlacement", desc := "(II)V" } : Jvm.MethodName)) ∈ lw_all := lw_g (lw_at lw_m6 58 rfl) rfl
theorem q1331 : (Jvm.Cond.privateMethod ({ cls := "SharedNightsModel", name := "addPlacement", desc := "(II)V" } : Jvm.MethodName)) ∈ lw_tbl := lw_at lw_m6 59 rfl
theorem q1332 : (Jvm.Cond.instanceMethod ({ cls := "SharedNightsModel", name := "addPlacement", desc := "(II)V" } : Jvm.MethodName)) ∈ lw_all := lw_g (lw_at lw_m6 60 rfl) rfl
theorem q1333 : (Jvm.Cond.code ({ cls := "SharedNightsModel", name := "addPlacement", desc := "(II)V" } : Jvm.MethodName) prog_16_method_37_code (3 : Nat) (Option.none : Option Jvm.ClassFile.FieldType)) ∈ lw_all := lw_g (lw_at lw_m6 61 rfl) rfl
theorem q1335 : (Jvm.Cond.instanceMethod ({ cls := "SharedNightsModel", name := "placement", desc := "(II)I" } : Jvm.MethodName)) ∈ lw_all := lw_g (lw_at lw_m6 63 rfl) rfl
theorem q1336 : (Jvm.Cond.selects "SharedNightsModel" ({ cls := "SharedNightsModel", name := "placement", desc := "(II)I" } : Jvm.MethodName) ({ cls := "SharedNightsModel", name := "placement", desc := "(II)I" } : Jvm.MethodName)) ∈ lw_all := lw_g (lw_at lw_m6 64 rfl) rfl
theorem q1337 : (Jvm.Cond.code ({ cls := "SharedNightsModel", name := "placement", desc := "(II)I" } : Jvm.MethodName) prog_16_method_40_code (3 : Nat) (Option.some Jvm.ClassFile.FieldType.int)) ∈ lw_all := lw_g (lw_at lw_m6 65 rfl) rfl
theorem q1339 : (Jvm.Cond.instanceMethod ({ cls := "SharedNightsModel", name := "best", desc := "(I)I" } : Jvm.MethodName)) ∈ lw_all := lw_g (lw_at lw_m6 67 rfl) rfl
theorem q1340 : (Jvm.Cond.selects "SharedNightsModel" ({ cls := "SharedNightsModel", name := "best", desc := "(I)I" } : Jvm.MethodName) ({ cls := "SharedNightsModel", name := "best", desc := "(I)I" } : Jvm.MethodName)) ∈ lw_all := lw_g (lw_at lw_m6 68 rfl) rfl
theorem q1341 : (Jvm.Cond.code ({ cls := "SharedNightsModel", name := "best", desc := "(I)I" } : Jvm.MethodName) prog_16_method_48_code (2 : Nat) (Option.some Jvm.ClassFile.FieldType.int)) ∈ lw_all := lw_g (lw_at lw_m6 69 rfl) rfl
theorem q1342 : (Jvm.Cond.methodLink "SharedNightsModel" (237 : Nat) ({ cls := "SharedNightsModel", name := "findAll", desc := "()V" } : Jvm.MethodName)) ∈ lw_all := lw_g (lw_at lw_m6 70 rfl) rfl
theorem q1343 : (Jvm.Cond.privateMethod ({ cls := "SharedNightsModel", name := "findAll", desc := "()V" } : Jvm.MethodName)) ∈ lw_tbl := lw_at lw_m6 71 rfl
theorem q1344 : (Jvm.Cond.instanceMethod ({ cls := "SharedNightsModel", name := "findAll", desc := "()V" } : Jvm.MethodName)) ∈ lw_all := lw_g (lw_at lw_m6 72 rfl) rfl
theorem q1345 : (Jvm.Cond.code ({ cls := "SharedNightsModel", name := "findAll", desc := "()V" } : Jvm.MethodName) prog_16_method_44_code (3 : Nat) (Option.none : Option Jvm.ClassFile.FieldType)) ∈ lw_all := lw_g (lw_at lw_m6 73 rfl) rfl
theorem q1346 : (Jvm.Cond.methodLink "SharedNightsModel" (240 : Nat) ({ cls := "SharedNightsModel", name := "findBest", desc := "()V" } : Jvm.MethodName)) ∈ lw_all := lw_g (lw_at lw_m6 74 rfl) rfl
theorem q1347 : (Jvm.Cond.privateMethod ({ cls := "SharedNightsModel", name := "findBest", desc := "()V" } : Jvm.MethodName)) ∈ lw_tbl := lw_at lw_m6 75 rfl
theorem q1348 : (Jvm.Cond.instanceMethod ({ cls := "SharedNightsModel", name := "findBest", desc := "()V" } : Jvm.MethodName)) ∈ lw_all := lw_g (lw_at lw_m6 76 rfl) rfl
theorem q1349 : (Jvm.Cond.code ({ cls := "SharedNightsModel", name := "findBest", desc := "()V" } : Jvm.MethodName) prog_16_method_45_code (11 : Nat) (Option.none : Option Jvm.ClassFile.FieldType)) ∈ lw_all := lw_g (lw_at lw_m6 77 rfl) rfl
theorem q1350 : (Jvm.Cond.methodLink "SharedNightsModel" (222 : Nat) ({ cls := "SharedNightsModel", name := "worthOf", desc := "(I)I" } : Jvm.MethodName)) ∈ lw_all := lw_g (lw_at lw_m6 78 rfl) rfl
theorem q1351 : (Jvm.Cond.privateMethod ({ cls := "SharedNightsModel", name := "worthOf", desc := "(I)I" } : Jvm.MethodName)) ∈ lw_tbl := lw_at lw_m6 79 rfl
theorem q1352 : (Jvm.Cond.instanceMethod ({ cls := "SharedNightsModel", name := "worthOf", desc := "(I)I" } : Jvm.MethodName)) ∈ lw_all := lw_g (lw_at lw_m6 80 rfl) rfl
theorem q1353 : (Jvm.Cond.code ({ cls := "SharedNightsModel", name := "worthOf", desc := "(I)I" } : Jvm.MethodName) prog_16_method_31_code (2 : Nat) (Option.some Jvm.ClassFile.FieldType.int)) ∈ lw_all := lw_g (lw_at lw_m6 81 rfl) rfl
theorem q1354 : (Jvm.Cond.methodLink "SharedNightsModel" (225 : Nat) ({ cls := "SharedNightsModel", name := "slotsNeeded", desc := "(I)I" } : Jvm.MethodName)) ∈ lw_all := lw_g (lw_at lw_m6 82 rfl) rfl
theorem q1355 : (Jvm.Cond.privateMethod ({ cls := "SharedNightsModel", name := "slotsNeeded", desc := "(I)I" } : Jvm.MethodName)) ∈ lw_tbl := lw_at lw_m6 83 rfl
theorem q1356 : (Jvm.Cond.instanceMethod ({ cls := "SharedNightsModel", name := "slotsNeeded", desc := "(I)I" } : Jvm.MethodName)) ∈ lw_all := lw_g (lw_at lw_m6 84 rfl) rfl
theorem q1357 : (Jvm.Cond.code ({ cls := "SharedNightsModel", name := "slotsNeeded", desc := "(I)I" } : Jvm.MethodName) prog_16_method_46_code (4 : Nat) (Option.some Jvm.ClassFile.FieldType.int)) ∈ lw_all := lw_g (lw_at lw_m6 85 rfl) rfl
theorem q1358 : (Jvm.Cond.methodLink "SharedNightsModel" (234 : Nat) ({ cls := "SharedNightsModel", name := "goWithAll", desc := "(II)Z" } : Jvm.MethodName)) ∈ lw_all := lw_g (lw_at lw_m6 86 rfl) rfl
theorem q1359 : (Jvm.Cond.privateMethod ({ cls := "SharedNightsModel", name := "goWithAll", desc := "(II)Z" } : Jvm.MethodName)) ∈ lw_tbl := lw_at lw_m6 87 rfl
theorem q1360 : (Jvm.Cond.instanceMethod ({ cls := "SharedNightsModel", name := "goWithAll", desc := "(II)Z" } : Jvm.MethodName)) ∈ lw_all := lw_g (lw_at lw_m6 88 rfl) rfl
theorem q1361 : (Jvm.Cond.code ({ cls := "SharedNightsModel", name := "goWithAll", desc := "(II)Z" } : Jvm.MethodName) prog_16_method_43_code (5 : Nat) (Option.some Jvm.ClassFile.FieldType.boolean)) ∈ lw_all := lw_g (lw_at lw_m6 89 rfl) rfl
theorem q1362 : (Jvm.Cond.methodLink "SharedNightsModel" (219 : Nat) ({ cls := "SharedNightsModel", name := "goWith", desc := "(IIII)Z" } : Jvm.MethodName)) ∈ lw_all := lw_g (lw_at lw_m6 90 rfl) rfl
theorem q1363 : (Jvm.Cond.privateMethod ({ cls := "SharedNightsModel", name := "goWith", desc := "(IIII)Z" } : Jvm.MethodName)) ∈ lw_tbl := lw_at lw_m6 91 rfl
theorem q1364 : (Jvm.Cond.instanceMethod ({ cls := "SharedNightsModel", name := "goWith", desc := "(IIII)Z" } : Jvm.MethodName)) ∈ lw_all := lw_g (lw_at lw_m6 92 rfl) rfl
theorem q1365 : (Jvm.Cond.code ({ cls := "SharedNightsModel", name := "goWith", desc := "(IIII)Z" } : Jvm.MethodName) prog_16_method_41_code (5 : Nat) (Option.some Jvm.ClassFile.FieldType.boolean)) ∈ lw_all := lw_g (lw_at lw_m6 93 rfl) rfl
theorem q1366 : (Jvm.Cond.methodLink "SharedNightsModel" (243 : Nat) ({ cls := "SharedNightsModel", name := "bestSet", desc := "()I" } : Jvm.MethodName)) ∈ lw_all := lw_g (lw_at lw_m6 94 rfl) rfl
theorem q1367 : (Jvm.Cond.privateMethod ({ cls := "SharedNightsModel", name := "bestSet", desc := "()I" } : Jvm.MethodName)) ∈ lw_tbl := lw_at lw_m6 95 rfl
theorem q1368 : (Jvm.Cond.instanceMethod ({ cls := "SharedNightsModel", name := "bestSet", desc := "()I" } : Jvm.MethodName)) ∈ lw_all := lw_g (lw_at lw_m6 96 rfl) rfl
theorem q1369 : (Jvm.Cond.code ({ cls := "SharedNightsModel", name := "bestSet", desc := "()I" } : Jvm.MethodName) prog_16_method_47_code (3 : Nat) (Option.some Jvm.ClassFile.FieldType.int)) ∈ lw_all := lw_g (lw_at lw_m6 97 rfl) rfl
theorem q1371 : (Jvm.Cond.instanceMethod ({ cls := "SharedNightsModel", name := "placed", desc := "(I)I" } : Jvm.MethodName)) ∈ lw_all := lw_g (lw_at lw_m6 99 rfl) rfl
theorem q1372 : (Jvm.Cond.selects "SharedNightsModel" ({ cls := "SharedNightsModel", name := "placed", desc := "(I)I" } : Jvm.MethodName) ({ cls := "SharedNightsModel", name := "placed", desc := "(I)I" } : Jvm.MethodName)) ∈ lw_all := lw_g (lw_at lw_m6 100 rfl) rfl
theorem q1373 : (Jvm.Cond.code ({ cls := "SharedNightsModel", name := "placed", desc := "(I)I" } : Jvm.MethodName) prog_16_method_49_code (2 : Nat) (Option.some Jvm.ClassFile.FieldType.int)) ∈ lw_all := lw_g (lw_at lw_m6 101 rfl) rfl
theorem q1375 : (Jvm.Cond.instanceMethod ({ cls := "SharedNightsModel", name := "price", desc := "(I)I" } : Jvm.MethodName)) ∈ lw_all := lw_g (lw_at lw_m6 103 rfl) rfl
theorem q1376 : (Jvm.Cond.selects "SharedNightsModel" ({ cls := "SharedNightsModel", name := "price", desc := "(I)I" } : Jvm.MethodName) ({ cls := "SharedNightsModel", name := "price", desc := "(I)I" } : Jvm.MethodName)) ∈ lw_all := lw_g (lw_at lw_m6 104 rfl) rfl
theorem q1377 : (Jvm.Cond.code ({ cls := "SharedNightsModel", name := "price", desc := "(I)I" } : Jvm.MethodName) prog_16_method_51_code (5 : Nat) (Option.some Jvm.ClassFile.FieldType.int)) ∈ lw_all := lw_g (lw_at lw_m6 105 rfl) rfl
theorem q1378 : (Jvm.Cond.methodLink "SharedNightsModel" (247 : Nat) ({ cls := "SharedNightsModel", name := "isInAt", desc := "(II)Z" } : Jvm.MethodName)) ∈ lw_all := lw_g (lw_at lw_m6 106 rfl) rfl
theorem q1379 : (Jvm.Cond.privateMethod ({ cls := "SharedNightsModel", name := "isInAt", desc := "(II)Z" } : Jvm.MethodName)) ∈ lw_tbl := lw_at lw_m6 107 rfl
theorem q1380 : (Jvm.Cond.instanceMethod ({ cls := "SharedNightsModel", name := "isInAt", desc := "(II)Z" } : Jvm.MethodName)) ∈ lw_all := lw_g (lw_at lw_m6 108 rfl) rfl
theorem q1381 : (Jvm.Cond.code ({ cls := "SharedNightsModel", name := "isInAt", desc := "(II)Z" } : Jvm.MethodName) prog_16_method_50_code (4 : Nat) (Option.some Jvm.ClassFile.FieldType.boolean)) ∈ lw_all := lw_g (lw_at lw_m6 109 rfl) rfl
theorem q1383 : (Jvm.Cond.instanceMethod ({ cls := "SharedNightsModel", name := "empty", desc := "(I)I" } : Jvm.MethodName)) ∈ lw_all := lw_g (lw_at lw_m6 111 rfl) rfl
theorem q1384 : (Jvm.Cond.selects "SharedNightsModel" ({ cls := "SharedNightsModel", name := "empty", desc := "(I)I" } : Jvm.MethodName) ({ cls := "SharedNightsModel", name := "empty", desc := "(I)I" } : Jvm.MethodName)) ∈ lw_all := lw_g (lw_at lw_m6 112 rfl) rfl
theorem q1385 : (Jvm.Cond.code ({ cls := "SharedNightsModel", name := "empty", desc := "(I)I" } : Jvm.MethodName) prog_16_method_52_code (7 : Nat) (Option.some Jvm.ClassFile.FieldType.int)) ∈ lw_all := lw_g (lw_at lw_m6 113 rfl) rfl
theorem q1387 : (Jvm.Cond.instanceMethod ({ cls := "SharedNightsModel", name := "again", desc := "(I)I" } : Jvm.MethodName)) ∈ lw_all := lw_g (lw_at lw_m6 115 rfl) rfl
theorem q1388 : (Jvm.Cond.selects "SharedNightsModel" ({ cls := "SharedNightsModel", name := "again", desc := "(I)I" } : Jvm.MethodName) ({ cls := "SharedNightsModel", name := "again", desc := "(I)I" } : Jvm.MethodName)) ∈ lw_all := lw_g (lw_at lw_m6 116 rfl) rfl
theorem q1389 : (Jvm.Cond.code ({ cls := "SharedNightsModel", name := "again", desc := "(I)I" } : Jvm.MethodName) prog_16_method_53_code (3 : Nat) (Option.some Jvm.ClassFile.FieldType.int)) ∈ lw_all := lw_g (lw_at lw_m6 117 rfl) rfl
theorem q1391 : (Jvm.Cond.instanceMethod ({ cls := "SharedNightsModel", name := "watch", desc := "(II)I" } : Jvm.MethodName)) ∈ lw_all := lw_g (lw_at lw_m6 119 rfl) rfl
theorem q1392 : (Jvm.Cond.selects "SharedNightsModel" ({ cls := "SharedNightsModel", name := "watch", desc := "(II)I" } : Jvm.MethodName) ({ cls := "SharedNightsModel", name := "watch", desc := "(II)I" } : Jvm.MethodName)) ∈ lw_all := lw_g (lw_at lw_m6 120 rfl) rfl
theorem q1393 : (Jvm.Cond.code ({ cls := "SharedNightsModel", name := "watch", desc := "(II)I" } : Jvm.MethodName) prog_16_method_59_code (3 : Nat) (Option.some Jvm.ClassFile.FieldType.int)) ∈ lw_all := lw_g (lw_at lw_m6 121 rfl) rfl
theorem q1394 : (Jvm.Cond.methodLink "SharedNightsModel" (268 : Nat) ({ cls := "SharedNightsModel", name := "watchTo", desc := "(III)V" } : Jvm.MethodName)) ∈ lw_all := lw_g (lw_at lw_m6 122 rfl) rfl
theorem q1395 : (Jvm.Cond.privateMethod ({ cls := "SharedNightsModel", name := "watchTo", desc := "(III)V" } : Jvm.MethodName)) ∈ lw_tbl := lw_at lw_m6 123 rfl
theorem q1396 : (Jvm.Cond.instanceMethod ({ cls := "SharedNightsModel", name := "watchTo", desc := "(III)V" } : Jvm.MethodName)) ∈ lw_all := lw_g (lw_at lw_m6 124 rfl) rfl
theorem q1397 : (Jvm.Cond.code ({ cls := "SharedNightsModel", name := "watchTo", desc := "(III)V" } : Jvm.MethodName) prog_16_method_58_code (10 : Nat) (Option.none : Option Jvm.ClassFile.FieldType)) ∈ lw_all := lw_g (lw_at lw_m6 125 rfl) rfl
theorem q1398 : (Jvm.Cond.methodLink "SharedNightsModel" (259 : Nat) ({ cls := "SharedNightsModel", name := "breakChain", desc := "(I)V" } : Jvm.MethodName)) ∈ lw_all := lw_g (lw_at lw_m6 126 rfl) rfl
theorem q1399 : (Jvm.Cond.privateMethod ({ cls := "SharedNightsModel", name := "breakChain", desc := "(I)V" } : Jvm.MethodName)) ∈ lw_tbl := lw_at lw_m6 127 rfl
theorem q1400 : (Jvm.Cond.instanceMethod ({ cls := "SharedNightsModel", name := "breakChain", desc := "(I)V" } : Jvm.MethodName)) ∈ lw_all := lw_g (lw_at lw_m6 128 rfl) rfl
theorem q1401 : (Jvm.Cond.code ({ cls := "SharedNightsModel", name := "breakChain", desc := "(I)V" } : Jvm.MethodName) prog_16_method_54_code (3 : Nat) (Option.none : Option Jvm.ClassFile.FieldType)) ∈ lw_all := lw_g (lw_at lw_m6 129 rfl) rfl
theorem q1402 : (Jvm.Cond.methodLink "SharedNightsModel" (262 : Nat) ({ cls := "SharedNightsModel", name := "mayBegin", desc := "(III)Z" } : Jvm.MethodName)) ∈ lw_all := lw_g (lw_at lw_m6 130 rfl) rfl
theorem q1403 : (Jvm.Cond.privateMethod ({ cls := "SharedNightsModel", name := "mayBegin", desc := "(III)Z" } : Jvm.MethodName)) ∈ lw_tbl := lw_at lw_m6 131 rfl
theorem q1404 : (Jvm.Cond.instanceMethod ({ cls := "SharedNightsModel", name := "mayBegin", desc := "(III)Z" } : Jvm.MethodName)) ∈ lw_all := lw_g (lw_at lw_m6 132 rfl) rfl
theorem q1405 : (Jvm.Cond.code ({ cls := "SharedNightsModel", name := "mayBegin", desc := "(III)Z" } : Jvm.MethodName) prog_16_method_56_code (4 : Nat) (Option.some Jvm.ClassFile.FieldType.boolean)) ∈ lw_all := lw_g (lw_at lw_m6 133 rfl) rfl
theorem q1406 : (Jvm.Cond.methodLink "SharedNightsModel" (265 : Nat) ({ cls := "SharedNightsModel", name := "isAhead", desc := "(IIII)Z" } : Jvm.MethodName)) ∈ lw_all := lw_g (lw_at lw_m6 134 rfl) rfl
theorem q1407 : (Jvm.Cond.privateMethod ({ cls := "SharedNightsModel", name := "isAhead", desc := "(IIII)Z" } : Jvm.MethodName)) ∈ lw_tbl := lw_at lw_m6 135 rfl
theorem q1408 : (Jvm.Cond.instanceMethod ({ cls := "SharedNightsModel", name := "isAhead", desc := "(IIII)Z" } : Jvm.MethodName)) ∈ lw_all := lw_g (lw_at lw_m6 136 rfl) rfl
theorem q1409 : (Jvm.Cond.code ({ cls := "SharedNightsModel", name := "isAhead", desc := "(IIII)Z" } : Jvm.MethodName) prog_16_method_57_code (5 : Nat) (Option.some Jvm.ClassFile.FieldType.boolean)) ∈ lw_all := lw_g (lw_at lw_m6 137 rfl) rfl
theorem q1410 : (Jvm.Cond.methodLink "SharedNightsModel" (253 : Nat) ({ cls := "SharedNightsModel", name := "lastVisible", desc := "(I)I" } : Jvm.MethodName)) ∈ lw_all := lw_g (lw_at lw_m6 138 rfl) rfl
theorem q1411 : (Jvm.Cond.privateMethod ({ cls := "SharedNightsModel", name := "lastVisible", desc := "(I)I" } : Jvm.MethodName)) ∈ lw_tbl := lw_at lw_m6 139 rfl
theorem q1412 : (Jvm.Cond.instanceMethod ({ cls := "SharedNightsModel", name := "lastVisible", desc := "(I)I" } : Jvm.MethodName)) ∈ lw_all := lw_g (lw_at lw_m6 140 rfl) rfl
theorem q1413 : (Jvm.Cond.code ({ cls := "SharedNightsModel", name := "lastVisible", desc := "(I)I" } : Jvm.MethodName) prog_16_method_55_code (4 : Nat) (Option.some Jvm.ClassFile.FieldType.int)) ∈ lw_all := lw_g (lw_at lw_m6 141 rfl) rfl
theorem q1415 : (Jvm.Cond.instanceMethod ({ cls := "SharedNightsModel", name := "log", desc := "(III)I" } : Jvm.MethodName)) ∈ lw_all := lw_g (lw_at lw_m6 143 rfl) rfl
theorem q1416 : (Jvm.Cond.selects "SharedNightsModel" ({ cls := "SharedNightsModel", name := "log", desc := "(III)I" } : Jvm.MethodName) ({ cls := "SharedNightsModel", name := "log", desc := "(III)I" } : Jvm.MethodName)) ∈ lw_all := lw_g (lw_at lw_m6 144 rfl) rfl
theorem q1417 : (Jvm.Cond.code ({ cls := "SharedNightsModel", name := "log", desc := "(III)I" } : Jvm.MethodName) prog_16_method_60_code (4 : Nat) (Option.some Jvm.ClassFile.FieldType.int)) ∈ lw_all := lw_g (lw_at lw_m6 145 rfl) rfl
theorem q1419 : (Jvm.Cond.instanceMethod ({ cls := "SharedNightsModel", name := "state", desc := "(IIII)I" } : Jvm.MethodName)) ∈ lw_all := lw_g (lw_at lw_m6 147 rfl) rfl
theorem q1420 : (Jvm.Cond.selects "SharedNightsModel" ({ cls := "SharedNightsModel", name := "state", desc := "(IIII)I" } : Jvm.MethodName) ({ cls := "SharedNightsModel", name := "state", desc := "(IIII)I" } : Jvm.MethodName)) ∈ lw_all := lw_g (lw_at lw_m6 148 rfl) rfl
theorem q1421 : (Jvm.Cond.code ({ cls := "SharedNightsModel", name := "state", desc := "(IIII)I" } : Jvm.MethodName) prog_16_method_61_code (5 : Nat) (Option.some Jvm.ClassFile.FieldType.int)) ∈ lw_all := lw_g (lw_at lw_m6 149 rfl) rfl
theorem q1423 : (Jvm.Cond.instanceMethod ({ cls := "SharedNightsModel", name := "value", desc := "(II)I" } : Jvm.MethodName)) ∈ lw_all := lw_g (lw_at lw_m6 151 rfl) rfl
theorem q1424 : (Jvm.Cond.selects "SharedNightsModel" ({ cls := "SharedNightsModel", name := "value", desc := "(II)I" } : Jvm.MethodName) ({ cls := "SharedNightsModel", name := "value", desc := "(II)I" } : Jvm.MethodName)) ∈ lw_all := lw_g (lw_at lw_m6 152 rfl) rfl
theorem q1425 : (Jvm.Cond.code ({ cls := "SharedNightsModel", name := "value", desc := "(II)I" } : Jvm.MethodName) prog_16_method_64_code (5 : Nat) (Option.some Jvm.ClassFile.FieldType.int)) ∈ lw_all := lw_g (lw_at lw_m6 153 rfl) rfl
theorem q1426 : (Jvm.Cond.methodLink "SharedNightsModel" (278 : Nat) ({ cls := "SharedNightsModel", name := "findValue", desc := "(I)V" } : Jvm.MethodName)) ∈ lw_all := lw_g (lw_at lw_m6 154 rfl) rfl
theorem q1427 : (Jvm.Cond.privateMethod ({ cls := "SharedNightsModel", name := "findValue", desc := "(I)V" } : Jvm.MethodName)) ∈ lw_tbl := lw_at lw_m6 155 rfl
theorem q1428 : (Jvm.Cond.instanceMethod ({ cls := "SharedNightsModel", name := "findValue", desc := "(I)V" } : Jvm.MethodName)) ∈ lw_all := lw_g (lw_at lw_m6 156 rfl) rfl
theorem q1429 : (Jvm.Cond.code ({ cls := "SharedNightsModel", name := "findValue", desc := "(I)V" } : Jvm.MethodName) prog_16_method_63_code (3 : Nat) (Option.none : Option Jvm.ClassFile.FieldType)) ∈ lw_all := lw_g (lw_at lw_m6 157 rfl) rfl
theorem q1430 : (Jvm.Cond.methodLink "SharedNightsModel" (281 : Nat) ({ cls := "SharedNightsModel", name := "common", desc := "(JJ)J" } : Jvm.MethodName)) ∈ lw_all := lw_g (lw_at lw_m6 158 rfl) rfl
theorem q1431 : (Jvm.Cond.static ({ cls := "SharedNightsModel", name := "common", desc := "(JJ)J" } : Jvm.MethodName)) ∈ lw_all := lw_g (lw_at lw_m6 159 rfl) rfl
theorem q1432 : (Jvm.Cond.code ({ cls := "SharedNightsModel", name := "common", desc := "(JJ)J" } : Jvm.MethodName) prog_16_method_62_code (10 : Nat) (Option.some Jvm.ClassFile.FieldType.long)) ∈ lw_all := lw_g (lw_at lw_m6 160 rfl) rfl
theorem q1434 : (Jvm.Cond.instanceMethod ({ cls := "SharedNightsModel", name := "sure", desc := "(I)I" } : Jvm.MethodName)) ∈ lw_all := lw_g (lw_at lw_m6 162 rfl) rfl
theorem q1435 : (Jvm.Cond.selects "SharedNightsModel" ({ cls := "SharedNightsModel", name := "sure", desc := "(I)I" } : Jvm.MethodName) ({ cls := "SharedNightsModel", name := "sure", desc := "(I)I" } : Jvm.MethodName)) ∈ lw_all := lw_g (lw_at lw_m6 163 rfl) rfl
theorem q1436 : (Jvm.Cond.code ({ cls := "SharedNightsModel", name := "sure", desc := "(I)I" } : Jvm.MethodName) prog_16_method_65_code (4 : Nat) (Option.some Jvm.ClassFile.FieldType.int)) ∈ lw_all := lw_g (lw_at lw_m6 164 rfl) rfl
theorem q1438 : (Jvm.Cond.instanceMethod ({ cls := "SharedNightsModel", name := "rule", desc := "()I" } : Jvm.MethodName)) ∈ lw_all := lw_g (lw_at lw_m6 166 rfl) rfl
theorem q1439 : (Jvm.Cond.selects "SharedNightsModel" ({ cls := "SharedNightsModel", name := "rule", desc := "()I" } : Jvm.MethodName) ({ cls := "SharedNightsModel", name := "rule", desc := "()I" } : Jvm.MethodName)) ∈ lw_all := lw_g (lw_at lw_m6 167 rfl) rfl
theorem q1440 : (Jvm.Cond.code ({ cls := "SharedNightsModel", name := "rule", desc := "()I" } : Jvm.MethodName) prog_16_method_66_code (5 : Nat) (Option.some Jvm.ClassFile.FieldType.int)) ∈ lw_all := lw_g (lw_at lw_m6 168 rfl) rfl
theorem q1442 : (Jvm.Cond.instanceMethod ({ cls := "SharedNightsModel", name := "alert", desc := "(IIIIII)I" } : Jvm.MethodName)) ∈ lw_all := lw_g (lw_at lw_m6 170 rfl) rfl
theorem q1443 : (Jvm.Cond.selects "SharedNightsModel" ({ cls := "SharedNightsModel", name := "alert", desc := "(IIIIII)I" } : Jvm.MethodName) ({ cls := "SharedNightsModel", name := "alert", desc := "(IIIIII)I" } : Jvm.MethodName)) ∈ lw_all := lw_g (lw_at lw_m6 171 rfl) rfl
theorem q1444 : (Jvm.Cond.code ({ cls := "SharedNightsModel", name := "alert", desc := "(IIIIII)I" } : Jvm.MethodName) prog_16_method_68_code (7 : Nat) (Option.some Jvm.ClassFile.FieldType.int)) ∈ lw_all := lw_g (lw_at lw_m6 172 rfl) rfl
theorem q1445 : (Jvm.Cond.methodLink "SharedNightsModel" (291 : Nat) ({ cls := "SharedNightsModel", name := "findAlert", desc := "(IIIII)V" } : Jvm.MethodName)) ∈ lw_all := lw_g (lw_at lw_m6 173 rfl) rfl
theorem q1446 : (Jvm.Cond.privateMethod ({ cls := "SharedNightsModel", name := "findAlert", desc := "(IIIII)V" } : Jvm.MethodName)) ∈ lw_tbl := lw_at lw_m6 174 rfl
theorem q1447 : (Jvm.Cond.instanceMethod ({ cls := "SharedNightsModel", name := "findAlert", desc := "(IIIII)V" } : Jvm.MethodName)) ∈ lw_all := lw_g (lw_at lw_m6 175 rfl) rfl
theorem q1448 : (Jvm.Cond.code ({ cls := "SharedNightsModel", name := "findAlert", desc := "(IIIII)V" } : Jvm.MethodName) prog_16_method_67_code (12 : Nat) (Option.none : Option Jvm.ClassFile.FieldType)) ∈ lw_all := lw_g (lw_at lw_m6 176 rfl) rfl
theorem q1450 : (Jvm.Cond.instanceMethod ({ cls := "SharedNightsModel", name := "share", desc := "(II)I" } : Jvm.MethodName)) ∈ lw_all := lw_g (lw_at lw_m6 178 rfl) rfl
theorem q1451 : (Jvm.Cond.selects "SharedNightsModel" ({ cls := "SharedNightsModel", name := "share", desc := "(II)I" } : Jvm.MethodName) ({ cls := "SharedNightsModel", name := "share", desc := "(II)I" } : Jvm.MethodName)) ∈ lw_all := lw_g (lw_at lw_m6 179 rfl) rfl
theorem q1452 : (Jvm.Cond.code ({ cls := "SharedNightsModel", name := "share", desc := "(II)I" } : Jvm.MethodName) prog_16_method_69_code (4 : Nat) (Option.some Jvm.ClassFile.FieldType.int)) ∈ lw_all := lw_g (lw_at lw_m6 180 rfl) rfl
theorem q1454 : (Jvm.Cond.instanceMethod ({ cls := "SharedNightsModel", name := "close", desc := "(I)I" } : Jvm.MethodName)) ∈ lw_all := lw_g (lw_at lw_m6 182 rfl) rfl
theorem q1455 : (Jvm.Cond.selects "SharedNightsModel" ({ cls := "SharedNightsModel", name := "close", desc := "(I)I" } : Jvm.MethodName) ({ cls := "SharedNightsModel", name := "close", desc := "(I)I" } : Jvm.MethodName)) ∈ lw_all := lw_g (lw_at lw_m6 183 rfl) rfl
theorem q1456 : (Jvm.Cond.code ({ cls := "SharedNightsModel", name := "close", desc := "(I)I" } : Jvm.MethodName) prog_16_method_70_code (4 : Nat) (Option.some Jvm.ClassFile.FieldType.int)) ∈ lw_all := lw_g (lw_at lw_m6 184 rfl) rfl
theorem q1458 : (Jvm.Cond.instanceMethod ({ cls := "SharedNightsModel", name := "account", desc := "(I)I" } : Jvm.MethodName)) ∈ lw_all := lw_g (lw_at lw_m6 186 rfl) rfl
theorem q1459 : (Jvm.Cond.selects "SharedNightsModel" ({ cls := "SharedNightsModel", name := "account", desc := "(I)I" } : Jvm.MethodName) ({ cls := "SharedNightsModel", name := "account", desc := "(I)I" } : Jvm.MethodName)) ∈ lw_all := lw_g (lw_at lw_m6 187 rfl) rfl
theorem q1460 : (Jvm.Cond.code ({ cls := "SharedNightsModel", name := "account", desc := "(I)I" } : Jvm.MethodName) prog_16_method_71_code (2 : Nat) (Option.some Jvm.ClassFile.FieldType.int)) ∈ lw_all := lw_g (lw_at lw_m6 188 rfl) rfl
theorem q1462 : (Jvm.Cond.instanceMethod ({ cls := "SharedNightsModel", name := "debt", desc := "(I)I" } : Jvm.MethodName)) ∈ lw_all := lw_g (lw_at lw_m6 190 rfl) rfl
theorem q1463 : (Jvm.Cond.selects "SharedNightsModel" ({ cls := "SharedNightsModel", name := "debt", desc := "(I)I" } : Jvm.MethodName) ({ cls := "SharedNightsModel", name := "debt", desc := "(I)I" } : Jvm.MethodName)) ∈ lw_all := lw_g (lw_at lw_m6 191 rfl) rfl
theorem q1464 : (Jvm.Cond.code ({ cls := "SharedNightsModel", name := "debt", desc := "(I)I" } : Jvm.MethodName) prog_16_method_73_code (2 : Nat) (Option.some Jvm.ClassFile.FieldType.int)) ∈ lw_all := lw_g (lw_at lw_m6 192 rfl) rfl
theorem q1465 : (Jvm.Cond.methodLink "SharedNightsModel" (298 : Nat) ({ cls := "SharedNightsModel", name := "debtOf", desc := "(I)I" } : Jvm.MethodName)) ∈ lw_all := lw_g (lw_at lw_m6 193 rfl) rfl
theorem q1466 : (Jvm.Cond.privateMethod ({ cls := "SharedNightsModel", name := "debtOf", desc := "(I)I" } : Jvm.MethodName)) ∈ lw_tbl := lw_at lw_m6 194 rfl
theorem q1467 : (Jvm.Cond.instanceMethod ({ cls := "SharedNightsModel", name := "debtOf", desc := "(I)I" } : Jvm.MethodName)) ∈ lw_all := lw_g (lw_at lw_m6 195 rfl) rfl
theorem q1468 : (Jvm.Cond.code ({ cls := "SharedNightsModel", name := "debtOf", desc := "(I)I" } : Jvm.MethodName) prog_16_method_72_code (5 : Nat) (Option.some Jvm.ClassFile.FieldType.int)) ∈ lw_all := lw_g (lw_at lw_m6 196 rfl) rfl
theorem q1469 : (Jvm.Cond.constant "SharedNightsModel" (301 : Nat) (-2147483648 : Int32)) ∈ lw_all := lw_g (lw_at lw_m6 197 rfl) rfl
theorem q1471 : (Jvm.Cond.instanceMethod ({ cls := "SharedNightsModel", name := "next", desc := "()I" } : Jvm.MethodName)) ∈ lw_all := lw_g (lw_at lw_m6 199 rfl) rfl
theorem q1472 : (Jvm.Cond.selects "SharedNightsModel" ({ cls := "SharedNightsModel", name := "next", desc := "()I" } : Jvm.MethodName) ({ cls := "SharedNightsModel", name := "next", desc := "()I" } : Jvm.MethodName)) ∈ lw_all := lw_g (lw_at lw_m6 200 rfl) rfl
theorem q1473 : (Jvm.Cond.code ({ cls := "SharedNightsModel", name := "next", desc := "()I" } : Jvm.MethodName) prog_16_method_74_code (3 : Nat) (Option.some Jvm.ClassFile.FieldType.int)) ∈ lw_all := lw_g (lw_at lw_m6 201 rfl) rfl
theorem q1475 : (Jvm.Cond.instanceMethod ({ cls := "SharedNightsModel", name := "count", desc := "(I)I" } : Jvm.MethodName)) ∈ lw_all := lw_g (lw_at lw_m6 203 rfl) rfl
theorem q1476 : (Jvm.Cond.selects "SharedNightsModel" ({ cls := "SharedNightsModel", name := "count", desc := "(I)I" } : Jvm.MethodName) ({ cls := "SharedNightsModel", name := "count", desc := "(I)I" } : Jvm.MethodName)) ∈ lw_all := lw_g (lw_at lw_m6 204 rfl) rfl
theorem q1477 : (Jvm.Cond.code ({ cls := "SharedNightsModel", name := "count", desc := "(I)I" } : Jvm.MethodName) prog_16_method_75_code (2 : Nat) (Option.some Jvm.ClassFile.FieldType.int)) ∈ lw_all := lw_g (lw_at lw_m6 205 rfl) rfl
theorem in_X9 : ∀ w ∈ wsX90, w ∈ lw_all := lw_in wsX90 [1087, 1089, 1091, 1093, 1095, 1097, 1099, 1101, 1103, 1105, 1107, 1109, 1111, 1113, 1115, 1117, 1119, 1121, 1123, 1125, 1127, 1129, 1131, 1133, 1135, 1137, 1139, 1141, 1143, 1145, 1147, 1149, 1151, 1153, 1155, 1157, 1159, 1161, 1163, 1165, 1167, 1169, 1171, 1173] (by decide +kernel) (by decide +kernel)
