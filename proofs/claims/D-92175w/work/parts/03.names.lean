/-! SharedNights$Target -/
set_option maxRecDepth 100000
def RX10 : String := "SharedNights$Target"
def TX10 : u_T := fun k => match k with
  | 0 => ("SharedNights$Target", "meridian", "I", true)
  | 1 => ("SharedNights$Target", "reach", "I", true)
  | 2 => ("SharedNights$Target", "region", "I", true)
  | _ => ("SharedNights$Target", "this$0", "LSharedNights;", true)
def tyX10 : Nat → FieldType := fun k => match k with
  | 0 => .int
  | 1 => .int
  | 2 => .int
  | _ => .object "SharedNights"
abbrev wsX100 : List Cond := u_ws RX10 TX10 4
theorem nmX10 : ∀ a, a < 4 → ∀ b, b < 4 → a ≠ b → (TX10 a).2.1 ≠ (TX10 b).2.1 := by decide +kernel
theorem tyX10_ok : ∀ k, k < 4 → parseFieldDescriptor (TX10 k).2.2.1 = some (tyX10 k) := by decide +kernel
abbrev cX10_init : ByteArray := prog_12_method_1_code
def yX10_init : MethodName := ⟨RX10, "<init>", "(LSharedNights;III)V"⟩
def dkwX10_init_1 : List UInt8 := [181, 0, 20, 177]
abbrev dktX10_init_1 : List UInt8 := dkwX10_init_1 ++ []
def dkwX10_init_0 : List UInt8 := [42, 43, 181, 0, 1, 42, 183, 0, 7, 42, 28, 181, 0, 13, 42, 29, 181, 0, 17, 42, 21, 4]
abbrev dktX10_init_0 : List UInt8 := dkwX10_init_0 ++ dktX10_init_1
theorem dksX10_init_0 : cX10_init.data.toList.drop 0 = dktX10_init_0 := by decide +kernel
theorem dksX10_init_1 : cX10_init.data.toList.drop 22 = dktX10_init_1 := dk_seg dksX10_init_0 22 rfl rfl
theorem dX10_init_0 : decode cX10_init 0 = .ok (.aload_n 0, 1) := dk_42 (dk_at dksX10_init_0 0 rfl rfl)
theorem dX10_init_1 : decode cX10_init 1 = .ok (.aload_n 1, 1) := dk_43 (dk_at dksX10_init_0 1 rfl rfl)
theorem dX10_init_2 : decode cX10_init 2 = .ok (.putfield 1, 3) := dk_181 0 1 (dk_at dksX10_init_0 2 rfl rfl)
theorem dX10_init_5 : decode cX10_init 5 = .ok (.aload_n 0, 1) := dk_42 (dk_at dksX10_init_0 5 rfl rfl)
theorem dX10_init_6 : decode cX10_init 6 = .ok (.invokespecial 7, 3) := dk_183 0 7 (dk_at dksX10_init_0 6 rfl rfl)
theorem dX10_init_9 : decode cX10_init 9 = .ok (.aload_n 0, 1) := dk_42 (dk_at dksX10_init_0 9 rfl rfl)
theorem dX10_init_10 : decode cX10_init 10 = .ok (.iload_n 2, 1) := dk_28 (dk_at dksX10_init_0 10 rfl rfl)
theorem dX10_init_11 : decode cX10_init 11 = .ok (.putfield 13, 3) := dk_181 0 13 (dk_at dksX10_init_0 11 rfl rfl)
theorem dX10_init_14 : decode cX10_init 14 = .ok (.aload_n 0, 1) := dk_42 (dk_at dksX10_init_0 14 rfl rfl)
theorem dX10_init_15 : decode cX10_init 15 = .ok (.iload_n 3, 1) := dk_29 (dk_at dksX10_init_0 15 rfl rfl)
theorem dX10_init_16 : decode cX10_init 16 = .ok (.putfield 17, 3) := dk_181 0 17 (dk_at dksX10_init_0 16 rfl rfl)
theorem dX10_init_19 : decode cX10_init 19 = .ok (.aload_n 0, 1) := dk_42 (dk_at dksX10_init_0 19 rfl rfl)
theorem dX10_init_20 : decode cX10_init 20 = .ok (.iload 4, 2) := dk_21 4 (dk_at dksX10_init_0 20 rfl rfl)
theorem dX10_init_22 : decode cX10_init 22 = .ok (.putfield 20, 3) := dk_181 0 20 (dk_at dksX10_init_1 0 rfl rfl)
theorem dX10_init_25 : decode cX10_init 25 = .ok (.return_, 1) := dk_177 (dk_at dksX10_init_1 3 rfl rfl)
abbrev cX10_isVisible : ByteArray := prog_12_method_3_code
def yX10_isVisible : MethodName := ⟨RX10, "isVisible", "(I)Z"⟩
def dkwX10_isVisible_0 : List UInt8 := [42, 27, 182, 0, 34, 42, 180, 0, 17, 163, 0, 7, 4, 167, 0, 4, 3, 172]
abbrev dktX10_isVisible_0 : List UInt8 := dkwX10_isVisible_0 ++ []
theorem dksX10_isVisible_0 : cX10_isVisible.data.toList.drop 0 = dktX10_isVisible_0 := by decide +kernel
theorem dX10_isVisible_0 : decode cX10_isVisible 0 = .ok (.aload_n 0, 1) := dk_42 (dk_at dksX10_isVisible_0 0 rfl rfl)
theorem dX10_isVisible_1 : decode cX10_isVisible 1 = .ok (.iload_n 1, 1) := dk_27 (dk_at dksX10_isVisible_0 1 rfl rfl)
theorem dX10_isVisible_2 : decode cX10_isVisible 2 = .ok (.invokevirtual 34, 3) := dk_182 0 34 (dk_at dksX10_isVisible_0 2 rfl rfl)
theorem dX10_isVisible_5 : decode cX10_isVisible 5 = .ok (.aload_n 0, 1) := dk_42 (dk_at dksX10_isVisible_0 5 rfl rfl)
theorem dX10_isVisible_6 : decode cX10_isVisible 6 = .ok (.getfield 17, 3) := dk_180 0 17 (dk_at dksX10_isVisible_0 6 rfl rfl)
theorem dX10_isVisible_9 : decode cX10_isVisible 9 = .ok (.if_icmp .gt 7, 3) := dk_163 0 7 (dk_at dksX10_isVisible_0 9 rfl rfl)
theorem dX10_isVisible_12 : decode cX10_isVisible 12 = .ok (.iconst 1, 1) := dk_4 (dk_at dksX10_isVisible_0 12 rfl rfl)
theorem dX10_isVisible_13 : decode cX10_isVisible 13 = .ok (.goto 4, 3) := dk_167 0 4 (dk_at dksX10_isVisible_0 13 rfl rfl)
theorem dX10_isVisible_16 : decode cX10_isVisible 16 = .ok (.iconst 0, 1) := dk_3 (dk_at dksX10_isVisible_0 16 rfl rfl)
theorem dX10_isVisible_17 : decode cX10_isVisible 17 = .ok (.ireturn, 1) := dk_172 (dk_at dksX10_isVisible_0 17 rfl rfl)
abbrev cX10_air : ByteArray := prog_12_method_2_code
def yX10_air : MethodName := ⟨RX10, "air", "(I)I"⟩
def dkwX10_air_0 : List UInt8 := [27, 42, 180, 0, 13, 42, 180, 0, 1, 180, 0, 23, 100, 100, 184, 0, 28, 172]
abbrev dktX10_air_0 : List UInt8 := dkwX10_air_0 ++ []
theorem dksX10_air_0 : cX10_air.data.toList.drop 0 = dktX10_air_0 := by decide +kernel
theorem dX10_air_0 : decode cX10_air 0 = .ok (.iload_n 1, 1) := dk_27 (dk_at dksX10_air_0 0 rfl rfl)
theorem dX10_air_1 : decode cX10_air 1 = .ok (.aload_n 0, 1) := dk_42 (dk_at dksX10_air_0 1 rfl rfl)
theorem dX10_air_2 : decode cX10_air 2 = .ok (.getfield 13, 3) := dk_180 0 13 (dk_at dksX10_air_0 2 rfl rfl)
theorem dX10_air_5 : decode cX10_air 5 = .ok (.aload_n 0, 1) := dk_42 (dk_at dksX10_air_0 5 rfl rfl)
theorem dX10_air_6 : decode cX10_air 6 = .ok (.getfield 1, 3) := dk_180 0 1 (dk_at dksX10_air_0 6 rfl rfl)
theorem dX10_air_9 : decode cX10_air 9 = .ok (.getfield 23, 3) := dk_180 0 23 (dk_at dksX10_air_0 9 rfl rfl)
theorem dX10_air_12 : decode cX10_air 12 = .ok (.isub, 1) := dk_100 (dk_at dksX10_air_0 12 rfl rfl)
theorem dX10_air_13 : decode cX10_air 13 = .ok (.isub, 1) := dk_100 (dk_at dksX10_air_0 13 rfl rfl)
theorem dX10_air_14 : decode cX10_air 14 = .ok (.invokestatic 28, 3) := dk_184 0 28 (dk_at dksX10_air_0 14 rfl rfl)
theorem dX10_air_17 : decode cX10_air 17 = .ok (.ireturn, 1) := dk_172 (dk_at dksX10_air_0 17 rfl rfl)
abbrev cX10_isBright : ByteArray := prog_12_method_4_code
def yX10_isBright : MethodName := ⟨RX10, "isBright", "(I)Z"⟩
def dkwX10_isBright_1 : List UInt8 := [42, 180, 0, 1, 180, 0, 43, 133, 184, 0, 46, 153, 0, 7, 4, 167, 0, 4, 3, 172]
abbrev dktX10_isBright_1 : List UInt8 := dkwX10_isBright_1 ++ []
def dkwX10_isBright_0 : List UInt8 := [42, 180, 0, 20, 42, 180, 0, 1, 180, 0, 37, 160, 0, 31, 27, 133, 42, 180, 0, 1, 180, 0, 40, 133]
abbrev dktX10_isBright_0 : List UInt8 := dkwX10_isBright_0 ++ dktX10_isBright_1
theorem dksX10_isBright_0 : cX10_isBright.data.toList.drop 0 = dktX10_isBright_0 := by decide +kernel
theorem dksX10_isBright_1 : cX10_isBright.data.toList.drop 24 = dktX10_isBright_1 := dk_seg dksX10_isBright_0 24 rfl rfl
theorem dX10_isBright_0 : decode cX10_isBright 0 = .ok (.aload_n 0, 1) := dk_42 (dk_at dksX10_isBright_0 0 rfl rfl)
theorem dX10_isBright_1 : decode cX10_isBright 1 = .ok (.getfield 20, 3) := dk_180 0 20 (dk_at dksX10_isBright_0 1 rfl rfl)
theorem dX10_isBright_4 : decode cX10_isBright 4 = .ok (.aload_n 0, 1) := dk_42 (dk_at dksX10_isBright_0 4 rfl rfl)
theorem dX10_isBright_5 : decode cX10_isBright 5 = .ok (.getfield 1, 3) := dk_180 0 1 (dk_at dksX10_isBright_0 5 rfl rfl)
theorem dX10_isBright_8 : decode cX10_isBright 8 = .ok (.getfield 37, 3) := dk_180 0 37 (dk_at dksX10_isBright_0 8 rfl rfl)
theorem dX10_isBright_11 : decode cX10_isBright 11 = .ok (.if_icmp .ne 31, 3) := dk_160 0 31 (dk_at dksX10_isBright_0 11 rfl rfl)
theorem dX10_isBright_14 : decode cX10_isBright 14 = .ok (.iload_n 1, 1) := dk_27 (dk_at dksX10_isBright_0 14 rfl rfl)
theorem dX10_isBright_15 : decode cX10_isBright 15 = .ok (.i2l, 1) := dk_133 (dk_at dksX10_isBright_0 15 rfl rfl)
theorem dX10_isBright_16 : decode cX10_isBright 16 = .ok (.aload_n 0, 1) := dk_42 (dk_at dksX10_isBright_0 16 rfl rfl)
theorem dX10_isBright_17 : decode cX10_isBright 17 = .ok (.getfield 1, 3) := dk_180 0 1 (dk_at dksX10_isBright_0 17 rfl rfl)
theorem dX10_isBright_20 : decode cX10_isBright 20 = .ok (.getfield 40, 3) := dk_180 0 40 (dk_at dksX10_isBright_0 20 rfl rfl)
theorem dX10_isBright_23 : decode cX10_isBright 23 = .ok (.i2l, 1) := dk_133 (dk_at dksX10_isBright_0 23 rfl rfl)
theorem dX10_isBright_24 : decode cX10_isBright 24 = .ok (.aload_n 0, 1) := dk_42 (dk_at dksX10_isBright_1 0 rfl rfl)
theorem dX10_isBright_25 : decode cX10_isBright 25 = .ok (.getfield 1, 3) := dk_180 0 1 (dk_at dksX10_isBright_1 1 rfl rfl)
theorem dX10_isBright_28 : decode cX10_isBright 28 = .ok (.getfield 43, 3) := dk_180 0 43 (dk_at dksX10_isBright_1 4 rfl rfl)
theorem dX10_isBright_31 : decode cX10_isBright 31 = .ok (.i2l, 1) := dk_133 (dk_at dksX10_isBright_1 7 rfl rfl)
theorem dX10_isBright_32 : decode cX10_isBright 32 = .ok (.invokestatic 46, 3) := dk_184 0 46 (dk_at dksX10_isBright_1 8 rfl rfl)
theorem dX10_isBright_35 : decode cX10_isBright 35 = .ok (.ifCond .eq 7, 3) := dk_153 0 7 (dk_at dksX10_isBright_1 11 rfl rfl)
theorem dX10_isBright_38 : decode cX10_isBright 38 = .ok (.iconst 1, 1) := dk_4 (dk_at dksX10_isBright_1 14 rfl rfl)
theorem dX10_isBright_39 : decode cX10_isBright 39 = .ok (.goto 4, 3) := dk_167 0 4 (dk_at dksX10_isBright_1 15 rfl rfl)
theorem dX10_isBright_42 : decode cX10_isBright 42 = .ok (.iconst 0, 1) := dk_3 (dk_at dksX10_isBright_1 18 rfl rfl)
theorem dX10_isBright_43 : decode cX10_isBright 43 = .ok (.ireturn, 1) := dk_172 (dk_at dksX10_isBright_1 19 rfl rfl)
abbrev cX10_last : ByteArray := prog_12_method_5_code
def yX10_last : MethodName := ⟨RX10, "last", "()I"⟩
def dkwX10_last_1 : List UInt8 := [132, 1, 255, 167, 255, 241, 27, 172]
abbrev dktX10_last_1 : List UInt8 := dkwX10_last_1 ++ []
def dkwX10_last_0 : List UInt8 := [42, 180, 0, 1, 180, 0, 50, 4, 100, 60, 27, 155, 0, 17, 42, 27, 182, 0, 53, 154, 0, 9]
abbrev dktX10_last_0 : List UInt8 := dkwX10_last_0 ++ dktX10_last_1
theorem dksX10_last_0 : cX10_last.data.toList.drop 0 = dktX10_last_0 := by decide +kernel
theorem dksX10_last_1 : cX10_last.data.toList.drop 22 = dktX10_last_1 := dk_seg dksX10_last_0 22 rfl rfl
theorem dX10_last_0 : decode cX10_last 0 = .ok (.aload_n 0, 1) := dk_42 (dk_at dksX10_last_0 0 rfl rfl)
theorem dX10_last_1 : decode cX10_last 1 = .ok (.getfield 1, 3) := dk_180 0 1 (dk_at dksX10_last_0 1 rfl rfl)
theorem dX10_last_4 : decode cX10_last 4 = .ok (.getfield 50, 3) := dk_180 0 50 (dk_at dksX10_last_0 4 rfl rfl)
theorem dX10_last_7 : decode cX10_last 7 = .ok (.iconst 1, 1) := dk_4 (dk_at dksX10_last_0 7 rfl rfl)
theorem dX10_last_8 : decode cX10_last 8 = .ok (.isub, 1) := dk_100 (dk_at dksX10_last_0 8 rfl rfl)
theorem dX10_last_9 : decode cX10_last 9 = .ok (.istore_n 1, 1) := dk_60 (dk_at dksX10_last_0 9 rfl rfl)
theorem dX10_last_10 : decode cX10_last 10 = .ok (.iload_n 1, 1) := dk_27 (dk_at dksX10_last_0 10 rfl rfl)
theorem dX10_last_11 : decode cX10_last 11 = .ok (.ifCond .lt 17, 3) := dk_155 0 17 (dk_at dksX10_last_0 11 rfl rfl)
theorem dX10_last_14 : decode cX10_last 14 = .ok (.aload_n 0, 1) := dk_42 (dk_at dksX10_last_0 14 rfl rfl)
theorem dX10_last_15 : decode cX10_last 15 = .ok (.iload_n 1, 1) := dk_27 (dk_at dksX10_last_0 15 rfl rfl)
theorem dX10_last_16 : decode cX10_last 16 = .ok (.invokevirtual 53, 3) := dk_182 0 53 (dk_at dksX10_last_0 16 rfl rfl)
theorem dX10_last_19 : decode cX10_last 19 = .ok (.ifCond .ne 9, 3) := dk_154 0 9 (dk_at dksX10_last_0 19 rfl rfl)
theorem dX10_last_22 : decode cX10_last 22 = .ok (.iinc 1 (-1), 3) := dk_132 1 255 (dk_at dksX10_last_1 0 rfl rfl)
theorem dX10_last_25 : decode cX10_last 25 = .ok (.goto (-15), 3) := dk_167 255 241 (dk_at dksX10_last_1 3 rfl rfl)
theorem dX10_last_28 : decode cX10_last 28 = .ok (.iload_n 1, 1) := dk_27 (dk_at dksX10_last_1 6 rfl rfl)
theorem dX10_last_29 : decode cX10_last 29 = .ok (.ireturn, 1) := dk_172 (dk_at dksX10_last_1 7 rfl rfl)
theorem q83 : (Jvm.Cond.initialized "SharedNights$Target") ∈ lw_all := lw_g (lw_at lw_m1 11 rfl) rfl
theorem q253 : (Jvm.Cond.fieldLinkNest "SharedNights$Target" (50 : Nat) "SharedNights" "many" "I" "SharedNights") ∈ lw_tbl := lw_at lw_m1 181 rfl
theorem q255 : (Jvm.Cond.fieldLinkNest "SharedNights$Target" (23 : Nat) "SharedNights" "tonight" "I" "SharedNights") ∈ lw_tbl := lw_at lw_m1 183 rfl
theorem q258 : (Jvm.Cond.fieldLinkNest "SharedNights$Target" (37 : Nat) "SharedNights" "moonRegion" "I" "SharedNights") ∈ lw_tbl := lw_at lw_m1 186 rfl
theorem q259 : (Jvm.Cond.fieldLinkNest "SharedNights$Target" (40 : Nat) "SharedNights" "moonFrom" "I" "SharedNights") ∈ lw_tbl := lw_at lw_m1 187 rfl
theorem q261 : (Jvm.Cond.fieldLinkNest "SharedNights$Target" (43 : Nat) "SharedNights" "moonTo" "I" "SharedNights") ∈ lw_tbl := lw_at lw_m1 189 rfl
theorem q365 : (Jvm.Cond.instantiable "SharedNights$Target" (4 : Nat)) ∈ lw_all := lw_g (lw_at lw_m2 53 rfl) rfl
theorem q367 : (Jvm.Cond.instanceMethod ({ cls := "SharedNights$Target", name := "<init>", desc := "(LSharedNights;III)V" } : Jvm.MethodName)) ∈ lw_all := lw_g (lw_at lw_m2 55 rfl) rfl
theorem q368 : (Jvm.Cond.code ({ cls := "SharedNights$Target", name := "<init>", desc := "(LSharedNights;III)V" } : Jvm.MethodName) prog_12_method_1_code (5 : Nat) (Option.none : Option Jvm.ClassFile.FieldType)) ∈ lw_all := lw_g (lw_at lw_m2 56 rfl) rfl
theorem q369 : (Jvm.Cond.methodLink "SharedNights$Target" (7 : Nat) ({ cls := "java/lang/Object", name := "<init>", desc := "()V" } : Jvm.MethodName)) ∈ lw_all := lw_g (lw_at lw_m2 57 rfl) rfl
theorem q370 : (Jvm.Cond.fieldLink "SharedNights$Target" (13 : Nat) "SharedNights$Target" "meridian" "I") ∈ lw_all := lw_g (lw_at lw_m2 58 rfl) rfl
theorem q371 : (Jvm.Cond.fieldLink "SharedNights$Target" (17 : Nat) "SharedNights$Target" "reach" "I") ∈ lw_all := lw_g (lw_at lw_m2 59 rfl) rfl
theorem q372 : (Jvm.Cond.fieldLink "SharedNights$Target" (20 : Nat) "SharedNights$Target" "region" "I") ∈ lw_all := lw_g (lw_at lw_m2 60 rfl) rfl
theorem q373 : (Jvm.Cond.fieldLink "SharedNights$Target" (1 : Nat) "SharedNights$Target" "this$0" "LSharedNights;") ∈ lw_all := lw_g (lw_at lw_m2 61 rfl) rfl
theorem q374 : (Jvm.Cond.laysFinal "SharedNights$Target" "SharedNights$Target" "meridian" "I") ∈ lw_all := lw_g (lw_at lw_m2 62 rfl) rfl
theorem q375 : (Jvm.Cond.soleField "SharedNights$Target" "meridian") ∈ lw_all := lw_g (lw_at lw_m2 63 rfl) rfl
theorem q376 : (Jvm.Cond.laysFinal "SharedNights$Target" "SharedNights$Target" "reach" "I") ∈ lw_all := lw_g (lw_at lw_m2 64 rfl) rfl
theorem q377 : (Jvm.Cond.soleField "SharedNights$Target" "reach") ∈ lw_all := lw_g (lw_at lw_m2 65 rfl) rfl
theorem q378 : (Jvm.Cond.laysFinal "SharedNights$Target" "SharedNights$Target" "region" "I") ∈ lw_all := lw_g (lw_at lw_m2 66 rfl) rfl
theorem q379 : (Jvm.Cond.soleField "SharedNights$Target" "region") ∈ lw_all := lw_g (lw_at lw_m2 67 rfl) rfl
theorem q380 : (Jvm.Cond.laysFinal "SharedNights$Target" "SharedNights$Target" "this$0" "LSharedNights;") ∈ lw_all := lw_g (lw_at lw_m2 68 rfl) rfl
theorem q381 : (Jvm.Cond.soleField "SharedNights$Target" "this$0") ∈ lw_all := lw_g (lw_at lw_m2 69 rfl) rfl
theorem q382 : (Jvm.Cond.superclass "SharedNights$Target" "java/lang/Object") ∈ lw_all := lw_g (lw_at lw_m2 70 rfl) rfl
theorem q396 : (Jvm.Cond.instanceMethod ({ cls := "SharedNights$Target", name := "isVisible", desc := "(I)Z" } : Jvm.MethodName)) ∈ lw_all := lw_g (lw_at lw_m2 84 rfl) rfl
theorem q397 : (Jvm.Cond.selects "SharedNights$Target" ({ cls := "SharedNights$Target", name := "isVisible", desc := "(I)Z" } : Jvm.MethodName) ({ cls := "SharedNights$Target", name := "isVisible", desc := "(I)Z" } : Jvm.MethodName)) ∈ lw_all := lw_g (lw_at lw_m2 85 rfl) rfl
theorem q398 : (Jvm.Cond.code ({ cls := "SharedNights$Target", name := "isVisible", desc := "(I)Z" } : Jvm.MethodName) prog_12_method_3_code (2 : Nat) (Option.some Jvm.ClassFile.FieldType.boolean)) ∈ lw_all := lw_g (lw_at lw_m2 86 rfl) rfl
theorem q399 : (Jvm.Cond.methodLink "SharedNights$Target" (34 : Nat) ({ cls := "SharedNights$Target", name := "air", desc := "(I)I" } : Jvm.MethodName)) ∈ lw_all := lw_g (lw_at lw_m2 87 rfl) rfl
theorem q400 : (Jvm.Cond.instanceMethod ({ cls := "SharedNights$Target", name := "air", desc := "(I)I" } : Jvm.MethodName)) ∈ lw_all := lw_g (lw_at lw_m2 88 rfl) rfl
theorem q401 : (Jvm.Cond.selects "SharedNights$Target" ({ cls := "SharedNights$Target", name := "air", desc := "(I)I" } : Jvm.MethodName) ({ cls := "SharedNights$Target", name := "air", desc := "(I)I" } : Jvm.MethodName)) ∈ lw_all := lw_g (lw_at lw_m2 89 rfl) rfl
theorem q402 : (Jvm.Cond.code ({ cls := "SharedNights$Target", name := "air", desc := "(I)I" } : Jvm.MethodName) prog_12_method_2_code (2 : Nat) (Option.some Jvm.ClassFile.FieldType.int)) ∈ lw_all := lw_g (lw_at lw_m2 90 rfl) rfl
theorem q403 : (Jvm.Cond.methodLink "SharedNights$Target" (28 : Nat) ({ cls := "java/lang/Math", name := "abs", desc := "(I)I" } : Jvm.MethodName)) ∈ lw_all := lw_g (lw_at lw_m2 91 rfl) rfl
theorem q802 : (Jvm.Cond.instanceMethod ({ cls := "SharedNights$Target", name := "isBright", desc := "(I)Z" } : Jvm.MethodName)) ∈ lw_all := lw_g (lw_at lw_m4 10 rfl) rfl
theorem q803 : (Jvm.Cond.selects "SharedNights$Target" ({ cls := "SharedNights$Target", name := "isBright", desc := "(I)Z" } : Jvm.MethodName) ({ cls := "SharedNights$Target", name := "isBright", desc := "(I)Z" } : Jvm.MethodName)) ∈ lw_all := lw_g (lw_at lw_m4 11 rfl) rfl
theorem q804 : (Jvm.Cond.code ({ cls := "SharedNights$Target", name := "isBright", desc := "(I)Z" } : Jvm.MethodName) prog_12_method_4_code (2 : Nat) (Option.some Jvm.ClassFile.FieldType.boolean)) ∈ lw_all := lw_g (lw_at lw_m4 12 rfl) rfl
theorem q805 : (Jvm.Cond.methodLinkNest "SharedNights$Target" (46 : Nat) ({ cls := "SharedNights", name := "isIn", desc := "(JJJ)Z" } : Jvm.MethodName) "SharedNights") ∈ lw_tbl := lw_at lw_m4 13 rfl
theorem q952 : (Jvm.Cond.instanceMethod ({ cls := "SharedNights$Target", name := "last", desc := "()I" } : Jvm.MethodName)) ∈ lw_all := lw_g (lw_at lw_m4 160 rfl) rfl
theorem q953 : (Jvm.Cond.selects "SharedNights$Target" ({ cls := "SharedNights$Target", name := "last", desc := "()I" } : Jvm.MethodName) ({ cls := "SharedNights$Target", name := "last", desc := "()I" } : Jvm.MethodName)) ∈ lw_all := lw_g (lw_at lw_m4 161 rfl) rfl
theorem q954 : (Jvm.Cond.code ({ cls := "SharedNights$Target", name := "last", desc := "()I" } : Jvm.MethodName) prog_12_method_5_code (2 : Nat) (Option.some Jvm.ClassFile.FieldType.int)) ∈ lw_all := lw_g (lw_at lw_m4 162 rfl) rfl
theorem q955 : (Jvm.Cond.methodLink "SharedNights$Target" (53 : Nat) ({ cls := "SharedNights$Target", name := "isVisible", desc := "(I)Z" } : Jvm.MethodName)) ∈ lw_all := lw_g (lw_at lw_m4 163 rfl) rfl
theorem in_X10 : ∀ w ∈ wsX100, w ∈ lw_all := lw_in wsX100 [374, 376, 378, 380] (by decide +kernel) (by decide +kernel)
/-! SharedNights$Plan -/
set_option maxRecDepth 100000
def RX11 : String := "SharedNights$Plan"
def TX11 : u_T := fun k => match k with
  | 0 => ("SharedNights$Plan", "land", "I", false)
  | 1 => ("SharedNights$Plan", "instrument", "I", false)
  | 2 => ("SharedNights$Plan", "target", "I", false)
  | 3 => ("SharedNights$Plan", "worth", "I", false)
  | 4 => ("SharedNights$Plan", "steps", "[LSharedNights$Look;", true)
  | 5 => ("SharedNights$Plan", "stepMany", "I", false)
  | 6 => ("SharedNights$Plan", "places", "[I", true)
  | 7 => ("SharedNights$Plan", "placeMany", "I", false)
  | _ => ("SharedNights$Plan", "this$0", "LSharedNights;", true)
def tyX11 : Nat → FieldType := fun k => match k with
  | 0 => .int
  | 1 => .int
  | 2 => .int
  | 3 => .int
  | 4 => .array (.object "SharedNights$Look")
  | 5 => .int
  | 6 => .array .int
  | 7 => .int
  | _ => .object "SharedNights"
abbrev wsX110 : List Cond := u_ws RX11 TX11 9
theorem nmX11 : ∀ a, a < 9 → ∀ b, b < 9 → a ≠ b → (TX11 a).2.1 ≠ (TX11 b).2.1 := by decide +kernel
theorem tyX11_ok : ∀ k, k < 9 → parseFieldDescriptor (TX11 k).2.2.1 = some (tyX11 k) := by decide +kernel
abbrev cX11_init : ByteArray := prog_8_method_1_code
def yX11_init : MethodName := ⟨RX11, "<init>", "(LSharedNights;)V"⟩
def dkwX11_init_1 : List UInt8 := [181, 0, 21, 177]
abbrev dktX11_init_1 : List UInt8 := dkwX11_init_1 ++ []
def dkwX11_init_0 : List UInt8 := [42, 43, 181, 0, 3, 42, 183, 0, 9, 42, 6, 189, 0, 15, 181, 0, 17, 42, 17, 0, 200, 188, 10]
abbrev dktX11_init_0 : List UInt8 := dkwX11_init_0 ++ dktX11_init_1
theorem dksX11_init_0 : cX11_init.data.toList.drop 0 = dktX11_init_0 := by decide +kernel
theorem dksX11_init_1 : cX11_init.data.toList.drop 23 = dktX11_init_1 := dk_seg dksX11_init_0 23 rfl rfl
theorem dX11_init_0 : decode cX11_init 0 = .ok (.aload_n 0, 1) := dk_42 (dk_at dksX11_init_0 0 rfl rfl)
theorem dX11_init_1 : decode cX11_init 1 = .ok (.aload_n 1, 1) := dk_43 (dk_at dksX11_init_0 1 rfl rfl)
theorem dX11_init_2 : decode cX11_init 2 = .ok (.putfield 3, 3) := dk_181 0 3 (dk_at dksX11_init_0 2 rfl rfl)
theorem dX11_init_5 : decode cX11_init 5 = .ok (.aload_n 0, 1) := dk_42 (dk_at dksX11_init_0 5 rfl rfl)
theorem dX11_init_6 : decode cX11_init 6 = .ok (.invokespecial 9, 3) := dk_183 0 9 (dk_at dksX11_init_0 6 rfl rfl)
theorem dX11_init_9 : decode cX11_init 9 = .ok (.aload_n 0, 1) := dk_42 (dk_at dksX11_init_0 9 rfl rfl)
theorem dX11_init_10 : decode cX11_init 10 = .ok (.iconst 3, 1) := dk_6 (dk_at dksX11_init_0 10 rfl rfl)
theorem dX11_init_11 : decode cX11_init 11 = .ok (.anewarray 15, 3) := dk_189 0 15 (dk_at dksX11_init_0 11 rfl rfl)
theorem dX11_init_14 : decode cX11_init 14 = .ok (.putfield 17, 3) := dk_181 0 17 (dk_at dksX11_init_0 14 rfl rfl)
theorem dX11_init_17 : decode cX11_init 17 = .ok (.aload_n 0, 1) := dk_42 (dk_at dksX11_init_0 17 rfl rfl)
theorem dX11_init_18 : decode cX11_init 18 = .ok (.sipush 200, 3) := dk_17 0 200 (dk_at dksX11_init_0 18 rfl rfl)
theorem dX11_init_21 : decode cX11_init 21 = .ok (.newarray .int, 2) := dk_188_10 (dk_at dksX11_init_0 21 rfl rfl)
theorem dX11_init_23 : decode cX11_init 23 = .ok (.putfield 21, 3) := dk_181 0 21 (dk_at dksX11_init_1 0 rfl rfl)
theorem dX11_init_26 : decode cX11_init 26 = .ok (.return_, 1) := dk_177 (dk_at dksX11_init_1 3 rfl rfl)
abbrev cX11_told : ByteArray := prog_8_method_7_code
def yX11_told : MethodName := ⟨RX11, "told", "(I)I"⟩
def dkwX11_told_5 : List UInt8 := [162, 0, 16, 42, 180, 0, 17, 28, 50, 29, 182, 0, 92, 167, 0, 4, 2, 172]
abbrev dktX11_told_5 : List UInt8 := dkwX11_told_5 ++ []
def dkwX11_told_4 : List UInt8 := [153, 0, 16, 29, 28, 154, 0, 7, 6, 167, 0, 4, 8, 164, 0, 6, 16, 253, 172, 28, 42, 180, 0, 56]
abbrev dktX11_told_4 : List UInt8 := dkwX11_told_4 ++ dktX11_told_5
def dkwX11_told_3 : List UInt8 := [172, 27, 16, 10, 108, 4, 100, 61, 27, 16, 10, 112, 62, 28, 133, 9, 20, 0, 86, 184, 0, 88]
abbrev dktX11_told_3 : List UInt8 := dkwX11_told_3 ++ dktX11_told_4
def dkwX11_told_2 : List UInt8 := [42, 180, 0, 77, 172, 42, 180, 0, 80, 172, 42, 180, 0, 29, 172, 42, 180, 0, 83, 172, 42, 180, 0, 56]
abbrev dktX11_told_2 : List UInt8 := dkwX11_told_2 ++ dktX11_told_3
def dkwX11_told_1 : List UInt8 := [170, 0, 0, 0, 0, 0, 60, 0, 0, 0, 0, 0, 0, 0, 4, 0, 0, 0, 35, 0, 0, 0, 40, 0, 0, 0, 45, 0, 0, 0, 50, 0, 0, 0, 55]
abbrev dktX11_told_1 : List UInt8 := dkwX11_told_1 ++ dktX11_told_2
def dkwX11_told_0 : List UInt8 := [27]
abbrev dktX11_told_0 : List UInt8 := dkwX11_told_0 ++ dktX11_told_1
theorem dksX11_told_0 : cX11_told.data.toList.drop 0 = dktX11_told_0 := by decide +kernel
theorem dksX11_told_1 : cX11_told.data.toList.drop 1 = dktX11_told_1 := dk_seg dksX11_told_0 1 rfl rfl
theorem dksX11_told_2 : cX11_told.data.toList.drop 36 = dktX11_told_2 := dk_seg dksX11_told_1 35 rfl rfl
theorem dksX11_told_3 : cX11_told.data.toList.drop 60 = dktX11_told_3 := dk_seg dksX11_told_2 24 rfl rfl
theorem dksX11_told_4 : cX11_told.data.toList.drop 82 = dktX11_told_4 := dk_seg dksX11_told_3 22 rfl rfl
theorem dksX11_told_5 : cX11_told.data.toList.drop 106 = dktX11_told_5 := dk_seg dksX11_told_4 24 rfl rfl
theorem dX11_told_0 : decode cX11_told 0 = .ok (.iload_n 1, 1) := dk_27 (dk_at dksX11_told_0 0 rfl rfl)
theorem dX11_told_1 : decode cX11_told 1 = .ok (.tableswitch 60 0 4 #[35, 40, 45, 50, 55], 35) := by decide +kernel
theorem dX11_told_36 : decode cX11_told 36 = .ok (.aload_n 0, 1) := dk_42 (dk_at dksX11_told_2 0 rfl rfl)
theorem dX11_told_37 : decode cX11_told 37 = .ok (.getfield 77, 3) := dk_180 0 77 (dk_at dksX11_told_2 1 rfl rfl)
theorem dX11_told_40 : decode cX11_told 40 = .ok (.ireturn, 1) := dk_172 (dk_at dksX11_told_2 4 rfl rfl)
theorem dX11_told_41 : decode cX11_told 41 = .ok (.aload_n 0, 1) := dk_42 (dk_at dksX11_told_2 5 rfl rfl)
theorem dX11_told_42 : decode cX11_told 42 = .ok (.getfield 80, 3) := dk_180 0 80 (dk_at dksX11_told_2 6 rfl rfl)
theorem dX11_told_45 : decode cX11_told 45 = .ok (.ireturn, 1) := dk_172 (dk_at dksX11_told_2 9 rfl rfl)
theorem dX11_told_46 : decode cX11_told 46 = .ok (.aload_n 0, 1) := dk_42 (dk_at dksX11_told_2 10 rfl rfl)
theorem dX11_told_47 : decode cX11_told 47 = .ok (.getfield 29, 3) := dk_180 0 29 (dk_at dksX11_told_2 11 rfl rfl)
theorem dX11_told_50 : decode cX11_told 50 = .ok (.ireturn, 1) := dk_172 (dk_at dksX11_told_2 14 rfl rfl)
theorem dX11_told_51 : decode cX11_told 51 = .ok (.aload_n 0, 1) := dk_42 (dk_at dksX11_told_2 15 rfl rfl)
theorem dX11_told_52 : decode cX11_told 52 = .ok (.getfield 83, 3) := dk_180 0 83 (dk_at dksX11_told_2 16 rfl rfl)
theorem dX11_told_55 : decode cX11_told 55 = .ok (.ireturn, 1) := dk_172 (dk_at dksX11_told_2 19 rfl rfl)
theorem dX11_told_56 : decode cX11_told 56 = .ok (.aload_n 0, 1) := dk_42 (dk_at dksX11_told_2 20 rfl rfl)
theorem dX11_told_57 : decode cX11_told 57 = .ok (.getfield 56, 3) := dk_180 0 56 (dk_at dksX11_told_2 21 rfl rfl)
theorem dX11_told_60 : decode cX11_told 60 = .ok (.ireturn, 1) := dk_172 (dk_at dksX11_told_3 0 rfl rfl)
theorem dX11_told_61 : decode cX11_told 61 = .ok (.iload_n 1, 1) := dk_27 (dk_at dksX11_told_3 1 rfl rfl)
theorem dX11_told_62 : decode cX11_told 62 = .ok (.bipush 10, 2) := dk_16 10 (dk_at dksX11_told_3 2 rfl rfl)
theorem dX11_told_64 : decode cX11_told 64 = .ok (.idiv, 1) := dk_108 (dk_at dksX11_told_3 4 rfl rfl)
theorem dX11_told_65 : decode cX11_told 65 = .ok (.iconst 1, 1) := dk_4 (dk_at dksX11_told_3 5 rfl rfl)
theorem dX11_told_66 : decode cX11_told 66 = .ok (.isub, 1) := dk_100 (dk_at dksX11_told_3 6 rfl rfl)
theorem dX11_told_67 : decode cX11_told 67 = .ok (.istore_n 2, 1) := dk_61 (dk_at dksX11_told_3 7 rfl rfl)
theorem dX11_told_68 : decode cX11_told 68 = .ok (.iload_n 1, 1) := dk_27 (dk_at dksX11_told_3 8 rfl rfl)
theorem dX11_told_69 : decode cX11_told 69 = .ok (.bipush 10, 2) := dk_16 10 (dk_at dksX11_told_3 9 rfl rfl)
theorem dX11_told_71 : decode cX11_told 71 = .ok (.irem, 1) := dk_112 (dk_at dksX11_told_3 11 rfl rfl)
theorem dX11_told_72 : decode cX11_told 72 = .ok (.istore_n 3, 1) := dk_62 (dk_at dksX11_told_3 12 rfl rfl)
theorem dX11_told_73 : decode cX11_told 73 = .ok (.iload_n 2, 1) := dk_28 (dk_at dksX11_told_3 13 rfl rfl)
theorem dX11_told_74 : decode cX11_told 74 = .ok (.i2l, 1) := dk_133 (dk_at dksX11_told_3 14 rfl rfl)
theorem dX11_told_75 : decode cX11_told 75 = .ok (.lconst 0, 1) := dk_9 (dk_at dksX11_told_3 15 rfl rfl)
theorem dX11_told_76 : decode cX11_told 76 = .ok (.ldc2_w 86, 3) := dk_20 0 86 (dk_at dksX11_told_3 16 rfl rfl)
theorem dX11_told_79 : decode cX11_told 79 = .ok (.invokestatic 88, 3) := dk_184 0 88 (dk_at dksX11_told_3 19 rfl rfl)
theorem dX11_told_82 : decode cX11_told 82 = .ok (.ifCond .eq 16, 3) := dk_153 0 16 (dk_at dksX11_told_4 0 rfl rfl)
theorem dX11_told_85 : decode cX11_told 85 = .ok (.iload_n 3, 1) := dk_29 (dk_at dksX11_told_4 3 rfl rfl)
theorem dX11_told_86 : decode cX11_told 86 = .ok (.iload_n 2, 1) := dk_28 (dk_at dksX11_told_4 4 rfl rfl)
theorem dX11_told_87 : decode cX11_told 87 = .ok (.ifCond .ne 7, 3) := dk_154 0 7 (dk_at dksX11_told_4 5 rfl rfl)
theorem dX11_told_90 : decode cX11_told 90 = .ok (.iconst 3, 1) := dk_6 (dk_at dksX11_told_4 8 rfl rfl)
theorem dX11_told_91 : decode cX11_told 91 = .ok (.goto 4, 3) := dk_167 0 4 (dk_at dksX11_told_4 9 rfl rfl)
theorem dX11_told_94 : decode cX11_told 94 = .ok (.iconst 5, 1) := dk_8 (dk_at dksX11_told_4 12 rfl rfl)
theorem dX11_told_95 : decode cX11_told 95 = .ok (.if_icmp .le 6, 3) := dk_164 0 6 (dk_at dksX11_told_4 13 rfl rfl)
theorem dX11_told_98 : decode cX11_told 98 = .ok (.bipush (-3), 2) := dk_16 253 (dk_at dksX11_told_4 16 rfl rfl)
theorem dX11_told_100 : decode cX11_told 100 = .ok (.ireturn, 1) := dk_172 (dk_at dksX11_told_4 18 rfl rfl)
theorem dX11_told_101 : decode cX11_told 101 = .ok (.iload_n 2, 1) := dk_28 (dk_at dksX11_told_4 19 rfl rfl)
theorem dX11_told_102 : decode cX11_told 102 = .ok (.aload_n 0, 1) := dk_42 (dk_at dksX11_told_4 20 rfl rfl)
theorem dX11_told_103 : decode cX11_told 103 = .ok (.getfield 56, 3) := dk_180 0 56 (dk_at dksX11_told_4 21 rfl rfl)
theorem dX11_told_106 : decode cX11_told 106 = .ok (.if_icmp .ge 16, 3) := dk_162 0 16 (dk_at dksX11_told_5 0 rfl rfl)
theorem dX11_told_109 : decode cX11_told 109 = .ok (.aload_n 0, 1) := dk_42 (dk_at dksX11_told_5 3 rfl rfl)
theorem dX11_told_110 : decode cX11_told 110 = .ok (.getfield 17, 3) := dk_180 0 17 (dk_at dksX11_told_5 4 rfl rfl)
theorem dX11_told_113 : decode cX11_told 113 = .ok (.iload_n 2, 1) := dk_28 (dk_at dksX11_told_5 7 rfl rfl)
theorem dX11_told_114 : decode cX11_told 114 = .ok (.aaload, 1) := dk_50 (dk_at dksX11_told_5 8 rfl rfl)
theorem dX11_told_115 : decode cX11_told 115 = .ok (.iload_n 3, 1) := dk_29 (dk_at dksX11_told_5 9 rfl rfl)
theorem dX11_told_116 : decode cX11_told 116 = .ok (.invokevirtual 92, 3) := dk_182 0 92 (dk_at dksX11_told_5 10 rfl rfl)
theorem dX11_told_119 : decode cX11_told 119 = .ok (.goto 4, 3) := dk_167 0 4 (dk_at dksX11_told_5 13 rfl rfl)
theorem dX11_told_122 : decode cX11_told 122 = .ok (.iconst (-1), 1) := dk_2 (dk_at dksX11_told_5 16 rfl rfl)
theorem dX11_told_123 : decode cX11_told 123 = .ok (.ireturn, 1) := dk_172 (dk_at dksX11_told_5 17 rfl rfl)
abbrev cX11_layPlaces : ByteArray := prog_8_method_4_code
def yX11_layPlaces : MethodName := ⟨RX11, "layPlaces", "()V"⟩
def dkwX11_layPlaces_7 : List UInt8 := [182, 0, 73, 132, 4, 1, 167, 255, 184, 132, 1, 1, 167, 255, 89, 177]
abbrev dktX11_layPlaces_7 : List UInt8 := dkwX11_layPlaces_7 ++ []
def dkwX11_layPlaces_6 : List UInt8 := [180, 0, 17, 4, 50, 180, 0, 49, 184, 0, 52, 128, 21, 4, 42, 180, 0, 17, 4, 50, 180, 0, 49, 96]
abbrev dktX11_layPlaces_6 : List UInt8 := dkwX11_layPlaces_6 ++ dktX11_layPlaces_7
def dkwX11_layPlaces_5 : List UInt8 := [180, 0, 17, 4, 50, 42, 182, 0, 41, 21, 4, 182, 0, 45, 153, 0, 35, 42, 28, 21, 4, 42]
abbrev dktX11_layPlaces_5 : List UInt8 := dkwX11_layPlaces_5 ++ dktX11_layPlaces_6
def dkwX11_layPlaces_4 : List UInt8 := [96, 54, 4, 21, 4, 29, 42, 4, 182, 0, 63, 180, 0, 70, 96, 163, 0, 63, 42, 180, 0, 3, 42]
abbrev dktX11_layPlaces_4 : List UInt8 := dkwX11_layPlaces_4 ++ dktX11_layPlaces_5
def dkwX11_layPlaces_3 : List UInt8 := [167, 0, 102, 27, 42, 180, 0, 17, 3, 50, 180, 0, 49, 96, 62, 29, 42, 4, 182, 0, 63, 180, 0, 67]
abbrev dktX11_layPlaces_3 : List UInt8 := dkwX11_layPlaces_3 ++ dktX11_layPlaces_4
def dkwX11_layPlaces_2 : List UInt8 := [3, 50, 180, 0, 49, 184, 0, 52, 61, 42, 180, 0, 56, 4, 160, 0, 11, 42, 28, 182, 0, 59]
abbrev dktX11_layPlaces_2 : List UInt8 := dkwX11_layPlaces_2 ++ dktX11_layPlaces_3
def dkwX11_layPlaces_1 : List UInt8 := [180, 0, 17, 3, 50, 42, 182, 0, 41, 27, 182, 0, 45, 154, 0, 6, 167, 0, 132, 27, 42, 180, 0, 17]
abbrev dktX11_layPlaces_1 : List UInt8 := dkwX11_layPlaces_1 ++ dktX11_layPlaces_2
def dkwX11_layPlaces_0 : List UInt8 := [42, 3, 181, 0, 35, 3, 60, 27, 42, 180, 0, 3, 180, 0, 38, 162, 0, 162, 42, 180, 0, 3, 42]
abbrev dktX11_layPlaces_0 : List UInt8 := dkwX11_layPlaces_0 ++ dktX11_layPlaces_1
theorem dksX11_layPlaces_0 : cX11_layPlaces.data.toList.drop 0 = dktX11_layPlaces_0 := by decide +kernel
theorem dksX11_layPlaces_1 : cX11_layPlaces.data.toList.drop 23 = dktX11_layPlaces_1 := dk_seg dksX11_layPlaces_0 23 rfl rfl
theorem dksX11_layPlaces_2 : cX11_layPlaces.data.toList.drop 47 = dktX11_layPlaces_2 := dk_seg dksX11_layPlaces_1 24 rfl rfl
theorem dksX11_layPlaces_3 : cX11_layPlaces.data.toList.drop 69 = dktX11_layPlaces_3 := dk_seg dksX11_layPlaces_2 22 rfl rfl
theorem dksX11_layPlaces_4 : cX11_layPlaces.data.toList.drop 93 = dktX11_layPlaces_4 := dk_seg dksX11_layPlaces_3 24 rfl rfl
theorem dksX11_layPlaces_5 : cX11_layPlaces.data.toList.drop 116 = dktX11_layPlaces_5 := dk_seg dksX11_layPlaces_4 23 rfl rfl
theorem dksX11_layPlaces_6 : cX11_layPlaces.data.toList.drop 138 = dktX11_layPlaces_6 := dk_seg dksX11_layPlaces_5 22 rfl rfl
theorem dksX11_layPlaces_7 : cX11_layPlaces.data.toList.drop 162 = dktX11_layPlaces_7 := dk_seg dksX11_layPlaces_6 24 rfl rfl
theorem dX11_layPlaces_0 : decode cX11_layPlaces 0 = .ok (.aload_n 0, 1) := dk_42 (dk_at dksX11_layPlaces_0 0 rfl rfl)
theorem dX11_layPlaces_1 : decode cX11_layPlaces 1 = .ok (.iconst 0, 1) := dk_3 (dk_at dksX11_layPlaces_0 1 rfl rfl)
theorem dX11_layPlaces_2 : decode cX11_layPlaces 2 = .ok (.putfield 35, 3) := dk_181 0 35 (dk_at dksX11_layPlaces_0 2 rfl rfl)
theorem dX11_layPlaces_5 : decode cX11_layPlaces 5 = .ok (.iconst 0, 1) := dk_3 (dk_at dksX11_layPlaces_0 5 rfl rfl)
theorem dX11_layPlaces_6 : decode cX11_layPlaces 6 = .ok (.istore_n 1, 1) := dk_60 (dk_at dksX11_layPlaces_0 6 rfl rfl)
theorem dX11_layPlaces_7 : decode cX11_layPlaces 7 = .ok (.iload_n 1, 1) := dk_27 (dk_at dksX11_layPlaces_0 7 rfl rfl)
theorem dX11_layPlaces_8 : decode cX11_layPlaces 8 = .ok (.aload_n 0, 1) := dk_42 (dk_at dksX11_layPlaces_0 8 rfl rfl)
theorem dX11_layPlaces_9 : decode cX11_layPlaces 9 = .ok (.getfield 3, 3) := dk_180 0 3 (dk_at dksX11_layPlaces_0 9 rfl rfl)
theorem dX11_layPlaces_12 : decode cX11_layPlaces 12 = .ok (.getfield 38, 3) := dk_180 0 38 (dk_at dksX11_layPlaces_0 12 rfl rfl)
theorem dX11_layPlaces_15 : decode cX11_layPlaces 15 = .ok (.if_icmp .ge 162, 3) := dk_162 0 162 (dk_at dksX11_layPlaces_0 15 rfl rfl)
theorem dX11_layPlaces_18 : decode cX11_layPlaces 18 = .ok (.aload_n 0, 1) := dk_42 (dk_at dksX11_layPlaces_0 18 rfl rfl)
theorem dX11_layPlaces_19 : decode cX11_layPlaces 19 = .ok (.getfield 3, 3) := dk_180 0 3 (dk_at dksX11_layPlaces_0 19 rfl rfl)
theorem dX11_layPlaces_22 : decode cX11_layPlaces 22 = .ok (.aload_n 0, 1) := dk_42 (dk_at dksX11_layPlaces_0 22 rfl rfl)
theorem dX11_layPlaces_23 : decode cX11_layPlaces 23 = .ok (.getfield 17, 3) := dk_180 0 17 (dk_at dksX11_layPlaces_1 0 rfl rfl)
theorem dX11_layPlaces_26 : decode cX11_layPlaces 26 = .ok (.iconst 0, 1) := dk_3 (dk_at dksX11_layPlaces_1 3 rfl rfl)
theorem dX11_layPlaces_27 : decode cX11_layPlaces 27 = .ok (.aaload, 1) := dk_50 (dk_at dksX11_layPlaces_1 4 rfl rfl)
theorem dX11_layPlaces_28 : decode cX11_layPlaces 28 = .ok (.aload_n 0, 1) := dk_42 (dk_at dksX11_layPlaces_1 5 rfl rfl)
theorem dX11_layPlaces_29 : decode cX11_layPlaces 29 = .ok (.invokevirtual 41, 3) := dk_182 0 41 (dk_at dksX11_layPlaces_1 6 rfl rfl)
theorem dX11_layPlaces_32 : decode cX11_layPlaces 32 = .ok (.iload_n 1, 1) := dk_27 (dk_at dksX11_layPlaces_1 9 rfl rfl)
theorem dX11_layPlaces_33 : decode cX11_layPlaces 33 = .ok (.invokevirtual 45, 3) := dk_182 0 45 (dk_at dksX11_layPlaces_1 10 rfl rfl)
theorem dX11_layPlaces_36 : decode cX11_layPlaces 36 = .ok (.ifCond .ne 6, 3) := dk_154 0 6 (dk_at dksX11_layPlaces_1 13 rfl rfl)
theorem dX11_layPlaces_39 : decode cX11_layPlaces 39 = .ok (.goto 132, 3) := dk_167 0 132 (dk_at dksX11_layPlaces_1 16 rfl rfl)
theorem dX11_layPlaces_42 : decode cX11_layPlaces 42 = .ok (.iload_n 1, 1) := dk_27 (dk_at dksX11_layPlaces_1 19 rfl rfl)
theorem dX11_layPlaces_43 : decode cX11_layPlaces 43 = .ok (.aload_n 0, 1) := dk_42 (dk_at dksX11_layPlaces_1 20 rfl rfl)
theorem dX11_layPlaces_44 : decode cX11_layPlaces 44 = .ok (.getfield 17, 3) := dk_180 0 17 (dk_at dksX11_layPlaces_1 21 rfl rfl)
theorem dX11_layPlaces_47 : decode cX11_layPlaces 47 = .ok (.iconst 0, 1) := dk_3 (dk_at dksX11_layPlaces_2 0 rfl rfl)
theorem dX11_layPlaces_48 : decode cX11_layPlaces 48 = .ok (.aaload, 1) := dk_50 (dk_at dksX11_layPlaces_2 1 rfl rfl)
theorem dX11_layPlaces_49 : decode cX11_layPlaces 49 = .ok (.getfield 49, 3) := dk_180 0 49 (dk_at dksX11_layPlaces_2 2 rfl rfl)
theorem dX11_layPlaces_52 : decode cX11_layPlaces 52 = .ok (.invokestatic 52, 3) := dk_184 0 52 (dk_at dksX11_layPlaces_2 5 rfl rfl)
theorem dX11_layPlaces_55 : decode cX11_layPlaces 55 = .ok (.istore_n 2, 1) := dk_61 (dk_at dksX11_layPlaces_2 8 rfl rfl)
theorem dX11_layPlaces_56 : decode cX11_layPlaces 56 = .ok (.aload_n 0, 1) := dk_42 (dk_at dksX11_layPlaces_2 9 rfl rfl)
theorem dX11_layPlaces_57 : decode cX11_layPlaces 57 = .ok (.getfield 56, 3) := dk_180 0 56 (dk_at dksX11_layPlaces_2 10 rfl rfl)
theorem dX11_layPlaces_60 : decode cX11_layPlaces 60 = .ok (.iconst 1, 1) := dk_4 (dk_at dksX11_layPlaces_2 13 rfl rfl)
theorem dX11_layPlaces_61 : decode cX11_layPlaces 61 = .ok (.if_icmp .ne 11, 3) := dk_160 0 11 (dk_at dksX11_layPlaces_2 14 rfl rfl)
theorem dX11_layPlaces_64 : decode cX11_layPlaces 64 = .ok (.aload_n 0, 1) := dk_42 (dk_at dksX11_layPlaces_2 17 rfl rfl)
theorem dX11_layPlaces_65 : decode cX11_layPlaces 65 = .ok (.iload_n 2, 1) := dk_28 (dk_at dksX11_layPlaces_2 18 rfl rfl)
theorem dX11_layPlaces_66 : decode cX11_layPlaces 66 = .ok (.invokevirtual 59, 3) := dk_182 0 59 (dk_at dksX11_layPlaces_2 19 rfl rfl)
theorem dX11_layPlaces_69 : decode cX11_layPlaces 69 = .ok (.goto 102, 3) := dk_167 0 102 (dk_at dksX11_layPlaces_3 0 rfl rfl)
theorem dX11_layPlaces_72 : decode cX11_layPlaces 72 = .ok (.iload_n 1, 1) := dk_27 (dk_at dksX11_layPlaces_3 3 rfl rfl)
theorem dX11_layPlaces_73 : decode cX11_layPlaces 73 = .ok (.aload_n 0, 1) := dk_42 (dk_at dksX11_layPlaces_3 4 rfl rfl)
theorem dX11_layPlaces_74 : decode cX11_layPlaces 74 = .ok (.getfield 17, 3) := dk_180 0 17 (dk_at dksX11_layPlaces_3 5 rfl rfl)
theorem dX11_layPlaces_77 : decode cX11_layPlaces 77 = .ok (.iconst 0, 1) := dk_3 (dk_at dksX11_layPlaces_3 8 rfl rfl)
theorem dX11_layPlaces_78 : decode cX11_layPlaces 78 = .ok (.aaload, 1) := dk_50 (dk_at dksX11_layPlaces_3 9 rfl rfl)
theorem dX11_layPlaces_79 : decode cX11_layPlaces 79 = .ok (.getfield 49, 3) := dk_180 0 49 (dk_at dksX11_layPlaces_3 10 rfl rfl)
theorem dX11_layPlaces_82 : decode cX11_layPlaces 82 = .ok (.iadd, 1) := dk_96 (dk_at dksX11_layPlaces_3 13 rfl rfl)
theorem dX11_layPlaces_83 : decode cX11_layPlaces 83 = .ok (.istore_n 3, 1) := dk_62 (dk_at dksX11_layPlaces_3 14 rfl rfl)
theorem dX11_layPlaces_84 : decode cX11_layPlaces 84 = .ok (.iload_n 3, 1) := dk_29 (dk_at dksX11_layPlaces_3 15 rfl rfl)
theorem dX11_layPlaces_85 : decode cX11_layPlaces 85 = .ok (.aload_n 0, 1) := dk_42 (dk_at dksX11_layPlaces_3 16 rfl rfl)
theorem dX11_layPlaces_86 : decode cX11_layPlaces 86 = .ok (.iconst 1, 1) := dk_4 (dk_at dksX11_layPlaces_3 17 rfl rfl)
theorem dX11_layPlaces_87 : decode cX11_layPlaces 87 = .ok (.invokevirtual 63, 3) := dk_182 0 63 (dk_at dksX11_layPlaces_3 18 rfl rfl)
theorem dX11_layPlaces_90 : decode cX11_layPlaces 90 = .ok (.getfield 67, 3) := dk_180 0 67 (dk_at dksX11_layPlaces_3 21 rfl rfl)
theorem dX11_layPlaces_93 : decode cX11_layPlaces 93 = .ok (.iadd, 1) := dk_96 (dk_at dksX11_layPlaces_4 0 rfl rfl)
theorem dX11_layPlaces_94 : decode cX11_layPlaces 94 = .ok (.istore 4, 2) := dk_54 4 (dk_at dksX11_layPlaces_4 1 rfl rfl)
theorem dX11_layPlaces_96 : decode cX11_layPlaces 96 = .ok (.iload 4, 2) := dk_21 4 (dk_at dksX11_layPlaces_4 3 rfl rfl)
theorem dX11_layPlaces_98 : decode cX11_layPlaces 98 = .ok (.iload_n 3, 1) := dk_29 (dk_at dksX11_layPlaces_4 5 rfl rfl)
theorem dX11_layPlaces_99 : decode cX11_layPlaces 99 = .ok (.aload_n 0, 1) := dk_42 (dk_at dksX11_layPlaces_4 6 rfl rfl)
theorem dX11_layPlaces_100 : decode cX11_layPlaces 100 = .ok (.iconst 1, 1) := dk_4 (dk_at dksX11_layPlaces_4 7 rfl rfl)
theorem dX11_layPlaces_101 : decode cX11_layPlaces 101 = .ok (.invokevirtual 63, 3) := dk_182 0 63 (dk_at dksX11_layPlaces_4 8 rfl rfl)
theorem dX11_layPlaces_104 : decode cX11_layPlaces 104 = .ok (.getfield 70, 3) := dk_180 0 70 (dk_at dksX11_layPlaces_4 11 rfl rfl)
theorem dX11_layPlaces_107 : decode cX11_layPlaces 107 = .ok (.iadd, 1) := dk_96 (dk_at dksX11_layPlaces_4 14 rfl rfl)
theorem dX11_layPlaces_108 : decode cX11_layPlaces 108 = .ok (.if_icmp .gt 63, 3) := dk_163 0 63 (dk_at dksX11_layPlaces_4 15 rfl rfl)
theorem dX11_layPlaces_111 : decode cX11_layPlaces 111 = .ok (.aload_n 0, 1) := dk_42 (dk_at dksX11_layPlaces_4 18 rfl rfl)
theorem dX11_layPlaces_112 : decode cX11_layPlaces 112 = .ok (.getfield 3, 3) := dk_180 0 3 (dk_at dksX11_layPlaces_4 19 rfl rfl)
theorem dX11_layPlaces_115 : decode cX11_layPlaces 115 = .ok (.aload_n 0, 1) := dk_42 (dk_at dksX11_layPlaces_4 22 rfl rfl)
theorem dX11_layPlaces_116 : decode cX11_layPlaces 116 = .ok (.getfield 17, 3) := dk_180 0 17 (dk_at dksX11_layPlaces_5 0 rfl rfl)
theorem dX11_layPlaces_119 : decode cX11_layPlaces 119 = .ok (.iconst 1, 1) := dk_4 (dk_at dksX11_layPlaces_5 3 rfl rfl)
theorem dX11_layPlaces_120 : decode cX11_layPlaces 120 = .ok (.aaload, 1) := dk_50 (dk_at dksX11_layPlaces_5 4 rfl rfl)
theorem dX11_layPlaces_121 : decode cX11_layPlaces 121 = .ok (.aload_n 0, 1) := dk_42 (dk_at dksX11_layPlaces_5 5 rfl rfl)
theorem dX11_layPlaces_122 : decode cX11_layPlaces 122 = .ok (.invokevirtual 41, 3) := dk_182 0 41 (dk_at dksX11_layPlaces_5 6 rfl rfl)
theorem dX11_layPlaces_125 : decode cX11_layPlaces 125 = .ok (.iload 4, 2) := dk_21 4 (dk_at dksX11_layPlaces_5 9 rfl rfl)
theorem dX11_layPlaces_127 : decode cX11_layPlaces 127 = .ok (.invokevirtual 45, 3) := dk_182 0 45 (dk_at dksX11_layPlaces_5 11 rfl rfl)
theorem dX11_layPlaces_130 : decode cX11_layPlaces 130 = .ok (.ifCond .eq 35, 3) := dk_153 0 35 (dk_at dksX11_layPlaces_5 14 rfl rfl)
theorem dX11_layPlaces_133 : decode cX11_layPlaces 133 = .ok (.aload_n 0, 1) := dk_42 (dk_at dksX11_layPlaces_5 17 rfl rfl)
theorem dX11_layPlaces_134 : decode cX11_layPlaces 134 = .ok (.iload_n 2, 1) := dk_28 (dk_at dksX11_layPlaces_5 18 rfl rfl)
theorem dX11_layPlaces_135 : decode cX11_layPlaces 135 = .ok (.iload 4, 2) := dk_21 4 (dk_at dksX11_layPlaces_5 19 rfl rfl)
theorem dX11_layPlaces_137 : decode cX11_layPlaces 137 = .ok (.aload_n 0, 1) := dk_42 (dk_at dksX11_layPlaces_5 21 rfl rfl)
theorem dX11_layPlaces_138 : decode cX11_layPlaces 138 = .ok (.getfield 17, 3) := dk_180 0 17 (dk_at dksX11_layPlaces_6 0 rfl rfl)
theorem dX11_layPlaces_141 : decode cX11_layPlaces 141 = .ok (.iconst 1, 1) := dk_4 (dk_at dksX11_layPlaces_6 3 rfl rfl)
theorem dX11_layPlaces_142 : decode cX11_layPlaces 142 = .ok (.aaload, 1) := dk_50 (dk_at dksX11_layPlaces_6 4 rfl rfl)
theorem dX11_layPlaces_143 : decode cX11_layPlaces 143 = .ok (.getfield 49, 3) := dk_180 0 49 (dk_at dksX11_layPlaces_6 5 rfl rfl)
theorem dX11_layPlaces_146 : decode cX11_layPlaces 146 = .ok (.invokestatic 52, 3) := dk_184 0 52 (dk_at dksX11_layPlaces_6 8 rfl rfl)
theorem dX11_layPlaces_149 : decode cX11_layPlaces 149 = .ok (.ior, 1) := dk_128 (dk_at dksX11_layPlaces_6 11 rfl rfl)
theorem dX11_layPlaces_150 : decode cX11_layPlaces 150 = .ok (.iload 4, 2) := dk_21 4 (dk_at dksX11_layPlaces_6 12 rfl rfl)
theorem dX11_layPlaces_152 : decode cX11_layPlaces 152 = .ok (.aload_n 0, 1) := dk_42 (dk_at dksX11_layPlaces_6 14 rfl rfl)
theorem dX11_layPlaces_153 : decode cX11_layPlaces 153 = .ok (.getfield 17, 3) := dk_180 0 17 (dk_at dksX11_layPlaces_6 15 rfl rfl)
theorem dX11_layPlaces_156 : decode cX11_layPlaces 156 = .ok (.iconst 1, 1) := dk_4 (dk_at dksX11_layPlaces_6 18 rfl rfl)
theorem dX11_layPlaces_157 : decode cX11_layPlaces 157 = .ok (.aaload, 1) := dk_50 (dk_at dksX11_layPlaces_6 19 rfl rfl)
theorem dX11_layPlaces_158 : decode cX11_layPlaces 158 = .ok (.getfield 49, 3) := dk_180 0 49 (dk_at dksX11_layPlaces_6 20 rfl rfl)
theorem dX11_layPlaces_161 : decode cX11_layPlaces 161 = .ok (.iadd, 1) := dk_96 (dk_at dksX11_layPlaces_6 23 rfl rfl)
theorem dX11_layPlaces_162 : decode cX11_layPlaces 162 = .ok (.invokevirtual 73, 3) := dk_182 0 73 (dk_at dksX11_layPlaces_7 0 rfl rfl)
theorem dX11_layPlaces_165 : decode cX11_layPlaces 165 = .ok (.iinc 4 1, 3) := dk_132 4 1 (dk_at dksX11_layPlaces_7 3 rfl rfl)
theorem dX11_layPlaces_168 : decode cX11_layPlaces 168 = .ok (.goto (-72), 3) := dk_167 255 184 (dk_at dksX11_layPlaces_7 6 rfl rfl)
theorem dX11_layPlaces_171 : decode cX11_layPlaces 171 = .ok (.iinc 1 1, 3) := dk_132 1 1 (dk_at dksX11_layPlaces_7 9 rfl rfl)
theorem dX11_layPlaces_174 : decode cX11_layPlaces 174 = .ok (.goto (-167), 3) := dk_167 255 89 (dk_at dksX11_layPlaces_7 12 rfl rfl)
theorem dX11_layPlaces_177 : decode cX11_layPlaces 177 = .ok (.return_, 1) := dk_177 (dk_at dksX11_layPlaces_7 15 rfl rfl)
abbrev cX11_of : ByteArray := prog_8_method_2_code
def yX11_of : MethodName := ⟨RX11, "of", "()LSharedNights$Target;"⟩
def dkwX11_of_0 : List UInt8 := [42, 180, 0, 3, 180, 0, 25, 42, 180, 0, 29, 50, 176]
abbrev dktX11_of_0 : List UInt8 := dkwX11_of_0 ++ []
theorem dksX11_of_0 : cX11_of.data.toList.drop 0 = dktX11_of_0 := by decide +kernel
theorem dX11_of_0 : decode cX11_of 0 = .ok (.aload_n 0, 1) := dk_42 (dk_at dksX11_of_0 0 rfl rfl)
theorem dX11_of_1 : decode cX11_of 1 = .ok (.getfield 3, 3) := dk_180 0 3 (dk_at dksX11_of_0 1 rfl rfl)
theorem dX11_of_4 : decode cX11_of 4 = .ok (.getfield 25, 3) := dk_180 0 25 (dk_at dksX11_of_0 4 rfl rfl)
theorem dX11_of_7 : decode cX11_of 7 = .ok (.aload_n 0, 1) := dk_42 (dk_at dksX11_of_0 7 rfl rfl)
theorem dX11_of_8 : decode cX11_of 8 = .ok (.getfield 29, 3) := dk_180 0 29 (dk_at dksX11_of_0 8 rfl rfl)
theorem dX11_of_11 : decode cX11_of 11 = .ok (.aaload, 1) := dk_50 (dk_at dksX11_of_0 11 rfl rfl)
theorem dX11_of_12 : decode cX11_of 12 = .ok (.areturn, 1) := dk_176 (dk_at dksX11_of_0 12 rfl rfl)
abbrev cX11_come : ByteArray := prog_8_method_6_code
def yX11_come : MethodName := ⟨RX11, "come", "(I)V"⟩
def dkwX11_come_0 : List UInt8 := [42, 180, 0, 21, 42, 180, 0, 35, 27, 79, 42, 89, 180, 0, 35, 4, 96, 181, 0, 35, 177]
abbrev dktX11_come_0 : List UInt8 := dkwX11_come_0 ++ []
theorem dksX11_come_0 : cX11_come.data.toList.drop 0 = dktX11_come_0 := by decide +kernel
theorem dX11_come_0 : decode cX11_come 0 = .ok (.aload_n 0, 1) := dk_42 (dk_at dksX11_come_0 0 rfl rfl)
theorem dX11_come_1 : decode cX11_come 1 = .ok (.getfield 21, 3) := dk_180 0 21 (dk_at dksX11_come_0 1 rfl rfl)
theorem dX11_come_4 : decode cX11_come 4 = .ok (.aload_n 0, 1) := dk_42 (dk_at dksX11_come_0 4 rfl rfl)
theorem dX11_come_5 : decode cX11_come 5 = .ok (.getfield 35, 3) := dk_180 0 35 (dk_at dksX11_come_0 5 rfl rfl)
theorem dX11_come_8 : decode cX11_come 8 = .ok (.iload_n 1, 1) := dk_27 (dk_at dksX11_come_0 8 rfl rfl)
theorem dX11_come_9 : decode cX11_come 9 = .ok (.iastore, 1) := dk_79 (dk_at dksX11_come_0 9 rfl rfl)
theorem dX11_come_10 : decode cX11_come 10 = .ok (.aload_n 0, 1) := dk_42 (dk_at dksX11_come_0 10 rfl rfl)
theorem dX11_come_11 : decode cX11_come 11 = .ok (.dup, 1) := dk_89 (dk_at dksX11_come_0 11 rfl rfl)
theorem dX11_come_12 : decode cX11_come 12 = .ok (.getfield 35, 3) := dk_180 0 35 (dk_at dksX11_come_0 12 rfl rfl)
theorem dX11_come_15 : decode cX11_come 15 = .ok (.iconst 1, 1) := dk_4 (dk_at dksX11_come_0 15 rfl rfl)
theorem dX11_come_16 : decode cX11_come 16 = .ok (.iadd, 1) := dk_96 (dk_at dksX11_come_0 16 rfl rfl)
theorem dX11_come_17 : decode cX11_come 17 = .ok (.putfield 35, 3) := dk_181 0 35 (dk_at dksX11_come_0 17 rfl rfl)
theorem dX11_come_20 : decode cX11_come 20 = .ok (.return_, 1) := dk_177 (dk_at dksX11_come_0 20 rfl rfl)
abbrev cX11_later : ByteArray := prog_8_method_3_code
def yX11_later : MethodName := ⟨RX11, "later", "(I)LSharedNights$Later;"⟩
def dkwX11_later_0 : List UInt8 := [42, 180, 0, 17, 27, 50, 192, 0, 33, 176]
abbrev dktX11_later_0 : List UInt8 := dkwX11_later_0 ++ []
theorem dksX11_later_0 : cX11_later.data.toList.drop 0 = dktX11_later_0 := by decide +kernel
theorem dX11_later_0 : decode cX11_later 0 = .ok (.aload_n 0, 1) := dk_42 (dk_at dksX11_later_0 0 rfl rfl)
theorem dX11_later_1 : decode cX11_later 1 = .ok (.getfield 17, 3) := dk_180 0 17 (dk_at dksX11_later_0 1 rfl rfl)
theorem dX11_later_4 : decode cX11_later 4 = .ok (.iload_n 1, 1) := dk_27 (dk_at dksX11_later_0 4 rfl rfl)
theorem dX11_later_5 : decode cX11_later 5 = .ok (.aaload, 1) := dk_50 (dk_at dksX11_later_0 5 rfl rfl)
theorem dX11_later_6 : decode cX11_later 6 = .ok (.checkcast 33, 3) := dk_192 0 33 (dk_at dksX11_later_0 6 rfl rfl)
theorem dX11_later_9 : decode cX11_later 9 = .ok (.areturn, 1) := dk_176 (dk_at dksX11_later_0 9 rfl rfl)
abbrev cX11_layThird : ByteArray := prog_8_method_5_code
def yX11_layThird : MethodName := ⟨RX11, "layThird", "(II)V"⟩
def dkwX11_layThird_3 : List UInt8 := [184, 0, 52, 128, 182, 0, 59, 132, 3, 1, 167, 255, 199, 177]
abbrev dktX11_layThird_3 : List UInt8 := dkwX11_layThird_3 ++ []
def dkwX11_layThird_2 : List UInt8 := [50, 42, 182, 0, 41, 29, 182, 0, 45, 153, 0, 22, 42, 27, 29, 42, 180, 0, 17, 5, 50, 180, 0, 49]
abbrev dktX11_layThird_2 : List UInt8 := dkwX11_layThird_2 ++ dktX11_layThird_3
def dkwX11_layThird_1 : List UInt8 := [62, 29, 28, 42, 5, 182, 0, 63, 180, 0, 70, 96, 163, 0, 49, 42, 180, 0, 3, 42, 180, 0, 17, 5]
abbrev dktX11_layThird_1 : List UInt8 := dkwX11_layThird_1 ++ dktX11_layThird_2
def dkwX11_layThird_0 : List UInt8 := [42, 180, 0, 56, 5, 160, 0, 9, 42, 27, 182, 0, 59, 177, 28, 42, 5, 182, 0, 63, 180, 0, 67, 96]
abbrev dktX11_layThird_0 : List UInt8 := dkwX11_layThird_0 ++ dktX11_layThird_1
theorem dksX11_layThird_0 : cX11_layThird.data.toList.drop 0 = dktX11_layThird_0 := by decide +kernel
theorem dksX11_layThird_1 : cX11_layThird.data.toList.drop 24 = dktX11_layThird_1 := dk_seg dksX11_layThird_0 24 rfl rfl
theorem dksX11_layThird_2 : cX11_layThird.data.toList.drop 48 = dktX11_layThird_2 := dk_seg dksX11_layThird_1 24 rfl rfl
theorem dksX11_layThird_3 : cX11_layThird.data.toList.drop 72 = dktX11_layThird_3 := dk_seg dksX11_layThird_2 24 rfl rfl
theorem dX11_layThird_0 : decode cX11_layThird 0 = .ok (.aload_n 0, 1) := dk_42 (dk_at dksX11_layThird_0 0 rfl rfl)
theorem dX11_layThird_1 : decode cX11_layThird 1 = .ok (.getfield 56, 3) := dk_180 0 56 (dk_at dksX11_layThird_0 1 rfl rfl)
theorem dX11_layThird_4 : decode cX11_layThird 4 = .ok (.iconst 2, 1) := dk_5 (dk_at dksX11_layThird_0 4 rfl rfl)
theorem dX11_layThird_5 : decode cX11_layThird 5 = .ok (.if_icmp .ne 9, 3) := dk_160 0 9 (dk_at dksX11_layThird_0 5 rfl rfl)
theorem dX11_layThird_8 : decode cX11_layThird 8 = .ok (.aload_n 0, 1) := dk_42 (dk_at dksX11_layThird_0 8 rfl rfl)
theorem dX11_layThird_9 : decode cX11_layThird 9 = .ok (.iload_n 1, 1) := dk_27 (dk_at dksX11_layThird_0 9 rfl rfl)
theorem dX11_layThird_10 : decode cX11_layThird 10 = .ok (.invokevirtual 59, 3) := dk_182 0 59 (dk_at dksX11_layThird_0 10 rfl rfl)
theorem dX11_layThird_13 : decode cX11_layThird 13 = .ok (.return_, 1) := dk_177 (dk_at dksX11_layThird_0 13 rfl rfl)
theorem dX11_layThird_14 : decode cX11_layThird 14 = .ok (.iload_n 2, 1) := dk_28 (dk_at dksX11_layThird_0 14 rfl rfl)
theorem dX11_layThird_15 : decode cX11_layThird 15 = .ok (.aload_n 0, 1) := dk_42 (dk_at dksX11_layThird_0 15 rfl rfl)
theorem dX11_layThird_16 : decode cX11_layThird 16 = .ok (.iconst 2, 1) := dk_5 (dk_at dksX11_layThird_0 16 rfl rfl)
theorem dX11_layThird_17 : decode cX11_layThird 17 = .ok (.invokevirtual 63, 3) := dk_182 0 63 (dk_at dksX11_layThird_0 17 rfl rfl)
theorem dX11_layThird_20 : decode cX11_layThird 20 = .ok (.getfield 67, 3) := dk_180 0 67 (dk_at dksX11_layThird_0 20 rfl rfl)
theorem dX11_layThird_23 : decode cX11_layThird 23 = .ok (.iadd, 1) := dk_96 (dk_at dksX11_layThird_0 23 rfl rfl)
theorem dX11_layThird_24 : decode cX11_layThird 24 = .ok (.istore_n 3, 1) := dk_62 (dk_at dksX11_layThird_1 0 rfl rfl)
theorem dX11_layThird_25 : decode cX11_layThird 25 = .ok (.iload_n 3, 1) := dk_29 (dk_at dksX11_layThird_1 1 rfl rfl)
theorem dX11_layThird_26 : decode cX11_layThird 26 = .ok (.iload_n 2, 1) := dk_28 (dk_at dksX11_layThird_1 2 rfl rfl)
theorem dX11_layThird_27 : decode cX11_layThird 27 = .ok (.aload_n 0, 1) := dk_42 (dk_at dksX11_layThird_1 3 rfl rfl)
theorem dX11_layThird_28 : decode cX11_layThird 28 = .ok (.iconst 2, 1) := dk_5 (dk_at dksX11_layThird_1 4 rfl rfl)
theorem dX11_layThird_29 : decode cX11_layThird 29 = .ok (.invokevirtual 63, 3) := dk_182 0 63 (dk_at dksX11_layThird_1 5 rfl rfl)
theorem dX11_layThird_32 : decode cX11_layThird 32 = .ok (.getfield 70, 3) := dk_180 0 70 (dk_at dksX11_layThird_1 8 rfl rfl)
theorem dX11_layThird_35 : decode cX11_layThird 35 = .ok (.iadd, 1) := dk_96 (dk_at dksX11_layThird_1 11 rfl rfl)
theorem dX11_layThird_36 : decode cX11_layThird 36 = .ok (.if_icmp .gt 49, 3) := dk_163 0 49 (dk_at dksX11_layThird_1 12 rfl rfl)
theorem dX11_layThird_39 : decode cX11_layThird 39 = .ok (.aload_n 0, 1) := dk_42 (dk_at dksX11_layThird_1 15 rfl rfl)
theorem dX11_layThird_40 : decode cX11_layThird 40 = .ok (.getfield 3, 3) := dk_180 0 3 (dk_at dksX11_layThird_1 16 rfl rfl)
theorem dX11_layThird_43 : decode cX11_layThird 43 = .ok (.aload_n 0, 1) := dk_42 (dk_at dksX11_layThird_1 19 rfl rfl)
theorem dX11_layThird_44 : decode cX11_layThird 44 = .ok (.getfield 17, 3) := dk_180 0 17 (dk_at dksX11_layThird_1 20 rfl rfl)
theorem dX11_layThird_47 : decode cX11_layThird 47 = .ok (.iconst 2, 1) := dk_5 (dk_at dksX11_layThird_1 23 rfl rfl)
theorem dX11_layThird_48 : decode cX11_layThird 48 = .ok (.aaload, 1) := dk_50 (dk_at dksX11_layThird_2 0 rfl rfl)
theorem dX11_layThird_49 : decode cX11_layThird 49 = .ok (.aload_n 0, 1) := dk_42 (dk_at dksX11_layThird_2 1 rfl rfl)
theorem dX11_layThird_50 : decode cX11_layThird 50 = .ok (.invokevirtual 41, 3) := dk_182 0 41 (dk_at dksX11_layThird_2 2 rfl rfl)
theorem dX11_layThird_53 : decode cX11_layThird 53 = .ok (.iload_n 3, 1) := dk_29 (dk_at dksX11_layThird_2 5 rfl rfl)
theorem dX11_layThird_54 : decode cX11_layThird 54 = .ok (.invokevirtual 45, 3) := dk_182 0 45 (dk_at dksX11_layThird_2 6 rfl rfl)
theorem dX11_layThird_57 : decode cX11_layThird 57 = .ok (.ifCond .eq 22, 3) := dk_153 0 22 (dk_at dksX11_layThird_2 9 rfl rfl)
theorem dX11_layThird_60 : decode cX11_layThird 60 = .ok (.aload_n 0, 1) := dk_42 (dk_at dksX11_layThird_2 12 rfl rfl)
theorem dX11_layThird_61 : decode cX11_layThird 61 = .ok (.iload_n 1, 1) := dk_27 (dk_at dksX11_layThird_2 13 rfl rfl)
theorem dX11_layThird_62 : decode cX11_layThird 62 = .ok (.iload_n 3, 1) := dk_29 (dk_at dksX11_layThird_2 14 rfl rfl)
theorem dX11_layThird_63 : decode cX11_layThird 63 = .ok (.aload_n 0, 1) := dk_42 (dk_at dksX11_layThird_2 15 rfl rfl)
theorem dX11_layThird_64 : decode cX11_layThird 64 = .ok (.getfield 17, 3) := dk_180 0 17 (dk_at dksX11_layThird_2 16 rfl rfl)
theorem dX11_layThird_67 : decode cX11_layThird 67 = .ok (.iconst 2, 1) := dk_5 (dk_at dksX11_layThird_2 19 rfl rfl)
theorem dX11_layThird_68 : decode cX11_layThird 68 = .ok (.aaload, 1) := dk_50 (dk_at dksX11_layThird_2 20 rfl rfl)
theorem dX11_layThird_69 : decode cX11_layThird 69 = .ok (.getfield 49, 3) := dk_180 0 49 (dk_at dksX11_layThird_2 21 rfl rfl)
theorem dX11_layThird_72 : decode cX11_layThird 72 = .ok (.invokestatic 52, 3) := dk_184 0 52 (dk_at dksX11_layThird_3 0 rfl rfl)
theorem dX11_layThird_75 : decode cX11_layThird 75 = .ok (.ior, 1) := dk_128 (dk_at dksX11_layThird_3 3 rfl rfl)
theorem dX11_layThird_76 : decode cX11_layThird 76 = .ok (.invokevirtual 59, 3) := dk_182 0 59 (dk_at dksX11_layThird_3 4 rfl rfl)
theorem dX11_layThird_79 : decode cX11_layThird 79 = .ok (.iinc 3 1, 3) := dk_132 3 1 (dk_at dksX11_layThird_3 7 rfl rfl)
theorem dX11_layThird_82 : decode cX11_layThird 82 = .ok (.goto (-57), 3) := dk_167 255 199 (dk_at dksX11_layThird_3 10 rfl rfl)
theorem dX11_layThird_85 : decode cX11_layThird 85 = .ok (.return_, 1) := dk_177 (dk_at dksX11_layThird_3 13 rfl rfl)
theorem q86 : (Jvm.Cond.initialized "SharedNights$Plan") ∈ lw_all := lw_g (lw_at lw_m1 14 rfl) rfl
theorem q252 : (Jvm.Cond.fieldLinkNest "SharedNights$Plan" (38 : Nat) "SharedNights" "many" "I" "SharedNights") ∈ lw_tbl := lw_at lw_m1 180 rfl
theorem q266 : (Jvm.Cond.fieldLinkNest "SharedNights$Plan" (25 : Nat) "SharedNights" "targets" "[LSharedNights$Target;" "SharedNights") ∈ lw_tbl := lw_at lw_m1 194 rfl
theorem q459 : (Jvm.Cond.instantiable "SharedNights$Plan" (9 : Nat)) ∈ lw_all := lw_g (lw_at lw_m2 147 rfl) rfl
theorem q461 : (Jvm.Cond.instanceMethod ({ cls := "SharedNights$Plan", name := "<init>", desc := "(LSharedNights;)V" } : Jvm.MethodName)) ∈ lw_all := lw_g (lw_at lw_m2 149 rfl) rfl
theorem q462 : (Jvm.Cond.code ({ cls := "SharedNights$Plan", name := "<init>", desc := "(LSharedNights;)V" } : Jvm.MethodName) prog_8_method_1_code (2 : Nat) (Option.none : Option Jvm.ClassFile.FieldType)) ∈ lw_all := lw_g (lw_at lw_m2 150 rfl) rfl
theorem q463 : (Jvm.Cond.methodLink "SharedNights$Plan" (9 : Nat) ({ cls := "java/lang/Object", name := "<init>", desc := "()V" } : Jvm.MethodName)) ∈ lw_all := lw_g (lw_at lw_m2 151 rfl) rfl
theorem q464 : (Jvm.Cond.classLink "SharedNights$Plan" (15 : Nat) "SharedNights$Look") ∈ lw_all := lw_g (lw_at lw_m2 152 rfl) rfl
theorem q466 : (Jvm.Cond.fieldLink "SharedNights$Plan" (77 : Nat) "SharedNights$Plan" "land" "I") ∈ lw_all := lw_g (lw_at lw_m2 154 rfl) rfl
theorem q471 : (Jvm.Cond.fieldLink "SharedNights$Plan" (80 : Nat) "SharedNights$Plan" "instrument" "I") ∈ lw_all := lw_g (lw_at lw_m2 159 rfl) rfl
theorem q474 : (Jvm.Cond.fieldLink "SharedNights$Plan" (29 : Nat) "SharedNights$Plan" "target" "I") ∈ lw_all := lw_g (lw_at lw_m2 162 rfl) rfl
theorem q478 : (Jvm.Cond.fieldLink "SharedNights$Plan" (83 : Nat) "SharedNights$Plan" "worth" "I") ∈ lw_all := lw_g (lw_at lw_m2 166 rfl) rfl
theorem q482 : (Jvm.Cond.fieldLink "SharedNights$Plan" (17 : Nat) "SharedNights$Plan" "steps" "[LSharedNights$Look;") ∈ lw_all := lw_g (lw_at lw_m2 170 rfl) rfl
theorem q485 : (Jvm.Cond.fieldLink "SharedNights$Plan" (56 : Nat) "SharedNights$Plan" "stepMany" "I") ∈ lw_all := lw_g (lw_at lw_m2 173 rfl) rfl
theorem q488 : (Jvm.Cond.fieldLink "SharedNights$Plan" (21 : Nat) "SharedNights$Plan" "places" "[I") ∈ lw_all := lw_g (lw_at lw_m2 176 rfl) rfl
theorem q491 : (Jvm.Cond.fieldLink "SharedNights$Plan" (35 : Nat) "SharedNights$Plan" "placeMany" "I") ∈ lw_all := lw_g (lw_at lw_m2 179 rfl) rfl
theorem q494 : (Jvm.Cond.fieldLink "SharedNights$Plan" (3 : Nat) "SharedNights$Plan" "this$0" "LSharedNights;") ∈ lw_all := lw_g (lw_at lw_m2 182 rfl) rfl
theorem q495 : (Jvm.Cond.lays "SharedNights$Plan" "SharedNights$Plan" "land" "I") ∈ lw_all := lw_g (lw_at lw_m2 183 rfl) rfl
theorem q496 : (Jvm.Cond.soleField "SharedNights$Plan" "land") ∈ lw_all := lw_g (lw_at lw_m2 184 rfl) rfl
theorem q497 : (Jvm.Cond.lays "SharedNights$Plan" "SharedNights$Plan" "instrument" "I") ∈ lw_all := lw_g (lw_at lw_m2 185 rfl) rfl
theorem q498 : (Jvm.Cond.soleField "SharedNights$Plan" "instrument") ∈ lw_all := lw_g (lw_at lw_m2 186 rfl) rfl
theorem q499 : (Jvm.Cond.lays "SharedNights$Plan" "SharedNights$Plan" "target" "I") ∈ lw_all := lw_g (lw_at lw_m2 187 rfl) rfl
theorem q500 : (Jvm.Cond.soleField "SharedNights$Plan" "target") ∈ lw_all := lw_g (lw_at lw_m2 188 rfl) rfl
theorem q501 : (Jvm.Cond.lays "SharedNights$Plan" "SharedNights$Plan" "worth" "I") ∈ lw_all := lw_g (lw_at lw_m2 189 rfl) rfl
theorem q502 : (Jvm.Cond.soleField "SharedNights$Plan" "worth") ∈ lw_all := lw_g (lw_at lw_m2 190 rfl) rfl
theorem q503 : (Jvm.Cond.laysFinal "SharedNights$Plan" "SharedNights$Plan" "steps" "[LSharedNights$Look;") ∈ lw_all := lw_g (lw_at lw_m2 191 rfl) rfl
theorem q504 : (Jvm.Cond.soleField "SharedNights$Plan" "steps") ∈ lw_all := lw_g (lw_at lw_m2 192 rfl) rfl
theorem q505 : (Jvm.Cond.lays "SharedNights$Plan" "SharedNights$Plan" "stepMany" "I") ∈ lw_all := lw_g (lw_at lw_m2 193 rfl) rfl
theorem q506 : (Jvm.Cond.soleField "SharedNights$Plan" "stepMany") ∈ lw_all := lw_g (lw_at lw_m2 194 rfl) rfl
theorem q507 : (Jvm.Cond.laysFinal "SharedNights$Plan" "SharedNights$Plan" "places" "[I") ∈ lw_all := lw_g (lw_at lw_m2 195 rfl) rfl
theorem q508 : (Jvm.Cond.soleField "SharedNights$Plan" "places") ∈ lw_all := lw_g (lw_at lw_m2 196 rfl) rfl
theorem q509 : (Jvm.Cond.lays "SharedNights$Plan" "SharedNights$Plan" "placeMany" "I") ∈ lw_all := lw_g (lw_at lw_m2 197 rfl) rfl
theorem q510 : (Jvm.Cond.soleField "SharedNights$Plan" "placeMany") ∈ lw_all := lw_g (lw_at lw_m2 198 rfl) rfl
theorem q511 : (Jvm.Cond.laysFinal "SharedNights$Plan" "SharedNights$Plan" "this$0" "LSharedNights;") ∈ lw_all := lw_g (lw_at lw_m2 199 rfl) rfl
theorem q512 : (Jvm.Cond.soleField "SharedNights$Plan" "this$0") ∈ lw_all := lw_g (lw_at lw_m2 200 rfl) rfl
theorem q513 : (Jvm.Cond.superclass "SharedNights$Plan" "java/lang/Object") ∈ lw_all := lw_g (lw_at lw_m2 201 rfl) rfl
theorem q691 : (Jvm.Cond.fieldLink "SharedNights$Plan" (49 : Nat) "SharedNights$Look" "slots" "I") ∈ lw_all := lw_g (lw_at lw_m3 139 rfl) rfl
theorem q719 : (Jvm.Cond.fieldLinkNest "SharedNights$Plan" (67 : Nat) "SharedNights$Later" "least" "I" "SharedNights") ∈ lw_tbl := lw_at lw_m3 167 rfl
theorem q722 : (Jvm.Cond.fieldLinkNest "SharedNights$Plan" (70 : Nat) "SharedNights$Later" "most" "I" "SharedNights") ∈ lw_tbl := lw_at lw_m3 170 rfl
theorem q758 : (Jvm.Cond.instanceMethod ({ cls := "SharedNights$Plan", name := "told", desc := "(I)I" } : Jvm.MethodName)) ∈ lw_all := lw_g (lw_at lw_m3 206 rfl) rfl
theorem q759 : (Jvm.Cond.selects "SharedNights$Plan" ({ cls := "SharedNights$Plan", name := "told", desc := "(I)I" } : Jvm.MethodName) ({ cls := "SharedNights$Plan", name := "told", desc := "(I)I" } : Jvm.MethodName)) ∈ lw_all := lw_g (lw_at lw_m3 207 rfl) rfl
theorem q760 : (Jvm.Cond.code ({ cls := "SharedNights$Plan", name := "told", desc := "(I)I" } : Jvm.MethodName) prog_8_method_7_code (4 : Nat) (Option.some Jvm.ClassFile.FieldType.int)) ∈ lw_all := lw_g (lw_at lw_m3 208 rfl) rfl
theorem q761 : (Jvm.Cond.constantLong "SharedNights$Plan" (86 : Nat) (2 : Int64)) ∈ lw_all := lw_g (lw_at lw_m3 209 rfl) rfl
theorem q762 : (Jvm.Cond.methodLinkNest "SharedNights$Plan" (88 : Nat) ({ cls := "SharedNights", name := "isIn", desc := "(JJJ)Z" } : Jvm.MethodName) "SharedNights") ∈ lw_tbl := lw_at lw_m3 210 rfl
theorem q763 : (Jvm.Cond.methodLink "SharedNights$Plan" (92 : Nat) ({ cls := "SharedNights$Look", name := "told", desc := "(I)I" } : Jvm.MethodName)) ∈ lw_all := lw_g (lw_at lw_m3 211 rfl) rfl
theorem q782 : (Jvm.Cond.instanceMethod ({ cls := "SharedNights$Plan", name := "layPlaces", desc := "()V" } : Jvm.MethodName)) ∈ lw_all := lw_g (lw_at lw_m3 230 rfl) rfl
theorem q783 : (Jvm.Cond.selects "SharedNights$Plan" ({ cls := "SharedNights$Plan", name := "layPlaces", desc := "()V" } : Jvm.MethodName) ({ cls := "SharedNights$Plan", name := "layPlaces", desc := "()V" } : Jvm.MethodName)) ∈ lw_all := lw_g (lw_at lw_m3 231 rfl) rfl
theorem q784 : (Jvm.Cond.code ({ cls := "SharedNights$Plan", name := "layPlaces", desc := "()V" } : Jvm.MethodName) prog_8_method_4_code (5 : Nat) (Option.none : Option Jvm.ClassFile.FieldType)) ∈ lw_all := lw_g (lw_at lw_m3 232 rfl) rfl
theorem q785 : (Jvm.Cond.methodLink "SharedNights$Plan" (41 : Nat) ({ cls := "SharedNights$Plan", name := "of", desc := "()LSharedNights$Target;" } : Jvm.MethodName)) ∈ lw_all := lw_g (lw_at lw_m3 233 rfl) rfl
theorem q786 : (Jvm.Cond.instanceMethod ({ cls := "SharedNights$Plan", name := "of", desc := "()LSharedNights$Target;" } : Jvm.MethodName)) ∈ lw_all := lw_g (lw_at lw_m3 234 rfl) rfl
theorem q787 : (Jvm.Cond.selects "SharedNights$Plan" ({ cls := "SharedNights$Plan", name := "of", desc := "()LSharedNights$Target;" } : Jvm.MethodName) ({ cls := "SharedNights$Plan", name := "of", desc := "()LSharedNights$Target;" } : Jvm.MethodName)) ∈ lw_all := lw_g (lw_at lw_m3 235 rfl) rfl
theorem q788 : (Jvm.Cond.code ({ cls := "SharedNights$Plan", name := "of", desc := "()LSharedNights$Target;" } : Jvm.MethodName) prog_8_method_2_code (1 : Nat) (Option.some (Jvm.ClassFile.FieldType.object "SharedNights$Target"))) ∈ lw_all := lw_g (lw_at lw_m3 236 rfl) rfl
theorem q789 : (Jvm.Cond.methodLinkNest "SharedNights$Plan" (45 : Nat) ({ cls := "SharedNights", name := "fits", desc := "(LSharedNights$Look;LSharedNights$Target;I)Z" } : Jvm.MethodName) "SharedNights") ∈ lw_tbl := lw_at lw_m3 237 rfl
theorem q806 : (Jvm.Cond.methodLinkNest "SharedNights$Plan" (52 : Nat) ({ cls := "SharedNights", name := "bitsOf", desc := "(II)I" } : Jvm.MethodName) "SharedNights") ∈ lw_tbl := lw_at lw_m4 14 rfl
theorem q809 : (Jvm.Cond.methodLink "SharedNights$Plan" (59 : Nat) ({ cls := "SharedNights$Plan", name := "come", desc := "(I)V" } : Jvm.MethodName)) ∈ lw_all := lw_g (lw_at lw_m4 17 rfl) rfl
theorem q810 : (Jvm.Cond.privateMethod ({ cls := "SharedNights$Plan", name := "come", desc := "(I)V" } : Jvm.MethodName)) ∈ lw_tbl := lw_at lw_m4 18 rfl
theorem q811 : (Jvm.Cond.instanceMethod ({ cls := "SharedNights$Plan", name := "come", desc := "(I)V" } : Jvm.MethodName)) ∈ lw_all := lw_g (lw_at lw_m4 19 rfl) rfl
theorem q812 : (Jvm.Cond.code ({ cls := "SharedNights$Plan", name := "come", desc := "(I)V" } : Jvm.MethodName) prog_8_method_6_code (2 : Nat) (Option.none : Option Jvm.ClassFile.FieldType)) ∈ lw_all := lw_g (lw_at lw_m4 20 rfl) rfl
theorem q813 : (Jvm.Cond.methodLink "SharedNights$Plan" (63 : Nat) ({ cls := "SharedNights$Plan", name := "later", desc := "(I)LSharedNights$Later;" } : Jvm.MethodName)) ∈ lw_all := lw_g (lw_at lw_m4 21 rfl) rfl
theorem q814 : (Jvm.Cond.privateMethod ({ cls := "SharedNights$Plan", name := "later", desc := "(I)LSharedNights$Later;" } : Jvm.MethodName)) ∈ lw_tbl := lw_at lw_m4 22 rfl
theorem q815 : (Jvm.Cond.instanceMethod ({ cls := "SharedNights$Plan", name := "later", desc := "(I)LSharedNights$Later;" } : Jvm.MethodName)) ∈ lw_all := lw_g (lw_at lw_m4 23 rfl) rfl
theorem q816 : (Jvm.Cond.code ({ cls := "SharedNights$Plan", name := "later", desc := "(I)LSharedNights$Later;" } : Jvm.MethodName) prog_8_method_3_code (2 : Nat) (Option.some (Jvm.ClassFile.FieldType.object "SharedNights$Later"))) ∈ lw_all := lw_g (lw_at lw_m4 24 rfl) rfl
theorem q817 : (Jvm.Cond.classLink "SharedNights$Plan" (33 : Nat) "SharedNights$Later") ∈ lw_all := lw_g (lw_at lw_m4 25 rfl) rfl
theorem q818 : (Jvm.Cond.methodLink "SharedNights$Plan" (73 : Nat) ({ cls := "SharedNights$Plan", name := "layThird", desc := "(II)V" } : Jvm.MethodName)) ∈ lw_all := lw_g (lw_at lw_m4 26 rfl) rfl
theorem q819 : (Jvm.Cond.privateMethod ({ cls := "SharedNights$Plan", name := "layThird", desc := "(II)V" } : Jvm.MethodName)) ∈ lw_tbl := lw_at lw_m4 27 rfl
theorem q820 : (Jvm.Cond.instanceMethod ({ cls := "SharedNights$Plan", name := "layThird", desc := "(II)V" } : Jvm.MethodName)) ∈ lw_all := lw_g (lw_at lw_m4 28 rfl) rfl
theorem q821 : (Jvm.Cond.code ({ cls := "SharedNights$Plan", name := "layThird", desc := "(II)V" } : Jvm.MethodName) prog_8_method_5_code (4 : Nat) (Option.none : Option Jvm.ClassFile.FieldType)) ∈ lw_all := lw_g (lw_at lw_m4 29 rfl) rfl
theorem in_X11 : ∀ w ∈ wsX110, w ∈ lw_all := lw_in wsX110 [495, 497, 499, 501, 503, 505, 507, 509, 511] (by decide +kernel) (by decide +kernel)
/-! SharedNights$Fault -/
set_option maxRecDepth 100000
def RX12 : String := "SharedNights$Fault"
def TX12 : u_T := fun k => match k with
  | 0 => ("java/lang/Throwable", "cause", "Ljava/lang/Throwable;", false)
  | 1 => ("java/lang/Throwable", "stackTrace", "[Ljava/lang/StackTraceElement;", false)
  | 2 => ("java/lang/Throwable", "suppressedExceptions", "Ljava/util/List;", false)
  | 3 => ("java/lang/Throwable", "detailMessage", "Ljava/lang/String;", false)
  | 4 => ("java/lang/Throwable", "backtrace", "Ljava/lang/Object;", false)
  | 5 => ("java/lang/Throwable", "depth", "I", false)
  | 6 => ("SharedNights$Fault", "place", "I", true)
  | _ => ("SharedNights$Fault", "can", "I", true)
def tyX12 : Nat → FieldType := fun k => match k with
  | 0 => .object "java/lang/Throwable"
  | 1 => .array (.object "java/lang/StackTraceElement")
  | 2 => .object "java/util/List"
  | 3 => .object "java/lang/String"
  | 4 => .object "java/lang/Object"
  | 5 => .int
  | 6 => .int
  | _ => .int
abbrev wsX120 : List Cond := u_ws RX12 TX12 8
theorem nmX12 : ∀ a, a < 8 → ∀ b, b < 8 → a ≠ b → (TX12 a).2.1 ≠ (TX12 b).2.1 := by decide +kernel
theorem tyX12_ok : ∀ k, k < 8 → parseFieldDescriptor (TX12 k).2.2.1 = some (tyX12 k) := by decide +kernel
abbrev cX12_init : ByteArray := prog_4_method_1_code
def yX12_init : MethodName := ⟨RX12, "<init>", "(II)V"⟩
def dkwX12_init_0 : List UInt8 := [42, 18, 1, 1, 3, 3, 183, 0, 3, 42, 27, 181, 0, 9, 42, 28, 181, 0, 15, 177]
abbrev dktX12_init_0 : List UInt8 := dkwX12_init_0 ++ []
theorem dksX12_init_0 : cX12_init.data.toList.drop 0 = dktX12_init_0 := by decide +kernel
theorem dX12_init_0 : decode cX12_init 0 = .ok (.aload_n 0, 1) := dk_42 (dk_at dksX12_init_0 0 rfl rfl)
theorem dX12_init_1 : decode cX12_init 1 = .ok (.ldc 1, 2) := dk_18 1 (dk_at dksX12_init_0 1 rfl rfl)
theorem dX12_init_3 : decode cX12_init 3 = .ok (.aconst_null, 1) := dk_1 (dk_at dksX12_init_0 3 rfl rfl)
theorem dX12_init_4 : decode cX12_init 4 = .ok (.iconst 0, 1) := dk_3 (dk_at dksX12_init_0 4 rfl rfl)
theorem dX12_init_5 : decode cX12_init 5 = .ok (.iconst 0, 1) := dk_3 (dk_at dksX12_init_0 5 rfl rfl)
theorem dX12_init_6 : decode cX12_init 6 = .ok (.invokespecial 3, 3) := dk_183 0 3 (dk_at dksX12_init_0 6 rfl rfl)
theorem dX12_init_9 : decode cX12_init 9 = .ok (.aload_n 0, 1) := dk_42 (dk_at dksX12_init_0 9 rfl rfl)
theorem dX12_init_10 : decode cX12_init 10 = .ok (.iload_n 1, 1) := dk_27 (dk_at dksX12_init_0 10 rfl rfl)
theorem dX12_init_11 : decode cX12_init 11 = .ok (.putfield 9, 3) := dk_181 0 9 (dk_at dksX12_init_0 11 rfl rfl)
theorem dX12_init_14 : decode cX12_init 14 = .ok (.aload_n 0, 1) := dk_42 (dk_at dksX12_init_0 14 rfl rfl)
theorem dX12_init_15 : decode cX12_init 15 = .ok (.iload_n 2, 1) := dk_28 (dk_at dksX12_init_0 15 rfl rfl)
theorem dX12_init_16 : decode cX12_init 16 = .ok (.putfield 15, 3) := dk_181 0 15 (dk_at dksX12_init_0 16 rfl rfl)
theorem dX12_init_19 : decode cX12_init 19 = .ok (.return_, 1) := dk_177 (dk_at dksX12_init_0 19 rfl rfl)
theorem q93 : (Jvm.Cond.initialized "SharedNights$Fault") ∈ lw_all := lw_g (lw_at lw_m1 21 rfl) rfl
theorem q593 : (Jvm.Cond.instantiable "SharedNights$Fault" (8 : Nat)) ∈ lw_all := lw_g (lw_at lw_m3 41 rfl) rfl
theorem q594 : (Jvm.Cond.castable "SharedNights$Fault" "SharedNights$Fault") ∈ lw_tbl := lw_at lw_m3 42 rfl
theorem q599 : (Jvm.Cond.selects "SharedNights$Fault" ({ cls := "java/lang/Throwable", name := "fillInStackTrace", desc := "(I)Ljava/lang/Throwable;" } : Jvm.MethodName) ({ cls := "java/lang/Throwable", name := "fillInStackTrace", desc := "(I)Ljava/lang/Throwable;" } : Jvm.MethodName)) ∈ lw_all := lw_g (lw_at lw_m3 47 rfl) rfl
theorem q600 : (Jvm.Cond.selects "SharedNights$Fault" ({ cls := "java/lang/Throwable", name := "fillInStackTrace", desc := "()Ljava/lang/Throwable;" } : Jvm.MethodName) ({ cls := "java/lang/Throwable", name := "fillInStackTrace", desc := "()Ljava/lang/Throwable;" } : Jvm.MethodName)) ∈ lw_all := lw_g (lw_at lw_m3 48 rfl) rfl
theorem q601 : (Jvm.Cond.lays "SharedNights$Fault" "java/lang/Throwable" "cause" "Ljava/lang/Throwable;") ∈ lw_all := lw_g (lw_at lw_m3 49 rfl) rfl
theorem q603 : (Jvm.Cond.lays "SharedNights$Fault" "java/lang/Throwable" "stackTrace" "[Ljava/lang/StackTraceElement;") ∈ lw_all := lw_g (lw_at lw_m3 51 rfl) rfl
theorem q605 : (Jvm.Cond.lays "SharedNights$Fault" "java/lang/Throwable" "suppressedExceptions" "Ljava/util/List;") ∈ lw_all := lw_g (lw_at lw_m3 53 rfl) rfl
theorem q607 : (Jvm.Cond.lays "SharedNights$Fault" "java/lang/Throwable" "detailMessage" "Ljava/lang/String;") ∈ lw_all := lw_g (lw_at lw_m3 55 rfl) rfl
theorem q609 : (Jvm.Cond.lays "SharedNights$Fault" "java/lang/Throwable" "backtrace" "Ljava/lang/Object;") ∈ lw_all := lw_g (lw_at lw_m3 57 rfl) rfl
theorem q630 : (Jvm.Cond.instanceMethod ({ cls := "SharedNights$Fault", name := "<init>", desc := "(II)V" } : Jvm.MethodName)) ∈ lw_all := lw_g (lw_at lw_m3 78 rfl) rfl
theorem q631 : (Jvm.Cond.code ({ cls := "SharedNights$Fault", name := "<init>", desc := "(II)V" } : Jvm.MethodName) prog_4_method_1_code (3 : Nat) (Option.none : Option Jvm.ClassFile.FieldType)) ∈ lw_all := lw_g (lw_at lw_m3 79 rfl) rfl
theorem q632 : (Jvm.Cond.stringRef "SharedNights$Fault" (1 : Nat) "") ∈ lw_tbl := lw_at lw_m3 80 rfl
theorem q633 : (Jvm.Cond.methodLink "SharedNights$Fault" (3 : Nat) ({ cls := "java/lang/Exception", name := "<init>", desc := "(Ljava/lang/String;Ljava/lang/Throwable;ZZ)V" } : Jvm.MethodName)) ∈ lw_all := lw_g (lw_at lw_m3 81 rfl) rfl
theorem q639 : (Jvm.Cond.fieldLink "SharedNights$Fault" (9 : Nat) "SharedNights$Fault" "place" "I") ∈ lw_all := lw_g (lw_at lw_m3 87 rfl) rfl
theorem q641 : (Jvm.Cond.fieldLink "SharedNights$Fault" (15 : Nat) "SharedNights$Fault" "can" "I") ∈ lw_all := lw_g (lw_at lw_m3 89 rfl) rfl
theorem q648 : (Jvm.Cond.laysFinal "SharedNights$Fault" "SharedNights$Fault" "place" "I") ∈ lw_all := lw_g (lw_at lw_m3 96 rfl) rfl
theorem q649 : (Jvm.Cond.soleField "SharedNights$Fault" "place") ∈ lw_all := lw_g (lw_at lw_m3 97 rfl) rfl
theorem q650 : (Jvm.Cond.laysFinal "SharedNights$Fault" "SharedNights$Fault" "can" "I") ∈ lw_all := lw_g (lw_at lw_m3 98 rfl) rfl
theorem q651 : (Jvm.Cond.soleField "SharedNights$Fault" "can") ∈ lw_all := lw_g (lw_at lw_m3 99 rfl) rfl
theorem q656 : (Jvm.Cond.lays "SharedNights$Fault" "java/lang/Throwable" "depth" "I") ∈ lw_all := lw_g (lw_at lw_m3 104 rfl) rfl
theorem q659 : (Jvm.Cond.superclass "SharedNights$Fault" "java/lang/Exception") ∈ lw_all := lw_g (lw_at lw_m3 107 rfl) rfl
theorem in_X12 : ∀ w ∈ wsX120, w ∈ lw_all := lw_in wsX120 [601, 603, 605, 607, 609, 656, 648, 650] (by decide +kernel) (by decide +kernel)
/-! SharedNights$Look -/
set_option maxRecDepth 100000
def RX13 : String := "SharedNights$Look"
def TX13 : u_T := fun k => match k with
  | 0 => ("SharedNights$Look", "slots", "I", true)
  | 1 => ("SharedNights$Look", "seeing", "I", true)
  | 2 => ("SharedNights$Look", "air", "I", true)
  | _ => ("SharedNights$Look", "isDark", "Z", true)
def tyX13 : Nat → FieldType := fun k => match k with
  | 0 => .int
  | 1 => .int
  | 2 => .int
  | _ => .boolean
abbrev wsX130 : List Cond := u_ws RX13 TX13 4
theorem nmX13 : ∀ a, a < 4 → ∀ b, b < 4 → a ≠ b → (TX13 a).2.1 ≠ (TX13 b).2.1 := by decide +kernel
theorem tyX13_ok : ∀ k, k < 4 → parseFieldDescriptor (TX13 k).2.2.1 = some (tyX13 k) := by decide +kernel
abbrev cX13_init : ByteArray := prog_6_method_1_code
def yX13_init : MethodName := ⟨RX13, "<init>", "(IIIZ)V"⟩
def dkwX13_init_1 : List UInt8 := [181, 0, 21, 177]
abbrev dktX13_init_1 : List UInt8 := dkwX13_init_1 ++ []
def dkwX13_init_0 : List UInt8 := [42, 183, 0, 3, 42, 27, 181, 0, 9, 42, 28, 181, 0, 15, 42, 29, 181, 0, 18, 42, 21, 4]
abbrev dktX13_init_0 : List UInt8 := dkwX13_init_0 ++ dktX13_init_1
theorem dksX13_init_0 : cX13_init.data.toList.drop 0 = dktX13_init_0 := by decide +kernel
theorem dksX13_init_1 : cX13_init.data.toList.drop 22 = dktX13_init_1 := dk_seg dksX13_init_0 22 rfl rfl
theorem dX13_init_0 : decode cX13_init 0 = .ok (.aload_n 0, 1) := dk_42 (dk_at dksX13_init_0 0 rfl rfl)
theorem dX13_init_1 : decode cX13_init 1 = .ok (.invokespecial 3, 3) := dk_183 0 3 (dk_at dksX13_init_0 1 rfl rfl)
theorem dX13_init_4 : decode cX13_init 4 = .ok (.aload_n 0, 1) := dk_42 (dk_at dksX13_init_0 4 rfl rfl)
theorem dX13_init_5 : decode cX13_init 5 = .ok (.iload_n 1, 1) := dk_27 (dk_at dksX13_init_0 5 rfl rfl)
theorem dX13_init_6 : decode cX13_init 6 = .ok (.putfield 9, 3) := dk_181 0 9 (dk_at dksX13_init_0 6 rfl rfl)
theorem dX13_init_9 : decode cX13_init 9 = .ok (.aload_n 0, 1) := dk_42 (dk_at dksX13_init_0 9 rfl rfl)
theorem dX13_init_10 : decode cX13_init 10 = .ok (.iload_n 2, 1) := dk_28 (dk_at dksX13_init_0 10 rfl rfl)
theorem dX13_init_11 : decode cX13_init 11 = .ok (.putfield 15, 3) := dk_181 0 15 (dk_at dksX13_init_0 11 rfl rfl)
theorem dX13_init_14 : decode cX13_init 14 = .ok (.aload_n 0, 1) := dk_42 (dk_at dksX13_init_0 14 rfl rfl)
theorem dX13_init_15 : decode cX13_init 15 = .ok (.iload_n 3, 1) := dk_29 (dk_at dksX13_init_0 15 rfl rfl)
theorem dX13_init_16 : decode cX13_init 16 = .ok (.putfield 18, 3) := dk_181 0 18 (dk_at dksX13_init_0 16 rfl rfl)
theorem dX13_init_19 : decode cX13_init 19 = .ok (.aload_n 0, 1) := dk_42 (dk_at dksX13_init_0 19 rfl rfl)
theorem dX13_init_20 : decode cX13_init 20 = .ok (.iload 4, 2) := dk_21 4 (dk_at dksX13_init_0 20 rfl rfl)
theorem dX13_init_22 : decode cX13_init 22 = .ok (.putfield 21, 3) := dk_181 0 21 (dk_at dksX13_init_1 0 rfl rfl)
theorem dX13_init_25 : decode cX13_init 25 = .ok (.return_, 1) := dk_177 (dk_at dksX13_init_1 3 rfl rfl)
abbrev cX13_told : ByteArray := prog_6_method_3_code
def yX13_told : MethodName := ⟨RX13, "told", "(I)I"⟩
def dkwX13_told_3 : List UInt8 := [167, 0, 4, 3, 172]
abbrev dktX13_told_3 : List UInt8 := dkwX13_told_3 ++ []
def dkwX13_told_2 : List UInt8 := [42, 180, 0, 9, 172, 42, 180, 0, 15, 172, 42, 180, 0, 18, 172, 42, 180, 0, 21, 153, 0, 7, 4]
abbrev dktX13_told_2 : List UInt8 := dkwX13_told_2 ++ dktX13_told_3
def dkwX13_told_1 : List UInt8 := [170, 0, 0, 0, 0, 0, 42, 0, 0, 0, 0, 0, 0, 0, 2, 0, 0, 0, 27, 0, 0, 0, 32, 0, 0, 0, 37]
abbrev dktX13_told_1 : List UInt8 := dkwX13_told_1 ++ dktX13_told_2
def dkwX13_told_0 : List UInt8 := [27]
abbrev dktX13_told_0 : List UInt8 := dkwX13_told_0 ++ dktX13_told_1
theorem dksX13_told_0 : cX13_told.data.toList.drop 0 = dktX13_told_0 := by decide +kernel
theorem dksX13_told_1 : cX13_told.data.toList.drop 1 = dktX13_told_1 := dk_seg dksX13_told_0 1 rfl rfl
theorem dksX13_told_2 : cX13_told.data.toList.drop 28 = dktX13_told_2 := dk_seg dksX13_told_1 27 rfl rfl
theorem dksX13_told_3 : cX13_told.data.toList.drop 51 = dktX13_told_3 := dk_seg dksX13_told_2 23 rfl rfl
theorem dX13_told_0 : decode cX13_told 0 = .ok (.iload_n 1, 1) := dk_27 (dk_at dksX13_told_0 0 rfl rfl)
theorem dX13_told_1 : decode cX13_told 1 = .ok (.tableswitch 42 0 2 #[27, 32, 37], 27) := by decide +kernel
theorem dX13_told_28 : decode cX13_told 28 = .ok (.aload_n 0, 1) := dk_42 (dk_at dksX13_told_2 0 rfl rfl)
theorem dX13_told_29 : decode cX13_told 29 = .ok (.getfield 9, 3) := dk_180 0 9 (dk_at dksX13_told_2 1 rfl rfl)
theorem dX13_told_32 : decode cX13_told 32 = .ok (.ireturn, 1) := dk_172 (dk_at dksX13_told_2 4 rfl rfl)
theorem dX13_told_33 : decode cX13_told 33 = .ok (.aload_n 0, 1) := dk_42 (dk_at dksX13_told_2 5 rfl rfl)
theorem dX13_told_34 : decode cX13_told 34 = .ok (.getfield 15, 3) := dk_180 0 15 (dk_at dksX13_told_2 6 rfl rfl)
theorem dX13_told_37 : decode cX13_told 37 = .ok (.ireturn, 1) := dk_172 (dk_at dksX13_told_2 9 rfl rfl)
theorem dX13_told_38 : decode cX13_told 38 = .ok (.aload_n 0, 1) := dk_42 (dk_at dksX13_told_2 10 rfl rfl)
theorem dX13_told_39 : decode cX13_told 39 = .ok (.getfield 18, 3) := dk_180 0 18 (dk_at dksX13_told_2 11 rfl rfl)
theorem dX13_told_42 : decode cX13_told 42 = .ok (.ireturn, 1) := dk_172 (dk_at dksX13_told_2 14 rfl rfl)
theorem dX13_told_43 : decode cX13_told 43 = .ok (.aload_n 0, 1) := dk_42 (dk_at dksX13_told_2 15 rfl rfl)
theorem dX13_told_44 : decode cX13_told 44 = .ok (.getfield 21, 3) := dk_180 0 21 (dk_at dksX13_told_2 16 rfl rfl)
theorem dX13_told_47 : decode cX13_told 47 = .ok (.ifCond .eq 7, 3) := dk_153 0 7 (dk_at dksX13_told_2 19 rfl rfl)
theorem dX13_told_50 : decode cX13_told 50 = .ok (.iconst 1, 1) := dk_4 (dk_at dksX13_told_2 22 rfl rfl)
theorem dX13_told_51 : decode cX13_told 51 = .ok (.goto 4, 3) := dk_167 0 4 (dk_at dksX13_told_3 0 rfl rfl)
theorem dX13_told_54 : decode cX13_told 54 = .ok (.iconst 0, 1) := dk_3 (dk_at dksX13_told_3 3 rfl rfl)
theorem dX13_told_55 : decode cX13_told 55 = .ok (.ireturn, 1) := dk_172 (dk_at dksX13_told_3 4 rfl rfl)
abbrev cX13_fitsIn : ByteArray := prog_6_method_2_code
def yX13_fitsIn : MethodName := ⟨RX13, "fitsIn", "(LSharedNights$Sky;LSharedNights$Target;I)Z"⟩
def dkwX13_fitsIn_2 : List UInt8 := [153, 0, 11, 44, 29, 182, 0, 39, 154, 0, 7, 4, 167, 0, 4, 3, 172]
abbrev dktX13_fitsIn_2 : List UInt8 := dkwX13_fitsIn_2 ++ []
def dkwX13_fitsIn_1 : List UInt8 := [29, 182, 0, 30, 153, 0, 34, 44, 29, 182, 0, 36, 42, 180, 0, 18, 163, 0, 22, 42, 180, 0, 21]
abbrev dktX13_fitsIn_1 : List UInt8 := dkwX13_fitsIn_1 ++ dktX13_fitsIn_2
def dkwX13_fitsIn_0 : List UInt8 := [43, 180, 0, 25, 29, 51, 54, 4, 21, 4, 42, 180, 0, 15, 163, 0, 48, 21, 4, 7, 159, 0, 42, 44]
abbrev dktX13_fitsIn_0 : List UInt8 := dkwX13_fitsIn_0 ++ dktX13_fitsIn_1
theorem dksX13_fitsIn_0 : cX13_fitsIn.data.toList.drop 0 = dktX13_fitsIn_0 := by decide +kernel
theorem dksX13_fitsIn_1 : cX13_fitsIn.data.toList.drop 24 = dktX13_fitsIn_1 := dk_seg dksX13_fitsIn_0 24 rfl rfl
theorem dksX13_fitsIn_2 : cX13_fitsIn.data.toList.drop 47 = dktX13_fitsIn_2 := dk_seg dksX13_fitsIn_1 23 rfl rfl
theorem dX13_fitsIn_0 : decode cX13_fitsIn 0 = .ok (.aload_n 1, 1) := dk_43 (dk_at dksX13_fitsIn_0 0 rfl rfl)
theorem dX13_fitsIn_1 : decode cX13_fitsIn 1 = .ok (.getfield 25, 3) := dk_180 0 25 (dk_at dksX13_fitsIn_0 1 rfl rfl)
theorem dX13_fitsIn_4 : decode cX13_fitsIn 4 = .ok (.iload_n 3, 1) := dk_29 (dk_at dksX13_fitsIn_0 4 rfl rfl)
theorem dX13_fitsIn_5 : decode cX13_fitsIn 5 = .ok (.baload, 1) := dk_51 (dk_at dksX13_fitsIn_0 5 rfl rfl)
theorem dX13_fitsIn_6 : decode cX13_fitsIn 6 = .ok (.istore 4, 2) := dk_54 4 (dk_at dksX13_fitsIn_0 6 rfl rfl)
theorem dX13_fitsIn_8 : decode cX13_fitsIn 8 = .ok (.iload 4, 2) := dk_21 4 (dk_at dksX13_fitsIn_0 8 rfl rfl)
theorem dX13_fitsIn_10 : decode cX13_fitsIn 10 = .ok (.aload_n 0, 1) := dk_42 (dk_at dksX13_fitsIn_0 10 rfl rfl)
theorem dX13_fitsIn_11 : decode cX13_fitsIn 11 = .ok (.getfield 15, 3) := dk_180 0 15 (dk_at dksX13_fitsIn_0 11 rfl rfl)
theorem dX13_fitsIn_14 : decode cX13_fitsIn 14 = .ok (.if_icmp .gt 48, 3) := dk_163 0 48 (dk_at dksX13_fitsIn_0 14 rfl rfl)
theorem dX13_fitsIn_17 : decode cX13_fitsIn 17 = .ok (.iload 4, 2) := dk_21 4 (dk_at dksX13_fitsIn_0 17 rfl rfl)
theorem dX13_fitsIn_19 : decode cX13_fitsIn 19 = .ok (.iconst 4, 1) := dk_7 (dk_at dksX13_fitsIn_0 19 rfl rfl)
theorem dX13_fitsIn_20 : decode cX13_fitsIn 20 = .ok (.if_icmp .eq 42, 3) := dk_159 0 42 (dk_at dksX13_fitsIn_0 20 rfl rfl)
theorem dX13_fitsIn_23 : decode cX13_fitsIn 23 = .ok (.aload_n 2, 1) := dk_44 (dk_at dksX13_fitsIn_0 23 rfl rfl)
theorem dX13_fitsIn_24 : decode cX13_fitsIn 24 = .ok (.iload_n 3, 1) := dk_29 (dk_at dksX13_fitsIn_1 0 rfl rfl)
theorem dX13_fitsIn_25 : decode cX13_fitsIn 25 = .ok (.invokevirtual 30, 3) := dk_182 0 30 (dk_at dksX13_fitsIn_1 1 rfl rfl)
theorem dX13_fitsIn_28 : decode cX13_fitsIn 28 = .ok (.ifCond .eq 34, 3) := dk_153 0 34 (dk_at dksX13_fitsIn_1 4 rfl rfl)
theorem dX13_fitsIn_31 : decode cX13_fitsIn 31 = .ok (.aload_n 2, 1) := dk_44 (dk_at dksX13_fitsIn_1 7 rfl rfl)
theorem dX13_fitsIn_32 : decode cX13_fitsIn 32 = .ok (.iload_n 3, 1) := dk_29 (dk_at dksX13_fitsIn_1 8 rfl rfl)
theorem dX13_fitsIn_33 : decode cX13_fitsIn 33 = .ok (.invokevirtual 36, 3) := dk_182 0 36 (dk_at dksX13_fitsIn_1 9 rfl rfl)
theorem dX13_fitsIn_36 : decode cX13_fitsIn 36 = .ok (.aload_n 0, 1) := dk_42 (dk_at dksX13_fitsIn_1 12 rfl rfl)
theorem dX13_fitsIn_37 : decode cX13_fitsIn 37 = .ok (.getfield 18, 3) := dk_180 0 18 (dk_at dksX13_fitsIn_1 13 rfl rfl)
theorem dX13_fitsIn_40 : decode cX13_fitsIn 40 = .ok (.if_icmp .gt 22, 3) := dk_163 0 22 (dk_at dksX13_fitsIn_1 16 rfl rfl)
theorem dX13_fitsIn_43 : decode cX13_fitsIn 43 = .ok (.aload_n 0, 1) := dk_42 (dk_at dksX13_fitsIn_1 19 rfl rfl)
theorem dX13_fitsIn_44 : decode cX13_fitsIn 44 = .ok (.getfield 21, 3) := dk_180 0 21 (dk_at dksX13_fitsIn_1 20 rfl rfl)
theorem dX13_fitsIn_47 : decode cX13_fitsIn 47 = .ok (.ifCond .eq 11, 3) := dk_153 0 11 (dk_at dksX13_fitsIn_2 0 rfl rfl)
theorem dX13_fitsIn_50 : decode cX13_fitsIn 50 = .ok (.aload_n 2, 1) := dk_44 (dk_at dksX13_fitsIn_2 3 rfl rfl)
theorem dX13_fitsIn_51 : decode cX13_fitsIn 51 = .ok (.iload_n 3, 1) := dk_29 (dk_at dksX13_fitsIn_2 4 rfl rfl)
theorem dX13_fitsIn_52 : decode cX13_fitsIn 52 = .ok (.invokevirtual 39, 3) := dk_182 0 39 (dk_at dksX13_fitsIn_2 5 rfl rfl)
theorem dX13_fitsIn_55 : decode cX13_fitsIn 55 = .ok (.ifCond .ne 7, 3) := dk_154 0 7 (dk_at dksX13_fitsIn_2 8 rfl rfl)
theorem dX13_fitsIn_58 : decode cX13_fitsIn 58 = .ok (.iconst 1, 1) := dk_4 (dk_at dksX13_fitsIn_2 11 rfl rfl)
theorem dX13_fitsIn_59 : decode cX13_fitsIn 59 = .ok (.goto 4, 3) := dk_167 0 4 (dk_at dksX13_fitsIn_2 12 rfl rfl)
theorem dX13_fitsIn_62 : decode cX13_fitsIn 62 = .ok (.iconst 0, 1) := dk_3 (dk_at dksX13_fitsIn_2 15 rfl rfl)
theorem dX13_fitsIn_63 : decode cX13_fitsIn 63 = .ok (.ireturn, 1) := dk_172 (dk_at dksX13_fitsIn_2 16 rfl rfl)
theorem q94 : (Jvm.Cond.initialized "SharedNights$Look") ∈ lw_all := lw_g (lw_at lw_m1 22 rfl) rfl
theorem q241 : (Jvm.Cond.fieldLinkNest "SharedNights$Look" (25 : Nat) "SharedNights$Sky" "seeing" "[B" "SharedNights") ∈ lw_tbl := lw_at lw_m1 169 rfl
theorem q684 : (Jvm.Cond.instantiable "SharedNights$Look" (4 : Nat)) ∈ lw_all := lw_g (lw_at lw_m3 132 rfl) rfl
theorem q686 : (Jvm.Cond.instanceMethod ({ cls := "SharedNights$Look", name := "<init>", desc := "(IIIZ)V" } : Jvm.MethodName)) ∈ lw_all := lw_g (lw_at lw_m3 134 rfl) rfl
theorem q687 : (Jvm.Cond.code ({ cls := "SharedNights$Look", name := "<init>", desc := "(IIIZ)V" } : Jvm.MethodName) prog_6_method_1_code (5 : Nat) (Option.none : Option Jvm.ClassFile.FieldType)) ∈ lw_all := lw_g (lw_at lw_m3 135 rfl) rfl
theorem q688 : (Jvm.Cond.methodLink "SharedNights$Look" (3 : Nat) ({ cls := "java/lang/Object", name := "<init>", desc := "()V" } : Jvm.MethodName)) ∈ lw_all := lw_g (lw_at lw_m3 136 rfl) rfl
theorem q690 : (Jvm.Cond.fieldLink "SharedNights$Look" (9 : Nat) "SharedNights$Look" "slots" "I") ∈ lw_all := lw_g (lw_at lw_m3 138 rfl) rfl
theorem q695 : (Jvm.Cond.fieldLink "SharedNights$Look" (15 : Nat) "SharedNights$Look" "seeing" "I") ∈ lw_all := lw_g (lw_at lw_m3 143 rfl) rfl
theorem q697 : (Jvm.Cond.fieldLink "SharedNights$Look" (18 : Nat) "SharedNights$Look" "air" "I") ∈ lw_all := lw_g (lw_at lw_m3 145 rfl) rfl
theorem q699 : (Jvm.Cond.fieldLink "SharedNights$Look" (21 : Nat) "SharedNights$Look" "isDark" "Z") ∈ lw_all := lw_g (lw_at lw_m3 147 rfl) rfl
theorem q701 : (Jvm.Cond.laysFinal "SharedNights$Look" "SharedNights$Look" "slots" "I") ∈ lw_all := lw_g (lw_at lw_m3 149 rfl) rfl
theorem q702 : (Jvm.Cond.soleField "SharedNights$Look" "slots") ∈ lw_all := lw_g (lw_at lw_m3 150 rfl) rfl
theorem q703 : (Jvm.Cond.laysFinal "SharedNights$Look" "SharedNights$Look" "seeing" "I") ∈ lw_all := lw_g (lw_at lw_m3 151 rfl) rfl
theorem q704 : (Jvm.Cond.soleField "SharedNights$Look" "seeing") ∈ lw_all := lw_g (lw_at lw_m3 152 rfl) rfl
theorem q705 : (Jvm.Cond.laysFinal "SharedNights$Look" "SharedNights$Look" "air" "I") ∈ lw_all := lw_g (lw_at lw_m3 153 rfl) rfl
theorem q706 : (Jvm.Cond.soleField "SharedNights$Look" "air") ∈ lw_all := lw_g (lw_at lw_m3 154 rfl) rfl
theorem q707 : (Jvm.Cond.laysFinal "SharedNights$Look" "SharedNights$Look" "isDark" "Z") ∈ lw_all := lw_g (lw_at lw_m3 155 rfl) rfl
theorem q708 : (Jvm.Cond.soleField "SharedNights$Look" "isDark") ∈ lw_all := lw_g (lw_at lw_m3 156 rfl) rfl
theorem q709 : (Jvm.Cond.superclass "SharedNights$Look" "java/lang/Object") ∈ lw_all := lw_g (lw_at lw_m3 157 rfl) rfl
theorem q764 : (Jvm.Cond.instanceMethod ({ cls := "SharedNights$Look", name := "told", desc := "(I)I" } : Jvm.MethodName)) ∈ lw_all := lw_g (lw_at lw_m3 212 rfl) rfl
theorem q765 : (Jvm.Cond.selects "SharedNights$Look" ({ cls := "SharedNights$Look", name := "told", desc := "(I)I" } : Jvm.MethodName) ({ cls := "SharedNights$Look", name := "told", desc := "(I)I" } : Jvm.MethodName)) ∈ lw_all := lw_g (lw_at lw_m3 213 rfl) rfl
theorem q766 : (Jvm.Cond.sameMethod "SharedNights$Look" "SharedNights$Look" "told" "(I)I") ∈ lw_all := lw_g (lw_at lw_m3 214 rfl) rfl
theorem q771 : (Jvm.Cond.code ({ cls := "SharedNights$Look", name := "told", desc := "(I)I" } : Jvm.MethodName) prog_6_method_3_code (2 : Nat) (Option.some Jvm.ClassFile.FieldType.int)) ∈ lw_all := lw_g (lw_at lw_m3 219 rfl) rfl
theorem q794 : (Jvm.Cond.instanceMethod ({ cls := "SharedNights$Look", name := "fitsIn", desc := "(LSharedNights$Sky;LSharedNights$Target;I)Z" } : Jvm.MethodName)) ∈ lw_all := lw_g (lw_at lw_m4 2 rfl) rfl
theorem q795 : (Jvm.Cond.selects "SharedNights$Look" ({ cls := "SharedNights$Look", name := "fitsIn", desc := "(LSharedNights$Sky;LSharedNights$Target;I)Z" } : Jvm.MethodName) ({ cls := "SharedNights$Look", name := "fitsIn", desc := "(LSharedNights$Sky;LSharedNights$Target;I)Z" } : Jvm.MethodName)) ∈ lw_all := lw_g (lw_at lw_m4 3 rfl) rfl
theorem q796 : (Jvm.Cond.sameMethod "SharedNights$Look" "SharedNights$Look" "fitsIn" "(LSharedNights$Sky;LSharedNights$Target;I)Z") ∈ lw_all := lw_g (lw_at lw_m4 4 rfl) rfl
theorem q798 : (Jvm.Cond.code ({ cls := "SharedNights$Look", name := "fitsIn", desc := "(LSharedNights$Sky;LSharedNights$Target;I)Z" } : Jvm.MethodName) prog_6_method_2_code (5 : Nat) (Option.some Jvm.ClassFile.FieldType.boolean)) ∈ lw_all := lw_g (lw_at lw_m4 6 rfl) rfl
theorem q799 : (Jvm.Cond.methodLink "SharedNights$Look" (30 : Nat) ({ cls := "SharedNights$Target", name := "isVisible", desc := "(I)Z" } : Jvm.MethodName)) ∈ lw_all := lw_g (lw_at lw_m4 7 rfl) rfl
theorem q800 : (Jvm.Cond.methodLink "SharedNights$Look" (36 : Nat) ({ cls := "SharedNights$Target", name := "air", desc := "(I)I" } : Jvm.MethodName)) ∈ lw_all := lw_g (lw_at lw_m4 8 rfl) rfl
theorem q801 : (Jvm.Cond.methodLink "SharedNights$Look" (39 : Nat) ({ cls := "SharedNights$Target", name := "isBright", desc := "(I)Z" } : Jvm.MethodName)) ∈ lw_all := lw_g (lw_at lw_m4 9 rfl) rfl
theorem in_X13 : ∀ w ∈ wsX130, w ∈ lw_all := lw_in wsX130 [701, 703, 705, 707] (by decide +kernel) (by decide +kernel)
/-! SharedNights$Later -/
set_option maxRecDepth 100000
def RX14 : String := "SharedNights$Later"
def TX14 : u_T := fun k => match k with
  | 0 => ("SharedNights$Look", "slots", "I", true)
  | 1 => ("SharedNights$Look", "seeing", "I", true)
  | 2 => ("SharedNights$Look", "air", "I", true)
  | 3 => ("SharedNights$Look", "isDark", "Z", true)
  | 4 => ("SharedNights$Later", "least", "I", true)
  | _ => ("SharedNights$Later", "most", "I", true)
def tyX14 : Nat → FieldType := fun k => match k with
  | 0 => .int
  | 1 => .int
  | 2 => .int
  | 3 => .boolean
  | 4 => .int
  | _ => .int
abbrev wsX140 : List Cond := u_ws RX14 TX14 6
theorem nmX14 : ∀ a, a < 6 → ∀ b, b < 6 → a ≠ b → (TX14 a).2.1 ≠ (TX14 b).2.1 := by decide +kernel
theorem tyX14_ok : ∀ k, k < 6 → parseFieldDescriptor (TX14 k).2.2.1 = some (tyX14 k) := by decide +kernel
abbrev cX14_init : ByteArray := prog_5_method_1_code
def yX14_init : MethodName := ⟨RX14, "<init>", "(LSharedNights$Look;II)V"⟩
def dkwX14_init_1 : List UInt8 := [181, 0, 21, 42, 29, 181, 0, 26, 177]
abbrev dktX14_init_1 : List UInt8 := dkwX14_init_1 ++ []
def dkwX14_init_0 : List UInt8 := [42, 43, 180, 0, 1, 43, 180, 0, 7, 43, 180, 0, 10, 43, 180, 0, 13, 183, 0, 17, 42, 28]
abbrev dktX14_init_0 : List UInt8 := dkwX14_init_0 ++ dktX14_init_1
theorem dksX14_init_0 : cX14_init.data.toList.drop 0 = dktX14_init_0 := by decide +kernel
theorem dksX14_init_1 : cX14_init.data.toList.drop 22 = dktX14_init_1 := dk_seg dksX14_init_0 22 rfl rfl
theorem dX14_init_0 : decode cX14_init 0 = .ok (.aload_n 0, 1) := dk_42 (dk_at dksX14_init_0 0 rfl rfl)
theorem dX14_init_1 : decode cX14_init 1 = .ok (.aload_n 1, 1) := dk_43 (dk_at dksX14_init_0 1 rfl rfl)
theorem dX14_init_2 : decode cX14_init 2 = .ok (.getfield 1, 3) := dk_180 0 1 (dk_at dksX14_init_0 2 rfl rfl)
theorem dX14_init_5 : decode cX14_init 5 = .ok (.aload_n 1, 1) := dk_43 (dk_at dksX14_init_0 5 rfl rfl)
theorem dX14_init_6 : decode cX14_init 6 = .ok (.getfield 7, 3) := dk_180 0 7 (dk_at dksX14_init_0 6 rfl rfl)
theorem dX14_init_9 : decode cX14_init 9 = .ok (.aload_n 1, 1) := dk_43 (dk_at dksX14_init_0 9 rfl rfl)
theorem dX14_init_10 : decode cX14_init 10 = .ok (.getfield 10, 3) := dk_180 0 10 (dk_at dksX14_init_0 10 rfl rfl)
theorem dX14_init_13 : decode cX14_init 13 = .ok (.aload_n 1, 1) := dk_43 (dk_at dksX14_init_0 13 rfl rfl)
theorem dX14_init_14 : decode cX14_init 14 = .ok (.getfield 13, 3) := dk_180 0 13 (dk_at dksX14_init_0 14 rfl rfl)
theorem dX14_init_17 : decode cX14_init 17 = .ok (.invokespecial 17, 3) := dk_183 0 17 (dk_at dksX14_init_0 17 rfl rfl)
theorem dX14_init_20 : decode cX14_init 20 = .ok (.aload_n 0, 1) := dk_42 (dk_at dksX14_init_0 20 rfl rfl)
theorem dX14_init_21 : decode cX14_init 21 = .ok (.iload_n 2, 1) := dk_28 (dk_at dksX14_init_0 21 rfl rfl)
theorem dX14_init_22 : decode cX14_init 22 = .ok (.putfield 21, 3) := dk_181 0 21 (dk_at dksX14_init_1 0 rfl rfl)
theorem dX14_init_25 : decode cX14_init 25 = .ok (.aload_n 0, 1) := dk_42 (dk_at dksX14_init_1 3 rfl rfl)
theorem dX14_init_26 : decode cX14_init 26 = .ok (.iload_n 3, 1) := dk_29 (dk_at dksX14_init_1 4 rfl rfl)
theorem dX14_init_27 : decode cX14_init 27 = .ok (.putfield 26, 3) := dk_181 0 26 (dk_at dksX14_init_1 5 rfl rfl)
theorem dX14_init_30 : decode cX14_init 30 = .ok (.return_, 1) := dk_177 (dk_at dksX14_init_1 8 rfl rfl)
abbrev cX14_told : ByteArray := prog_5_method_2_code
def yX14_told : MethodName := ⟨RX14, "told", "(I)I"⟩
def dkwX14_told_1 : List UInt8 := [42, 27, 183, 0, 29, 172]
abbrev dktX14_told_1 : List UInt8 := dkwX14_told_1 ++ []
def dkwX14_told_0 : List UInt8 := [27, 7, 160, 0, 10, 42, 180, 0, 21, 167, 0, 20, 27, 8, 160, 0, 10, 42, 180, 0, 26, 167, 0, 8]
abbrev dktX14_told_0 : List UInt8 := dkwX14_told_0 ++ dktX14_told_1
theorem dksX14_told_0 : cX14_told.data.toList.drop 0 = dktX14_told_0 := by decide +kernel
theorem dksX14_told_1 : cX14_told.data.toList.drop 24 = dktX14_told_1 := dk_seg dksX14_told_0 24 rfl rfl
theorem dX14_told_0 : decode cX14_told 0 = .ok (.iload_n 1, 1) := dk_27 (dk_at dksX14_told_0 0 rfl rfl)
theorem dX14_told_1 : decode cX14_told 1 = .ok (.iconst 4, 1) := dk_7 (dk_at dksX14_told_0 1 rfl rfl)
theorem dX14_told_2 : decode cX14_told 2 = .ok (.if_icmp .ne 10, 3) := dk_160 0 10 (dk_at dksX14_told_0 2 rfl rfl)
theorem dX14_told_5 : decode cX14_told 5 = .ok (.aload_n 0, 1) := dk_42 (dk_at dksX14_told_0 5 rfl rfl)
theorem dX14_told_6 : decode cX14_told 6 = .ok (.getfield 21, 3) := dk_180 0 21 (dk_at dksX14_told_0 6 rfl rfl)
theorem dX14_told_9 : decode cX14_told 9 = .ok (.goto 20, 3) := dk_167 0 20 (dk_at dksX14_told_0 9 rfl rfl)
theorem dX14_told_12 : decode cX14_told 12 = .ok (.iload_n 1, 1) := dk_27 (dk_at dksX14_told_0 12 rfl rfl)
theorem dX14_told_13 : decode cX14_told 13 = .ok (.iconst 5, 1) := dk_8 (dk_at dksX14_told_0 13 rfl rfl)
theorem dX14_told_14 : decode cX14_told 14 = .ok (.if_icmp .ne 10, 3) := dk_160 0 10 (dk_at dksX14_told_0 14 rfl rfl)
theorem dX14_told_17 : decode cX14_told 17 = .ok (.aload_n 0, 1) := dk_42 (dk_at dksX14_told_0 17 rfl rfl)
theorem dX14_told_18 : decode cX14_told 18 = .ok (.getfield 26, 3) := dk_180 0 26 (dk_at dksX14_told_0 18 rfl rfl)
theorem dX14_told_21 : decode cX14_told 21 = .ok (.goto 8, 3) := dk_167 0 8 (dk_at dksX14_told_0 21 rfl rfl)
theorem dX14_told_24 : decode cX14_told 24 = .ok (.aload_n 0, 1) := dk_42 (dk_at dksX14_told_1 0 rfl rfl)
theorem dX14_told_25 : decode cX14_told 25 = .ok (.iload_n 1, 1) := dk_27 (dk_at dksX14_told_1 1 rfl rfl)
theorem dX14_told_26 : decode cX14_told 26 = .ok (.invokespecial 29, 3) := dk_183 0 29 (dk_at dksX14_told_1 2 rfl rfl)
theorem dX14_told_29 : decode cX14_told 29 = .ok (.ireturn, 1) := dk_172 (dk_at dksX14_told_1 5 rfl rfl)
theorem q95 : (Jvm.Cond.initialized "SharedNights$Later") ∈ lw_all := lw_g (lw_at lw_m1 23 rfl) rfl
theorem q689 : (Jvm.Cond.fieldLink "SharedNights$Later" (1 : Nat) "SharedNights$Look" "slots" "I") ∈ lw_all := lw_g (lw_at lw_m3 137 rfl) rfl
theorem q694 : (Jvm.Cond.fieldLink "SharedNights$Later" (7 : Nat) "SharedNights$Look" "seeing" "I") ∈ lw_all := lw_g (lw_at lw_m3 142 rfl) rfl
theorem q696 : (Jvm.Cond.fieldLink "SharedNights$Later" (10 : Nat) "SharedNights$Look" "air" "I") ∈ lw_all := lw_g (lw_at lw_m3 144 rfl) rfl
theorem q698 : (Jvm.Cond.fieldLink "SharedNights$Later" (13 : Nat) "SharedNights$Look" "isDark" "Z") ∈ lw_all := lw_g (lw_at lw_m3 146 rfl) rfl
theorem q713 : (Jvm.Cond.instantiable "SharedNights$Later" (6 : Nat)) ∈ lw_all := lw_g (lw_at lw_m3 161 rfl) rfl
theorem q715 : (Jvm.Cond.instanceMethod ({ cls := "SharedNights$Later", name := "<init>", desc := "(LSharedNights$Look;II)V" } : Jvm.MethodName)) ∈ lw_all := lw_g (lw_at lw_m3 163 rfl) rfl
theorem q716 : (Jvm.Cond.code ({ cls := "SharedNights$Later", name := "<init>", desc := "(LSharedNights$Look;II)V" } : Jvm.MethodName) prog_5_method_1_code (4 : Nat) (Option.none : Option Jvm.ClassFile.FieldType)) ∈ lw_all := lw_g (lw_at lw_m3 164 rfl) rfl
theorem q717 : (Jvm.Cond.methodLink "SharedNights$Later" (17 : Nat) ({ cls := "SharedNights$Look", name := "<init>", desc := "(IIIZ)V" } : Jvm.MethodName)) ∈ lw_all := lw_g (lw_at lw_m3 165 rfl) rfl
theorem q718 : (Jvm.Cond.fieldLink "SharedNights$Later" (21 : Nat) "SharedNights$Later" "least" "I") ∈ lw_all := lw_g (lw_at lw_m3 166 rfl) rfl
theorem q721 : (Jvm.Cond.fieldLink "SharedNights$Later" (26 : Nat) "SharedNights$Later" "most" "I") ∈ lw_all := lw_g (lw_at lw_m3 169 rfl) rfl
theorem q724 : (Jvm.Cond.laysFinal "SharedNights$Later" "SharedNights$Later" "least" "I") ∈ lw_all := lw_g (lw_at lw_m3 172 rfl) rfl
theorem q725 : (Jvm.Cond.soleField "SharedNights$Later" "least") ∈ lw_all := lw_g (lw_at lw_m3 173 rfl) rfl
theorem q726 : (Jvm.Cond.laysFinal "SharedNights$Later" "SharedNights$Later" "most" "I") ∈ lw_all := lw_g (lw_at lw_m3 174 rfl) rfl
theorem q727 : (Jvm.Cond.soleField "SharedNights$Later" "most") ∈ lw_all := lw_g (lw_at lw_m3 175 rfl) rfl
theorem q728 : (Jvm.Cond.laysFinal "SharedNights$Later" "SharedNights$Look" "slots" "I") ∈ lw_all := lw_g (lw_at lw_m3 176 rfl) rfl
theorem q729 : (Jvm.Cond.laysFinal "SharedNights$Later" "SharedNights$Look" "seeing" "I") ∈ lw_all := lw_g (lw_at lw_m3 177 rfl) rfl
theorem q730 : (Jvm.Cond.laysFinal "SharedNights$Later" "SharedNights$Look" "air" "I") ∈ lw_all := lw_g (lw_at lw_m3 178 rfl) rfl
theorem q731 : (Jvm.Cond.laysFinal "SharedNights$Later" "SharedNights$Look" "isDark" "Z") ∈ lw_all := lw_g (lw_at lw_m3 179 rfl) rfl
theorem q732 : (Jvm.Cond.superclass "SharedNights$Later" "SharedNights$Look") ∈ lw_all := lw_g (lw_at lw_m3 180 rfl) rfl
theorem q767 : (Jvm.Cond.selects "SharedNights$Later" ({ cls := "SharedNights$Look", name := "told", desc := "(I)I" } : Jvm.MethodName) ({ cls := "SharedNights$Later", name := "told", desc := "(I)I" } : Jvm.MethodName)) ∈ lw_all := lw_g (lw_at lw_m3 215 rfl) rfl
theorem q768 : (Jvm.Cond.instanceMethod ({ cls := "SharedNights$Later", name := "told", desc := "(I)I" } : Jvm.MethodName)) ∈ lw_all := lw_g (lw_at lw_m3 216 rfl) rfl
theorem q769 : (Jvm.Cond.code ({ cls := "SharedNights$Later", name := "told", desc := "(I)I" } : Jvm.MethodName) prog_5_method_2_code (2 : Nat) (Option.some Jvm.ClassFile.FieldType.int)) ∈ lw_all := lw_g (lw_at lw_m3 217 rfl) rfl
theorem q770 : (Jvm.Cond.methodLink "SharedNights$Later" (29 : Nat) ({ cls := "SharedNights$Look", name := "told", desc := "(I)I" } : Jvm.MethodName)) ∈ lw_all := lw_g (lw_at lw_m3 218 rfl) rfl
theorem q797 : (Jvm.Cond.selects "SharedNights$Later" ({ cls := "SharedNights$Look", name := "fitsIn", desc := "(LSharedNights$Sky;LSharedNights$Target;I)Z" } : Jvm.MethodName) ({ cls := "SharedNights$Look", name := "fitsIn", desc := "(LSharedNights$Sky;LSharedNights$Target;I)Z" } : Jvm.MethodName)) ∈ lw_all := lw_g (lw_at lw_m4 5 rfl) rfl
theorem q1483 : (Jvm.Cond.castable "SharedNights$Later" "SharedNights$Look") ∈ lw_tbl := lw_at lw_m6 211 rfl
theorem in_X14 : ∀ w ∈ wsX140, w ∈ lw_all := lw_in wsX140 [728, 729, 730, 731, 724, 726] (by decide +kernel) (by decide +kernel)
theorem q72 : (Jvm.Cond.initialized "SharedNightsLaw") ∈ lw_all := lw_g (lw_at lw_m1 0 rfl) rfl
set_option maxRecDepth 100000
theorem q97 : (Jvm.Cond.classLink "SharedNightsLaw" (7 : Nat) "SharedNights") ∈ lw_all := lw_g (lw_at lw_m1 25 rfl) rfl
theorem q99 : (Jvm.Cond.methodLink "SharedNightsLaw" (9 : Nat) ({ cls := "SharedNights", name := "<init>", desc := "()V" } : Jvm.MethodName)) ∈ lw_all := lw_g (lw_at lw_m1 27 rfl) rfl
theorem q348 : (Jvm.Cond.methodLink "SharedNightsLaw" (13 : Nat) ({ cls := "SharedNights", name := "slots", desc := "(I)I" } : Jvm.MethodName)) ∈ lw_all := lw_g (lw_at lw_m2 36 rfl) rfl
theorem q358 : (Jvm.Cond.methodLink "SharedNightsLaw" (18 : Nat) ({ cls := "SharedNights", name := "target", desc := "(III)I" } : Jvm.MethodName)) ∈ lw_all := lw_g (lw_at lw_m2 46 rfl) rfl
theorem q383 : (Jvm.Cond.methodLink "SharedNightsLaw" (23 : Nat) ({ cls := "SharedNights", name := "air", desc := "(II)I" } : Jvm.MethodName)) ∈ lw_all := lw_g (lw_at lw_m2 71 rfl) rfl
theorem q407 : (Jvm.Cond.methodLink "SharedNightsLaw" (28 : Nat) ({ cls := "SharedNights", name := "moon", desc := "(III)I" } : Jvm.MethodName)) ∈ lw_all := lw_g (lw_at lw_m2 95 rfl) rfl
theorem q411 : (Jvm.Cond.methodLink "SharedNightsLaw" (32 : Nat) ({ cls := "SharedNights", name := "seeing", desc := "(III)I" } : Jvm.MethodName)) ∈ lw_all := lw_g (lw_at lw_m2 99 rfl) rfl
theorem q419 : (Jvm.Cond.methodLink "SharedNightsLaw" (36 : Nat) ({ cls := "SharedNights", name := "world", desc := "(I)I" } : Jvm.MethodName)) ∈ lw_all := lw_g (lw_at lw_m2 107 rfl) rfl
theorem q433 : (Jvm.Cond.methodLink "SharedNightsLaw" (40 : Nat) ({ cls := "SharedNights", name := "unworld", desc := "()I" } : Jvm.MethodName)) ∈ lw_all := lw_g (lw_at lw_m2 121 rfl) rfl
theorem q437 : (Jvm.Cond.methodLink "SharedNightsLaw" (47 : Nat) ({ cls := "SharedNights", name := "write", desc := "(JI)I" } : Jvm.MethodName)) ∈ lw_all := lw_g (lw_at lw_m2 125 rfl) rfl
theorem q441 : (Jvm.Cond.methodLink "SharedNightsLaw" (52 : Nat) ({ cls := "SharedNights", name := "erase", desc := "()I" } : Jvm.MethodName)) ∈ lw_all := lw_g (lw_at lw_m2 129 rfl) rfl
theorem q445 : (Jvm.Cond.methodLink "SharedNightsLaw" (56 : Nat) ({ cls := "SharedNights", name := "fault", desc := "()I" } : Jvm.MethodName)) ∈ lw_all := lw_g (lw_at lw_m2 133 rfl) rfl
theorem q733 : (Jvm.Cond.methodLink "SharedNightsLaw" (60 : Nat) ({ cls := "SharedNights", name := "stands", desc := "()I" } : Jvm.MethodName)) ∈ lw_all := lw_g (lw_at lw_m3 181 rfl) rfl
theorem q737 : (Jvm.Cond.methodLink "SharedNightsLaw" (64 : Nat) ({ cls := "SharedNights", name := "plan", desc := "()I" } : Jvm.MethodName)) ∈ lw_all := lw_g (lw_at lw_m3 185 rfl) rfl
theorem q741 : (Jvm.Cond.methodLink "SharedNightsLaw" (68 : Nat) ({ cls := "SharedNights", name := "drop", desc := "(I)I" } : Jvm.MethodName)) ∈ lw_all := lw_g (lw_at lw_m3 189 rfl) rfl
theorem q753 : (Jvm.Cond.methodLink "SharedNightsLaw" (72 : Nat) ({ cls := "SharedNights", name := "told", desc := "(II)I" } : Jvm.MethodName)) ∈ lw_all := lw_g (lw_at lw_m3 201 rfl) rfl
theorem q772 : (Jvm.Cond.methodLink "SharedNightsLaw" (76 : Nat) ({ cls := "SharedNights", name := "worth", desc := "(II)I" } : Jvm.MethodName)) ∈ lw_all := lw_g (lw_at lw_m3 220 rfl) rfl
theorem q777 : (Jvm.Cond.methodLink "SharedNightsLaw" (80 : Nat) ({ cls := "SharedNights", name := "placements", desc := "(I)I" } : Jvm.MethodName)) ∈ lw_all := lw_g (lw_at lw_m3 225 rfl) rfl
theorem q822 : (Jvm.Cond.methodLink "SharedNightsLaw" (84 : Nat) ({ cls := "SharedNights", name := "placement", desc := "(II)I" } : Jvm.MethodName)) ∈ lw_all := lw_g (lw_at lw_m4 30 rfl) rfl
theorem q826 : (Jvm.Cond.methodLink "SharedNightsLaw" (88 : Nat) ({ cls := "SharedNights", name := "best", desc := "(I)I" } : Jvm.MethodName)) ∈ lw_all := lw_g (lw_at lw_m4 34 rfl) rfl
theorem q869 : (Jvm.Cond.methodLink "SharedNightsLaw" (92 : Nat) ({ cls := "SharedNights", name := "placed", desc := "(I)I" } : Jvm.MethodName)) ∈ lw_all := lw_g (lw_at lw_m4 77 rfl) rfl
theorem q877 : (Jvm.Cond.methodLink "SharedNightsLaw" (96 : Nat) ({ cls := "SharedNights", name := "price", desc := "(I)I" } : Jvm.MethodName)) ∈ lw_all := lw_g (lw_at lw_m4 85 rfl) rfl
theorem q895 : (Jvm.Cond.methodLink "SharedNightsLaw" (100 : Nat) ({ cls := "SharedNights", name := "empty", desc := "(I)I" } : Jvm.MethodName)) ∈ lw_all := lw_g (lw_at lw_m4 103 rfl) rfl
theorem q904 : (Jvm.Cond.methodLink "SharedNightsLaw" (104 : Nat) ({ cls := "SharedNights", name := "again", desc := "(I)I" } : Jvm.MethodName)) ∈ lw_all := lw_g (lw_at lw_m4 112 rfl) rfl
theorem q908 : (Jvm.Cond.methodLink "SharedNightsLaw" (108 : Nat) ({ cls := "SharedNights", name := "watch", desc := "(II)I" } : Jvm.MethodName)) ∈ lw_all := lw_g (lw_at lw_m4 116 rfl) rfl
theorem q967 : (Jvm.Cond.methodLink "SharedNightsLaw" (112 : Nat) ({ cls := "SharedNights", name := "log", desc := "(III)I" } : Jvm.MethodName)) ∈ lw_all := lw_g (lw_at lw_m4 175 rfl) rfl
theorem q971 : (Jvm.Cond.methodLink "SharedNightsLaw" (116 : Nat) ({ cls := "SharedNights", name := "state", desc := "(IIII)I" } : Jvm.MethodName)) ∈ lw_all := lw_g (lw_at lw_m4 179 rfl) rfl
theorem q975 : (Jvm.Cond.methodLink "SharedNightsLaw" (121 : Nat) ({ cls := "SharedNights", name := "value", desc := "(II)I" } : Jvm.MethodName)) ∈ lw_all := lw_g (lw_at lw_m4 183 rfl) rfl
theorem q987 : (Jvm.Cond.methodLink "SharedNightsLaw" (125 : Nat) ({ cls := "SharedNights", name := "sure", desc := "(I)I" } : Jvm.MethodName)) ∈ lw_all := lw_g (lw_at lw_m4 195 rfl) rfl
theorem q991 : (Jvm.Cond.methodLink "SharedNightsLaw" (129 : Nat) ({ cls := "SharedNights", name := "rule", desc := "()I" } : Jvm.MethodName)) ∈ lw_all := lw_g (lw_at lw_m4 199 rfl) rfl
theorem q995 : (Jvm.Cond.methodLink "SharedNightsLaw" (133 : Nat) ({ cls := "SharedNights", name := "alert", desc := "(IIIIII)I" } : Jvm.MethodName)) ∈ lw_all := lw_g (lw_at lw_m4 203 rfl) rfl
theorem q1004 : (Jvm.Cond.methodLink "SharedNightsLaw" (138 : Nat) ({ cls := "SharedNights", name := "share", desc := "(II)I" } : Jvm.MethodName)) ∈ lw_all := lw_g (lw_at lw_m4 212 rfl) rfl
theorem q1012 : (Jvm.Cond.methodLink "SharedNightsLaw" (142 : Nat) ({ cls := "SharedNights", name := "close", desc := "(I)I" } : Jvm.MethodName)) ∈ lw_all := lw_g (lw_at lw_m4 220 rfl) rfl
theorem q1016 : (Jvm.Cond.methodLink "SharedNightsLaw" (146 : Nat) ({ cls := "SharedNights", name := "account", desc := "(I)I" } : Jvm.MethodName)) ∈ lw_all := lw_g (lw_at lw_m4 224 rfl) rfl
theorem q1020 : (Jvm.Cond.methodLink "SharedNightsLaw" (150 : Nat) ({ cls := "SharedNights", name := "debt", desc := "(I)I" } : Jvm.MethodName)) ∈ lw_all := lw_g (lw_at lw_m4 228 rfl) rfl
theorem q1029 : (Jvm.Cond.methodLink "SharedNightsLaw" (154 : Nat) ({ cls := "SharedNights", name := "next", desc := "()I" } : Jvm.MethodName)) ∈ lw_all := lw_g (lw_at lw_m4 237 rfl) rfl
theorem q1033 : (Jvm.Cond.methodLink "SharedNightsLaw" (158 : Nat) ({ cls := "SharedNights", name := "count", desc := "(I)I" } : Jvm.MethodName)) ∈ lw_all := lw_g (lw_at lw_m5 1 rfl) rfl
theorem q1037 : (Jvm.Cond.classLink "SharedNightsLaw" (10 : Nat) "SharedNightsModel") ∈ lw_all := lw_g (lw_at lw_m5 5 rfl) rfl
theorem q1039 : (Jvm.Cond.methodLink "SharedNightsLaw" (12 : Nat) ({ cls := "SharedNightsModel", name := "<init>", desc := "()V" } : Jvm.MethodName)) ∈ lw_all := lw_g (lw_at lw_m5 7 rfl) rfl
theorem q1176 : (Jvm.Cond.methodLink "SharedNightsLaw" (17 : Nat) ({ cls := "SharedNightsModel", name := "slots", desc := "(I)I" } : Jvm.MethodName)) ∈ lw_all := lw_g (lw_at lw_m5 144 rfl) rfl
theorem q1183 : (Jvm.Cond.methodLink "SharedNightsLaw" (22 : Nat) ({ cls := "SharedNightsModel", name := "target", desc := "(III)I" } : Jvm.MethodName)) ∈ lw_all := lw_g (lw_at lw_m5 151 rfl) rfl
theorem q1187 : (Jvm.Cond.methodLink "SharedNightsLaw" (27 : Nat) ({ cls := "SharedNightsModel", name := "air", desc := "(II)I" } : Jvm.MethodName)) ∈ lw_all := lw_g (lw_at lw_m5 155 rfl) rfl
theorem q1207 : (Jvm.Cond.methodLink "SharedNightsLaw" (31 : Nat) ({ cls := "SharedNightsModel", name := "moon", desc := "(III)I" } : Jvm.MethodName)) ∈ lw_all := lw_g (lw_at lw_m5 175 rfl) rfl
theorem q1211 : (Jvm.Cond.methodLink "SharedNightsLaw" (35 : Nat) ({ cls := "SharedNightsModel", name := "seeing", desc := "(III)I" } : Jvm.MethodName)) ∈ lw_all := lw_g (lw_at lw_m5 179 rfl) rfl
theorem q1219 : (Jvm.Cond.methodLink "SharedNightsLaw" (39 : Nat) ({ cls := "SharedNightsModel", name := "world", desc := "(I)I" } : Jvm.MethodName)) ∈ lw_all := lw_g (lw_at lw_m5 187 rfl) rfl
theorem q1223 : (Jvm.Cond.methodLink "SharedNightsLaw" (44 : Nat) ({ cls := "SharedNightsModel", name := "unworld", desc := "()I" } : Jvm.MethodName)) ∈ lw_all := lw_g (lw_at lw_m5 191 rfl) rfl
theorem q1227 : (Jvm.Cond.methodLink "SharedNightsLaw" (51 : Nat) ({ cls := "SharedNightsModel", name := "write", desc := "(JI)I" } : Jvm.MethodName)) ∈ lw_all := lw_g (lw_at lw_m5 195 rfl) rfl
theorem q1232 : (Jvm.Cond.methodLink "SharedNightsLaw" (55 : Nat) ({ cls := "SharedNightsModel", name := "erase", desc := "()I" } : Jvm.MethodName)) ∈ lw_all := lw_g (lw_at lw_m5 200 rfl) rfl
theorem q1236 : (Jvm.Cond.methodLink "SharedNightsLaw" (59 : Nat) ({ cls := "SharedNightsModel", name := "fault", desc := "()I" } : Jvm.MethodName)) ∈ lw_all := lw_g (lw_at lw_m5 204 rfl) rfl
theorem q1274 : (Jvm.Cond.methodLink "SharedNightsLaw" (63 : Nat) ({ cls := "SharedNightsModel", name := "stands", desc := "()I" } : Jvm.MethodName)) ∈ lw_all := lw_g (lw_at lw_m6 2 rfl) rfl
theorem q1278 : (Jvm.Cond.methodLink "SharedNightsLaw" (67 : Nat) ({ cls := "SharedNightsModel", name := "plan", desc := "()I" } : Jvm.MethodName)) ∈ lw_all := lw_g (lw_at lw_m6 6 rfl) rfl
theorem q1282 : (Jvm.Cond.methodLink "SharedNightsLaw" (71 : Nat) ({ cls := "SharedNightsModel", name := "drop", desc := "(I)I" } : Jvm.MethodName)) ∈ lw_all := lw_g (lw_at lw_m6 10 rfl) rfl
theorem q1294 : (Jvm.Cond.methodLink "SharedNightsLaw" (75 : Nat) ({ cls := "SharedNightsModel", name := "told", desc := "(II)I" } : Jvm.MethodName)) ∈ lw_all := lw_g (lw_at lw_m6 22 rfl) rfl
theorem q1298 : (Jvm.Cond.methodLink "SharedNightsLaw" (79 : Nat) ({ cls := "SharedNightsModel", name := "worth", desc := "(II)I" } : Jvm.MethodName)) ∈ lw_all := lw_g (lw_at lw_m6 26 rfl) rfl
theorem q1302 : (Jvm.Cond.methodLink "SharedNightsLaw" (83 : Nat) ({ cls := "SharedNightsModel", name := "placements", desc := "(I)I" } : Jvm.MethodName)) ∈ lw_all := lw_g (lw_at lw_m6 30 rfl) rfl
theorem q1334 : (Jvm.Cond.methodLink "SharedNightsLaw" (87 : Nat) ({ cls := "SharedNightsModel", name := "placement", desc := "(II)I" } : Jvm.MethodName)) ∈ lw_all := lw_g (lw_at lw_m6 62 rfl) rfl
theorem q1338 : (Jvm.Cond.methodLink "SharedNightsLaw" (91 : Nat) ({ cls := "SharedNightsModel", name := "best", desc := "(I)I" } : Jvm.MethodName)) ∈ lw_all := lw_g (lw_at lw_m6 66 rfl) rfl
theorem q1370 : (Jvm.Cond.methodLink "SharedNightsLaw" (95 : Nat) ({ cls := "SharedNightsModel", name := "placed", desc := "(I)I" } : Jvm.MethodName)) ∈ lw_all := lw_g (lw_at lw_m6 98 rfl) rfl
theorem q1374 : (Jvm.Cond.methodLink "SharedNightsLaw" (99 : Nat) ({ cls := "SharedNightsModel", name := "price", desc := "(I)I" } : Jvm.MethodName)) ∈ lw_all := lw_g (lw_at lw_m6 102 rfl) rfl
theorem q1382 : (Jvm.Cond.methodLink "SharedNightsLaw" (103 : Nat) ({ cls := "SharedNightsModel", name := "empty", desc := "(I)I" } : Jvm.MethodName)) ∈ lw_all := lw_g (lw_at lw_m6 110 rfl) rfl
theorem q1386 : (Jvm.Cond.methodLink "SharedNightsLaw" (107 : Nat) ({ cls := "SharedNightsModel", name := "again", desc := "(I)I" } : Jvm.MethodName)) ∈ lw_all := lw_g (lw_at lw_m6 114 rfl) rfl
theorem q1390 : (Jvm.Cond.methodLink "SharedNightsLaw" (111 : Nat) ({ cls := "SharedNightsModel", name := "watch", desc := "(II)I" } : Jvm.MethodName)) ∈ lw_all := lw_g (lw_at lw_m6 118 rfl) rfl
theorem q1414 : (Jvm.Cond.methodLink "SharedNightsLaw" (115 : Nat) ({ cls := "SharedNightsModel", name := "log", desc := "(III)I" } : Jvm.MethodName)) ∈ lw_all := lw_g (lw_at lw_m6 142 rfl) rfl
theorem q1418 : (Jvm.Cond.methodLink "SharedNightsLaw" (120 : Nat) ({ cls := "SharedNightsModel", name := "state", desc := "(IIII)I" } : Jvm.MethodName)) ∈ lw_all := lw_g (lw_at lw_m6 146 rfl) rfl
theorem q1422 : (Jvm.Cond.methodLink "SharedNightsLaw" (124 : Nat) ({ cls := "SharedNightsModel", name := "value", desc := "(II)I" } : Jvm.MethodName)) ∈ lw_all := lw_g (lw_at lw_m6 150 rfl) rfl
theorem q1433 : (Jvm.Cond.methodLink "SharedNightsLaw" (128 : Nat) ({ cls := "SharedNightsModel", name := "sure", desc := "(I)I" } : Jvm.MethodName)) ∈ lw_all := lw_g (lw_at lw_m6 161 rfl) rfl
theorem q1437 : (Jvm.Cond.methodLink "SharedNightsLaw" (132 : Nat) ({ cls := "SharedNightsModel", name := "rule", desc := "()I" } : Jvm.MethodName)) ∈ lw_all := lw_g (lw_at lw_m6 165 rfl) rfl
theorem q1441 : (Jvm.Cond.methodLink "SharedNightsLaw" (137 : Nat) ({ cls := "SharedNightsModel", name := "alert", desc := "(IIIIII)I" } : Jvm.MethodName)) ∈ lw_all := lw_g (lw_at lw_m6 169 rfl) rfl
theorem q1449 : (Jvm.Cond.methodLink "SharedNightsLaw" (141 : Nat) ({ cls := "SharedNightsModel", name := "share", desc := "(II)I" } : Jvm.MethodName)) ∈ lw_all := lw_g (lw_at lw_m6 177 rfl) rfl
theorem q1453 : (Jvm.Cond.methodLink "SharedNightsLaw" (145 : Nat) ({ cls := "SharedNightsModel", name := "close", desc := "(I)I" } : Jvm.MethodName)) ∈ lw_all := lw_g (lw_at lw_m6 181 rfl) rfl
theorem q1457 : (Jvm.Cond.methodLink "SharedNightsLaw" (149 : Nat) ({ cls := "SharedNightsModel", name := "account", desc := "(I)I" } : Jvm.MethodName)) ∈ lw_all := lw_g (lw_at lw_m6 185 rfl) rfl
theorem q1461 : (Jvm.Cond.methodLink "SharedNightsLaw" (153 : Nat) ({ cls := "SharedNightsModel", name := "debt", desc := "(I)I" } : Jvm.MethodName)) ∈ lw_all := lw_g (lw_at lw_m6 189 rfl) rfl
theorem q1470 : (Jvm.Cond.methodLink "SharedNightsLaw" (157 : Nat) ({ cls := "SharedNightsModel", name := "next", desc := "()I" } : Jvm.MethodName)) ∈ lw_all := lw_g (lw_at lw_m6 198 rfl) rfl
theorem q1474 : (Jvm.Cond.methodLink "SharedNightsLaw" (161 : Nat) ({ cls := "SharedNightsModel", name := "count", desc := "(I)I" } : Jvm.MethodName)) ∈ lw_all := lw_g (lw_at lw_m6 202 rfl) rfl
theorem q1478 : (Jvm.Cond.constantLong "SharedNightsLaw" (45 : Nat) (4294967295 : Int64)) ∈ lw_all := lw_g (lw_at lw_m6 206 rfl) rfl
theorem q85 : (Jvm.Cond.initialized "java/lang/System") ∈ lw_all := lw_g (lw_at lw_m1 13 rfl) rfl
set_option maxRecDepth 100000
theorem q431 : (Jvm.Cond.static ({ cls := "java/lang/System", name := "arraycopy", desc := "(Ljava/lang/Object;ILjava/lang/Object;II)V" } : Jvm.MethodName)) ∈ lw_all := lw_g (lw_at lw_m2 119 rfl) rfl
theorem q432 : (Jvm.Cond.native ({ cls := "java/lang/System", name := "arraycopy", desc := "(Ljava/lang/Object;ILjava/lang/Object;II)V" } : Jvm.MethodName)) ∈ lw_all := lw_g (lw_at lw_m2 120 rfl) rfl
theorem q106 : (Jvm.Cond.arrayOver (Jvm.ClassFile.FieldType.object "SharedNights$Sky")) ∈ lw_tbl := lw_at lw_m1 34 rfl
set_option maxRecDepth 100000
theorem q108 : (Jvm.Cond.arrayOver (Jvm.ClassFile.FieldType.object "SharedNights$Target")) ∈ lw_tbl := lw_at lw_m1 36 rfl
theorem q110 : (Jvm.Cond.arrayOver (Jvm.ClassFile.FieldType.object "SharedNights$Plan")) ∈ lw_tbl := lw_at lw_m1 38 rfl
theorem q130 : (Jvm.Cond.arrayClass Jvm.ClassFile.FieldType.byte) ∈ lw_all := lw_g (lw_at lw_m1 58 rfl) rfl
theorem q138 : (Jvm.Cond.arrayOver (Jvm.ClassFile.FieldType.array Jvm.ClassFile.FieldType.int)) ∈ lw_tbl := lw_at lw_m1 66 rfl
theorem q164 : (Jvm.Cond.arrayClass Jvm.ClassFile.FieldType.int) ∈ lw_all := lw_g (lw_at lw_m1 92 rfl) rfl
theorem q166 : (Jvm.Cond.arrayOver (Jvm.ClassFile.FieldType.object "SharedNights$Rule")) ∈ lw_tbl := lw_at lw_m1 94 rfl
theorem q230 : (Jvm.Cond.arrayClass Jvm.ClassFile.FieldType.boolean) ∈ lw_all := lw_g (lw_at lw_m1 158 rfl) rfl
theorem q465 : (Jvm.Cond.arrayOver (Jvm.ClassFile.FieldType.object "SharedNights$Look")) ∈ lw_tbl := lw_at lw_m2 153 rfl
