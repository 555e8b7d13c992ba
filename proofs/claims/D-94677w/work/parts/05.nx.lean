/-! HeavyGifts$Town -/
set_option maxRecDepth 100000
def RX2 : String := "HeavyGifts$Town"
def TX2 : u_T := fun k => match k with
  | 0 => ("HeavyGifts$Town", "people", "Ljava/util/ArrayList;", true)
  | 1 => ("HeavyGifts$Town", "worths", "[I", true)
  | 2 => ("HeavyGifts$Town", "things", "I", false)
  | 3 => ("HeavyGifts$Town", "wet", "I", false)
  | 4 => ("HeavyGifts$Town", "within", "I", false)
  | _ => ("HeavyGifts$Town", "toAnyone", "Z", false)
def tyX2 : Nat → FieldType := fun k => match k with
  | 0 => .object "java/util/ArrayList"
  | 1 => .array .int
  | 2 => .int
  | 3 => .int
  | 4 => .int
  | _ => .boolean
abbrev wsX20 : List Cond := u_ws RX2 TX2 6
theorem nmX2 : ∀ a, a < 6 → ∀ b, b < 6 → a ≠ b → (TX2 a).2.1 ≠ (TX2 b).2.1 := by decide +kernel
theorem tyX2_ok : ∀ k, k < 6 → parseFieldDescriptor (TX2 k).2.2.1 = some (tyX2 k) := by decide +kernel
abbrev cX2_init : ByteArray := prog_13_method_1_code
def yX2_init : MethodName := ⟨RX2, "<init>", "()V"⟩
def dkwX2_init_1 : List UInt8 := [177]
abbrev dktX2_init_1 : List UInt8 := dkwX2_init_1 ++ []
def dkwX2_init_0 : List UInt8 := [42, 183, 0, 3, 42, 187, 0, 9, 89, 4, 183, 0, 11, 181, 0, 14, 42, 16, 12, 188, 10, 181, 0, 20]
abbrev dktX2_init_0 : List UInt8 := dkwX2_init_0 ++ dktX2_init_1
theorem dksX2_init_0 : cX2_init.data.toList.drop 0 = dktX2_init_0 := by decide +kernel
theorem dksX2_init_1 : cX2_init.data.toList.drop 24 = dktX2_init_1 := dk_seg dksX2_init_0 24 rfl rfl
theorem dX2_init_0 : decode cX2_init 0 = .ok (.aload_n 0, 1) := dk_42 (dk_at dksX2_init_0 0 rfl rfl)
theorem dX2_init_1 : decode cX2_init 1 = .ok (.invokespecial 3, 3) := dk_183 0 3 (dk_at dksX2_init_0 1 rfl rfl)
theorem dX2_init_4 : decode cX2_init 4 = .ok (.aload_n 0, 1) := dk_42 (dk_at dksX2_init_0 4 rfl rfl)
theorem dX2_init_5 : decode cX2_init 5 = .ok (.new 9, 3) := dk_187 0 9 (dk_at dksX2_init_0 5 rfl rfl)
theorem dX2_init_8 : decode cX2_init 8 = .ok (.dup, 1) := dk_89 (dk_at dksX2_init_0 8 rfl rfl)
theorem dX2_init_9 : decode cX2_init 9 = .ok (.iconst 1, 1) := dk_4 (dk_at dksX2_init_0 9 rfl rfl)
theorem dX2_init_10 : decode cX2_init 10 = .ok (.invokespecial 11, 3) := dk_183 0 11 (dk_at dksX2_init_0 10 rfl rfl)
theorem dX2_init_13 : decode cX2_init 13 = .ok (.putfield 14, 3) := dk_181 0 14 (dk_at dksX2_init_0 13 rfl rfl)
theorem dX2_init_16 : decode cX2_init 16 = .ok (.aload_n 0, 1) := dk_42 (dk_at dksX2_init_0 16 rfl rfl)
theorem dX2_init_17 : decode cX2_init 17 = .ok (.bipush 12, 2) := dk_16 12 (dk_at dksX2_init_0 17 rfl rfl)
theorem dX2_init_19 : decode cX2_init 19 = .ok (.newarray .int, 2) := dk_188_10 (dk_at dksX2_init_0 19 rfl rfl)
theorem dX2_init_21 : decode cX2_init 21 = .ok (.putfield 20, 3) := dk_181 0 20 (dk_at dksX2_init_0 21 rfl rfl)
theorem dX2_init_24 : decode cX2_init 24 = .ok (.return_, 1) := dk_177 (dk_at dksX2_init_1 0 rfl rfl)
abbrev cX2_all : ByteArray := prog_13_method_2_code
def yX2_all : MethodName := ⟨RX2, "all", "()I"⟩
def dkwX2_all_0 : List UInt8 := [4, 42, 180, 0, 24, 120, 4, 100, 172]
abbrev dktX2_all_0 : List UInt8 := dkwX2_all_0 ++ []
theorem dksX2_all_0 : cX2_all.data.toList.drop 0 = dktX2_all_0 := by decide +kernel
theorem dX2_all_0 : decode cX2_all 0 = .ok (.iconst 1, 1) := dk_4 (dk_at dksX2_all_0 0 rfl rfl)
theorem dX2_all_1 : decode cX2_all 1 = .ok (.aload_n 0, 1) := dk_42 (dk_at dksX2_all_0 1 rfl rfl)
theorem dX2_all_2 : decode cX2_all 2 = .ok (.getfield 24, 3) := dk_180 0 24 (dk_at dksX2_all_0 2 rfl rfl)
theorem dX2_all_5 : decode cX2_all 5 = .ok (.ishl, 1) := dk_120 (dk_at dksX2_all_0 5 rfl rfl)
theorem dX2_all_6 : decode cX2_all 6 = .ok (.iconst 1, 1) := dk_4 (dk_at dksX2_all_0 6 rfl rfl)
theorem dX2_all_7 : decode cX2_all 7 = .ok (.isub, 1) := dk_100 (dk_at dksX2_all_0 7 rfl rfl)
theorem dX2_all_8 : decode cX2_all 8 = .ok (.ireturn, 1) := dk_172 (dk_at dksX2_all_0 8 rfl rfl)
theorem q77 : (Jvm.Cond.initialized "HeavyGifts$Town") ∈ lw_all := lw_g (lw_at lw_m1 2 rfl) rfl
theorem q122 : (Jvm.Cond.instantiable "HeavyGifts$Town" (6 : Nat)) ∈ lw_all := lw_g (lw_at lw_m1 47 rfl) rfl
theorem q124 : (Jvm.Cond.instanceMethod ({ cls := "HeavyGifts$Town", name := "<init>", desc := "()V" } : Jvm.MethodName)) ∈ lw_all := lw_g (lw_at lw_m1 49 rfl) rfl
theorem q125 : (Jvm.Cond.code ({ cls := "HeavyGifts$Town", name := "<init>", desc := "()V" } : Jvm.MethodName) prog_13_method_1_code (1 : Nat) (Option.none : Option Jvm.ClassFile.FieldType)) ∈ lw_all := lw_g (lw_at lw_m1 50 rfl) rfl
theorem q126 : (Jvm.Cond.methodLink "HeavyGifts$Town" (3 : Nat) ({ cls := "java/lang/Object", name := "<init>", desc := "()V" } : Jvm.MethodName)) ∈ lw_all := lw_g (lw_at lw_m1 51 rfl) rfl
theorem q127 : (Jvm.Cond.classLink "HeavyGifts$Town" (9 : Nat) "java/util/ArrayList") ∈ lw_all := lw_g (lw_at lw_m1 52 rfl) rfl
theorem q129 : (Jvm.Cond.methodLink "HeavyGifts$Town" (11 : Nat) ({ cls := "java/util/ArrayList", name := "<init>", desc := "(I)V" } : Jvm.MethodName)) ∈ lw_all := lw_g (lw_at lw_m1 54 rfl) rfl
theorem q467 : (Jvm.Cond.fieldLink "HeavyGifts$Town" (14 : Nat) "HeavyGifts$Town" "people" "Ljava/util/ArrayList;") ∈ lw_all := lw_g (lw_at lw_m2 152 rfl) rfl
theorem q470 : (Jvm.Cond.fieldLink "HeavyGifts$Town" (20 : Nat) "HeavyGifts$Town" "worths" "[I") ∈ lw_all := lw_g (lw_at lw_m2 155 rfl) rfl
theorem q474 : (Jvm.Cond.fieldLink "HeavyGifts$Town" (24 : Nat) "HeavyGifts$Town" "things" "I") ∈ lw_all := lw_g (lw_at lw_m2 159 rfl) rfl
theorem q483 : (Jvm.Cond.laysFinal "HeavyGifts$Town" "HeavyGifts$Town" "people" "Ljava/util/ArrayList;") ∈ lw_all := lw_g (lw_at lw_m2 168 rfl) rfl
theorem q484 : (Jvm.Cond.soleField "HeavyGifts$Town" "people") ∈ lw_all := lw_g (lw_at lw_m2 169 rfl) rfl
theorem q485 : (Jvm.Cond.laysFinal "HeavyGifts$Town" "HeavyGifts$Town" "worths" "[I") ∈ lw_all := lw_g (lw_at lw_m2 170 rfl) rfl
theorem q486 : (Jvm.Cond.soleField "HeavyGifts$Town" "worths") ∈ lw_all := lw_g (lw_at lw_m2 171 rfl) rfl
theorem q487 : (Jvm.Cond.lays "HeavyGifts$Town" "HeavyGifts$Town" "things" "I") ∈ lw_all := lw_g (lw_at lw_m2 172 rfl) rfl
theorem q488 : (Jvm.Cond.soleField "HeavyGifts$Town" "things") ∈ lw_all := lw_g (lw_at lw_m2 173 rfl) rfl
theorem q489 : (Jvm.Cond.lays "HeavyGifts$Town" "HeavyGifts$Town" "wet" "I") ∈ lw_all := lw_g (lw_at lw_m2 174 rfl) rfl
theorem q490 : (Jvm.Cond.soleField "HeavyGifts$Town" "wet") ∈ lw_all := lw_g (lw_at lw_m2 175 rfl) rfl
theorem q491 : (Jvm.Cond.lays "HeavyGifts$Town" "HeavyGifts$Town" "within" "I") ∈ lw_all := lw_g (lw_at lw_m2 176 rfl) rfl
theorem q492 : (Jvm.Cond.soleField "HeavyGifts$Town" "within") ∈ lw_all := lw_g (lw_at lw_m2 177 rfl) rfl
theorem q493 : (Jvm.Cond.lays "HeavyGifts$Town" "HeavyGifts$Town" "toAnyone" "Z") ∈ lw_all := lw_g (lw_at lw_m2 178 rfl) rfl
theorem q494 : (Jvm.Cond.soleField "HeavyGifts$Town" "toAnyone") ∈ lw_all := lw_g (lw_at lw_m2 179 rfl) rfl
theorem q495 : (Jvm.Cond.superclass "HeavyGifts$Town" "java/lang/Object") ∈ lw_all := lw_g (lw_at lw_m2 180 rfl) rfl
theorem q647 : (Jvm.Cond.instanceMethod ({ cls := "HeavyGifts$Town", name := "all", desc := "()I" } : Jvm.MethodName)) ∈ lw_all := lw_g (lw_at lw_m3 92 rfl) rfl
theorem q648 : (Jvm.Cond.selects "HeavyGifts$Town" ({ cls := "HeavyGifts$Town", name := "all", desc := "()I" } : Jvm.MethodName) ({ cls := "HeavyGifts$Town", name := "all", desc := "()I" } : Jvm.MethodName)) ∈ lw_all := lw_g (lw_at lw_m3 93 rfl) rfl
theorem q649 : (Jvm.Cond.code ({ cls := "HeavyGifts$Town", name := "all", desc := "()I" } : Jvm.MethodName) prog_13_method_2_code (1 : Nat) (Option.some Jvm.ClassFile.FieldType.int)) ∈ lw_all := lw_g (lw_at lw_m3 94 rfl) rfl
theorem q743 : (Jvm.Cond.selects "HeavyGifts$Town" ({ cls := "java/lang/Object", name := "getClass", desc := "()Ljava/lang/Class;" } : Jvm.MethodName) ({ cls := "java/lang/Object", name := "getClass", desc := "()Ljava/lang/Class;" } : Jvm.MethodName)) ∈ lw_all := lw_g (lw_at lw_m3 188 rfl) rfl
theorem q1875 : (Jvm.Cond.castable "HeavyGifts$Town" "java/lang/Object") ∈ lw_tbl := lw_at lw_m8 120 rfl
theorem in_X2 : ∀ w ∈ wsX20, w ∈ lw_all := lw_in wsX20 [483, 485, 487, 489, 491, 493] (by decide +kernel) (by decide +kernel)
/-! HeavyGifts$Book -/
set_option maxRecDepth 100000
def RX3 : String := "HeavyGifts$Book"
def TX3 : u_T := fun k => match k with
  | 0 => ("HeavyGifts$Book", "state", "LHeavyGifts$State;", true)
  | 1 => ("HeavyGifts$Book", "gifts", "Ljava/util/ArrayList;", true)
  | _ => ("HeavyGifts$Book", "refused", "[I", true)
def tyX3 : Nat → FieldType := fun k => match k with
  | 0 => .object "HeavyGifts$State"
  | 1 => .object "java/util/ArrayList"
  | _ => .array .int
abbrev wsX30 : List Cond := u_ws RX3 TX3 3
theorem nmX3 : ∀ a, a < 3 → ∀ b, b < 3 → a ≠ b → (TX3 a).2.1 ≠ (TX3 b).2.1 := by decide +kernel
theorem tyX3_ok : ∀ k, k < 3 → parseFieldDescriptor (TX3 k).2.2.1 = some (tyX3 k) := by decide +kernel
abbrev cX3_init : ByteArray := prog_3_method_1_code
def yX3_init : MethodName := ⟨RX3, "<init>", "()V"⟩
def dkwX3_init_1 : List UInt8 := [181, 0, 21, 42, 5, 188, 10, 181, 0, 25, 177]
abbrev dktX3_init_1 : List UInt8 := dkwX3_init_1 ++ []
def dkwX3_init_0 : List UInt8 := [42, 183, 0, 1, 42, 187, 0, 7, 89, 183, 0, 9, 181, 0, 10, 42, 187, 0, 16, 89, 4, 183, 0, 18]
abbrev dktX3_init_0 : List UInt8 := dkwX3_init_0 ++ dktX3_init_1
theorem dksX3_init_0 : cX3_init.data.toList.drop 0 = dktX3_init_0 := by decide +kernel
theorem dksX3_init_1 : cX3_init.data.toList.drop 24 = dktX3_init_1 := dk_seg dksX3_init_0 24 rfl rfl
theorem dX3_init_0 : decode cX3_init 0 = .ok (.aload_n 0, 1) := dk_42 (dk_at dksX3_init_0 0 rfl rfl)
theorem dX3_init_1 : decode cX3_init 1 = .ok (.invokespecial 1, 3) := dk_183 0 1 (dk_at dksX3_init_0 1 rfl rfl)
theorem dX3_init_4 : decode cX3_init 4 = .ok (.aload_n 0, 1) := dk_42 (dk_at dksX3_init_0 4 rfl rfl)
theorem dX3_init_5 : decode cX3_init 5 = .ok (.new 7, 3) := dk_187 0 7 (dk_at dksX3_init_0 5 rfl rfl)
theorem dX3_init_8 : decode cX3_init 8 = .ok (.dup, 1) := dk_89 (dk_at dksX3_init_0 8 rfl rfl)
theorem dX3_init_9 : decode cX3_init 9 = .ok (.invokespecial 9, 3) := dk_183 0 9 (dk_at dksX3_init_0 9 rfl rfl)
theorem dX3_init_12 : decode cX3_init 12 = .ok (.putfield 10, 3) := dk_181 0 10 (dk_at dksX3_init_0 12 rfl rfl)
theorem dX3_init_15 : decode cX3_init 15 = .ok (.aload_n 0, 1) := dk_42 (dk_at dksX3_init_0 15 rfl rfl)
theorem dX3_init_16 : decode cX3_init 16 = .ok (.new 16, 3) := dk_187 0 16 (dk_at dksX3_init_0 16 rfl rfl)
theorem dX3_init_19 : decode cX3_init 19 = .ok (.dup, 1) := dk_89 (dk_at dksX3_init_0 19 rfl rfl)
theorem dX3_init_20 : decode cX3_init 20 = .ok (.iconst 1, 1) := dk_4 (dk_at dksX3_init_0 20 rfl rfl)
theorem dX3_init_21 : decode cX3_init 21 = .ok (.invokespecial 18, 3) := dk_183 0 18 (dk_at dksX3_init_0 21 rfl rfl)
theorem dX3_init_24 : decode cX3_init 24 = .ok (.putfield 21, 3) := dk_181 0 21 (dk_at dksX3_init_1 0 rfl rfl)
theorem dX3_init_27 : decode cX3_init 27 = .ok (.aload_n 0, 1) := dk_42 (dk_at dksX3_init_1 3 rfl rfl)
theorem dX3_init_28 : decode cX3_init 28 = .ok (.iconst 2, 1) := dk_5 (dk_at dksX3_init_1 4 rfl rfl)
theorem dX3_init_29 : decode cX3_init 29 = .ok (.newarray .int, 2) := dk_188_10 (dk_at dksX3_init_1 5 rfl rfl)
theorem dX3_init_31 : decode cX3_init 31 = .ok (.putfield 25, 3) := dk_181 0 25 (dk_at dksX3_init_1 7 rfl rfl)
theorem dX3_init_34 : decode cX3_init 34 = .ok (.return_, 1) := dk_177 (dk_at dksX3_init_1 10 rfl rfl)
abbrev cX3_copy : ByteArray := prog_3_method_2_code
def yX3_copy : MethodName := ⟨RX3, "copy", "()LHeavyGifts$Book;"⟩
def dkwX3_copy_3 : List UInt8 := [190, 184, 0, 48, 43, 176]
abbrev dktX3_copy_3 : List UInt8 := dkwX3_copy_3 ++ []
def dkwX3_copy_2 : List UInt8 := [182, 0, 44, 87, 132, 2, 1, 167, 255, 223, 42, 180, 0, 25, 3, 43, 180, 0, 25, 3, 42, 180, 0, 25]
abbrev dktX3_copy_2 : List UInt8 := dkwX3_copy_2 ++ dktX3_copy_3
def dkwX3_copy_1 : List UInt8 := [180, 0, 21, 182, 0, 34, 162, 0, 28, 43, 180, 0, 21, 42, 180, 0, 21, 28, 182, 0, 38, 192, 0, 42]
abbrev dktX3_copy_1 : List UInt8 := dkwX3_copy_1 ++ dktX3_copy_2
def dkwX3_copy_0 : List UInt8 := [187, 0, 11, 89, 183, 0, 29, 76, 43, 180, 0, 10, 42, 180, 0, 10, 182, 0, 30, 3, 61, 28, 42]
abbrev dktX3_copy_0 : List UInt8 := dkwX3_copy_0 ++ dktX3_copy_1
theorem dksX3_copy_0 : cX3_copy.data.toList.drop 0 = dktX3_copy_0 := by decide +kernel
theorem dksX3_copy_1 : cX3_copy.data.toList.drop 23 = dktX3_copy_1 := dk_seg dksX3_copy_0 23 rfl rfl
theorem dksX3_copy_2 : cX3_copy.data.toList.drop 47 = dktX3_copy_2 := dk_seg dksX3_copy_1 24 rfl rfl
theorem dksX3_copy_3 : cX3_copy.data.toList.drop 71 = dktX3_copy_3 := dk_seg dksX3_copy_2 24 rfl rfl
theorem dX3_copy_0 : decode cX3_copy 0 = .ok (.new 11, 3) := dk_187 0 11 (dk_at dksX3_copy_0 0 rfl rfl)
theorem dX3_copy_3 : decode cX3_copy 3 = .ok (.dup, 1) := dk_89 (dk_at dksX3_copy_0 3 rfl rfl)
theorem dX3_copy_4 : decode cX3_copy 4 = .ok (.invokespecial 29, 3) := dk_183 0 29 (dk_at dksX3_copy_0 4 rfl rfl)
theorem dX3_copy_7 : decode cX3_copy 7 = .ok (.astore_n 1, 1) := dk_76 (dk_at dksX3_copy_0 7 rfl rfl)
theorem dX3_copy_8 : decode cX3_copy 8 = .ok (.aload_n 1, 1) := dk_43 (dk_at dksX3_copy_0 8 rfl rfl)
theorem dX3_copy_9 : decode cX3_copy 9 = .ok (.getfield 10, 3) := dk_180 0 10 (dk_at dksX3_copy_0 9 rfl rfl)
theorem dX3_copy_12 : decode cX3_copy 12 = .ok (.aload_n 0, 1) := dk_42 (dk_at dksX3_copy_0 12 rfl rfl)
theorem dX3_copy_13 : decode cX3_copy 13 = .ok (.getfield 10, 3) := dk_180 0 10 (dk_at dksX3_copy_0 13 rfl rfl)
theorem dX3_copy_16 : decode cX3_copy 16 = .ok (.invokevirtual 30, 3) := dk_182 0 30 (dk_at dksX3_copy_0 16 rfl rfl)
theorem dX3_copy_19 : decode cX3_copy 19 = .ok (.iconst 0, 1) := dk_3 (dk_at dksX3_copy_0 19 rfl rfl)
theorem dX3_copy_20 : decode cX3_copy 20 = .ok (.istore_n 2, 1) := dk_61 (dk_at dksX3_copy_0 20 rfl rfl)
theorem dX3_copy_21 : decode cX3_copy 21 = .ok (.iload_n 2, 1) := dk_28 (dk_at dksX3_copy_0 21 rfl rfl)
theorem dX3_copy_22 : decode cX3_copy 22 = .ok (.aload_n 0, 1) := dk_42 (dk_at dksX3_copy_0 22 rfl rfl)
theorem dX3_copy_23 : decode cX3_copy 23 = .ok (.getfield 21, 3) := dk_180 0 21 (dk_at dksX3_copy_1 0 rfl rfl)
theorem dX3_copy_26 : decode cX3_copy 26 = .ok (.invokevirtual 34, 3) := dk_182 0 34 (dk_at dksX3_copy_1 3 rfl rfl)
theorem dX3_copy_29 : decode cX3_copy 29 = .ok (.if_icmp .ge 28, 3) := dk_162 0 28 (dk_at dksX3_copy_1 6 rfl rfl)
theorem dX3_copy_32 : decode cX3_copy 32 = .ok (.aload_n 1, 1) := dk_43 (dk_at dksX3_copy_1 9 rfl rfl)
theorem dX3_copy_33 : decode cX3_copy 33 = .ok (.getfield 21, 3) := dk_180 0 21 (dk_at dksX3_copy_1 10 rfl rfl)
theorem dX3_copy_36 : decode cX3_copy 36 = .ok (.aload_n 0, 1) := dk_42 (dk_at dksX3_copy_1 13 rfl rfl)
theorem dX3_copy_37 : decode cX3_copy 37 = .ok (.getfield 21, 3) := dk_180 0 21 (dk_at dksX3_copy_1 14 rfl rfl)
theorem dX3_copy_40 : decode cX3_copy 40 = .ok (.iload_n 2, 1) := dk_28 (dk_at dksX3_copy_1 17 rfl rfl)
theorem dX3_copy_41 : decode cX3_copy 41 = .ok (.invokevirtual 38, 3) := dk_182 0 38 (dk_at dksX3_copy_1 18 rfl rfl)
theorem dX3_copy_44 : decode cX3_copy 44 = .ok (.checkcast 42, 3) := dk_192 0 42 (dk_at dksX3_copy_1 21 rfl rfl)
theorem dX3_copy_47 : decode cX3_copy 47 = .ok (.invokevirtual 44, 3) := dk_182 0 44 (dk_at dksX3_copy_2 0 rfl rfl)
theorem dX3_copy_50 : decode cX3_copy 50 = .ok (.pop, 1) := dk_87 (dk_at dksX3_copy_2 3 rfl rfl)
theorem dX3_copy_51 : decode cX3_copy 51 = .ok (.iinc 2 1, 3) := dk_132 2 1 (dk_at dksX3_copy_2 4 rfl rfl)
theorem dX3_copy_54 : decode cX3_copy 54 = .ok (.goto (-33), 3) := dk_167 255 223 (dk_at dksX3_copy_2 7 rfl rfl)
theorem dX3_copy_57 : decode cX3_copy 57 = .ok (.aload_n 0, 1) := dk_42 (dk_at dksX3_copy_2 10 rfl rfl)
theorem dX3_copy_58 : decode cX3_copy 58 = .ok (.getfield 25, 3) := dk_180 0 25 (dk_at dksX3_copy_2 11 rfl rfl)
theorem dX3_copy_61 : decode cX3_copy 61 = .ok (.iconst 0, 1) := dk_3 (dk_at dksX3_copy_2 14 rfl rfl)
theorem dX3_copy_62 : decode cX3_copy 62 = .ok (.aload_n 1, 1) := dk_43 (dk_at dksX3_copy_2 15 rfl rfl)
theorem dX3_copy_63 : decode cX3_copy 63 = .ok (.getfield 25, 3) := dk_180 0 25 (dk_at dksX3_copy_2 16 rfl rfl)
theorem dX3_copy_66 : decode cX3_copy 66 = .ok (.iconst 0, 1) := dk_3 (dk_at dksX3_copy_2 19 rfl rfl)
theorem dX3_copy_67 : decode cX3_copy 67 = .ok (.aload_n 0, 1) := dk_42 (dk_at dksX3_copy_2 20 rfl rfl)
theorem dX3_copy_68 : decode cX3_copy 68 = .ok (.getfield 25, 3) := dk_180 0 25 (dk_at dksX3_copy_2 21 rfl rfl)
theorem dX3_copy_71 : decode cX3_copy 71 = .ok (.arraylength, 1) := dk_190 (dk_at dksX3_copy_3 0 rfl rfl)
theorem dX3_copy_72 : decode cX3_copy 72 = .ok (.invokestatic 48, 3) := dk_184 0 48 (dk_at dksX3_copy_3 1 rfl rfl)
theorem dX3_copy_75 : decode cX3_copy 75 = .ok (.aload_n 1, 1) := dk_43 (dk_at dksX3_copy_3 4 rfl rfl)
theorem dX3_copy_76 : decode cX3_copy 76 = .ok (.areturn, 1) := dk_176 (dk_at dksX3_copy_3 5 rfl rfl)
theorem q97 : (Jvm.Cond.initialized "HeavyGifts$Book") ∈ lw_all := lw_g (lw_at lw_m1 22 rfl) rfl
theorem q498 : (Jvm.Cond.instantiable "HeavyGifts$Book" (3 : Nat)) ∈ lw_all := lw_g (lw_at lw_m2 183 rfl) rfl
theorem q500 : (Jvm.Cond.instanceMethod ({ cls := "HeavyGifts$Book", name := "<init>", desc := "()V" } : Jvm.MethodName)) ∈ lw_all := lw_g (lw_at lw_m2 185 rfl) rfl
theorem q501 : (Jvm.Cond.code ({ cls := "HeavyGifts$Book", name := "<init>", desc := "()V" } : Jvm.MethodName) prog_3_method_1_code (1 : Nat) (Option.none : Option Jvm.ClassFile.FieldType)) ∈ lw_all := lw_g (lw_at lw_m2 186 rfl) rfl
theorem q502 : (Jvm.Cond.methodLink "HeavyGifts$Book" (1 : Nat) ({ cls := "java/lang/Object", name := "<init>", desc := "()V" } : Jvm.MethodName)) ∈ lw_all := lw_g (lw_at lw_m2 187 rfl) rfl
theorem q503 : (Jvm.Cond.classLink "HeavyGifts$Book" (7 : Nat) "HeavyGifts$State") ∈ lw_all := lw_g (lw_at lw_m2 188 rfl) rfl
theorem q505 : (Jvm.Cond.methodLinkNest "HeavyGifts$Book" (9 : Nat) ({ cls := "HeavyGifts$State", name := "<init>", desc := "()V" } : Jvm.MethodName) "HeavyGifts") ∈ lw_tbl := lw_at lw_m2 190 rfl
theorem q541 : (Jvm.Cond.classLink "HeavyGifts$Book" (16 : Nat) "java/util/ArrayList") ∈ lw_all := lw_g (lw_at lw_m2 226 rfl) rfl
theorem q542 : (Jvm.Cond.methodLink "HeavyGifts$Book" (18 : Nat) ({ cls := "java/util/ArrayList", name := "<init>", desc := "(I)V" } : Jvm.MethodName)) ∈ lw_all := lw_g (lw_at lw_m2 227 rfl) rfl
theorem q543 : (Jvm.Cond.fieldLink "HeavyGifts$Book" (10 : Nat) "HeavyGifts$Book" "state" "LHeavyGifts$State;") ∈ lw_all := lw_g (lw_at lw_m2 228 rfl) rfl
theorem q545 : (Jvm.Cond.fieldLink "HeavyGifts$Book" (21 : Nat) "HeavyGifts$Book" "gifts" "Ljava/util/ArrayList;") ∈ lw_all := lw_g (lw_at lw_m2 230 rfl) rfl
theorem q547 : (Jvm.Cond.fieldLink "HeavyGifts$Book" (25 : Nat) "HeavyGifts$Book" "refused" "[I") ∈ lw_all := lw_g (lw_at lw_m2 232 rfl) rfl
theorem q549 : (Jvm.Cond.laysFinal "HeavyGifts$Book" "HeavyGifts$Book" "state" "LHeavyGifts$State;") ∈ lw_all := lw_g (lw_at lw_m2 234 rfl) rfl
theorem q550 : (Jvm.Cond.soleField "HeavyGifts$Book" "state") ∈ lw_all := lw_g (lw_at lw_m2 235 rfl) rfl
theorem q551 : (Jvm.Cond.laysFinal "HeavyGifts$Book" "HeavyGifts$Book" "gifts" "Ljava/util/ArrayList;") ∈ lw_all := lw_g (lw_at lw_m2 236 rfl) rfl
theorem q552 : (Jvm.Cond.soleField "HeavyGifts$Book" "gifts") ∈ lw_all := lw_g (lw_at lw_m2 237 rfl) rfl
theorem q553 : (Jvm.Cond.laysFinal "HeavyGifts$Book" "HeavyGifts$Book" "refused" "[I") ∈ lw_all := lw_g (lw_at lw_m2 238 rfl) rfl
theorem q554 : (Jvm.Cond.soleField "HeavyGifts$Book" "refused") ∈ lw_all := lw_g (lw_at lw_m2 239 rfl) rfl
theorem q555 : (Jvm.Cond.superclass "HeavyGifts$Book" "java/lang/Object") ∈ lw_all := lw_g (lw_at lw_m3 0 rfl) rfl
theorem q734 : (Jvm.Cond.selects "HeavyGifts$Book" ({ cls := "java/lang/Object", name := "getClass", desc := "()Ljava/lang/Class;" } : Jvm.MethodName) ({ cls := "java/lang/Object", name := "getClass", desc := "()Ljava/lang/Class;" } : Jvm.MethodName)) ∈ lw_all := lw_g (lw_at lw_m3 179 rfl) rfl
theorem q903 : (Jvm.Cond.instanceMethod ({ cls := "HeavyGifts$Book", name := "copy", desc := "()LHeavyGifts$Book;" } : Jvm.MethodName)) ∈ lw_all := lw_g (lw_at lw_m4 108 rfl) rfl
theorem q904 : (Jvm.Cond.selects "HeavyGifts$Book" ({ cls := "HeavyGifts$Book", name := "copy", desc := "()LHeavyGifts$Book;" } : Jvm.MethodName) ({ cls := "HeavyGifts$Book", name := "copy", desc := "()LHeavyGifts$Book;" } : Jvm.MethodName)) ∈ lw_all := lw_g (lw_at lw_m4 109 rfl) rfl
theorem q905 : (Jvm.Cond.code ({ cls := "HeavyGifts$Book", name := "copy", desc := "()LHeavyGifts$Book;" } : Jvm.MethodName) prog_3_method_2_code (3 : Nat) (Option.some (Jvm.ClassFile.FieldType.object "HeavyGifts$Book"))) ∈ lw_all := lw_g (lw_at lw_m4 110 rfl) rfl
theorem q906 : (Jvm.Cond.classLink "HeavyGifts$Book" (11 : Nat) "HeavyGifts$Book") ∈ lw_all := lw_g (lw_at lw_m4 111 rfl) rfl
theorem q907 : (Jvm.Cond.methodLink "HeavyGifts$Book" (29 : Nat) ({ cls := "HeavyGifts$Book", name := "<init>", desc := "()V" } : Jvm.MethodName)) ∈ lw_all := lw_g (lw_at lw_m4 112 rfl) rfl
theorem q908 : (Jvm.Cond.methodLink "HeavyGifts$Book" (30 : Nat) ({ cls := "HeavyGifts$State", name := "like", desc := "(LHeavyGifts$State;)V" } : Jvm.MethodName)) ∈ lw_all := lw_g (lw_at lw_m4 113 rfl) rfl
theorem q909 : (Jvm.Cond.methodLink "HeavyGifts$Book" (34 : Nat) ({ cls := "java/util/ArrayList", name := "size", desc := "()I" } : Jvm.MethodName)) ∈ lw_all := lw_g (lw_at lw_m4 114 rfl) rfl
theorem q910 : (Jvm.Cond.methodLink "HeavyGifts$Book" (38 : Nat) ({ cls := "java/util/ArrayList", name := "get", desc := "(I)Ljava/lang/Object;" } : Jvm.MethodName)) ∈ lw_all := lw_g (lw_at lw_m4 115 rfl) rfl
theorem q911 : (Jvm.Cond.classLink "HeavyGifts$Book" (42 : Nat) "HeavyGifts$Gift") ∈ lw_all := lw_g (lw_at lw_m4 116 rfl) rfl
theorem q912 : (Jvm.Cond.methodLink "HeavyGifts$Book" (44 : Nat) ({ cls := "java/util/ArrayList", name := "add", desc := "(Ljava/lang/Object;)Z" } : Jvm.MethodName)) ∈ lw_all := lw_g (lw_at lw_m4 117 rfl) rfl
theorem q913 : (Jvm.Cond.methodLink "HeavyGifts$Book" (48 : Nat) ({ cls := "java/lang/System", name := "arraycopy", desc := "(Ljava/lang/Object;ILjava/lang/Object;II)V" } : Jvm.MethodName)) ∈ lw_all := lw_g (lw_at lw_m4 118 rfl) rfl
theorem q1879 : (Jvm.Cond.castable "HeavyGifts$Book" "java/lang/Object") ∈ lw_tbl := lw_at lw_m8 124 rfl
theorem in_X3 : ∀ w ∈ wsX30, w ∈ lw_all := lw_in wsX30 [549, 551, 553] (by decide +kernel) (by decide +kernel)
/-! HeavyGifts$State -/
set_option maxRecDepth 100000
def RX4 : String := "HeavyGifts$State"
def TX4 : u_T := fun k => match k with
  | 0 => ("HeavyGifts$State", "has", "[I", true)
  | 1 => ("HeavyGifts$State", "sand", "[I", true)
  | 2 => ("HeavyGifts$State", "owes", "[I", true)
  | 3 => ("HeavyGifts$State", "to", "[I", true)
  | 4 => ("HeavyGifts$State", "weights", "[I", true)
  | _ => ("HeavyGifts$State", "day", "I", false)
def tyX4 : Nat → FieldType := fun k => match k with
  | 0 => .array .int
  | 1 => .array .int
  | 2 => .array .int
  | 3 => .array .int
  | 4 => .array .int
  | _ => .int
abbrev wsX40 : List Cond := u_ws RX4 TX4 6
theorem nmX4 : ∀ a, a < 6 → ∀ b, b < 6 → a ≠ b → (TX4 a).2.1 ≠ (TX4 b).2.1 := by decide +kernel
theorem tyX4_ok : ∀ k, k < 6 → parseFieldDescriptor (TX4 k).2.2.1 = some (tyX4 k) := by decide +kernel
abbrev cX4_init : ByteArray := prog_12_method_1_code
def yX4_init : MethodName := ⟨RX4, "<init>", "()V"⟩
def dkwX4_init_1 : List UInt8 := [188, 10, 181, 0, 18, 42, 16, 6, 188, 10, 181, 0, 21, 42, 16, 12, 188, 10, 181, 0, 24, 177]
abbrev dktX4_init_1 : List UInt8 := dkwX4_init_1 ++ []
def dkwX4_init_0 : List UInt8 := [42, 183, 0, 3, 42, 16, 6, 188, 10, 181, 0, 9, 42, 16, 6, 188, 10, 181, 0, 15, 42, 16, 6]
abbrev dktX4_init_0 : List UInt8 := dkwX4_init_0 ++ dktX4_init_1
theorem dksX4_init_0 : cX4_init.data.toList.drop 0 = dktX4_init_0 := by decide +kernel
theorem dksX4_init_1 : cX4_init.data.toList.drop 23 = dktX4_init_1 := dk_seg dksX4_init_0 23 rfl rfl
theorem dX4_init_0 : decode cX4_init 0 = .ok (.aload_n 0, 1) := dk_42 (dk_at dksX4_init_0 0 rfl rfl)
theorem dX4_init_1 : decode cX4_init 1 = .ok (.invokespecial 3, 3) := dk_183 0 3 (dk_at dksX4_init_0 1 rfl rfl)
theorem dX4_init_4 : decode cX4_init 4 = .ok (.aload_n 0, 1) := dk_42 (dk_at dksX4_init_0 4 rfl rfl)
theorem dX4_init_5 : decode cX4_init 5 = .ok (.bipush 6, 2) := dk_16 6 (dk_at dksX4_init_0 5 rfl rfl)
theorem dX4_init_7 : decode cX4_init 7 = .ok (.newarray .int, 2) := dk_188_10 (dk_at dksX4_init_0 7 rfl rfl)
theorem dX4_init_9 : decode cX4_init 9 = .ok (.putfield 9, 3) := dk_181 0 9 (dk_at dksX4_init_0 9 rfl rfl)
theorem dX4_init_12 : decode cX4_init 12 = .ok (.aload_n 0, 1) := dk_42 (dk_at dksX4_init_0 12 rfl rfl)
theorem dX4_init_13 : decode cX4_init 13 = .ok (.bipush 6, 2) := dk_16 6 (dk_at dksX4_init_0 13 rfl rfl)
theorem dX4_init_15 : decode cX4_init 15 = .ok (.newarray .int, 2) := dk_188_10 (dk_at dksX4_init_0 15 rfl rfl)
theorem dX4_init_17 : decode cX4_init 17 = .ok (.putfield 15, 3) := dk_181 0 15 (dk_at dksX4_init_0 17 rfl rfl)
theorem dX4_init_20 : decode cX4_init 20 = .ok (.aload_n 0, 1) := dk_42 (dk_at dksX4_init_0 20 rfl rfl)
theorem dX4_init_21 : decode cX4_init 21 = .ok (.bipush 6, 2) := dk_16 6 (dk_at dksX4_init_0 21 rfl rfl)
theorem dX4_init_23 : decode cX4_init 23 = .ok (.newarray .int, 2) := dk_188_10 (dk_at dksX4_init_1 0 rfl rfl)
theorem dX4_init_25 : decode cX4_init 25 = .ok (.putfield 18, 3) := dk_181 0 18 (dk_at dksX4_init_1 2 rfl rfl)
theorem dX4_init_28 : decode cX4_init 28 = .ok (.aload_n 0, 1) := dk_42 (dk_at dksX4_init_1 5 rfl rfl)
theorem dX4_init_29 : decode cX4_init 29 = .ok (.bipush 6, 2) := dk_16 6 (dk_at dksX4_init_1 6 rfl rfl)
theorem dX4_init_31 : decode cX4_init 31 = .ok (.newarray .int, 2) := dk_188_10 (dk_at dksX4_init_1 8 rfl rfl)
theorem dX4_init_33 : decode cX4_init 33 = .ok (.putfield 21, 3) := dk_181 0 21 (dk_at dksX4_init_1 10 rfl rfl)
theorem dX4_init_36 : decode cX4_init 36 = .ok (.aload_n 0, 1) := dk_42 (dk_at dksX4_init_1 13 rfl rfl)
theorem dX4_init_37 : decode cX4_init 37 = .ok (.bipush 12, 2) := dk_16 12 (dk_at dksX4_init_1 14 rfl rfl)
theorem dX4_init_39 : decode cX4_init 39 = .ok (.newarray .int, 2) := dk_188_10 (dk_at dksX4_init_1 16 rfl rfl)
theorem dX4_init_41 : decode cX4_init 41 = .ok (.putfield 24, 3) := dk_181 0 24 (dk_at dksX4_init_1 18 rfl rfl)
theorem dX4_init_44 : decode cX4_init 44 = .ok (.return_, 1) := dk_177 (dk_at dksX4_init_1 21 rfl rfl)
abbrev cX4_weight : ByteArray := prog_12_method_5_code
def yX4_weight : MethodName := ⟨RX4, "weight", "(I)I"⟩
def dkwX4_weight_1 : List UInt8 := [29, 46, 96, 61, 132, 3, 1, 167, 255, 229, 28, 172]
abbrev dktX4_weight_1 : List UInt8 := dkwX4_weight_1 ++ []
def dkwX4_weight_0 : List UInt8 := [3, 61, 3, 62, 29, 16, 12, 162, 0, 27, 27, 29, 122, 4, 126, 4, 160, 0, 12, 28, 42, 180, 0, 24]
abbrev dktX4_weight_0 : List UInt8 := dkwX4_weight_0 ++ dktX4_weight_1
theorem dksX4_weight_0 : cX4_weight.data.toList.drop 0 = dktX4_weight_0 := by decide +kernel
theorem dksX4_weight_1 : cX4_weight.data.toList.drop 24 = dktX4_weight_1 := dk_seg dksX4_weight_0 24 rfl rfl
theorem dX4_weight_0 : decode cX4_weight 0 = .ok (.iconst 0, 1) := dk_3 (dk_at dksX4_weight_0 0 rfl rfl)
theorem dX4_weight_1 : decode cX4_weight 1 = .ok (.istore_n 2, 1) := dk_61 (dk_at dksX4_weight_0 1 rfl rfl)
theorem dX4_weight_2 : decode cX4_weight 2 = .ok (.iconst 0, 1) := dk_3 (dk_at dksX4_weight_0 2 rfl rfl)
theorem dX4_weight_3 : decode cX4_weight 3 = .ok (.istore_n 3, 1) := dk_62 (dk_at dksX4_weight_0 3 rfl rfl)
theorem dX4_weight_4 : decode cX4_weight 4 = .ok (.iload_n 3, 1) := dk_29 (dk_at dksX4_weight_0 4 rfl rfl)
theorem dX4_weight_5 : decode cX4_weight 5 = .ok (.bipush 12, 2) := dk_16 12 (dk_at dksX4_weight_0 5 rfl rfl)
theorem dX4_weight_7 : decode cX4_weight 7 = .ok (.if_icmp .ge 27, 3) := dk_162 0 27 (dk_at dksX4_weight_0 7 rfl rfl)
theorem dX4_weight_10 : decode cX4_weight 10 = .ok (.iload_n 1, 1) := dk_27 (dk_at dksX4_weight_0 10 rfl rfl)
theorem dX4_weight_11 : decode cX4_weight 11 = .ok (.iload_n 3, 1) := dk_29 (dk_at dksX4_weight_0 11 rfl rfl)
theorem dX4_weight_12 : decode cX4_weight 12 = .ok (.ishr, 1) := dk_122 (dk_at dksX4_weight_0 12 rfl rfl)
theorem dX4_weight_13 : decode cX4_weight 13 = .ok (.iconst 1, 1) := dk_4 (dk_at dksX4_weight_0 13 rfl rfl)
theorem dX4_weight_14 : decode cX4_weight 14 = .ok (.iand, 1) := dk_126 (dk_at dksX4_weight_0 14 rfl rfl)
theorem dX4_weight_15 : decode cX4_weight 15 = .ok (.iconst 1, 1) := dk_4 (dk_at dksX4_weight_0 15 rfl rfl)
theorem dX4_weight_16 : decode cX4_weight 16 = .ok (.if_icmp .ne 12, 3) := dk_160 0 12 (dk_at dksX4_weight_0 16 rfl rfl)
theorem dX4_weight_19 : decode cX4_weight 19 = .ok (.iload_n 2, 1) := dk_28 (dk_at dksX4_weight_0 19 rfl rfl)
theorem dX4_weight_20 : decode cX4_weight 20 = .ok (.aload_n 0, 1) := dk_42 (dk_at dksX4_weight_0 20 rfl rfl)
theorem dX4_weight_21 : decode cX4_weight 21 = .ok (.getfield 24, 3) := dk_180 0 24 (dk_at dksX4_weight_0 21 rfl rfl)
theorem dX4_weight_24 : decode cX4_weight 24 = .ok (.iload_n 3, 1) := dk_29 (dk_at dksX4_weight_1 0 rfl rfl)
theorem dX4_weight_25 : decode cX4_weight 25 = .ok (.iaload, 1) := dk_46 (dk_at dksX4_weight_1 1 rfl rfl)
theorem dX4_weight_26 : decode cX4_weight 26 = .ok (.iadd, 1) := dk_96 (dk_at dksX4_weight_1 2 rfl rfl)
theorem dX4_weight_27 : decode cX4_weight 27 = .ok (.istore_n 2, 1) := dk_61 (dk_at dksX4_weight_1 3 rfl rfl)
theorem dX4_weight_28 : decode cX4_weight 28 = .ok (.iinc 3 1, 3) := dk_132 3 1 (dk_at dksX4_weight_1 4 rfl rfl)
theorem dX4_weight_31 : decode cX4_weight 31 = .ok (.goto (-27), 3) := dk_167 255 229 (dk_at dksX4_weight_1 7 rfl rfl)
theorem dX4_weight_34 : decode cX4_weight 34 = .ok (.iload_n 2, 1) := dk_28 (dk_at dksX4_weight_1 10 rfl rfl)
theorem dX4_weight_35 : decode cX4_weight 35 = .ok (.ireturn, 1) := dk_172 (dk_at dksX4_weight_1 11 rfl rfl)
abbrev cX4_moves : ByteArray := prog_12_method_7_code
def yX4_moves : MethodName := ⟨RX4, "moves", "(IIII)V"⟩
def dkwX4_moves_1 : List UInt8 := [180, 0, 15, 27, 92, 46, 29, 100, 79, 42, 180, 0, 15, 21, 4, 92, 46, 29, 96, 79, 177]
abbrev dktX4_moves_1 : List UInt8 := dkwX4_moves_1 ++ []
def dkwX4_moves_0 : List UInt8 := [42, 180, 0, 9, 27, 92, 46, 28, 2, 130, 126, 79, 42, 180, 0, 9, 21, 4, 92, 46, 28, 128, 79, 42]
abbrev dktX4_moves_0 : List UInt8 := dkwX4_moves_0 ++ dktX4_moves_1
theorem dksX4_moves_0 : cX4_moves.data.toList.drop 0 = dktX4_moves_0 := by decide +kernel
theorem dksX4_moves_1 : cX4_moves.data.toList.drop 24 = dktX4_moves_1 := dk_seg dksX4_moves_0 24 rfl rfl
theorem dX4_moves_0 : decode cX4_moves 0 = .ok (.aload_n 0, 1) := dk_42 (dk_at dksX4_moves_0 0 rfl rfl)
theorem dX4_moves_1 : decode cX4_moves 1 = .ok (.getfield 9, 3) := dk_180 0 9 (dk_at dksX4_moves_0 1 rfl rfl)
theorem dX4_moves_4 : decode cX4_moves 4 = .ok (.iload_n 1, 1) := dk_27 (dk_at dksX4_moves_0 4 rfl rfl)
theorem dX4_moves_5 : decode cX4_moves 5 = .ok (.dup2, 1) := dk_92 (dk_at dksX4_moves_0 5 rfl rfl)
theorem dX4_moves_6 : decode cX4_moves 6 = .ok (.iaload, 1) := dk_46 (dk_at dksX4_moves_0 6 rfl rfl)
theorem dX4_moves_7 : decode cX4_moves 7 = .ok (.iload_n 2, 1) := dk_28 (dk_at dksX4_moves_0 7 rfl rfl)
theorem dX4_moves_8 : decode cX4_moves 8 = .ok (.iconst (-1), 1) := dk_2 (dk_at dksX4_moves_0 8 rfl rfl)
theorem dX4_moves_9 : decode cX4_moves 9 = .ok (.ixor, 1) := dk_130 (dk_at dksX4_moves_0 9 rfl rfl)
theorem dX4_moves_10 : decode cX4_moves 10 = .ok (.iand, 1) := dk_126 (dk_at dksX4_moves_0 10 rfl rfl)
theorem dX4_moves_11 : decode cX4_moves 11 = .ok (.iastore, 1) := dk_79 (dk_at dksX4_moves_0 11 rfl rfl)
theorem dX4_moves_12 : decode cX4_moves 12 = .ok (.aload_n 0, 1) := dk_42 (dk_at dksX4_moves_0 12 rfl rfl)
theorem dX4_moves_13 : decode cX4_moves 13 = .ok (.getfield 9, 3) := dk_180 0 9 (dk_at dksX4_moves_0 13 rfl rfl)
theorem dX4_moves_16 : decode cX4_moves 16 = .ok (.iload 4, 2) := dk_21 4 (dk_at dksX4_moves_0 16 rfl rfl)
theorem dX4_moves_18 : decode cX4_moves 18 = .ok (.dup2, 1) := dk_92 (dk_at dksX4_moves_0 18 rfl rfl)
theorem dX4_moves_19 : decode cX4_moves 19 = .ok (.iaload, 1) := dk_46 (dk_at dksX4_moves_0 19 rfl rfl)
theorem dX4_moves_20 : decode cX4_moves 20 = .ok (.iload_n 2, 1) := dk_28 (dk_at dksX4_moves_0 20 rfl rfl)
theorem dX4_moves_21 : decode cX4_moves 21 = .ok (.ior, 1) := dk_128 (dk_at dksX4_moves_0 21 rfl rfl)
theorem dX4_moves_22 : decode cX4_moves 22 = .ok (.iastore, 1) := dk_79 (dk_at dksX4_moves_0 22 rfl rfl)
theorem dX4_moves_23 : decode cX4_moves 23 = .ok (.aload_n 0, 1) := dk_42 (dk_at dksX4_moves_0 23 rfl rfl)
theorem dX4_moves_24 : decode cX4_moves 24 = .ok (.getfield 15, 3) := dk_180 0 15 (dk_at dksX4_moves_1 0 rfl rfl)
theorem dX4_moves_27 : decode cX4_moves 27 = .ok (.iload_n 1, 1) := dk_27 (dk_at dksX4_moves_1 3 rfl rfl)
theorem dX4_moves_28 : decode cX4_moves 28 = .ok (.dup2, 1) := dk_92 (dk_at dksX4_moves_1 4 rfl rfl)
theorem dX4_moves_29 : decode cX4_moves 29 = .ok (.iaload, 1) := dk_46 (dk_at dksX4_moves_1 5 rfl rfl)
theorem dX4_moves_30 : decode cX4_moves 30 = .ok (.iload_n 3, 1) := dk_29 (dk_at dksX4_moves_1 6 rfl rfl)
theorem dX4_moves_31 : decode cX4_moves 31 = .ok (.isub, 1) := dk_100 (dk_at dksX4_moves_1 7 rfl rfl)
theorem dX4_moves_32 : decode cX4_moves 32 = .ok (.iastore, 1) := dk_79 (dk_at dksX4_moves_1 8 rfl rfl)
theorem dX4_moves_33 : decode cX4_moves 33 = .ok (.aload_n 0, 1) := dk_42 (dk_at dksX4_moves_1 9 rfl rfl)
theorem dX4_moves_34 : decode cX4_moves 34 = .ok (.getfield 15, 3) := dk_180 0 15 (dk_at dksX4_moves_1 10 rfl rfl)
theorem dX4_moves_37 : decode cX4_moves 37 = .ok (.iload 4, 2) := dk_21 4 (dk_at dksX4_moves_1 13 rfl rfl)
theorem dX4_moves_39 : decode cX4_moves 39 = .ok (.dup2, 1) := dk_92 (dk_at dksX4_moves_1 15 rfl rfl)
theorem dX4_moves_40 : decode cX4_moves 40 = .ok (.iaload, 1) := dk_46 (dk_at dksX4_moves_1 16 rfl rfl)
theorem dX4_moves_41 : decode cX4_moves 41 = .ok (.iload_n 3, 1) := dk_29 (dk_at dksX4_moves_1 17 rfl rfl)
theorem dX4_moves_42 : decode cX4_moves 42 = .ok (.iadd, 1) := dk_96 (dk_at dksX4_moves_1 18 rfl rfl)
theorem dX4_moves_43 : decode cX4_moves 43 = .ok (.iastore, 1) := dk_79 (dk_at dksX4_moves_1 19 rfl rfl)
theorem dX4_moves_44 : decode cX4_moves 44 = .ok (.return_, 1) := dk_177 (dk_at dksX4_moves_1 20 rfl rfl)
abbrev cX4_like : ByteArray := prog_12_method_2_code
def yX4_like : MethodName := ⟨RX4, "like", "(LHeavyGifts$State;)V"⟩
def dkwX4_like_3 : List UInt8 := [16, 12, 184, 0, 27, 42, 43, 180, 0, 33, 181, 0, 33, 177]
abbrev dktX4_like_3 : List UInt8 := dkwX4_like_3 ++ []
def dkwX4_like_2 : List UInt8 := [180, 0, 21, 3, 42, 180, 0, 21, 3, 16, 6, 184, 0, 27, 43, 180, 0, 24, 3, 42, 180, 0, 24, 3]
abbrev dktX4_like_2 : List UInt8 := dkwX4_like_2 ++ dktX4_like_3
def dkwX4_like_1 : List UInt8 := [3, 16, 6, 184, 0, 27, 43, 180, 0, 18, 3, 42, 180, 0, 18, 3, 16, 6, 184, 0, 27, 43]
abbrev dktX4_like_1 : List UInt8 := dkwX4_like_1 ++ dktX4_like_2
def dkwX4_like_0 : List UInt8 := [43, 180, 0, 9, 3, 42, 180, 0, 9, 3, 16, 6, 184, 0, 27, 43, 180, 0, 15, 3, 42, 180, 0, 15]
abbrev dktX4_like_0 : List UInt8 := dkwX4_like_0 ++ dktX4_like_1
theorem dksX4_like_0 : cX4_like.data.toList.drop 0 = dktX4_like_0 := by decide +kernel
theorem dksX4_like_1 : cX4_like.data.toList.drop 24 = dktX4_like_1 := dk_seg dksX4_like_0 24 rfl rfl
theorem dksX4_like_2 : cX4_like.data.toList.drop 46 = dktX4_like_2 := dk_seg dksX4_like_1 22 rfl rfl
theorem dksX4_like_3 : cX4_like.data.toList.drop 70 = dktX4_like_3 := dk_seg dksX4_like_2 24 rfl rfl
theorem dX4_like_0 : decode cX4_like 0 = .ok (.aload_n 1, 1) := dk_43 (dk_at dksX4_like_0 0 rfl rfl)
theorem dX4_like_1 : decode cX4_like 1 = .ok (.getfield 9, 3) := dk_180 0 9 (dk_at dksX4_like_0 1 rfl rfl)
theorem dX4_like_4 : decode cX4_like 4 = .ok (.iconst 0, 1) := dk_3 (dk_at dksX4_like_0 4 rfl rfl)
theorem dX4_like_5 : decode cX4_like 5 = .ok (.aload_n 0, 1) := dk_42 (dk_at dksX4_like_0 5 rfl rfl)
theorem dX4_like_6 : decode cX4_like 6 = .ok (.getfield 9, 3) := dk_180 0 9 (dk_at dksX4_like_0 6 rfl rfl)
theorem dX4_like_9 : decode cX4_like 9 = .ok (.iconst 0, 1) := dk_3 (dk_at dksX4_like_0 9 rfl rfl)
theorem dX4_like_10 : decode cX4_like 10 = .ok (.bipush 6, 2) := dk_16 6 (dk_at dksX4_like_0 10 rfl rfl)
theorem dX4_like_12 : decode cX4_like 12 = .ok (.invokestatic 27, 3) := dk_184 0 27 (dk_at dksX4_like_0 12 rfl rfl)
theorem dX4_like_15 : decode cX4_like 15 = .ok (.aload_n 1, 1) := dk_43 (dk_at dksX4_like_0 15 rfl rfl)
theorem dX4_like_16 : decode cX4_like 16 = .ok (.getfield 15, 3) := dk_180 0 15 (dk_at dksX4_like_0 16 rfl rfl)
theorem dX4_like_19 : decode cX4_like 19 = .ok (.iconst 0, 1) := dk_3 (dk_at dksX4_like_0 19 rfl rfl)
theorem dX4_like_20 : decode cX4_like 20 = .ok (.aload_n 0, 1) := dk_42 (dk_at dksX4_like_0 20 rfl rfl)
theorem dX4_like_21 : decode cX4_like 21 = .ok (.getfield 15, 3) := dk_180 0 15 (dk_at dksX4_like_0 21 rfl rfl)
theorem dX4_like_24 : decode cX4_like 24 = .ok (.iconst 0, 1) := dk_3 (dk_at dksX4_like_1 0 rfl rfl)
theorem dX4_like_25 : decode cX4_like 25 = .ok (.bipush 6, 2) := dk_16 6 (dk_at dksX4_like_1 1 rfl rfl)
theorem dX4_like_27 : decode cX4_like 27 = .ok (.invokestatic 27, 3) := dk_184 0 27 (dk_at dksX4_like_1 3 rfl rfl)
theorem dX4_like_30 : decode cX4_like 30 = .ok (.aload_n 1, 1) := dk_43 (dk_at dksX4_like_1 6 rfl rfl)
theorem dX4_like_31 : decode cX4_like 31 = .ok (.getfield 18, 3) := dk_180 0 18 (dk_at dksX4_like_1 7 rfl rfl)
theorem dX4_like_34 : decode cX4_like 34 = .ok (.iconst 0, 1) := dk_3 (dk_at dksX4_like_1 10 rfl rfl)
theorem dX4_like_35 : decode cX4_like 35 = .ok (.aload_n 0, 1) := dk_42 (dk_at dksX4_like_1 11 rfl rfl)
theorem dX4_like_36 : decode cX4_like 36 = .ok (.getfield 18, 3) := dk_180 0 18 (dk_at dksX4_like_1 12 rfl rfl)
theorem dX4_like_39 : decode cX4_like 39 = .ok (.iconst 0, 1) := dk_3 (dk_at dksX4_like_1 15 rfl rfl)
theorem dX4_like_40 : decode cX4_like 40 = .ok (.bipush 6, 2) := dk_16 6 (dk_at dksX4_like_1 16 rfl rfl)
theorem dX4_like_42 : decode cX4_like 42 = .ok (.invokestatic 27, 3) := dk_184 0 27 (dk_at dksX4_like_1 18 rfl rfl)
theorem dX4_like_45 : decode cX4_like 45 = .ok (.aload_n 1, 1) := dk_43 (dk_at dksX4_like_1 21 rfl rfl)
theorem dX4_like_46 : decode cX4_like 46 = .ok (.getfield 21, 3) := dk_180 0 21 (dk_at dksX4_like_2 0 rfl rfl)
theorem dX4_like_49 : decode cX4_like 49 = .ok (.iconst 0, 1) := dk_3 (dk_at dksX4_like_2 3 rfl rfl)
theorem dX4_like_50 : decode cX4_like 50 = .ok (.aload_n 0, 1) := dk_42 (dk_at dksX4_like_2 4 rfl rfl)
theorem dX4_like_51 : decode cX4_like 51 = .ok (.getfield 21, 3) := dk_180 0 21 (dk_at dksX4_like_2 5 rfl rfl)
theorem dX4_like_54 : decode cX4_like 54 = .ok (.iconst 0, 1) := dk_3 (dk_at dksX4_like_2 8 rfl rfl)
theorem dX4_like_55 : decode cX4_like 55 = .ok (.bipush 6, 2) := dk_16 6 (dk_at dksX4_like_2 9 rfl rfl)
theorem dX4_like_57 : decode cX4_like 57 = .ok (.invokestatic 27, 3) := dk_184 0 27 (dk_at dksX4_like_2 11 rfl rfl)
theorem dX4_like_60 : decode cX4_like 60 = .ok (.aload_n 1, 1) := dk_43 (dk_at dksX4_like_2 14 rfl rfl)
theorem dX4_like_61 : decode cX4_like 61 = .ok (.getfield 24, 3) := dk_180 0 24 (dk_at dksX4_like_2 15 rfl rfl)
theorem dX4_like_64 : decode cX4_like 64 = .ok (.iconst 0, 1) := dk_3 (dk_at dksX4_like_2 18 rfl rfl)
theorem dX4_like_65 : decode cX4_like 65 = .ok (.aload_n 0, 1) := dk_42 (dk_at dksX4_like_2 19 rfl rfl)
theorem dX4_like_66 : decode cX4_like 66 = .ok (.getfield 24, 3) := dk_180 0 24 (dk_at dksX4_like_2 20 rfl rfl)
theorem dX4_like_69 : decode cX4_like 69 = .ok (.iconst 0, 1) := dk_3 (dk_at dksX4_like_2 23 rfl rfl)
theorem dX4_like_70 : decode cX4_like 70 = .ok (.bipush 12, 2) := dk_16 12 (dk_at dksX4_like_3 0 rfl rfl)
theorem dX4_like_72 : decode cX4_like 72 = .ok (.invokestatic 27, 3) := dk_184 0 27 (dk_at dksX4_like_3 2 rfl rfl)
theorem dX4_like_75 : decode cX4_like 75 = .ok (.aload_n 0, 1) := dk_42 (dk_at dksX4_like_3 5 rfl rfl)
theorem dX4_like_76 : decode cX4_like 76 = .ok (.aload_n 1, 1) := dk_43 (dk_at dksX4_like_3 6 rfl rfl)
theorem dX4_like_77 : decode cX4_like 77 = .ok (.getfield 33, 3) := dk_180 0 33 (dk_at dksX4_like_3 7 rfl rfl)
theorem dX4_like_80 : decode cX4_like 80 = .ok (.putfield 33, 3) := dk_181 0 33 (dk_at dksX4_like_3 10 rfl rfl)
theorem dX4_like_83 : decode cX4_like 83 = .ok (.return_, 1) := dk_177 (dk_at dksX4_like_3 13 rfl rfl)
abbrev cX4_owner : ByteArray := prog_12_method_6_code
def yX4_owner : MethodName := ⟨RX4, "owner", "(I)I"⟩
def dkwX4_owner_1 : List UInt8 := [132, 2, 1, 167, 255, 231, 2, 172]
abbrev dktX4_owner_1 : List UInt8 := dkwX4_owner_1 ++ []
def dkwX4_owner_0 : List UInt8 := [3, 61, 28, 16, 6, 162, 0, 25, 42, 180, 0, 9, 28, 46, 27, 122, 4, 126, 4, 160, 0, 5, 28, 172]
abbrev dktX4_owner_0 : List UInt8 := dkwX4_owner_0 ++ dktX4_owner_1
theorem dksX4_owner_0 : cX4_owner.data.toList.drop 0 = dktX4_owner_0 := by decide +kernel
theorem dksX4_owner_1 : cX4_owner.data.toList.drop 24 = dktX4_owner_1 := dk_seg dksX4_owner_0 24 rfl rfl
theorem dX4_owner_0 : decode cX4_owner 0 = .ok (.iconst 0, 1) := dk_3 (dk_at dksX4_owner_0 0 rfl rfl)
theorem dX4_owner_1 : decode cX4_owner 1 = .ok (.istore_n 2, 1) := dk_61 (dk_at dksX4_owner_0 1 rfl rfl)
theorem dX4_owner_2 : decode cX4_owner 2 = .ok (.iload_n 2, 1) := dk_28 (dk_at dksX4_owner_0 2 rfl rfl)
theorem dX4_owner_3 : decode cX4_owner 3 = .ok (.bipush 6, 2) := dk_16 6 (dk_at dksX4_owner_0 3 rfl rfl)
theorem dX4_owner_5 : decode cX4_owner 5 = .ok (.if_icmp .ge 25, 3) := dk_162 0 25 (dk_at dksX4_owner_0 5 rfl rfl)
theorem dX4_owner_8 : decode cX4_owner 8 = .ok (.aload_n 0, 1) := dk_42 (dk_at dksX4_owner_0 8 rfl rfl)
theorem dX4_owner_9 : decode cX4_owner 9 = .ok (.getfield 9, 3) := dk_180 0 9 (dk_at dksX4_owner_0 9 rfl rfl)
theorem dX4_owner_12 : decode cX4_owner 12 = .ok (.iload_n 2, 1) := dk_28 (dk_at dksX4_owner_0 12 rfl rfl)
theorem dX4_owner_13 : decode cX4_owner 13 = .ok (.iaload, 1) := dk_46 (dk_at dksX4_owner_0 13 rfl rfl)
theorem dX4_owner_14 : decode cX4_owner 14 = .ok (.iload_n 1, 1) := dk_27 (dk_at dksX4_owner_0 14 rfl rfl)
theorem dX4_owner_15 : decode cX4_owner 15 = .ok (.ishr, 1) := dk_122 (dk_at dksX4_owner_0 15 rfl rfl)
theorem dX4_owner_16 : decode cX4_owner 16 = .ok (.iconst 1, 1) := dk_4 (dk_at dksX4_owner_0 16 rfl rfl)
theorem dX4_owner_17 : decode cX4_owner 17 = .ok (.iand, 1) := dk_126 (dk_at dksX4_owner_0 17 rfl rfl)
theorem dX4_owner_18 : decode cX4_owner 18 = .ok (.iconst 1, 1) := dk_4 (dk_at dksX4_owner_0 18 rfl rfl)
theorem dX4_owner_19 : decode cX4_owner 19 = .ok (.if_icmp .ne 5, 3) := dk_160 0 5 (dk_at dksX4_owner_0 19 rfl rfl)
theorem dX4_owner_22 : decode cX4_owner 22 = .ok (.iload_n 2, 1) := dk_28 (dk_at dksX4_owner_0 22 rfl rfl)
theorem dX4_owner_23 : decode cX4_owner 23 = .ok (.ireturn, 1) := dk_172 (dk_at dksX4_owner_0 23 rfl rfl)
theorem dX4_owner_24 : decode cX4_owner 24 = .ok (.iinc 2 1, 3) := dk_132 2 1 (dk_at dksX4_owner_1 0 rfl rfl)
theorem dX4_owner_27 : decode cX4_owner 27 = .ok (.goto (-25), 3) := dk_167 255 231 (dk_at dksX4_owner_1 3 rfl rfl)
theorem dX4_owner_30 : decode cX4_owner 30 = .ok (.iconst (-1), 1) := dk_2 (dk_at dksX4_owner_1 6 rfl rfl)
theorem dX4_owner_31 : decode cX4_owner 31 = .ok (.ireturn, 1) := dk_172 (dk_at dksX4_owner_1 7 rfl rfl)
abbrev cX4_spot : ByteArray := prog_12_method_4_code
def yX4_spot : MethodName := ⟨RX4, "spot", "()I"⟩
def dkwX4_spot_2 : List UInt8 := [28, 46, 96, 60, 132, 2, 1, 167, 255, 205, 27, 27, 16, 12, 124, 130, 17, 15, 255, 126, 172]
abbrev dktX4_spot_2 : List UInt8 := dkwX4_spot_2 ++ []
def dkwX4_spot_1 : List UInt8 := [42, 180, 0, 15, 28, 46, 96, 16, 31, 104, 42, 180, 0, 18, 28, 46, 16, 7, 104, 96, 42, 180, 0, 21]
abbrev dktX4_spot_1 : List UInt8 := dkwX4_spot_1 ++ dktX4_spot_2
def dkwX4_spot_0 : List UInt8 := [3, 60, 3, 61, 28, 16, 6, 162, 0, 51, 27, 16, 31, 104, 42, 180, 0, 9, 28, 46, 96, 16, 31, 104]
abbrev dktX4_spot_0 : List UInt8 := dkwX4_spot_0 ++ dktX4_spot_1
theorem dksX4_spot_0 : cX4_spot.data.toList.drop 0 = dktX4_spot_0 := by decide +kernel
theorem dksX4_spot_1 : cX4_spot.data.toList.drop 24 = dktX4_spot_1 := dk_seg dksX4_spot_0 24 rfl rfl
theorem dksX4_spot_2 : cX4_spot.data.toList.drop 48 = dktX4_spot_2 := dk_seg dksX4_spot_1 24 rfl rfl
theorem dX4_spot_0 : decode cX4_spot 0 = .ok (.iconst 0, 1) := dk_3 (dk_at dksX4_spot_0 0 rfl rfl)
theorem dX4_spot_1 : decode cX4_spot 1 = .ok (.istore_n 1, 1) := dk_60 (dk_at dksX4_spot_0 1 rfl rfl)
theorem dX4_spot_2 : decode cX4_spot 2 = .ok (.iconst 0, 1) := dk_3 (dk_at dksX4_spot_0 2 rfl rfl)
theorem dX4_spot_3 : decode cX4_spot 3 = .ok (.istore_n 2, 1) := dk_61 (dk_at dksX4_spot_0 3 rfl rfl)
theorem dX4_spot_4 : decode cX4_spot 4 = .ok (.iload_n 2, 1) := dk_28 (dk_at dksX4_spot_0 4 rfl rfl)
theorem dX4_spot_5 : decode cX4_spot 5 = .ok (.bipush 6, 2) := dk_16 6 (dk_at dksX4_spot_0 5 rfl rfl)
theorem dX4_spot_7 : decode cX4_spot 7 = .ok (.if_icmp .ge 51, 3) := dk_162 0 51 (dk_at dksX4_spot_0 7 rfl rfl)
theorem dX4_spot_10 : decode cX4_spot 10 = .ok (.iload_n 1, 1) := dk_27 (dk_at dksX4_spot_0 10 rfl rfl)
theorem dX4_spot_11 : decode cX4_spot 11 = .ok (.bipush 31, 2) := dk_16 31 (dk_at dksX4_spot_0 11 rfl rfl)
theorem dX4_spot_13 : decode cX4_spot 13 = .ok (.imul, 1) := dk_104 (dk_at dksX4_spot_0 13 rfl rfl)
theorem dX4_spot_14 : decode cX4_spot 14 = .ok (.aload_n 0, 1) := dk_42 (dk_at dksX4_spot_0 14 rfl rfl)
theorem dX4_spot_15 : decode cX4_spot 15 = .ok (.getfield 9, 3) := dk_180 0 9 (dk_at dksX4_spot_0 15 rfl rfl)
theorem dX4_spot_18 : decode cX4_spot 18 = .ok (.iload_n 2, 1) := dk_28 (dk_at dksX4_spot_0 18 rfl rfl)
theorem dX4_spot_19 : decode cX4_spot 19 = .ok (.iaload, 1) := dk_46 (dk_at dksX4_spot_0 19 rfl rfl)
theorem dX4_spot_20 : decode cX4_spot 20 = .ok (.iadd, 1) := dk_96 (dk_at dksX4_spot_0 20 rfl rfl)
theorem dX4_spot_21 : decode cX4_spot 21 = .ok (.bipush 31, 2) := dk_16 31 (dk_at dksX4_spot_0 21 rfl rfl)
theorem dX4_spot_23 : decode cX4_spot 23 = .ok (.imul, 1) := dk_104 (dk_at dksX4_spot_0 23 rfl rfl)
theorem dX4_spot_24 : decode cX4_spot 24 = .ok (.aload_n 0, 1) := dk_42 (dk_at dksX4_spot_1 0 rfl rfl)
theorem dX4_spot_25 : decode cX4_spot 25 = .ok (.getfield 15, 3) := dk_180 0 15 (dk_at dksX4_spot_1 1 rfl rfl)
theorem dX4_spot_28 : decode cX4_spot 28 = .ok (.iload_n 2, 1) := dk_28 (dk_at dksX4_spot_1 4 rfl rfl)
theorem dX4_spot_29 : decode cX4_spot 29 = .ok (.iaload, 1) := dk_46 (dk_at dksX4_spot_1 5 rfl rfl)
theorem dX4_spot_30 : decode cX4_spot 30 = .ok (.iadd, 1) := dk_96 (dk_at dksX4_spot_1 6 rfl rfl)
theorem dX4_spot_31 : decode cX4_spot 31 = .ok (.bipush 31, 2) := dk_16 31 (dk_at dksX4_spot_1 7 rfl rfl)
theorem dX4_spot_33 : decode cX4_spot 33 = .ok (.imul, 1) := dk_104 (dk_at dksX4_spot_1 9 rfl rfl)
theorem dX4_spot_34 : decode cX4_spot 34 = .ok (.aload_n 0, 1) := dk_42 (dk_at dksX4_spot_1 10 rfl rfl)
theorem dX4_spot_35 : decode cX4_spot 35 = .ok (.getfield 18, 3) := dk_180 0 18 (dk_at dksX4_spot_1 11 rfl rfl)
theorem dX4_spot_38 : decode cX4_spot 38 = .ok (.iload_n 2, 1) := dk_28 (dk_at dksX4_spot_1 14 rfl rfl)
theorem dX4_spot_39 : decode cX4_spot 39 = .ok (.iaload, 1) := dk_46 (dk_at dksX4_spot_1 15 rfl rfl)
theorem dX4_spot_40 : decode cX4_spot 40 = .ok (.bipush 7, 2) := dk_16 7 (dk_at dksX4_spot_1 16 rfl rfl)
theorem dX4_spot_42 : decode cX4_spot 42 = .ok (.imul, 1) := dk_104 (dk_at dksX4_spot_1 18 rfl rfl)
theorem dX4_spot_43 : decode cX4_spot 43 = .ok (.iadd, 1) := dk_96 (dk_at dksX4_spot_1 19 rfl rfl)
theorem dX4_spot_44 : decode cX4_spot 44 = .ok (.aload_n 0, 1) := dk_42 (dk_at dksX4_spot_1 20 rfl rfl)
theorem dX4_spot_45 : decode cX4_spot 45 = .ok (.getfield 21, 3) := dk_180 0 21 (dk_at dksX4_spot_1 21 rfl rfl)
theorem dX4_spot_48 : decode cX4_spot 48 = .ok (.iload_n 2, 1) := dk_28 (dk_at dksX4_spot_2 0 rfl rfl)
theorem dX4_spot_49 : decode cX4_spot 49 = .ok (.iaload, 1) := dk_46 (dk_at dksX4_spot_2 1 rfl rfl)
theorem dX4_spot_50 : decode cX4_spot 50 = .ok (.iadd, 1) := dk_96 (dk_at dksX4_spot_2 2 rfl rfl)
theorem dX4_spot_51 : decode cX4_spot 51 = .ok (.istore_n 1, 1) := dk_60 (dk_at dksX4_spot_2 3 rfl rfl)
theorem dX4_spot_52 : decode cX4_spot 52 = .ok (.iinc 2 1, 3) := dk_132 2 1 (dk_at dksX4_spot_2 4 rfl rfl)
theorem dX4_spot_55 : decode cX4_spot 55 = .ok (.goto (-51), 3) := dk_167 255 205 (dk_at dksX4_spot_2 7 rfl rfl)
theorem dX4_spot_58 : decode cX4_spot 58 = .ok (.iload_n 1, 1) := dk_27 (dk_at dksX4_spot_2 10 rfl rfl)
theorem dX4_spot_59 : decode cX4_spot 59 = .ok (.iload_n 1, 1) := dk_27 (dk_at dksX4_spot_2 11 rfl rfl)
theorem dX4_spot_60 : decode cX4_spot 60 = .ok (.bipush 12, 2) := dk_16 12 (dk_at dksX4_spot_2 12 rfl rfl)
theorem dX4_spot_62 : decode cX4_spot 62 = .ok (.iushr, 1) := dk_124 (dk_at dksX4_spot_2 14 rfl rfl)
theorem dX4_spot_63 : decode cX4_spot 63 = .ok (.ixor, 1) := dk_130 (dk_at dksX4_spot_2 15 rfl rfl)
theorem dX4_spot_64 : decode cX4_spot 64 = .ok (.sipush 4095, 3) := dk_17 15 255 (dk_at dksX4_spot_2 16 rfl rfl)
theorem dX4_spot_67 : decode cX4_spot 67 = .ok (.iand, 1) := dk_126 (dk_at dksX4_spot_2 19 rfl rfl)
theorem dX4_spot_68 : decode cX4_spot 68 = .ok (.ireturn, 1) := dk_172 (dk_at dksX4_spot_2 20 rfl rfl)
abbrev cX4_isLike : ByteArray := prog_12_method_3_code
def yX4_isLike : MethodName := ⟨RX4, "isLike", "(LHeavyGifts$State;)Z"⟩
def dkwX4_isLike_3 : List UInt8 := [132, 2, 1, 167, 255, 185, 4, 172]
abbrev dktX4_isLike_3 : List UInt8 := dkwX4_isLike_3 ++ []
def dkwX4_isLike_2 : List UInt8 := [28, 46, 160, 0, 18, 42, 180, 0, 21, 28, 46, 43, 180, 0, 21, 28, 46, 159, 0, 5, 3, 172]
abbrev dktX4_isLike_2 : List UInt8 := dkwX4_isLike_2 ++ dktX4_isLike_3
def dkwX4_isLike_1 : List UInt8 := [180, 0, 15, 28, 46, 43, 180, 0, 15, 28, 46, 160, 0, 33, 42, 180, 0, 18, 28, 46, 43, 180, 0, 18]
abbrev dktX4_isLike_1 : List UInt8 := dkwX4_isLike_1 ++ dktX4_isLike_2
def dkwX4_isLike_0 : List UInt8 := [3, 61, 28, 16, 6, 162, 0, 71, 42, 180, 0, 9, 28, 46, 43, 180, 0, 9, 28, 46, 160, 0, 48, 42]
abbrev dktX4_isLike_0 : List UInt8 := dkwX4_isLike_0 ++ dktX4_isLike_1
theorem dksX4_isLike_0 : cX4_isLike.data.toList.drop 0 = dktX4_isLike_0 := by decide +kernel
theorem dksX4_isLike_1 : cX4_isLike.data.toList.drop 24 = dktX4_isLike_1 := dk_seg dksX4_isLike_0 24 rfl rfl
theorem dksX4_isLike_2 : cX4_isLike.data.toList.drop 48 = dktX4_isLike_2 := dk_seg dksX4_isLike_1 24 rfl rfl
theorem dksX4_isLike_3 : cX4_isLike.data.toList.drop 70 = dktX4_isLike_3 := dk_seg dksX4_isLike_2 22 rfl rfl
theorem dX4_isLike_0 : decode cX4_isLike 0 = .ok (.iconst 0, 1) := dk_3 (dk_at dksX4_isLike_0 0 rfl rfl)
theorem dX4_isLike_1 : decode cX4_isLike 1 = .ok (.istore_n 2, 1) := dk_61 (dk_at dksX4_isLike_0 1 rfl rfl)
theorem dX4_isLike_2 : decode cX4_isLike 2 = .ok (.iload_n 2, 1) := dk_28 (dk_at dksX4_isLike_0 2 rfl rfl)
theorem dX4_isLike_3 : decode cX4_isLike 3 = .ok (.bipush 6, 2) := dk_16 6 (dk_at dksX4_isLike_0 3 rfl rfl)
theorem dX4_isLike_5 : decode cX4_isLike 5 = .ok (.if_icmp .ge 71, 3) := dk_162 0 71 (dk_at dksX4_isLike_0 5 rfl rfl)
theorem dX4_isLike_8 : decode cX4_isLike 8 = .ok (.aload_n 0, 1) := dk_42 (dk_at dksX4_isLike_0 8 rfl rfl)
theorem dX4_isLike_9 : decode cX4_isLike 9 = .ok (.getfield 9, 3) := dk_180 0 9 (dk_at dksX4_isLike_0 9 rfl rfl)
theorem dX4_isLike_12 : decode cX4_isLike 12 = .ok (.iload_n 2, 1) := dk_28 (dk_at dksX4_isLike_0 12 rfl rfl)
theorem dX4_isLike_13 : decode cX4_isLike 13 = .ok (.iaload, 1) := dk_46 (dk_at dksX4_isLike_0 13 rfl rfl)
theorem dX4_isLike_14 : decode cX4_isLike 14 = .ok (.aload_n 1, 1) := dk_43 (dk_at dksX4_isLike_0 14 rfl rfl)
theorem dX4_isLike_15 : decode cX4_isLike 15 = .ok (.getfield 9, 3) := dk_180 0 9 (dk_at dksX4_isLike_0 15 rfl rfl)
theorem dX4_isLike_18 : decode cX4_isLike 18 = .ok (.iload_n 2, 1) := dk_28 (dk_at dksX4_isLike_0 18 rfl rfl)
theorem dX4_isLike_19 : decode cX4_isLike 19 = .ok (.iaload, 1) := dk_46 (dk_at dksX4_isLike_0 19 rfl rfl)
theorem dX4_isLike_20 : decode cX4_isLike 20 = .ok (.if_icmp .ne 48, 3) := dk_160 0 48 (dk_at dksX4_isLike_0 20 rfl rfl)
theorem dX4_isLike_23 : decode cX4_isLike 23 = .ok (.aload_n 0, 1) := dk_42 (dk_at dksX4_isLike_0 23 rfl rfl)
theorem dX4_isLike_24 : decode cX4_isLike 24 = .ok (.getfield 15, 3) := dk_180 0 15 (dk_at dksX4_isLike_1 0 rfl rfl)
theorem dX4_isLike_27 : decode cX4_isLike 27 = .ok (.iload_n 2, 1) := dk_28 (dk_at dksX4_isLike_1 3 rfl rfl)
theorem dX4_isLike_28 : decode cX4_isLike 28 = .ok (.iaload, 1) := dk_46 (dk_at dksX4_isLike_1 4 rfl rfl)
theorem dX4_isLike_29 : decode cX4_isLike 29 = .ok (.aload_n 1, 1) := dk_43 (dk_at dksX4_isLike_1 5 rfl rfl)
theorem dX4_isLike_30 : decode cX4_isLike 30 = .ok (.getfield 15, 3) := dk_180 0 15 (dk_at dksX4_isLike_1 6 rfl rfl)
theorem dX4_isLike_33 : decode cX4_isLike 33 = .ok (.iload_n 2, 1) := dk_28 (dk_at dksX4_isLike_1 9 rfl rfl)
theorem dX4_isLike_34 : decode cX4_isLike 34 = .ok (.iaload, 1) := dk_46 (dk_at dksX4_isLike_1 10 rfl rfl)
theorem dX4_isLike_35 : decode cX4_isLike 35 = .ok (.if_icmp .ne 33, 3) := dk_160 0 33 (dk_at dksX4_isLike_1 11 rfl rfl)
theorem dX4_isLike_38 : decode cX4_isLike 38 = .ok (.aload_n 0, 1) := dk_42 (dk_at dksX4_isLike_1 14 rfl rfl)
theorem dX4_isLike_39 : decode cX4_isLike 39 = .ok (.getfield 18, 3) := dk_180 0 18 (dk_at dksX4_isLike_1 15 rfl rfl)
theorem dX4_isLike_42 : decode cX4_isLike 42 = .ok (.iload_n 2, 1) := dk_28 (dk_at dksX4_isLike_1 18 rfl rfl)
theorem dX4_isLike_43 : decode cX4_isLike 43 = .ok (.iaload, 1) := dk_46 (dk_at dksX4_isLike_1 19 rfl rfl)
theorem dX4_isLike_44 : decode cX4_isLike 44 = .ok (.aload_n 1, 1) := dk_43 (dk_at dksX4_isLike_1 20 rfl rfl)
theorem dX4_isLike_45 : decode cX4_isLike 45 = .ok (.getfield 18, 3) := dk_180 0 18 (dk_at dksX4_isLike_1 21 rfl rfl)
theorem dX4_isLike_48 : decode cX4_isLike 48 = .ok (.iload_n 2, 1) := dk_28 (dk_at dksX4_isLike_2 0 rfl rfl)
theorem dX4_isLike_49 : decode cX4_isLike 49 = .ok (.iaload, 1) := dk_46 (dk_at dksX4_isLike_2 1 rfl rfl)
theorem dX4_isLike_50 : decode cX4_isLike 50 = .ok (.if_icmp .ne 18, 3) := dk_160 0 18 (dk_at dksX4_isLike_2 2 rfl rfl)
theorem dX4_isLike_53 : decode cX4_isLike 53 = .ok (.aload_n 0, 1) := dk_42 (dk_at dksX4_isLike_2 5 rfl rfl)
theorem dX4_isLike_54 : decode cX4_isLike 54 = .ok (.getfield 21, 3) := dk_180 0 21 (dk_at dksX4_isLike_2 6 rfl rfl)
theorem dX4_isLike_57 : decode cX4_isLike 57 = .ok (.iload_n 2, 1) := dk_28 (dk_at dksX4_isLike_2 9 rfl rfl)
theorem dX4_isLike_58 : decode cX4_isLike 58 = .ok (.iaload, 1) := dk_46 (dk_at dksX4_isLike_2 10 rfl rfl)
theorem dX4_isLike_59 : decode cX4_isLike 59 = .ok (.aload_n 1, 1) := dk_43 (dk_at dksX4_isLike_2 11 rfl rfl)
theorem dX4_isLike_60 : decode cX4_isLike 60 = .ok (.getfield 21, 3) := dk_180 0 21 (dk_at dksX4_isLike_2 12 rfl rfl)
theorem dX4_isLike_63 : decode cX4_isLike 63 = .ok (.iload_n 2, 1) := dk_28 (dk_at dksX4_isLike_2 15 rfl rfl)
theorem dX4_isLike_64 : decode cX4_isLike 64 = .ok (.iaload, 1) := dk_46 (dk_at dksX4_isLike_2 16 rfl rfl)
theorem dX4_isLike_65 : decode cX4_isLike 65 = .ok (.if_icmp .eq 5, 3) := dk_159 0 5 (dk_at dksX4_isLike_2 17 rfl rfl)
theorem dX4_isLike_68 : decode cX4_isLike 68 = .ok (.iconst 0, 1) := dk_3 (dk_at dksX4_isLike_2 20 rfl rfl)
theorem dX4_isLike_69 : decode cX4_isLike 69 = .ok (.ireturn, 1) := dk_172 (dk_at dksX4_isLike_2 21 rfl rfl)
theorem dX4_isLike_70 : decode cX4_isLike 70 = .ok (.iinc 2 1, 3) := dk_132 2 1 (dk_at dksX4_isLike_3 0 rfl rfl)
theorem dX4_isLike_73 : decode cX4_isLike 73 = .ok (.goto (-71), 3) := dk_167 255 185 (dk_at dksX4_isLike_3 3 rfl rfl)
theorem dX4_isLike_76 : decode cX4_isLike 76 = .ok (.iconst 1, 1) := dk_4 (dk_at dksX4_isLike_3 6 rfl rfl)
theorem dX4_isLike_77 : decode cX4_isLike 77 = .ok (.ireturn, 1) := dk_172 (dk_at dksX4_isLike_3 7 rfl rfl)
theorem q98 : (Jvm.Cond.initialized "HeavyGifts$State") ∈ lw_all := lw_g (lw_at lw_m1 23 rfl) rfl
theorem q504 : (Jvm.Cond.instantiable "HeavyGifts$State" (6 : Nat)) ∈ lw_all := lw_g (lw_at lw_m2 189 rfl) rfl
theorem q506 : (Jvm.Cond.instanceMethod ({ cls := "HeavyGifts$State", name := "<init>", desc := "()V" } : Jvm.MethodName)) ∈ lw_all := lw_g (lw_at lw_m2 191 rfl) rfl
theorem q507 : (Jvm.Cond.code ({ cls := "HeavyGifts$State", name := "<init>", desc := "()V" } : Jvm.MethodName) prog_12_method_1_code (1 : Nat) (Option.none : Option Jvm.ClassFile.FieldType)) ∈ lw_all := lw_g (lw_at lw_m2 192 rfl) rfl
theorem q508 : (Jvm.Cond.methodLink "HeavyGifts$State" (3 : Nat) ({ cls := "java/lang/Object", name := "<init>", desc := "()V" } : Jvm.MethodName)) ∈ lw_all := lw_g (lw_at lw_m2 193 rfl) rfl
theorem q509 : (Jvm.Cond.fieldLink "HeavyGifts$State" (9 : Nat) "HeavyGifts$State" "has" "[I") ∈ lw_all := lw_g (lw_at lw_m2 194 rfl) rfl
theorem q512 : (Jvm.Cond.fieldLink "HeavyGifts$State" (15 : Nat) "HeavyGifts$State" "sand" "[I") ∈ lw_all := lw_g (lw_at lw_m2 197 rfl) rfl
theorem q515 : (Jvm.Cond.fieldLink "HeavyGifts$State" (18 : Nat) "HeavyGifts$State" "owes" "[I") ∈ lw_all := lw_g (lw_at lw_m2 200 rfl) rfl
theorem q519 : (Jvm.Cond.fieldLink "HeavyGifts$State" (21 : Nat) "HeavyGifts$State" "to" "[I") ∈ lw_all := lw_g (lw_at lw_m2 204 rfl) rfl
theorem q523 : (Jvm.Cond.fieldLink "HeavyGifts$State" (24 : Nat) "HeavyGifts$State" "weights" "[I") ∈ lw_all := lw_g (lw_at lw_m2 208 rfl) rfl
theorem q526 : (Jvm.Cond.fieldLink "HeavyGifts$State" (33 : Nat) "HeavyGifts$State" "day" "I") ∈ lw_all := lw_g (lw_at lw_m2 211 rfl) rfl
theorem q528 : (Jvm.Cond.laysFinal "HeavyGifts$State" "HeavyGifts$State" "has" "[I") ∈ lw_all := lw_g (lw_at lw_m2 213 rfl) rfl
theorem q529 : (Jvm.Cond.soleField "HeavyGifts$State" "has") ∈ lw_all := lw_g (lw_at lw_m2 214 rfl) rfl
theorem q530 : (Jvm.Cond.laysFinal "HeavyGifts$State" "HeavyGifts$State" "sand" "[I") ∈ lw_all := lw_g (lw_at lw_m2 215 rfl) rfl
theorem q531 : (Jvm.Cond.soleField "HeavyGifts$State" "sand") ∈ lw_all := lw_g (lw_at lw_m2 216 rfl) rfl
theorem q532 : (Jvm.Cond.laysFinal "HeavyGifts$State" "HeavyGifts$State" "owes" "[I") ∈ lw_all := lw_g (lw_at lw_m2 217 rfl) rfl
theorem q533 : (Jvm.Cond.soleField "HeavyGifts$State" "owes") ∈ lw_all := lw_g (lw_at lw_m2 218 rfl) rfl
theorem q534 : (Jvm.Cond.laysFinal "HeavyGifts$State" "HeavyGifts$State" "to" "[I") ∈ lw_all := lw_g (lw_at lw_m2 219 rfl) rfl
theorem q535 : (Jvm.Cond.soleField "HeavyGifts$State" "to") ∈ lw_all := lw_g (lw_at lw_m2 220 rfl) rfl
theorem q536 : (Jvm.Cond.laysFinal "HeavyGifts$State" "HeavyGifts$State" "weights" "[I") ∈ lw_all := lw_g (lw_at lw_m2 221 rfl) rfl
theorem q537 : (Jvm.Cond.soleField "HeavyGifts$State" "weights") ∈ lw_all := lw_g (lw_at lw_m2 222 rfl) rfl
theorem q538 : (Jvm.Cond.lays "HeavyGifts$State" "HeavyGifts$State" "day" "I") ∈ lw_all := lw_g (lw_at lw_m2 223 rfl) rfl
theorem q539 : (Jvm.Cond.soleField "HeavyGifts$State" "day") ∈ lw_all := lw_g (lw_at lw_m2 224 rfl) rfl
theorem q540 : (Jvm.Cond.superclass "HeavyGifts$State" "java/lang/Object") ∈ lw_all := lw_g (lw_at lw_m2 225 rfl) rfl
theorem q651 : (Jvm.Cond.instanceMethod ({ cls := "HeavyGifts$State", name := "weight", desc := "(I)I" } : Jvm.MethodName)) ∈ lw_all := lw_g (lw_at lw_m3 96 rfl) rfl
theorem q652 : (Jvm.Cond.selects "HeavyGifts$State" ({ cls := "HeavyGifts$State", name := "weight", desc := "(I)I" } : Jvm.MethodName) ({ cls := "HeavyGifts$State", name := "weight", desc := "(I)I" } : Jvm.MethodName)) ∈ lw_all := lw_g (lw_at lw_m3 97 rfl) rfl
theorem q653 : (Jvm.Cond.code ({ cls := "HeavyGifts$State", name := "weight", desc := "(I)I" } : Jvm.MethodName) prog_12_method_5_code (4 : Nat) (Option.some Jvm.ClassFile.FieldType.int)) ∈ lw_all := lw_g (lw_at lw_m3 98 rfl) rfl
theorem q742 : (Jvm.Cond.selects "HeavyGifts$State" ({ cls := "java/lang/Object", name := "getClass", desc := "()Ljava/lang/Class;" } : Jvm.MethodName) ({ cls := "java/lang/Object", name := "getClass", desc := "()Ljava/lang/Class;" } : Jvm.MethodName)) ∈ lw_all := lw_g (lw_at lw_m3 187 rfl) rfl
theorem q763 : (Jvm.Cond.instanceMethod ({ cls := "HeavyGifts$State", name := "moves", desc := "(IIII)V" } : Jvm.MethodName)) ∈ lw_all := lw_g (lw_at lw_m3 208 rfl) rfl
theorem q764 : (Jvm.Cond.selects "HeavyGifts$State" ({ cls := "HeavyGifts$State", name := "moves", desc := "(IIII)V" } : Jvm.MethodName) ({ cls := "HeavyGifts$State", name := "moves", desc := "(IIII)V" } : Jvm.MethodName)) ∈ lw_all := lw_g (lw_at lw_m3 209 rfl) rfl
theorem q765 : (Jvm.Cond.code ({ cls := "HeavyGifts$State", name := "moves", desc := "(IIII)V" } : Jvm.MethodName) prog_12_method_7_code (5 : Nat) (Option.none : Option Jvm.ClassFile.FieldType)) ∈ lw_all := lw_g (lw_at lw_m3 210 rfl) rfl
theorem q794 : (Jvm.Cond.instanceMethod ({ cls := "HeavyGifts$State", name := "like", desc := "(LHeavyGifts$State;)V" } : Jvm.MethodName)) ∈ lw_all := lw_g (lw_at lw_m3 239 rfl) rfl
theorem q795 : (Jvm.Cond.selects "HeavyGifts$State" ({ cls := "HeavyGifts$State", name := "like", desc := "(LHeavyGifts$State;)V" } : Jvm.MethodName) ({ cls := "HeavyGifts$State", name := "like", desc := "(LHeavyGifts$State;)V" } : Jvm.MethodName)) ∈ lw_all := lw_g (lw_at lw_m4 0 rfl) rfl
theorem q796 : (Jvm.Cond.code ({ cls := "HeavyGifts$State", name := "like", desc := "(LHeavyGifts$State;)V" } : Jvm.MethodName) prog_12_method_2_code (2 : Nat) (Option.none : Option Jvm.ClassFile.FieldType)) ∈ lw_all := lw_g (lw_at lw_m4 1 rfl) rfl
theorem q797 : (Jvm.Cond.methodLink "HeavyGifts$State" (27 : Nat) ({ cls := "java/lang/System", name := "arraycopy", desc := "(Ljava/lang/Object;ILjava/lang/Object;II)V" } : Jvm.MethodName)) ∈ lw_all := lw_g (lw_at lw_m4 2 rfl) rfl
theorem q882 : (Jvm.Cond.instanceMethod ({ cls := "HeavyGifts$State", name := "owner", desc := "(I)I" } : Jvm.MethodName)) ∈ lw_all := lw_g (lw_at lw_m4 87 rfl) rfl
theorem q883 : (Jvm.Cond.selects "HeavyGifts$State" ({ cls := "HeavyGifts$State", name := "owner", desc := "(I)I" } : Jvm.MethodName) ({ cls := "HeavyGifts$State", name := "owner", desc := "(I)I" } : Jvm.MethodName)) ∈ lw_all := lw_g (lw_at lw_m4 88 rfl) rfl
theorem q884 : (Jvm.Cond.code ({ cls := "HeavyGifts$State", name := "owner", desc := "(I)I" } : Jvm.MethodName) prog_12_method_6_code (3 : Nat) (Option.some Jvm.ClassFile.FieldType.int)) ∈ lw_all := lw_g (lw_at lw_m4 89 rfl) rfl
theorem q1277 : (Jvm.Cond.instanceMethod ({ cls := "HeavyGifts$State", name := "spot", desc := "()I" } : Jvm.MethodName)) ∈ lw_all := lw_g (lw_at lw_m6 2 rfl) rfl
theorem q1278 : (Jvm.Cond.selects "HeavyGifts$State" ({ cls := "HeavyGifts$State", name := "spot", desc := "()I" } : Jvm.MethodName) ({ cls := "HeavyGifts$State", name := "spot", desc := "()I" } : Jvm.MethodName)) ∈ lw_all := lw_g (lw_at lw_m6 3 rfl) rfl
theorem q1279 : (Jvm.Cond.code ({ cls := "HeavyGifts$State", name := "spot", desc := "()I" } : Jvm.MethodName) prog_12_method_4_code (3 : Nat) (Option.some Jvm.ClassFile.FieldType.int)) ∈ lw_all := lw_g (lw_at lw_m6 4 rfl) rfl
theorem q1281 : (Jvm.Cond.instanceMethod ({ cls := "HeavyGifts$State", name := "isLike", desc := "(LHeavyGifts$State;)Z" } : Jvm.MethodName)) ∈ lw_all := lw_g (lw_at lw_m6 6 rfl) rfl
theorem q1282 : (Jvm.Cond.selects "HeavyGifts$State" ({ cls := "HeavyGifts$State", name := "isLike", desc := "(LHeavyGifts$State;)Z" } : Jvm.MethodName) ({ cls := "HeavyGifts$State", name := "isLike", desc := "(LHeavyGifts$State;)Z" } : Jvm.MethodName)) ∈ lw_all := lw_g (lw_at lw_m6 7 rfl) rfl
theorem q1283 : (Jvm.Cond.code ({ cls := "HeavyGifts$State", name := "isLike", desc := "(LHeavyGifts$State;)Z" } : Jvm.MethodName) prog_12_method_3_code (3 : Nat) (Option.some Jvm.ClassFile.FieldType.boolean)) ∈ lw_all := lw_g (lw_at lw_m6 8 rfl) rfl
theorem q1872 : (Jvm.Cond.castable "HeavyGifts$State" "java/lang/Object") ∈ lw_tbl := lw_at lw_m8 117 rfl
theorem in_X4 : ∀ w ∈ wsX40, w ∈ lw_all := lw_in wsX40 [528, 530, 532, 534, 536, 538] (by decide +kernel) (by decide +kernel)
/-! HeavyGifts$Giver -/
set_option maxRecDepth 100000
def RX8 : String := "HeavyGifts$Giver"
abbrev cX8_isReady : ByteArray := prog_7_method_5_code
def yX8_isReady : MethodName := ⟨RX8, "isReady", "(I)Z"⟩
theorem dX8_isReady_0 : decode cX8_isReady 0 = .ok (.iconst 1, 1) := by decide +kernel
theorem dX8_isReady_1 : decode cX8_isReady 1 = .ok (.ireturn, 1) := by decide +kernel
abbrev cX8_mayTake : ByteArray := prog_7_method_4_code
def yX8_mayTake : MethodName := ⟨RX8, "mayTake", "(I)Z"⟩
theorem dX8_mayTake_0 : decode cX8_mayTake 0 = .ok (.iconst 1, 1) := by decide +kernel
theorem dX8_mayTake_1 : decode cX8_mayTake 1 = .ok (.ireturn, 1) := by decide +kernel
abbrev cX8_isBetter : ByteArray := prog_7_method_3_code
def yX8_isBetter : MethodName := ⟨RX8, "isBetter", "(IILHeavyGifts$Town;)Z"⟩
theorem dX8_isBetter_0 : decode cX8_isBetter 0 = .ok (.iconst 0, 1) := by decide +kernel
theorem dX8_isBetter_1 : decode cX8_isBetter 1 = .ok (.ireturn, 1) := by decide +kernel
abbrev cX8_likes : ByteArray := prog_7_method_6_code
def yX8_likes : MethodName := ⟨RX8, "likes", "(LHeavyGifts$State;)I"⟩
theorem dX8_likes_0 : decode cX8_likes 0 = .ok (.iconst (-1), 1) := by decide +kernel
theorem dX8_likes_1 : decode cX8_likes 1 = .ok (.ireturn, 1) := by decide +kernel
abbrev cX8_init : ByteArray := prog_7_method_1_code
def yX8_init : MethodName := ⟨RX8, "<init>", "()V"⟩
theorem dX8_init_0 : decode cX8_init 0 = .ok (.aload_n 0, 1) := by decide +kernel
theorem dX8_init_1 : decode cX8_init 1 = .ok (.invokespecial 3, 3) := by decide +kernel
theorem dX8_init_4 : decode cX8_init 4 = .ok (.return_, 1) := by decide +kernel
theorem q104 : (Jvm.Cond.initialized "HeavyGifts$Giver") ∈ lw_all := lw_g (lw_at lw_m1 29 rfl) rfl
theorem q812 : (Jvm.Cond.instanceMethod ({ cls := "HeavyGifts$Giver", name := "isReady", desc := "(I)Z" } : Jvm.MethodName)) ∈ lw_all := lw_g (lw_at lw_m4 17 rfl) rfl
theorem q813 : (Jvm.Cond.sameMethod "HeavyGifts$Giver" "HeavyGifts$Giver" "isReady" "(I)Z") ∈ lw_all := lw_g (lw_at lw_m4 18 rfl) rfl
theorem q823 : (Jvm.Cond.declares ({ cls := "HeavyGifts$Giver", name := "isReady", desc := "(I)Z" } : Jvm.MethodName)) ∈ lw_tbl := lw_at lw_m4 28 rfl
theorem q826 : (Jvm.Cond.code ({ cls := "HeavyGifts$Giver", name := "isReady", desc := "(I)Z" } : Jvm.MethodName) prog_7_method_5_code (2 : Nat) (Option.some Jvm.ClassFile.FieldType.boolean)) ∈ lw_all := lw_g (lw_at lw_m4 31 rfl) rfl
theorem q828 : (Jvm.Cond.instanceMethod ({ cls := "HeavyGifts$Giver", name := "mayTake", desc := "(I)Z" } : Jvm.MethodName)) ∈ lw_all := lw_g (lw_at lw_m4 33 rfl) rfl
theorem q829 : (Jvm.Cond.sameMethod "HeavyGifts$Giver" "HeavyGifts$Giver" "mayTake" "(I)Z") ∈ lw_all := lw_g (lw_at lw_m4 34 rfl) rfl
theorem q835 : (Jvm.Cond.declares ({ cls := "HeavyGifts$Giver", name := "mayTake", desc := "(I)Z" } : Jvm.MethodName)) ∈ lw_tbl := lw_at lw_m4 40 rfl
theorem q837 : (Jvm.Cond.code ({ cls := "HeavyGifts$Giver", name := "mayTake", desc := "(I)Z" } : Jvm.MethodName) prog_7_method_4_code (2 : Nat) (Option.some Jvm.ClassFile.FieldType.boolean)) ∈ lw_all := lw_g (lw_at lw_m4 42 rfl) rfl
theorem q847 : (Jvm.Cond.instanceMethod ({ cls := "HeavyGifts$Giver", name := "isBetter", desc := "(IILHeavyGifts$Town;)Z" } : Jvm.MethodName)) ∈ lw_all := lw_g (lw_at lw_m4 52 rfl) rfl
theorem q848 : (Jvm.Cond.sameMethod "HeavyGifts$Giver" "HeavyGifts$Giver" "isBetter" "(IILHeavyGifts$Town;)Z") ∈ lw_all := lw_g (lw_at lw_m4 53 rfl) rfl
theorem q867 : (Jvm.Cond.code ({ cls := "HeavyGifts$Giver", name := "isBetter", desc := "(IILHeavyGifts$Town;)Z" } : Jvm.MethodName) prog_7_method_3_code (4 : Nat) (Option.some Jvm.ClassFile.FieldType.boolean)) ∈ lw_all := lw_g (lw_at lw_m4 72 rfl) rfl
theorem q876 : (Jvm.Cond.instanceMethod ({ cls := "HeavyGifts$Giver", name := "likes", desc := "(LHeavyGifts$State;)I" } : Jvm.MethodName)) ∈ lw_all := lw_g (lw_at lw_m4 81 rfl) rfl
theorem q877 : (Jvm.Cond.sameMethod "HeavyGifts$Giver" "HeavyGifts$Giver" "likes" "(LHeavyGifts$State;)I") ∈ lw_all := lw_g (lw_at lw_m4 82 rfl) rfl
theorem q889 : (Jvm.Cond.code ({ cls := "HeavyGifts$Giver", name := "likes", desc := "(LHeavyGifts$State;)I" } : Jvm.MethodName) prog_7_method_6_code (2 : Nat) (Option.some Jvm.ClassFile.FieldType.int)) ∈ lw_all := lw_g (lw_at lw_m4 94 rfl) rfl
theorem q1094 : (Jvm.Cond.instanceMethod ({ cls := "HeavyGifts$Giver", name := "<init>", desc := "()V" } : Jvm.MethodName)) ∈ lw_all := lw_g (lw_at lw_m5 59 rfl) rfl
theorem q1095 : (Jvm.Cond.code ({ cls := "HeavyGifts$Giver", name := "<init>", desc := "()V" } : Jvm.MethodName) prog_7_method_1_code (1 : Nat) (Option.none : Option Jvm.ClassFile.FieldType)) ∈ lw_all := lw_g (lw_at lw_m5 60 rfl) rfl
theorem q1096 : (Jvm.Cond.methodLink "HeavyGifts$Giver" (3 : Nat) ({ cls := "java/lang/Object", name := "<init>", desc := "()V" } : Jvm.MethodName)) ∈ lw_all := lw_g (lw_at lw_m5 61 rfl) rfl
theorem q1189 : (Jvm.Cond.declares ({ cls := "HeavyGifts$Giver", name := "kind", desc := "()I" } : Jvm.MethodName)) ∈ lw_tbl := lw_at lw_m5 154 rfl
theorem q1190 : (Jvm.Cond.sameMethod "HeavyGifts$Giver" "HeavyGifts$Giver" "kind" "()I") ∈ lw_all := lw_g (lw_at lw_m5 155 rfl) rfl
/-! HeavyGifts$Plain -/
set_option maxRecDepth 100000
def RX9 : String := "HeavyGifts$Plain"
abbrev cX9_init : ByteArray := prog_9_method_1_code
def yX9_init : MethodName := ⟨RX9, "<init>", "()V"⟩
theorem dX9_init_0 : decode cX9_init 0 = .ok (.aload_n 0, 1) := by decide +kernel
theorem dX9_init_1 : decode cX9_init 1 = .ok (.invokespecial 1, 3) := by decide +kernel
theorem dX9_init_4 : decode cX9_init 4 = .ok (.return_, 1) := by decide +kernel
abbrev cX9_kind : ByteArray := prog_9_method_2_code
def yX9_kind : MethodName := ⟨RX9, "kind", "()I"⟩
theorem dX9_kind_0 : decode cX9_kind 0 = .ok (.iconst 0, 1) := by decide +kernel
theorem dX9_kind_1 : decode cX9_kind 1 = .ok (.ireturn, 1) := by decide +kernel
theorem q105 : (Jvm.Cond.initialized "HeavyGifts$Plain") ∈ lw_all := lw_g (lw_at lw_m1 30 rfl) rfl
theorem q739 : (Jvm.Cond.selects "HeavyGifts$Plain" ({ cls := "java/lang/Object", name := "getClass", desc := "()Ljava/lang/Class;" } : Jvm.MethodName) ({ cls := "java/lang/Object", name := "getClass", desc := "()Ljava/lang/Class;" } : Jvm.MethodName)) ∈ lw_all := lw_g (lw_at lw_m3 184 rfl) rfl
theorem q817 : (Jvm.Cond.selects "HeavyGifts$Plain" ({ cls := "HeavyGifts$Giver", name := "isReady", desc := "(I)Z" } : Jvm.MethodName) ({ cls := "HeavyGifts$Giver", name := "isReady", desc := "(I)Z" } : Jvm.MethodName)) ∈ lw_all := lw_g (lw_at lw_m4 22 rfl) rfl
theorem q822 : (Jvm.Cond.sameMethod "HeavyGifts$Plain" "HeavyGifts$Giver" "isReady" "(I)Z") ∈ lw_all := lw_g (lw_at lw_m4 27 rfl) rfl
theorem q825 : (Jvm.Cond.superclass "HeavyGifts$Plain" "HeavyGifts$Giver") ∈ lw_all := lw_g (lw_at lw_m4 30 rfl) rfl
theorem q834 : (Jvm.Cond.sameMethod "HeavyGifts$Plain" "HeavyGifts$Giver" "mayTake" "(I)Z") ∈ lw_all := lw_g (lw_at lw_m4 39 rfl) rfl
theorem q840 : (Jvm.Cond.selects "HeavyGifts$Plain" ({ cls := "HeavyGifts$Giver", name := "mayTake", desc := "(I)Z" } : Jvm.MethodName) ({ cls := "HeavyGifts$Giver", name := "mayTake", desc := "(I)Z" } : Jvm.MethodName)) ∈ lw_all := lw_g (lw_at lw_m4 45 rfl) rfl
theorem q865 : (Jvm.Cond.selects "HeavyGifts$Plain" ({ cls := "HeavyGifts$Giver", name := "isBetter", desc := "(IILHeavyGifts$Town;)Z" } : Jvm.MethodName) ({ cls := "HeavyGifts$Giver", name := "isBetter", desc := "(IILHeavyGifts$Town;)Z" } : Jvm.MethodName)) ∈ lw_all := lw_g (lw_at lw_m4 70 rfl) rfl
theorem q887 : (Jvm.Cond.selects "HeavyGifts$Plain" ({ cls := "HeavyGifts$Giver", name := "likes", desc := "(LHeavyGifts$State;)I" } : Jvm.MethodName) ({ cls := "HeavyGifts$Giver", name := "likes", desc := "(LHeavyGifts$State;)I" } : Jvm.MethodName)) ∈ lw_all := lw_g (lw_at lw_m4 92 rfl) rfl
theorem q1091 : (Jvm.Cond.instanceMethod ({ cls := "HeavyGifts$Plain", name := "<init>", desc := "()V" } : Jvm.MethodName)) ∈ lw_all := lw_g (lw_at lw_m5 56 rfl) rfl
theorem q1092 : (Jvm.Cond.code ({ cls := "HeavyGifts$Plain", name := "<init>", desc := "()V" } : Jvm.MethodName) prog_9_method_1_code (1 : Nat) (Option.none : Option Jvm.ClassFile.FieldType)) ∈ lw_all := lw_g (lw_at lw_m5 57 rfl) rfl
theorem q1093 : (Jvm.Cond.methodLinkNest "HeavyGifts$Plain" (1 : Nat) ({ cls := "HeavyGifts$Giver", name := "<init>", desc := "()V" } : Jvm.MethodName) "HeavyGifts") ∈ lw_tbl := lw_at lw_m5 58 rfl
theorem q1110 : (Jvm.Cond.instantiable "HeavyGifts$Plain" (0 : Nat)) ∈ lw_all := lw_g (lw_at lw_m5 75 rfl) rfl
theorem q1200 : (Jvm.Cond.selects "HeavyGifts$Plain" ({ cls := "HeavyGifts$Giver", name := "kind", desc := "()I" } : Jvm.MethodName) ({ cls := "HeavyGifts$Plain", name := "kind", desc := "()I" } : Jvm.MethodName)) ∈ lw_all := lw_g (lw_at lw_m5 165 rfl) rfl
theorem q1201 : (Jvm.Cond.instanceMethod ({ cls := "HeavyGifts$Plain", name := "kind", desc := "()I" } : Jvm.MethodName)) ∈ lw_all := lw_g (lw_at lw_m5 166 rfl) rfl
theorem q1202 : (Jvm.Cond.code ({ cls := "HeavyGifts$Plain", name := "kind", desc := "()I" } : Jvm.MethodName) prog_9_method_2_code (1 : Nat) (Option.some Jvm.ClassFile.FieldType.int)) ∈ lw_all := lw_g (lw_at lw_m5 167 rfl) rfl
theorem q1870 : (Jvm.Cond.castable "HeavyGifts$Plain" "HeavyGifts$Giver") ∈ lw_tbl := lw_at lw_m8 115 rfl
theorem q1886 : (Jvm.Cond.castable "HeavyGifts$Plain" "java/lang/Object") ∈ lw_tbl := lw_at lw_m8 131 rfl
/-! HeavyGifts$Aim -/
set_option maxRecDepth 100000
def RX10 : String := "HeavyGifts$Aim"
def TX10 : u_T := fun k => match k with
  | _ => ("HeavyGifts$Aim", "thing", "I", true)
def tyX10 : Nat → FieldType := fun k => match k with
  | _ => .int
abbrev wsX100 : List Cond := u_ws RX10 TX10 1
theorem nmX10 : ∀ a, a < 1 → ∀ b, b < 1 → a ≠ b → (TX10 a).2.1 ≠ (TX10 b).2.1 := by decide +kernel
theorem tyX10_ok : ∀ k, k < 1 → parseFieldDescriptor (TX10 k).2.2.1 = some (tyX10 k) := by decide +kernel
abbrev cX10_mayTake : ByteArray := prog_2_method_3_code
def yX10_mayTake : MethodName := ⟨RX10, "mayTake", "(I)Z"⟩
def dkwX10_mayTake_1 : List UInt8 := [172]
abbrev dktX10_mayTake_1 : List UInt8 := dkwX10_mayTake_1 ++ []
def dkwX10_mayTake_0 : List UInt8 := [42, 27, 183, 0, 13, 153, 0, 18, 27, 42, 180, 0, 7, 122, 4, 126, 154, 0, 7, 4, 167, 0, 4, 3]
abbrev dktX10_mayTake_0 : List UInt8 := dkwX10_mayTake_0 ++ dktX10_mayTake_1
theorem dksX10_mayTake_0 : cX10_mayTake.data.toList.drop 0 = dktX10_mayTake_0 := by decide +kernel
theorem dksX10_mayTake_1 : cX10_mayTake.data.toList.drop 24 = dktX10_mayTake_1 := dk_seg dksX10_mayTake_0 24 rfl rfl
theorem dX10_mayTake_0 : decode cX10_mayTake 0 = .ok (.aload_n 0, 1) := dk_42 (dk_at dksX10_mayTake_0 0 rfl rfl)
theorem dX10_mayTake_1 : decode cX10_mayTake 1 = .ok (.iload_n 1, 1) := dk_27 (dk_at dksX10_mayTake_0 1 rfl rfl)
theorem dX10_mayTake_2 : decode cX10_mayTake 2 = .ok (.invokespecial 13, 3) := dk_183 0 13 (dk_at dksX10_mayTake_0 2 rfl rfl)
theorem dX10_mayTake_5 : decode cX10_mayTake 5 = .ok (.ifCond .eq 18, 3) := dk_153 0 18 (dk_at dksX10_mayTake_0 5 rfl rfl)
theorem dX10_mayTake_8 : decode cX10_mayTake 8 = .ok (.iload_n 1, 1) := dk_27 (dk_at dksX10_mayTake_0 8 rfl rfl)
theorem dX10_mayTake_9 : decode cX10_mayTake 9 = .ok (.aload_n 0, 1) := dk_42 (dk_at dksX10_mayTake_0 9 rfl rfl)
theorem dX10_mayTake_10 : decode cX10_mayTake 10 = .ok (.getfield 7, 3) := dk_180 0 7 (dk_at dksX10_mayTake_0 10 rfl rfl)
theorem dX10_mayTake_13 : decode cX10_mayTake 13 = .ok (.ishr, 1) := dk_122 (dk_at dksX10_mayTake_0 13 rfl rfl)
theorem dX10_mayTake_14 : decode cX10_mayTake 14 = .ok (.iconst 1, 1) := dk_4 (dk_at dksX10_mayTake_0 14 rfl rfl)
theorem dX10_mayTake_15 : decode cX10_mayTake 15 = .ok (.iand, 1) := dk_126 (dk_at dksX10_mayTake_0 15 rfl rfl)
theorem dX10_mayTake_16 : decode cX10_mayTake 16 = .ok (.ifCond .ne 7, 3) := dk_154 0 7 (dk_at dksX10_mayTake_0 16 rfl rfl)
theorem dX10_mayTake_19 : decode cX10_mayTake 19 = .ok (.iconst 1, 1) := dk_4 (dk_at dksX10_mayTake_0 19 rfl rfl)
theorem dX10_mayTake_20 : decode cX10_mayTake 20 = .ok (.goto 4, 3) := dk_167 0 4 (dk_at dksX10_mayTake_0 20 rfl rfl)
theorem dX10_mayTake_23 : decode cX10_mayTake 23 = .ok (.iconst 0, 1) := dk_3 (dk_at dksX10_mayTake_0 23 rfl rfl)
theorem dX10_mayTake_24 : decode cX10_mayTake 24 = .ok (.ireturn, 1) := dk_172 (dk_at dksX10_mayTake_1 0 rfl rfl)
abbrev cX10_likes : ByteArray := prog_2_method_4_code
def yX10_likes : MethodName := ⟨RX10, "likes", "(LHeavyGifts$State;)I"⟩
def dkwX10_likes_0 : List UInt8 := [43, 42, 180, 0, 7, 182, 0, 17, 172]
abbrev dktX10_likes_0 : List UInt8 := dkwX10_likes_0 ++ []
theorem dksX10_likes_0 : cX10_likes.data.toList.drop 0 = dktX10_likes_0 := by decide +kernel
theorem dX10_likes_0 : decode cX10_likes 0 = .ok (.aload_n 1, 1) := dk_43 (dk_at dksX10_likes_0 0 rfl rfl)
theorem dX10_likes_1 : decode cX10_likes 1 = .ok (.aload_n 0, 1) := dk_42 (dk_at dksX10_likes_0 1 rfl rfl)
theorem dX10_likes_2 : decode cX10_likes 2 = .ok (.getfield 7, 3) := dk_180 0 7 (dk_at dksX10_likes_0 2 rfl rfl)
theorem dX10_likes_5 : decode cX10_likes 5 = .ok (.invokevirtual 17, 3) := dk_182 0 17 (dk_at dksX10_likes_0 5 rfl rfl)
theorem dX10_likes_8 : decode cX10_likes 8 = .ok (.ireturn, 1) := dk_172 (dk_at dksX10_likes_0 8 rfl rfl)
abbrev cX10_init : ByteArray := prog_2_method_1_code
def yX10_init : MethodName := ⟨RX10, "<init>", "(I)V"⟩
def dkwX10_init_0 : List UInt8 := [42, 183, 0, 1, 42, 27, 181, 0, 7, 177]
abbrev dktX10_init_0 : List UInt8 := dkwX10_init_0 ++ []
theorem dksX10_init_0 : cX10_init.data.toList.drop 0 = dktX10_init_0 := by decide +kernel
theorem dX10_init_0 : decode cX10_init 0 = .ok (.aload_n 0, 1) := dk_42 (dk_at dksX10_init_0 0 rfl rfl)
theorem dX10_init_1 : decode cX10_init 1 = .ok (.invokespecial 1, 3) := dk_183 0 1 (dk_at dksX10_init_0 1 rfl rfl)
theorem dX10_init_4 : decode cX10_init 4 = .ok (.aload_n 0, 1) := dk_42 (dk_at dksX10_init_0 4 rfl rfl)
theorem dX10_init_5 : decode cX10_init 5 = .ok (.iload_n 1, 1) := dk_27 (dk_at dksX10_init_0 5 rfl rfl)
theorem dX10_init_6 : decode cX10_init 6 = .ok (.putfield 7, 3) := dk_181 0 7 (dk_at dksX10_init_0 6 rfl rfl)
theorem dX10_init_9 : decode cX10_init 9 = .ok (.return_, 1) := dk_177 (dk_at dksX10_init_0 9 rfl rfl)
abbrev cX10_kind : ByteArray := prog_2_method_2_code
def yX10_kind : MethodName := ⟨RX10, "kind", "()I"⟩
theorem dX10_kind_0 : decode cX10_kind 0 = .ok (.iconst 3, 1) := by decide +kernel
theorem dX10_kind_1 : decode cX10_kind 1 = .ok (.ireturn, 1) := by decide +kernel
theorem q106 : (Jvm.Cond.initialized "HeavyGifts$Aim") ∈ lw_all := lw_g (lw_at lw_m1 31 rfl) rfl
theorem q733 : (Jvm.Cond.selects "HeavyGifts$Aim" ({ cls := "java/lang/Object", name := "getClass", desc := "()Ljava/lang/Class;" } : Jvm.MethodName) ({ cls := "java/lang/Object", name := "getClass", desc := "()Ljava/lang/Class;" } : Jvm.MethodName)) ∈ lw_all := lw_g (lw_at lw_m3 178 rfl) rfl
theorem q814 : (Jvm.Cond.selects "HeavyGifts$Aim" ({ cls := "HeavyGifts$Giver", name := "isReady", desc := "(I)Z" } : Jvm.MethodName) ({ cls := "HeavyGifts$Giver", name := "isReady", desc := "(I)Z" } : Jvm.MethodName)) ∈ lw_all := lw_g (lw_at lw_m4 19 rfl) rfl
theorem q830 : (Jvm.Cond.selects "HeavyGifts$Aim" ({ cls := "HeavyGifts$Giver", name := "mayTake", desc := "(I)Z" } : Jvm.MethodName) ({ cls := "HeavyGifts$Aim", name := "mayTake", desc := "(I)Z" } : Jvm.MethodName)) ∈ lw_all := lw_g (lw_at lw_m4 35 rfl) rfl
theorem q831 : (Jvm.Cond.instanceMethod ({ cls := "HeavyGifts$Aim", name := "mayTake", desc := "(I)Z" } : Jvm.MethodName)) ∈ lw_all := lw_g (lw_at lw_m4 36 rfl) rfl
theorem q832 : (Jvm.Cond.code ({ cls := "HeavyGifts$Aim", name := "mayTake", desc := "(I)Z" } : Jvm.MethodName) prog_2_method_3_code (2 : Nat) (Option.some Jvm.ClassFile.FieldType.boolean)) ∈ lw_all := lw_g (lw_at lw_m4 37 rfl) rfl
theorem q833 : (Jvm.Cond.methodLink "HeavyGifts$Aim" (13 : Nat) ({ cls := "HeavyGifts$Plain", name := "mayTake", desc := "(I)Z" } : Jvm.MethodName)) ∈ lw_all := lw_g (lw_at lw_m4 38 rfl) rfl
theorem q836 : (Jvm.Cond.superclass "HeavyGifts$Aim" "HeavyGifts$Plain") ∈ lw_all := lw_g (lw_at lw_m4 41 rfl) rfl
theorem q849 : (Jvm.Cond.selects "HeavyGifts$Aim" ({ cls := "HeavyGifts$Giver", name := "isBetter", desc := "(IILHeavyGifts$Town;)Z" } : Jvm.MethodName) ({ cls := "HeavyGifts$Giver", name := "isBetter", desc := "(IILHeavyGifts$Town;)Z" } : Jvm.MethodName)) ∈ lw_all := lw_g (lw_at lw_m4 54 rfl) rfl
theorem q878 : (Jvm.Cond.selects "HeavyGifts$Aim" ({ cls := "HeavyGifts$Giver", name := "likes", desc := "(LHeavyGifts$State;)I" } : Jvm.MethodName) ({ cls := "HeavyGifts$Aim", name := "likes", desc := "(LHeavyGifts$State;)I" } : Jvm.MethodName)) ∈ lw_all := lw_g (lw_at lw_m4 83 rfl) rfl
theorem q879 : (Jvm.Cond.instanceMethod ({ cls := "HeavyGifts$Aim", name := "likes", desc := "(LHeavyGifts$State;)I" } : Jvm.MethodName)) ∈ lw_all := lw_g (lw_at lw_m4 84 rfl) rfl
theorem q880 : (Jvm.Cond.code ({ cls := "HeavyGifts$Aim", name := "likes", desc := "(LHeavyGifts$State;)I" } : Jvm.MethodName) prog_2_method_4_code (2 : Nat) (Option.some Jvm.ClassFile.FieldType.int)) ∈ lw_all := lw_g (lw_at lw_m4 85 rfl) rfl
theorem q881 : (Jvm.Cond.methodLink "HeavyGifts$Aim" (17 : Nat) ({ cls := "HeavyGifts$State", name := "owner", desc := "(I)I" } : Jvm.MethodName)) ∈ lw_all := lw_g (lw_at lw_m4 86 rfl) rfl
theorem q1086 : (Jvm.Cond.instantiable "HeavyGifts$Aim" (1 : Nat)) ∈ lw_all := lw_g (lw_at lw_m5 51 rfl) rfl
theorem q1088 : (Jvm.Cond.instanceMethod ({ cls := "HeavyGifts$Aim", name := "<init>", desc := "(I)V" } : Jvm.MethodName)) ∈ lw_all := lw_g (lw_at lw_m5 53 rfl) rfl
theorem q1089 : (Jvm.Cond.code ({ cls := "HeavyGifts$Aim", name := "<init>", desc := "(I)V" } : Jvm.MethodName) prog_2_method_1_code (2 : Nat) (Option.none : Option Jvm.ClassFile.FieldType)) ∈ lw_all := lw_g (lw_at lw_m5 54 rfl) rfl
theorem q1090 : (Jvm.Cond.methodLinkNest "HeavyGifts$Aim" (1 : Nat) ({ cls := "HeavyGifts$Plain", name := "<init>", desc := "()V" } : Jvm.MethodName) "HeavyGifts") ∈ lw_tbl := lw_at lw_m5 55 rfl
theorem q1097 : (Jvm.Cond.fieldLink "HeavyGifts$Aim" (7 : Nat) "HeavyGifts$Aim" "thing" "I") ∈ lw_all := lw_g (lw_at lw_m5 62 rfl) rfl
theorem q1098 : (Jvm.Cond.laysFinal "HeavyGifts$Aim" "HeavyGifts$Aim" "thing" "I") ∈ lw_all := lw_g (lw_at lw_m5 63 rfl) rfl
theorem q1099 : (Jvm.Cond.soleField "HeavyGifts$Aim" "thing") ∈ lw_all := lw_g (lw_at lw_m5 64 rfl) rfl
theorem q1191 : (Jvm.Cond.selects "HeavyGifts$Aim" ({ cls := "HeavyGifts$Giver", name := "kind", desc := "()I" } : Jvm.MethodName) ({ cls := "HeavyGifts$Aim", name := "kind", desc := "()I" } : Jvm.MethodName)) ∈ lw_all := lw_g (lw_at lw_m5 156 rfl) rfl
theorem q1192 : (Jvm.Cond.instanceMethod ({ cls := "HeavyGifts$Aim", name := "kind", desc := "()I" } : Jvm.MethodName)) ∈ lw_all := lw_g (lw_at lw_m5 157 rfl) rfl
theorem q1193 : (Jvm.Cond.code ({ cls := "HeavyGifts$Aim", name := "kind", desc := "()I" } : Jvm.MethodName) prog_2_method_2_code (1 : Nat) (Option.some Jvm.ClassFile.FieldType.int)) ∈ lw_all := lw_g (lw_at lw_m5 158 rfl) rfl
theorem q1867 : (Jvm.Cond.castable "HeavyGifts$Aim" "HeavyGifts$Giver") ∈ lw_tbl := lw_at lw_m8 112 rfl
theorem q1884 : (Jvm.Cond.castable "HeavyGifts$Aim" "java/lang/Object") ∈ lw_tbl := lw_at lw_m8 129 rfl
theorem in_X10 : ∀ w ∈ wsX100, w ∈ lw_all := lw_in wsX100 [1098] (by decide +kernel) (by decide +kernel)
/-! HeavyGifts$Wait -/
set_option maxRecDepth 100000
def RX11 : String := "HeavyGifts$Wait"
def TX11 : u_T := fun k => match k with
  | _ => ("HeavyGifts$Wait", "day", "I", true)
def tyX11 : Nat → FieldType := fun k => match k with
  | _ => .int
abbrev wsX110 : List Cond := u_ws RX11 TX11 1
theorem nmX11 : ∀ a, a < 1 → ∀ b, b < 1 → a ≠ b → (TX11 a).2.1 ≠ (TX11 b).2.1 := by decide +kernel
theorem tyX11_ok : ∀ k, k < 1 → parseFieldDescriptor (TX11 k).2.2.1 = some (tyX11 k) := by decide +kernel
abbrev cX11_isReady : ByteArray := prog_14_method_3_code
def yX11_isReady : MethodName := ⟨RX11, "isReady", "(I)Z"⟩
def dkwX11_isReady_0 : List UInt8 := [42, 27, 183, 0, 13, 153, 0, 15, 27, 42, 180, 0, 7, 161, 0, 7, 4, 167, 0, 4, 3, 172]
abbrev dktX11_isReady_0 : List UInt8 := dkwX11_isReady_0 ++ []
theorem dksX11_isReady_0 : cX11_isReady.data.toList.drop 0 = dktX11_isReady_0 := by decide +kernel
theorem dX11_isReady_0 : decode cX11_isReady 0 = .ok (.aload_n 0, 1) := dk_42 (dk_at dksX11_isReady_0 0 rfl rfl)
theorem dX11_isReady_1 : decode cX11_isReady 1 = .ok (.iload_n 1, 1) := dk_27 (dk_at dksX11_isReady_0 1 rfl rfl)
theorem dX11_isReady_2 : decode cX11_isReady 2 = .ok (.invokespecial 13, 3) := dk_183 0 13 (dk_at dksX11_isReady_0 2 rfl rfl)
theorem dX11_isReady_5 : decode cX11_isReady 5 = .ok (.ifCond .eq 15, 3) := dk_153 0 15 (dk_at dksX11_isReady_0 5 rfl rfl)
theorem dX11_isReady_8 : decode cX11_isReady 8 = .ok (.iload_n 1, 1) := dk_27 (dk_at dksX11_isReady_0 8 rfl rfl)
theorem dX11_isReady_9 : decode cX11_isReady 9 = .ok (.aload_n 0, 1) := dk_42 (dk_at dksX11_isReady_0 9 rfl rfl)
theorem dX11_isReady_10 : decode cX11_isReady 10 = .ok (.getfield 7, 3) := dk_180 0 7 (dk_at dksX11_isReady_0 10 rfl rfl)
theorem dX11_isReady_13 : decode cX11_isReady 13 = .ok (.if_icmp .lt 7, 3) := dk_161 0 7 (dk_at dksX11_isReady_0 13 rfl rfl)
theorem dX11_isReady_16 : decode cX11_isReady 16 = .ok (.iconst 1, 1) := dk_4 (dk_at dksX11_isReady_0 16 rfl rfl)
theorem dX11_isReady_17 : decode cX11_isReady 17 = .ok (.goto 4, 3) := dk_167 0 4 (dk_at dksX11_isReady_0 17 rfl rfl)
theorem dX11_isReady_20 : decode cX11_isReady 20 = .ok (.iconst 0, 1) := dk_3 (dk_at dksX11_isReady_0 20 rfl rfl)
theorem dX11_isReady_21 : decode cX11_isReady 21 = .ok (.ireturn, 1) := dk_172 (dk_at dksX11_isReady_0 21 rfl rfl)
abbrev cX11_init : ByteArray := prog_14_method_1_code
def yX11_init : MethodName := ⟨RX11, "<init>", "(I)V"⟩
def dkwX11_init_0 : List UInt8 := [42, 183, 0, 1, 42, 27, 181, 0, 7, 177]
abbrev dktX11_init_0 : List UInt8 := dkwX11_init_0 ++ []
theorem dksX11_init_0 : cX11_init.data.toList.drop 0 = dktX11_init_0 := by decide +kernel
theorem dX11_init_0 : decode cX11_init 0 = .ok (.aload_n 0, 1) := dk_42 (dk_at dksX11_init_0 0 rfl rfl)
theorem dX11_init_1 : decode cX11_init 1 = .ok (.invokespecial 1, 3) := dk_183 0 1 (dk_at dksX11_init_0 1 rfl rfl)
theorem dX11_init_4 : decode cX11_init 4 = .ok (.aload_n 0, 1) := dk_42 (dk_at dksX11_init_0 4 rfl rfl)
theorem dX11_init_5 : decode cX11_init 5 = .ok (.iload_n 1, 1) := dk_27 (dk_at dksX11_init_0 5 rfl rfl)
theorem dX11_init_6 : decode cX11_init 6 = .ok (.putfield 7, 3) := dk_181 0 7 (dk_at dksX11_init_0 6 rfl rfl)
theorem dX11_init_9 : decode cX11_init 9 = .ok (.return_, 1) := dk_177 (dk_at dksX11_init_0 9 rfl rfl)
abbrev cX11_kind : ByteArray := prog_14_method_2_code
def yX11_kind : MethodName := ⟨RX11, "kind", "()I"⟩
theorem dX11_kind_0 : decode cX11_kind 0 = .ok (.iconst 4, 1) := by decide +kernel
theorem dX11_kind_1 : decode cX11_kind 1 = .ok (.ireturn, 1) := by decide +kernel
theorem q107 : (Jvm.Cond.initialized "HeavyGifts$Wait") ∈ lw_all := lw_g (lw_at lw_m1 32 rfl) rfl
theorem q744 : (Jvm.Cond.selects "HeavyGifts$Wait" ({ cls := "java/lang/Object", name := "getClass", desc := "()Ljava/lang/Class;" } : Jvm.MethodName) ({ cls := "java/lang/Object", name := "getClass", desc := "()Ljava/lang/Class;" } : Jvm.MethodName)) ∈ lw_all := lw_g (lw_at lw_m3 189 rfl) rfl
theorem q818 : (Jvm.Cond.selects "HeavyGifts$Wait" ({ cls := "HeavyGifts$Giver", name := "isReady", desc := "(I)Z" } : Jvm.MethodName) ({ cls := "HeavyGifts$Wait", name := "isReady", desc := "(I)Z" } : Jvm.MethodName)) ∈ lw_all := lw_g (lw_at lw_m4 23 rfl) rfl
theorem q819 : (Jvm.Cond.instanceMethod ({ cls := "HeavyGifts$Wait", name := "isReady", desc := "(I)Z" } : Jvm.MethodName)) ∈ lw_all := lw_g (lw_at lw_m4 24 rfl) rfl
theorem q820 : (Jvm.Cond.code ({ cls := "HeavyGifts$Wait", name := "isReady", desc := "(I)Z" } : Jvm.MethodName) prog_14_method_3_code (2 : Nat) (Option.some Jvm.ClassFile.FieldType.boolean)) ∈ lw_all := lw_g (lw_at lw_m4 25 rfl) rfl
theorem q821 : (Jvm.Cond.methodLink "HeavyGifts$Wait" (13 : Nat) ({ cls := "HeavyGifts$Plain", name := "isReady", desc := "(I)Z" } : Jvm.MethodName)) ∈ lw_all := lw_g (lw_at lw_m4 26 rfl) rfl
theorem q824 : (Jvm.Cond.superclass "HeavyGifts$Wait" "HeavyGifts$Plain") ∈ lw_all := lw_g (lw_at lw_m4 29 rfl) rfl
theorem q841 : (Jvm.Cond.selects "HeavyGifts$Wait" ({ cls := "HeavyGifts$Giver", name := "mayTake", desc := "(I)Z" } : Jvm.MethodName) ({ cls := "HeavyGifts$Giver", name := "mayTake", desc := "(I)Z" } : Jvm.MethodName)) ∈ lw_all := lw_g (lw_at lw_m4 46 rfl) rfl
theorem q866 : (Jvm.Cond.selects "HeavyGifts$Wait" ({ cls := "HeavyGifts$Giver", name := "isBetter", desc := "(IILHeavyGifts$Town;)Z" } : Jvm.MethodName) ({ cls := "HeavyGifts$Giver", name := "isBetter", desc := "(IILHeavyGifts$Town;)Z" } : Jvm.MethodName)) ∈ lw_all := lw_g (lw_at lw_m4 71 rfl) rfl
theorem q888 : (Jvm.Cond.selects "HeavyGifts$Wait" ({ cls := "HeavyGifts$Giver", name := "likes", desc := "(LHeavyGifts$State;)I" } : Jvm.MethodName) ({ cls := "HeavyGifts$Giver", name := "likes", desc := "(LHeavyGifts$State;)I" } : Jvm.MethodName)) ∈ lw_all := lw_g (lw_at lw_m4 93 rfl) rfl
theorem q1101 : (Jvm.Cond.instantiable "HeavyGifts$Wait" (1 : Nat)) ∈ lw_all := lw_g (lw_at lw_m5 66 rfl) rfl
theorem q1103 : (Jvm.Cond.instanceMethod ({ cls := "HeavyGifts$Wait", name := "<init>", desc := "(I)V" } : Jvm.MethodName)) ∈ lw_all := lw_g (lw_at lw_m5 68 rfl) rfl
theorem q1104 : (Jvm.Cond.code ({ cls := "HeavyGifts$Wait", name := "<init>", desc := "(I)V" } : Jvm.MethodName) prog_14_method_1_code (2 : Nat) (Option.none : Option Jvm.ClassFile.FieldType)) ∈ lw_all := lw_g (lw_at lw_m5 69 rfl) rfl
theorem q1105 : (Jvm.Cond.methodLinkNest "HeavyGifts$Wait" (1 : Nat) ({ cls := "HeavyGifts$Plain", name := "<init>", desc := "()V" } : Jvm.MethodName) "HeavyGifts") ∈ lw_tbl := lw_at lw_m5 70 rfl
theorem q1106 : (Jvm.Cond.fieldLink "HeavyGifts$Wait" (7 : Nat) "HeavyGifts$Wait" "day" "I") ∈ lw_all := lw_g (lw_at lw_m5 71 rfl) rfl
theorem q1107 : (Jvm.Cond.laysFinal "HeavyGifts$Wait" "HeavyGifts$Wait" "day" "I") ∈ lw_all := lw_g (lw_at lw_m5 72 rfl) rfl
theorem q1108 : (Jvm.Cond.soleField "HeavyGifts$Wait" "day") ∈ lw_all := lw_g (lw_at lw_m5 73 rfl) rfl
theorem q1203 : (Jvm.Cond.selects "HeavyGifts$Wait" ({ cls := "HeavyGifts$Giver", name := "kind", desc := "()I" } : Jvm.MethodName) ({ cls := "HeavyGifts$Wait", name := "kind", desc := "()I" } : Jvm.MethodName)) ∈ lw_all := lw_g (lw_at lw_m5 168 rfl) rfl
theorem q1204 : (Jvm.Cond.instanceMethod ({ cls := "HeavyGifts$Wait", name := "kind", desc := "()I" } : Jvm.MethodName)) ∈ lw_all := lw_g (lw_at lw_m5 169 rfl) rfl
theorem q1205 : (Jvm.Cond.code ({ cls := "HeavyGifts$Wait", name := "kind", desc := "()I" } : Jvm.MethodName) prog_14_method_2_code (1 : Nat) (Option.some Jvm.ClassFile.FieldType.int)) ∈ lw_all := lw_g (lw_at lw_m5 170 rfl) rfl
theorem q1871 : (Jvm.Cond.castable "HeavyGifts$Wait" "HeavyGifts$Giver") ∈ lw_tbl := lw_at lw_m8 116 rfl
theorem q1885 : (Jvm.Cond.castable "HeavyGifts$Wait" "java/lang/Object") ∈ lw_tbl := lw_at lw_m8 130 rfl
theorem in_X11 : ∀ w ∈ wsX110, w ∈ lw_all := lw_in wsX110 [1107] (by decide +kernel) (by decide +kernel)
/-! HeavyGifts$Least -/
set_option maxRecDepth 100000
def RX12 : String := "HeavyGifts$Least"
abbrev cX12_isBetter : ByteArray := prog_8_method_4_code
def yX12_isBetter : MethodName := ⟨RX12, "isBetter", "(IILHeavyGifts$Town;)Z"⟩
def dkwX12_isBetter_0 : List UInt8 := [27, 45, 184, 0, 15, 28, 45, 184, 0, 15, 162, 0, 7, 4, 167, 0, 4, 3, 172]
abbrev dktX12_isBetter_0 : List UInt8 := dkwX12_isBetter_0 ++ []
theorem dksX12_isBetter_0 : cX12_isBetter.data.toList.drop 0 = dktX12_isBetter_0 := by decide +kernel
theorem dX12_isBetter_0 : decode cX12_isBetter 0 = .ok (.iload_n 1, 1) := dk_27 (dk_at dksX12_isBetter_0 0 rfl rfl)
theorem dX12_isBetter_1 : decode cX12_isBetter 1 = .ok (.aload_n 3, 1) := dk_45 (dk_at dksX12_isBetter_0 1 rfl rfl)
theorem dX12_isBetter_2 : decode cX12_isBetter 2 = .ok (.invokestatic 15, 3) := dk_184 0 15 (dk_at dksX12_isBetter_0 2 rfl rfl)
theorem dX12_isBetter_5 : decode cX12_isBetter 5 = .ok (.iload_n 2, 1) := dk_28 (dk_at dksX12_isBetter_0 5 rfl rfl)
theorem dX12_isBetter_6 : decode cX12_isBetter 6 = .ok (.aload_n 3, 1) := dk_45 (dk_at dksX12_isBetter_0 6 rfl rfl)
theorem dX12_isBetter_7 : decode cX12_isBetter 7 = .ok (.invokestatic 15, 3) := dk_184 0 15 (dk_at dksX12_isBetter_0 7 rfl rfl)
theorem dX12_isBetter_10 : decode cX12_isBetter 10 = .ok (.if_icmp .ge 7, 3) := dk_162 0 7 (dk_at dksX12_isBetter_0 10 rfl rfl)
theorem dX12_isBetter_13 : decode cX12_isBetter 13 = .ok (.iconst 1, 1) := dk_4 (dk_at dksX12_isBetter_0 13 rfl rfl)
theorem dX12_isBetter_14 : decode cX12_isBetter 14 = .ok (.goto 4, 3) := dk_167 0 4 (dk_at dksX12_isBetter_0 14 rfl rfl)
theorem dX12_isBetter_17 : decode cX12_isBetter 17 = .ok (.iconst 0, 1) := dk_3 (dk_at dksX12_isBetter_0 17 rfl rfl)
theorem dX12_isBetter_18 : decode cX12_isBetter 18 = .ok (.ireturn, 1) := dk_172 (dk_at dksX12_isBetter_0 18 rfl rfl)
abbrev cX12_worth : ByteArray := prog_8_method_2_code
def yX12_worth : MethodName := ⟨RX12, "worth", "(ILHeavyGifts$Town;)I"⟩
def dkwX12_worth_1 : List UInt8 := [29, 46, 96, 61, 132, 3, 1, 167, 255, 229, 28, 172]
abbrev dktX12_worth_1 : List UInt8 := dkwX12_worth_1 ++ []
def dkwX12_worth_0 : List UInt8 := [3, 61, 3, 62, 29, 16, 12, 162, 0, 27, 26, 29, 122, 4, 126, 4, 160, 0, 12, 28, 43, 180, 0, 9]
abbrev dktX12_worth_0 : List UInt8 := dkwX12_worth_0 ++ dktX12_worth_1
theorem dksX12_worth_0 : cX12_worth.data.toList.drop 0 = dktX12_worth_0 := by decide +kernel
theorem dksX12_worth_1 : cX12_worth.data.toList.drop 24 = dktX12_worth_1 := dk_seg dksX12_worth_0 24 rfl rfl
theorem dX12_worth_0 : decode cX12_worth 0 = .ok (.iconst 0, 1) := dk_3 (dk_at dksX12_worth_0 0 rfl rfl)
theorem dX12_worth_1 : decode cX12_worth 1 = .ok (.istore_n 2, 1) := dk_61 (dk_at dksX12_worth_0 1 rfl rfl)
theorem dX12_worth_2 : decode cX12_worth 2 = .ok (.iconst 0, 1) := dk_3 (dk_at dksX12_worth_0 2 rfl rfl)
theorem dX12_worth_3 : decode cX12_worth 3 = .ok (.istore_n 3, 1) := dk_62 (dk_at dksX12_worth_0 3 rfl rfl)
theorem dX12_worth_4 : decode cX12_worth 4 = .ok (.iload_n 3, 1) := dk_29 (dk_at dksX12_worth_0 4 rfl rfl)
theorem dX12_worth_5 : decode cX12_worth 5 = .ok (.bipush 12, 2) := dk_16 12 (dk_at dksX12_worth_0 5 rfl rfl)
theorem dX12_worth_7 : decode cX12_worth 7 = .ok (.if_icmp .ge 27, 3) := dk_162 0 27 (dk_at dksX12_worth_0 7 rfl rfl)
theorem dX12_worth_10 : decode cX12_worth 10 = .ok (.iload_n 0, 1) := dk_26 (dk_at dksX12_worth_0 10 rfl rfl)
theorem dX12_worth_11 : decode cX12_worth 11 = .ok (.iload_n 3, 1) := dk_29 (dk_at dksX12_worth_0 11 rfl rfl)
theorem dX12_worth_12 : decode cX12_worth 12 = .ok (.ishr, 1) := dk_122 (dk_at dksX12_worth_0 12 rfl rfl)
theorem dX12_worth_13 : decode cX12_worth 13 = .ok (.iconst 1, 1) := dk_4 (dk_at dksX12_worth_0 13 rfl rfl)
theorem dX12_worth_14 : decode cX12_worth 14 = .ok (.iand, 1) := dk_126 (dk_at dksX12_worth_0 14 rfl rfl)
theorem dX12_worth_15 : decode cX12_worth 15 = .ok (.iconst 1, 1) := dk_4 (dk_at dksX12_worth_0 15 rfl rfl)
theorem dX12_worth_16 : decode cX12_worth 16 = .ok (.if_icmp .ne 12, 3) := dk_160 0 12 (dk_at dksX12_worth_0 16 rfl rfl)
theorem dX12_worth_19 : decode cX12_worth 19 = .ok (.iload_n 2, 1) := dk_28 (dk_at dksX12_worth_0 19 rfl rfl)
theorem dX12_worth_20 : decode cX12_worth 20 = .ok (.aload_n 1, 1) := dk_43 (dk_at dksX12_worth_0 20 rfl rfl)
theorem dX12_worth_21 : decode cX12_worth 21 = .ok (.getfield 9, 3) := dk_180 0 9 (dk_at dksX12_worth_0 21 rfl rfl)
theorem dX12_worth_24 : decode cX12_worth 24 = .ok (.iload_n 3, 1) := dk_29 (dk_at dksX12_worth_1 0 rfl rfl)
theorem dX12_worth_25 : decode cX12_worth 25 = .ok (.iaload, 1) := dk_46 (dk_at dksX12_worth_1 1 rfl rfl)
theorem dX12_worth_26 : decode cX12_worth 26 = .ok (.iadd, 1) := dk_96 (dk_at dksX12_worth_1 2 rfl rfl)
theorem dX12_worth_27 : decode cX12_worth 27 = .ok (.istore_n 2, 1) := dk_61 (dk_at dksX12_worth_1 3 rfl rfl)
theorem dX12_worth_28 : decode cX12_worth 28 = .ok (.iinc 3 1, 3) := dk_132 3 1 (dk_at dksX12_worth_1 4 rfl rfl)
theorem dX12_worth_31 : decode cX12_worth 31 = .ok (.goto (-27), 3) := dk_167 255 229 (dk_at dksX12_worth_1 7 rfl rfl)
theorem dX12_worth_34 : decode cX12_worth 34 = .ok (.iload_n 2, 1) := dk_28 (dk_at dksX12_worth_1 10 rfl rfl)
theorem dX12_worth_35 : decode cX12_worth 35 = .ok (.ireturn, 1) := dk_172 (dk_at dksX12_worth_1 11 rfl rfl)
abbrev cX12_init : ByteArray := prog_8_method_1_code
def yX12_init : MethodName := ⟨RX12, "<init>", "()V"⟩
theorem dX12_init_0 : decode cX12_init 0 = .ok (.aload_n 0, 1) := by decide +kernel
theorem dX12_init_1 : decode cX12_init 1 = .ok (.invokespecial 3, 3) := by decide +kernel
theorem dX12_init_4 : decode cX12_init 4 = .ok (.return_, 1) := by decide +kernel
abbrev cX12_kind : ByteArray := prog_8_method_3_code
def yX12_kind : MethodName := ⟨RX12, "kind", "()I"⟩
theorem dX12_kind_0 : decode cX12_kind 0 = .ok (.iconst 1, 1) := by decide +kernel
theorem dX12_kind_1 : decode cX12_kind 1 = .ok (.ireturn, 1) := by decide +kernel
theorem q108 : (Jvm.Cond.initialized "HeavyGifts$Least") ∈ lw_all := lw_g (lw_at lw_m1 33 rfl) rfl
theorem q471 : (Jvm.Cond.fieldLinkNest "HeavyGifts$Least" (9 : Nat) "HeavyGifts$Town" "worths" "[I" "HeavyGifts") ∈ lw_tbl := lw_at lw_m2 156 rfl
theorem q738 : (Jvm.Cond.selects "HeavyGifts$Least" ({ cls := "java/lang/Object", name := "getClass", desc := "()Ljava/lang/Class;" } : Jvm.MethodName) ({ cls := "java/lang/Object", name := "getClass", desc := "()Ljava/lang/Class;" } : Jvm.MethodName)) ∈ lw_all := lw_g (lw_at lw_m3 183 rfl) rfl
theorem q816 : (Jvm.Cond.selects "HeavyGifts$Least" ({ cls := "HeavyGifts$Giver", name := "isReady", desc := "(I)Z" } : Jvm.MethodName) ({ cls := "HeavyGifts$Giver", name := "isReady", desc := "(I)Z" } : Jvm.MethodName)) ∈ lw_all := lw_g (lw_at lw_m4 21 rfl) rfl
theorem q839 : (Jvm.Cond.selects "HeavyGifts$Least" ({ cls := "HeavyGifts$Giver", name := "mayTake", desc := "(I)Z" } : Jvm.MethodName) ({ cls := "HeavyGifts$Giver", name := "mayTake", desc := "(I)Z" } : Jvm.MethodName)) ∈ lw_all := lw_g (lw_at lw_m4 44 rfl) rfl
theorem q859 : (Jvm.Cond.selects "HeavyGifts$Least" ({ cls := "HeavyGifts$Giver", name := "isBetter", desc := "(IILHeavyGifts$Town;)Z" } : Jvm.MethodName) ({ cls := "HeavyGifts$Least", name := "isBetter", desc := "(IILHeavyGifts$Town;)Z" } : Jvm.MethodName)) ∈ lw_all := lw_g (lw_at lw_m4 64 rfl) rfl
theorem q860 : (Jvm.Cond.instanceMethod ({ cls := "HeavyGifts$Least", name := "isBetter", desc := "(IILHeavyGifts$Town;)Z" } : Jvm.MethodName)) ∈ lw_all := lw_g (lw_at lw_m4 65 rfl) rfl
theorem q861 : (Jvm.Cond.code ({ cls := "HeavyGifts$Least", name := "isBetter", desc := "(IILHeavyGifts$Town;)Z" } : Jvm.MethodName) prog_8_method_4_code (4 : Nat) (Option.some Jvm.ClassFile.FieldType.boolean)) ∈ lw_all := lw_g (lw_at lw_m4 66 rfl) rfl
theorem q862 : (Jvm.Cond.methodLink "HeavyGifts$Least" (15 : Nat) ({ cls := "HeavyGifts$Least", name := "worth", desc := "(ILHeavyGifts$Town;)I" } : Jvm.MethodName)) ∈ lw_all := lw_g (lw_at lw_m4 67 rfl) rfl
theorem q863 : (Jvm.Cond.static ({ cls := "HeavyGifts$Least", name := "worth", desc := "(ILHeavyGifts$Town;)I" } : Jvm.MethodName)) ∈ lw_all := lw_g (lw_at lw_m4 68 rfl) rfl
theorem q864 : (Jvm.Cond.code ({ cls := "HeavyGifts$Least", name := "worth", desc := "(ILHeavyGifts$Town;)I" } : Jvm.MethodName) prog_8_method_2_code (4 : Nat) (Option.some Jvm.ClassFile.FieldType.int)) ∈ lw_all := lw_g (lw_at lw_m4 69 rfl) rfl
theorem q886 : (Jvm.Cond.selects "HeavyGifts$Least" ({ cls := "HeavyGifts$Giver", name := "likes", desc := "(LHeavyGifts$State;)I" } : Jvm.MethodName) ({ cls := "HeavyGifts$Giver", name := "likes", desc := "(LHeavyGifts$State;)I" } : Jvm.MethodName)) ∈ lw_all := lw_g (lw_at lw_m4 91 rfl) rfl
theorem q1113 : (Jvm.Cond.instantiable "HeavyGifts$Least" (0 : Nat)) ∈ lw_all := lw_g (lw_at lw_m5 78 rfl) rfl
theorem q1115 : (Jvm.Cond.instanceMethod ({ cls := "HeavyGifts$Least", name := "<init>", desc := "()V" } : Jvm.MethodName)) ∈ lw_all := lw_g (lw_at lw_m5 80 rfl) rfl
theorem q1116 : (Jvm.Cond.code ({ cls := "HeavyGifts$Least", name := "<init>", desc := "()V" } : Jvm.MethodName) prog_8_method_1_code (1 : Nat) (Option.none : Option Jvm.ClassFile.FieldType)) ∈ lw_all := lw_g (lw_at lw_m5 81 rfl) rfl
theorem q1117 : (Jvm.Cond.methodLinkNest "HeavyGifts$Least" (3 : Nat) ({ cls := "HeavyGifts$Giver", name := "<init>", desc := "()V" } : Jvm.MethodName) "HeavyGifts") ∈ lw_tbl := lw_at lw_m5 82 rfl
theorem q1118 : (Jvm.Cond.superclass "HeavyGifts$Least" "HeavyGifts$Giver") ∈ lw_all := lw_g (lw_at lw_m5 83 rfl) rfl
theorem q1197 : (Jvm.Cond.selects "HeavyGifts$Least" ({ cls := "HeavyGifts$Giver", name := "kind", desc := "()I" } : Jvm.MethodName) ({ cls := "HeavyGifts$Least", name := "kind", desc := "()I" } : Jvm.MethodName)) ∈ lw_all := lw_g (lw_at lw_m5 162 rfl) rfl
theorem q1198 : (Jvm.Cond.instanceMethod ({ cls := "HeavyGifts$Least", name := "kind", desc := "()I" } : Jvm.MethodName)) ∈ lw_all := lw_g (lw_at lw_m5 163 rfl) rfl
theorem q1199 : (Jvm.Cond.code ({ cls := "HeavyGifts$Least", name := "kind", desc := "()I" } : Jvm.MethodName) prog_8_method_3_code (1 : Nat) (Option.some Jvm.ClassFile.FieldType.int)) ∈ lw_all := lw_g (lw_at lw_m5 164 rfl) rfl
theorem q1869 : (Jvm.Cond.castable "HeavyGifts$Least" "HeavyGifts$Giver") ∈ lw_tbl := lw_at lw_m8 114 rfl
theorem q1887 : (Jvm.Cond.castable "HeavyGifts$Least" "java/lang/Object") ∈ lw_tbl := lw_at lw_m8 132 rfl
/-! HeavyGifts$Fewest -/
set_option maxRecDepth 100000
def RX13 : String := "HeavyGifts$Fewest"
abbrev cX13_isBetter : ByteArray := prog_5_method_3_code
def yX13_isBetter : MethodName := ⟨RX13, "isBetter", "(IILHeavyGifts$Town;)Z"⟩
def dkwX13_isBetter_0 : List UInt8 := [27, 184, 0, 7, 28, 184, 0, 7, 162, 0, 7, 4, 167, 0, 4, 3, 172]
abbrev dktX13_isBetter_0 : List UInt8 := dkwX13_isBetter_0 ++ []
theorem dksX13_isBetter_0 : cX13_isBetter.data.toList.drop 0 = dktX13_isBetter_0 := by decide +kernel
theorem dX13_isBetter_0 : decode cX13_isBetter 0 = .ok (.iload_n 1, 1) := dk_27 (dk_at dksX13_isBetter_0 0 rfl rfl)
theorem dX13_isBetter_1 : decode cX13_isBetter 1 = .ok (.invokestatic 7, 3) := dk_184 0 7 (dk_at dksX13_isBetter_0 1 rfl rfl)
theorem dX13_isBetter_4 : decode cX13_isBetter 4 = .ok (.iload_n 2, 1) := dk_28 (dk_at dksX13_isBetter_0 4 rfl rfl)
theorem dX13_isBetter_5 : decode cX13_isBetter 5 = .ok (.invokestatic 7, 3) := dk_184 0 7 (dk_at dksX13_isBetter_0 5 rfl rfl)
theorem dX13_isBetter_8 : decode cX13_isBetter 8 = .ok (.if_icmp .ge 7, 3) := dk_162 0 7 (dk_at dksX13_isBetter_0 8 rfl rfl)
theorem dX13_isBetter_11 : decode cX13_isBetter 11 = .ok (.iconst 1, 1) := dk_4 (dk_at dksX13_isBetter_0 11 rfl rfl)
theorem dX13_isBetter_12 : decode cX13_isBetter 12 = .ok (.goto 4, 3) := dk_167 0 4 (dk_at dksX13_isBetter_0 12 rfl rfl)
theorem dX13_isBetter_15 : decode cX13_isBetter 15 = .ok (.iconst 0, 1) := dk_3 (dk_at dksX13_isBetter_0 15 rfl rfl)
theorem dX13_isBetter_16 : decode cX13_isBetter 16 = .ok (.ireturn, 1) := dk_172 (dk_at dksX13_isBetter_0 16 rfl rfl)
abbrev cX13_init : ByteArray := prog_5_method_1_code
def yX13_init : MethodName := ⟨RX13, "<init>", "()V"⟩
theorem dX13_init_0 : decode cX13_init 0 = .ok (.aload_n 0, 1) := by decide +kernel
theorem dX13_init_1 : decode cX13_init 1 = .ok (.invokespecial 1, 3) := by decide +kernel
theorem dX13_init_4 : decode cX13_init 4 = .ok (.return_, 1) := by decide +kernel
abbrev cX13_kind : ByteArray := prog_5_method_2_code
def yX13_kind : MethodName := ⟨RX13, "kind", "()I"⟩
theorem dX13_kind_0 : decode cX13_kind 0 = .ok (.iconst 2, 1) := by decide +kernel
theorem dX13_kind_1 : decode cX13_kind 1 = .ok (.ireturn, 1) := by decide +kernel
theorem q109 : (Jvm.Cond.initialized "HeavyGifts$Fewest") ∈ lw_all := lw_g (lw_at lw_m1 34 rfl) rfl
theorem q736 : (Jvm.Cond.selects "HeavyGifts$Fewest" ({ cls := "java/lang/Object", name := "getClass", desc := "()Ljava/lang/Class;" } : Jvm.MethodName) ({ cls := "java/lang/Object", name := "getClass", desc := "()Ljava/lang/Class;" } : Jvm.MethodName)) ∈ lw_all := lw_g (lw_at lw_m3 181 rfl) rfl
theorem q815 : (Jvm.Cond.selects "HeavyGifts$Fewest" ({ cls := "HeavyGifts$Giver", name := "isReady", desc := "(I)Z" } : Jvm.MethodName) ({ cls := "HeavyGifts$Giver", name := "isReady", desc := "(I)Z" } : Jvm.MethodName)) ∈ lw_all := lw_g (lw_at lw_m4 20 rfl) rfl
theorem q838 : (Jvm.Cond.selects "HeavyGifts$Fewest" ({ cls := "HeavyGifts$Giver", name := "mayTake", desc := "(I)Z" } : Jvm.MethodName) ({ cls := "HeavyGifts$Giver", name := "mayTake", desc := "(I)Z" } : Jvm.MethodName)) ∈ lw_all := lw_g (lw_at lw_m4 43 rfl) rfl
theorem q850 : (Jvm.Cond.selects "HeavyGifts$Fewest" ({ cls := "HeavyGifts$Giver", name := "isBetter", desc := "(IILHeavyGifts$Town;)Z" } : Jvm.MethodName) ({ cls := "HeavyGifts$Fewest", name := "isBetter", desc := "(IILHeavyGifts$Town;)Z" } : Jvm.MethodName)) ∈ lw_all := lw_g (lw_at lw_m4 55 rfl) rfl
theorem q851 : (Jvm.Cond.instanceMethod ({ cls := "HeavyGifts$Fewest", name := "isBetter", desc := "(IILHeavyGifts$Town;)Z" } : Jvm.MethodName)) ∈ lw_all := lw_g (lw_at lw_m4 56 rfl) rfl
theorem q852 : (Jvm.Cond.code ({ cls := "HeavyGifts$Fewest", name := "isBetter", desc := "(IILHeavyGifts$Town;)Z" } : Jvm.MethodName) prog_5_method_3_code (4 : Nat) (Option.some Jvm.ClassFile.FieldType.boolean)) ∈ lw_all := lw_g (lw_at lw_m4 57 rfl) rfl
theorem q853 : (Jvm.Cond.methodLink "HeavyGifts$Fewest" (7 : Nat) ({ cls := "java/lang/Integer", name := "bitCount", desc := "(I)I" } : Jvm.MethodName)) ∈ lw_all := lw_g (lw_at lw_m4 58 rfl) rfl
theorem q885 : (Jvm.Cond.selects "HeavyGifts$Fewest" ({ cls := "HeavyGifts$Giver", name := "likes", desc := "(LHeavyGifts$State;)I" } : Jvm.MethodName) ({ cls := "HeavyGifts$Giver", name := "likes", desc := "(LHeavyGifts$State;)I" } : Jvm.MethodName)) ∈ lw_all := lw_g (lw_at lw_m4 90 rfl) rfl
theorem q1120 : (Jvm.Cond.instantiable "HeavyGifts$Fewest" (0 : Nat)) ∈ lw_all := lw_g (lw_at lw_m5 85 rfl) rfl
theorem q1122 : (Jvm.Cond.instanceMethod ({ cls := "HeavyGifts$Fewest", name := "<init>", desc := "()V" } : Jvm.MethodName)) ∈ lw_all := lw_g (lw_at lw_m5 87 rfl) rfl
theorem q1123 : (Jvm.Cond.code ({ cls := "HeavyGifts$Fewest", name := "<init>", desc := "()V" } : Jvm.MethodName) prog_5_method_1_code (1 : Nat) (Option.none : Option Jvm.ClassFile.FieldType)) ∈ lw_all := lw_g (lw_at lw_m5 88 rfl) rfl
theorem q1124 : (Jvm.Cond.methodLinkNest "HeavyGifts$Fewest" (1 : Nat) ({ cls := "HeavyGifts$Giver", name := "<init>", desc := "()V" } : Jvm.MethodName) "HeavyGifts") ∈ lw_tbl := lw_at lw_m5 89 rfl
theorem q1125 : (Jvm.Cond.superclass "HeavyGifts$Fewest" "HeavyGifts$Giver") ∈ lw_all := lw_g (lw_at lw_m5 90 rfl) rfl
theorem q1194 : (Jvm.Cond.selects "HeavyGifts$Fewest" ({ cls := "HeavyGifts$Giver", name := "kind", desc := "()I" } : Jvm.MethodName) ({ cls := "HeavyGifts$Fewest", name := "kind", desc := "()I" } : Jvm.MethodName)) ∈ lw_all := lw_g (lw_at lw_m5 159 rfl) rfl
theorem q1195 : (Jvm.Cond.instanceMethod ({ cls := "HeavyGifts$Fewest", name := "kind", desc := "()I" } : Jvm.MethodName)) ∈ lw_all := lw_g (lw_at lw_m5 160 rfl) rfl
theorem q1196 : (Jvm.Cond.code ({ cls := "HeavyGifts$Fewest", name := "kind", desc := "()I" } : Jvm.MethodName) prog_5_method_2_code (1 : Nat) (Option.some Jvm.ClassFile.FieldType.int)) ∈ lw_all := lw_g (lw_at lw_m5 161 rfl) rfl
theorem q1868 : (Jvm.Cond.castable "HeavyGifts$Fewest" "HeavyGifts$Giver") ∈ lw_tbl := lw_at lw_m8 113 rfl
theorem q1888 : (Jvm.Cond.castable "HeavyGifts$Fewest" "java/lang/Object") ∈ lw_tbl := lw_at lw_m8 133 rfl
/-! HeavyGifts$Gift -/
set_option maxRecDepth 100000
def RX14 : String := "HeavyGifts$Gift"
def TX14 : u_T := fun k => match k with
  | 0 => ("HeavyGifts$Gift", "by", "I", true)
  | 1 => ("HeavyGifts$Gift", "set", "I", true)
  | 2 => ("HeavyGifts$Gift", "sand", "I", true)
  | 3 => ("HeavyGifts$Gift", "other", "I", true)
  | 4 => ("HeavyGifts$Gift", "weight", "I", true)
  | 5 => ("HeavyGifts$Gift", "owed", "I", true)
  | 6 => ("HeavyGifts$Gift", "owedTo", "I", true)
  | 7 => ("HeavyGifts$Gift", "otherOwed", "I", true)
  | _ => ("HeavyGifts$Gift", "otherTo", "I", true)
def tyX14 : Nat → FieldType := fun k => match k with
  | 0 => .int
  | 1 => .int
  | 2 => .int
  | 3 => .int
  | 4 => .int
  | 5 => .int
  | 6 => .int
  | 7 => .int
  | _ => .int
abbrev wsX140 : List Cond := u_ws RX14 TX14 9
theorem nmX14 : ∀ a, a < 9 → ∀ b, b < 9 → a ≠ b → (TX14 a).2.1 ≠ (TX14 b).2.1 := by decide +kernel
theorem tyX14_ok : ∀ k, k < 9 → parseFieldDescriptor (TX14 k).2.2.1 = some (tyX14 k) := by decide +kernel
abbrev cX14_init : ByteArray := prog_6_method_1_code
def yX14_init : MethodName := ⟨RX14, "<init>", "(LHeavyGifts$State;IIII)V"⟩
def dkwX14_init_3 : List UInt8 := [42, 43, 180, 0, 37, 21, 5, 46, 181, 0, 46, 177]
abbrev dktX14_init_3 : List UInt8 := dkwX14_init_3 ++ []
def dkwX14_init_2 : List UInt8 := [181, 0, 34, 42, 43, 180, 0, 37, 28, 46, 181, 0, 40, 42, 43, 180, 0, 30, 21, 5, 46, 181, 0, 43]
abbrev dktX14_init_2 : List UInt8 := dkwX14_init_2 ++ dktX14_init_3
def dkwX14_init_1 : List UInt8 := [181, 0, 19, 42, 43, 29, 182, 0, 22, 21, 4, 96, 181, 0, 28, 42, 43, 180, 0, 30, 28, 46]
abbrev dktX14_init_1 : List UInt8 := dkwX14_init_1 ++ dktX14_init_2
def dkwX14_init_0 : List UInt8 := [42, 183, 0, 1, 42, 28, 181, 0, 7, 42, 29, 181, 0, 13, 42, 21, 4, 181, 0, 16, 42, 21, 5]
abbrev dktX14_init_0 : List UInt8 := dkwX14_init_0 ++ dktX14_init_1
theorem dksX14_init_0 : cX14_init.data.toList.drop 0 = dktX14_init_0 := by decide +kernel
theorem dksX14_init_1 : cX14_init.data.toList.drop 23 = dktX14_init_1 := dk_seg dksX14_init_0 23 rfl rfl
theorem dksX14_init_2 : cX14_init.data.toList.drop 45 = dktX14_init_2 := dk_seg dksX14_init_1 22 rfl rfl
theorem dksX14_init_3 : cX14_init.data.toList.drop 69 = dktX14_init_3 := dk_seg dksX14_init_2 24 rfl rfl
theorem dX14_init_0 : decode cX14_init 0 = .ok (.aload_n 0, 1) := dk_42 (dk_at dksX14_init_0 0 rfl rfl)
theorem dX14_init_1 : decode cX14_init 1 = .ok (.invokespecial 1, 3) := dk_183 0 1 (dk_at dksX14_init_0 1 rfl rfl)
theorem dX14_init_4 : decode cX14_init 4 = .ok (.aload_n 0, 1) := dk_42 (dk_at dksX14_init_0 4 rfl rfl)
theorem dX14_init_5 : decode cX14_init 5 = .ok (.iload_n 2, 1) := dk_28 (dk_at dksX14_init_0 5 rfl rfl)
theorem dX14_init_6 : decode cX14_init 6 = .ok (.putfield 7, 3) := dk_181 0 7 (dk_at dksX14_init_0 6 rfl rfl)
theorem dX14_init_9 : decode cX14_init 9 = .ok (.aload_n 0, 1) := dk_42 (dk_at dksX14_init_0 9 rfl rfl)
theorem dX14_init_10 : decode cX14_init 10 = .ok (.iload_n 3, 1) := dk_29 (dk_at dksX14_init_0 10 rfl rfl)
theorem dX14_init_11 : decode cX14_init 11 = .ok (.putfield 13, 3) := dk_181 0 13 (dk_at dksX14_init_0 11 rfl rfl)
theorem dX14_init_14 : decode cX14_init 14 = .ok (.aload_n 0, 1) := dk_42 (dk_at dksX14_init_0 14 rfl rfl)
theorem dX14_init_15 : decode cX14_init 15 = .ok (.iload 4, 2) := dk_21 4 (dk_at dksX14_init_0 15 rfl rfl)
theorem dX14_init_17 : decode cX14_init 17 = .ok (.putfield 16, 3) := dk_181 0 16 (dk_at dksX14_init_0 17 rfl rfl)
theorem dX14_init_20 : decode cX14_init 20 = .ok (.aload_n 0, 1) := dk_42 (dk_at dksX14_init_0 20 rfl rfl)
theorem dX14_init_21 : decode cX14_init 21 = .ok (.iload 5, 2) := dk_21 5 (dk_at dksX14_init_0 21 rfl rfl)
theorem dX14_init_23 : decode cX14_init 23 = .ok (.putfield 19, 3) := dk_181 0 19 (dk_at dksX14_init_1 0 rfl rfl)
theorem dX14_init_26 : decode cX14_init 26 = .ok (.aload_n 0, 1) := dk_42 (dk_at dksX14_init_1 3 rfl rfl)
theorem dX14_init_27 : decode cX14_init 27 = .ok (.aload_n 1, 1) := dk_43 (dk_at dksX14_init_1 4 rfl rfl)
theorem dX14_init_28 : decode cX14_init 28 = .ok (.iload_n 3, 1) := dk_29 (dk_at dksX14_init_1 5 rfl rfl)
theorem dX14_init_29 : decode cX14_init 29 = .ok (.invokevirtual 22, 3) := dk_182 0 22 (dk_at dksX14_init_1 6 rfl rfl)
theorem dX14_init_32 : decode cX14_init 32 = .ok (.iload 4, 2) := dk_21 4 (dk_at dksX14_init_1 9 rfl rfl)
theorem dX14_init_34 : decode cX14_init 34 = .ok (.iadd, 1) := dk_96 (dk_at dksX14_init_1 11 rfl rfl)
theorem dX14_init_35 : decode cX14_init 35 = .ok (.putfield 28, 3) := dk_181 0 28 (dk_at dksX14_init_1 12 rfl rfl)
theorem dX14_init_38 : decode cX14_init 38 = .ok (.aload_n 0, 1) := dk_42 (dk_at dksX14_init_1 15 rfl rfl)
theorem dX14_init_39 : decode cX14_init 39 = .ok (.aload_n 1, 1) := dk_43 (dk_at dksX14_init_1 16 rfl rfl)
theorem dX14_init_40 : decode cX14_init 40 = .ok (.getfield 30, 3) := dk_180 0 30 (dk_at dksX14_init_1 17 rfl rfl)
theorem dX14_init_43 : decode cX14_init 43 = .ok (.iload_n 2, 1) := dk_28 (dk_at dksX14_init_1 20 rfl rfl)
theorem dX14_init_44 : decode cX14_init 44 = .ok (.iaload, 1) := dk_46 (dk_at dksX14_init_1 21 rfl rfl)
theorem dX14_init_45 : decode cX14_init 45 = .ok (.putfield 34, 3) := dk_181 0 34 (dk_at dksX14_init_2 0 rfl rfl)
theorem dX14_init_48 : decode cX14_init 48 = .ok (.aload_n 0, 1) := dk_42 (dk_at dksX14_init_2 3 rfl rfl)
theorem dX14_init_49 : decode cX14_init 49 = .ok (.aload_n 1, 1) := dk_43 (dk_at dksX14_init_2 4 rfl rfl)
theorem dX14_init_50 : decode cX14_init 50 = .ok (.getfield 37, 3) := dk_180 0 37 (dk_at dksX14_init_2 5 rfl rfl)
theorem dX14_init_53 : decode cX14_init 53 = .ok (.iload_n 2, 1) := dk_28 (dk_at dksX14_init_2 8 rfl rfl)
theorem dX14_init_54 : decode cX14_init 54 = .ok (.iaload, 1) := dk_46 (dk_at dksX14_init_2 9 rfl rfl)
theorem dX14_init_55 : decode cX14_init 55 = .ok (.putfield 40, 3) := dk_181 0 40 (dk_at dksX14_init_2 10 rfl rfl)
theorem dX14_init_58 : decode cX14_init 58 = .ok (.aload_n 0, 1) := dk_42 (dk_at dksX14_init_2 13 rfl rfl)
theorem dX14_init_59 : decode cX14_init 59 = .ok (.aload_n 1, 1) := dk_43 (dk_at dksX14_init_2 14 rfl rfl)
theorem dX14_init_60 : decode cX14_init 60 = .ok (.getfield 30, 3) := dk_180 0 30 (dk_at dksX14_init_2 15 rfl rfl)
theorem dX14_init_63 : decode cX14_init 63 = .ok (.iload 5, 2) := dk_21 5 (dk_at dksX14_init_2 18 rfl rfl)
theorem dX14_init_65 : decode cX14_init 65 = .ok (.iaload, 1) := dk_46 (dk_at dksX14_init_2 20 rfl rfl)
theorem dX14_init_66 : decode cX14_init 66 = .ok (.putfield 43, 3) := dk_181 0 43 (dk_at dksX14_init_2 21 rfl rfl)
theorem dX14_init_69 : decode cX14_init 69 = .ok (.aload_n 0, 1) := dk_42 (dk_at dksX14_init_3 0 rfl rfl)
theorem dX14_init_70 : decode cX14_init 70 = .ok (.aload_n 1, 1) := dk_43 (dk_at dksX14_init_3 1 rfl rfl)
theorem dX14_init_71 : decode cX14_init 71 = .ok (.getfield 37, 3) := dk_180 0 37 (dk_at dksX14_init_3 2 rfl rfl)
theorem dX14_init_74 : decode cX14_init 74 = .ok (.iload 5, 2) := dk_21 5 (dk_at dksX14_init_3 5 rfl rfl)
theorem dX14_init_76 : decode cX14_init 76 = .ok (.iaload, 1) := dk_46 (dk_at dksX14_init_3 7 rfl rfl)
theorem dX14_init_77 : decode cX14_init 77 = .ok (.putfield 46, 3) := dk_181 0 46 (dk_at dksX14_init_3 8 rfl rfl)
theorem dX14_init_80 : decode cX14_init 80 = .ok (.return_, 1) := dk_177 (dk_at dksX14_init_3 11 rfl rfl)
theorem q112 : (Jvm.Cond.initialized "HeavyGifts$Gift") ∈ lw_all := lw_g (lw_at lw_m1 37 rfl) rfl
theorem q516 : (Jvm.Cond.fieldLinkNest "HeavyGifts$Gift" (30 : Nat) "HeavyGifts$State" "owes" "[I" "HeavyGifts") ∈ lw_tbl := lw_at lw_m2 201 rfl
theorem q520 : (Jvm.Cond.fieldLinkNest "HeavyGifts$Gift" (37 : Nat) "HeavyGifts$State" "to" "[I" "HeavyGifts") ∈ lw_tbl := lw_at lw_m2 205 rfl
theorem q664 : (Jvm.Cond.instantiable "HeavyGifts$Gift" (9 : Nat)) ∈ lw_all := lw_g (lw_at lw_m3 109 rfl) rfl
theorem q666 : (Jvm.Cond.instanceMethod ({ cls := "HeavyGifts$Gift", name := "<init>", desc := "(LHeavyGifts$State;IIII)V" } : Jvm.MethodName)) ∈ lw_all := lw_g (lw_at lw_m3 111 rfl) rfl
theorem q667 : (Jvm.Cond.code ({ cls := "HeavyGifts$Gift", name := "<init>", desc := "(LHeavyGifts$State;IIII)V" } : Jvm.MethodName) prog_6_method_1_code (6 : Nat) (Option.none : Option Jvm.ClassFile.FieldType)) ∈ lw_all := lw_g (lw_at lw_m3 112 rfl) rfl
theorem q668 : (Jvm.Cond.methodLink "HeavyGifts$Gift" (1 : Nat) ({ cls := "java/lang/Object", name := "<init>", desc := "()V" } : Jvm.MethodName)) ∈ lw_all := lw_g (lw_at lw_m3 113 rfl) rfl
theorem q669 : (Jvm.Cond.methodLink "HeavyGifts$Gift" (22 : Nat) ({ cls := "HeavyGifts$State", name := "weight", desc := "(I)I" } : Jvm.MethodName)) ∈ lw_all := lw_g (lw_at lw_m3 114 rfl) rfl
theorem q670 : (Jvm.Cond.fieldLink "HeavyGifts$Gift" (7 : Nat) "HeavyGifts$Gift" "by" "I") ∈ lw_all := lw_g (lw_at lw_m3 115 rfl) rfl
theorem q672 : (Jvm.Cond.fieldLink "HeavyGifts$Gift" (13 : Nat) "HeavyGifts$Gift" "set" "I") ∈ lw_all := lw_g (lw_at lw_m3 117 rfl) rfl
theorem q674 : (Jvm.Cond.fieldLink "HeavyGifts$Gift" (16 : Nat) "HeavyGifts$Gift" "sand" "I") ∈ lw_all := lw_g (lw_at lw_m3 119 rfl) rfl
theorem q676 : (Jvm.Cond.fieldLink "HeavyGifts$Gift" (19 : Nat) "HeavyGifts$Gift" "other" "I") ∈ lw_all := lw_g (lw_at lw_m3 121 rfl) rfl
theorem q678 : (Jvm.Cond.fieldLink "HeavyGifts$Gift" (28 : Nat) "HeavyGifts$Gift" "weight" "I") ∈ lw_all := lw_g (lw_at lw_m3 123 rfl) rfl
theorem q680 : (Jvm.Cond.fieldLink "HeavyGifts$Gift" (34 : Nat) "HeavyGifts$Gift" "owed" "I") ∈ lw_all := lw_g (lw_at lw_m3 125 rfl) rfl
theorem q682 : (Jvm.Cond.fieldLink "HeavyGifts$Gift" (40 : Nat) "HeavyGifts$Gift" "owedTo" "I") ∈ lw_all := lw_g (lw_at lw_m3 127 rfl) rfl
theorem q684 : (Jvm.Cond.fieldLink "HeavyGifts$Gift" (43 : Nat) "HeavyGifts$Gift" "otherOwed" "I") ∈ lw_all := lw_g (lw_at lw_m3 129 rfl) rfl
theorem q686 : (Jvm.Cond.fieldLink "HeavyGifts$Gift" (46 : Nat) "HeavyGifts$Gift" "otherTo" "I") ∈ lw_all := lw_g (lw_at lw_m3 131 rfl) rfl
theorem q688 : (Jvm.Cond.laysFinal "HeavyGifts$Gift" "HeavyGifts$Gift" "by" "I") ∈ lw_all := lw_g (lw_at lw_m3 133 rfl) rfl
theorem q689 : (Jvm.Cond.soleField "HeavyGifts$Gift" "by") ∈ lw_all := lw_g (lw_at lw_m3 134 rfl) rfl
theorem q690 : (Jvm.Cond.laysFinal "HeavyGifts$Gift" "HeavyGifts$Gift" "set" "I") ∈ lw_all := lw_g (lw_at lw_m3 135 rfl) rfl
theorem q691 : (Jvm.Cond.soleField "HeavyGifts$Gift" "set") ∈ lw_all := lw_g (lw_at lw_m3 136 rfl) rfl
theorem q692 : (Jvm.Cond.laysFinal "HeavyGifts$Gift" "HeavyGifts$Gift" "sand" "I") ∈ lw_all := lw_g (lw_at lw_m3 137 rfl) rfl
theorem q693 : (Jvm.Cond.soleField "HeavyGifts$Gift" "sand") ∈ lw_all := lw_g (lw_at lw_m3 138 rfl) rfl
theorem q694 : (Jvm.Cond.laysFinal "HeavyGifts$Gift" "HeavyGifts$Gift" "other" "I") ∈ lw_all := lw_g (lw_at lw_m3 139 rfl) rfl
theorem q695 : (Jvm.Cond.soleField "HeavyGifts$Gift" "other") ∈ lw_all := lw_g (lw_at lw_m3 140 rfl) rfl
theorem q696 : (Jvm.Cond.laysFinal "HeavyGifts$Gift" "HeavyGifts$Gift" "weight" "I") ∈ lw_all := lw_g (lw_at lw_m3 141 rfl) rfl
theorem q697 : (Jvm.Cond.soleField "HeavyGifts$Gift" "weight") ∈ lw_all := lw_g (lw_at lw_m3 142 rfl) rfl
theorem q698 : (Jvm.Cond.laysFinal "HeavyGifts$Gift" "HeavyGifts$Gift" "owed" "I") ∈ lw_all := lw_g (lw_at lw_m3 143 rfl) rfl
theorem q699 : (Jvm.Cond.soleField "HeavyGifts$Gift" "owed") ∈ lw_all := lw_g (lw_at lw_m3 144 rfl) rfl
theorem q700 : (Jvm.Cond.laysFinal "HeavyGifts$Gift" "HeavyGifts$Gift" "owedTo" "I") ∈ lw_all := lw_g (lw_at lw_m3 145 rfl) rfl
theorem q701 : (Jvm.Cond.soleField "HeavyGifts$Gift" "owedTo") ∈ lw_all := lw_g (lw_at lw_m3 146 rfl) rfl
theorem q702 : (Jvm.Cond.laysFinal "HeavyGifts$Gift" "HeavyGifts$Gift" "otherOwed" "I") ∈ lw_all := lw_g (lw_at lw_m3 147 rfl) rfl
theorem q703 : (Jvm.Cond.soleField "HeavyGifts$Gift" "otherOwed") ∈ lw_all := lw_g (lw_at lw_m3 148 rfl) rfl
theorem q704 : (Jvm.Cond.laysFinal "HeavyGifts$Gift" "HeavyGifts$Gift" "otherTo" "I") ∈ lw_all := lw_g (lw_at lw_m3 149 rfl) rfl
theorem q705 : (Jvm.Cond.soleField "HeavyGifts$Gift" "otherTo") ∈ lw_all := lw_g (lw_at lw_m3 150 rfl) rfl
theorem q706 : (Jvm.Cond.superclass "HeavyGifts$Gift" "java/lang/Object") ∈ lw_all := lw_g (lw_at lw_m3 151 rfl) rfl
theorem q737 : (Jvm.Cond.selects "HeavyGifts$Gift" ({ cls := "java/lang/Object", name := "getClass", desc := "()Ljava/lang/Class;" } : Jvm.MethodName) ({ cls := "java/lang/Object", name := "getClass", desc := "()Ljava/lang/Class;" } : Jvm.MethodName)) ∈ lw_all := lw_g (lw_at lw_m3 182 rfl) rfl
theorem q1890 : (Jvm.Cond.castable "HeavyGifts$Gift" "java/lang/Object") ∈ lw_tbl := lw_at lw_m8 135 rfl
theorem in_X14 : ∀ w ∈ wsX140, w ∈ lw_all := lw_in wsX140 [688, 690, 692, 694, 696, 698, 700, 702, 704] (by decide +kernel) (by decide +kernel)
/-! HeavyGifts -/
set_option maxRecDepth 100000
def RX1 : String := "HeavyGifts"
def TX1 : u_T := fun k => match k with
  | 0 => ("HeavyGifts", "town", "LHeavyGifts$Town;", false)
  | 1 => ("HeavyGifts", "book", "LHeavyGifts$Book;", false)
  | 2 => ("HeavyGifts", "apart", "LHeavyGifts$State;", true)
  | 3 => ("HeavyGifts", "tape", "[B", true)
  | 4 => ("HeavyGifts", "taped", "I", false)
  | 5 => ("HeavyGifts", "faultPlace", "I", false)
  | 6 => ("HeavyGifts", "below", "[LHeavyGifts$State;", true)
  | 7 => ("HeavyGifts", "order", "[I", true)
  | 8 => ("HeavyGifts", "tried", "[I", true)
  | 9 => ("HeavyGifts", "ordered", "I", false)
  | 10 => ("HeavyGifts", "tries", "I", false)
  | 11 => ("HeavyGifts", "most", "I", false)
  | 12 => ("HeavyGifts", "states", "[LHeavyGifts$State;", true)
  | 13 => ("HeavyGifts", "far", "[I", true)
  | 14 => ("HeavyGifts", "table", "[I", true)
  | 15 => ("HeavyGifts", "many", "I", false)
  | 16 => ("HeavyGifts", "isSpent", "Z", false)
  | 17 => ("HeavyGifts", "made", "[J", true)
  | _ => ("HeavyGifts", "image", "LHeavyGifts$Book;", false)
def tyX1 : Nat → FieldType := fun k => match k with
  | 0 => .object "HeavyGifts$Town"
  | 1 => .object "HeavyGifts$Book"
  | 2 => .object "HeavyGifts$State"
  | 3 => .array .byte
  | 4 => .int
  | 5 => .int
  | 6 => .array (.object "HeavyGifts$State")
  | 7 => .array .int
  | 8 => .array .int
  | 9 => .int
  | 10 => .int
  | 11 => .int
  | 12 => .array (.object "HeavyGifts$State")
  | 13 => .array .int
  | 14 => .array .int
  | 15 => .int
  | 16 => .boolean
  | 17 => .array .long
  | _ => .object "HeavyGifts$Book"
abbrev wsX10 : List Cond := u_ws RX1 TX1 19
set_option maxRecDepth 100000 in
theorem nmX1 : ∀ a, a < 19 → ∀ b, b < 19 → a ≠ b → (TX1 a).2.1 ≠ (TX1 b).2.1 := by decide +kernel
set_option maxRecDepth 100000 in
theorem tyX1_ok : ∀ k, k < 19 → parseFieldDescriptor (TX1 k).2.2.1 = some (tyX1 k) := by decide +kernel
abbrev cX1_init : ByteArray := prog_1_method_1_code
def yX1_init : MethodName := ⟨RX1, "<init>", "()V"⟩
def dkwX1_init_7 : List UInt8 := [181, 0, 52, 42, 17, 16, 0, 188, 10, 181, 0, 55, 42, 16, 20, 188, 11, 181, 0, 58, 177]
abbrev dktX1_init_7 : List UInt8 := dkwX1_init_7 ++ []
def dkwX1_init_6 : List UInt8 := [16, 6, 188, 10, 181, 0, 46, 42, 17, 3, 232, 189, 0, 23, 181, 0, 49, 42, 17, 3, 232, 188, 10]
abbrev dktX1_init_6 : List UInt8 := dkwX1_init_6 ++ dktX1_init_7
def dkwX1_init_5 : List UInt8 := [89, 16, 6, 187, 0, 23, 89, 183, 0, 25, 83, 181, 0, 38, 42, 16, 6, 188, 10, 181, 0, 42, 42]
abbrev dktX1_init_5 : List UInt8 := dkwX1_init_5 ++ dktX1_init_6
def dkwX1_init_4 : List UInt8 := [183, 0, 25, 83, 89, 7, 187, 0, 23, 89, 183, 0, 25, 83, 89, 8, 187, 0, 23, 89, 183, 0, 25, 83]
abbrev dktX1_init_4 : List UInt8 := dkwX1_init_4 ++ dktX1_init_5
def dkwX1_init_3 : List UInt8 := [187, 0, 23, 89, 183, 0, 25, 83, 89, 5, 187, 0, 23, 89, 183, 0, 25, 83, 89, 6, 187, 0, 23, 89]
abbrev dktX1_init_3 : List UInt8 := dkwX1_init_3 ++ dktX1_init_4
def dkwX1_init_2 : List UInt8 := [2, 181, 0, 34, 42, 16, 7, 189, 0, 23, 89, 3, 187, 0, 23, 89, 183, 0, 25, 83, 89, 4]
abbrev dktX1_init_2 : List UInt8 := dkwX1_init_2 ++ dktX1_init_3
def dkwX1_init_1 : List UInt8 := [181, 0, 19, 42, 187, 0, 23, 89, 183, 0, 25, 181, 0, 26, 42, 17, 2, 188, 188, 8, 181, 0, 30, 42]
abbrev dktX1_init_1 : List UInt8 := dkwX1_init_1 ++ dktX1_init_2
def dkwX1_init_0 : List UInt8 := [42, 183, 0, 1, 42, 187, 0, 7, 89, 183, 0, 9, 181, 0, 10, 42, 187, 0, 16, 89, 183, 0, 18]
abbrev dktX1_init_0 : List UInt8 := dkwX1_init_0 ++ dktX1_init_1
theorem dksX1_init_0 : cX1_init.data.toList.drop 0 = dktX1_init_0 := by decide +kernel
theorem dksX1_init_1 : cX1_init.data.toList.drop 23 = dktX1_init_1 := dk_seg dksX1_init_0 23 rfl rfl
theorem dksX1_init_2 : cX1_init.data.toList.drop 47 = dktX1_init_2 := dk_seg dksX1_init_1 24 rfl rfl
theorem dksX1_init_3 : cX1_init.data.toList.drop 69 = dktX1_init_3 := dk_seg dksX1_init_2 22 rfl rfl
theorem dksX1_init_4 : cX1_init.data.toList.drop 93 = dktX1_init_4 := dk_seg dksX1_init_3 24 rfl rfl
theorem dksX1_init_5 : cX1_init.data.toList.drop 117 = dktX1_init_5 := dk_seg dksX1_init_4 24 rfl rfl
theorem dksX1_init_6 : cX1_init.data.toList.drop 140 = dktX1_init_6 := dk_seg dksX1_init_5 23 rfl rfl
theorem dksX1_init_7 : cX1_init.data.toList.drop 163 = dktX1_init_7 := dk_seg dksX1_init_6 23 rfl rfl
theorem dX1_init_0 : decode cX1_init 0 = .ok (.aload_n 0, 1) := dk_42 (dk_at dksX1_init_0 0 rfl rfl)
theorem dX1_init_1 : decode cX1_init 1 = .ok (.invokespecial 1, 3) := dk_183 0 1 (dk_at dksX1_init_0 1 rfl rfl)
theorem dX1_init_4 : decode cX1_init 4 = .ok (.aload_n 0, 1) := dk_42 (dk_at dksX1_init_0 4 rfl rfl)
theorem dX1_init_5 : decode cX1_init 5 = .ok (.new 7, 3) := dk_187 0 7 (dk_at dksX1_init_0 5 rfl rfl)
theorem dX1_init_8 : decode cX1_init 8 = .ok (.dup, 1) := dk_89 (dk_at dksX1_init_0 8 rfl rfl)
theorem dX1_init_9 : decode cX1_init 9 = .ok (.invokespecial 9, 3) := dk_183 0 9 (dk_at dksX1_init_0 9 rfl rfl)
theorem dX1_init_12 : decode cX1_init 12 = .ok (.putfield 10, 3) := dk_181 0 10 (dk_at dksX1_init_0 12 rfl rfl)
theorem dX1_init_15 : decode cX1_init 15 = .ok (.aload_n 0, 1) := dk_42 (dk_at dksX1_init_0 15 rfl rfl)
theorem dX1_init_16 : decode cX1_init 16 = .ok (.new 16, 3) := dk_187 0 16 (dk_at dksX1_init_0 16 rfl rfl)
theorem dX1_init_19 : decode cX1_init 19 = .ok (.dup, 1) := dk_89 (dk_at dksX1_init_0 19 rfl rfl)
theorem dX1_init_20 : decode cX1_init 20 = .ok (.invokespecial 18, 3) := dk_183 0 18 (dk_at dksX1_init_0 20 rfl rfl)
theorem dX1_init_23 : decode cX1_init 23 = .ok (.putfield 19, 3) := dk_181 0 19 (dk_at dksX1_init_1 0 rfl rfl)
theorem dX1_init_26 : decode cX1_init 26 = .ok (.aload_n 0, 1) := dk_42 (dk_at dksX1_init_1 3 rfl rfl)
theorem dX1_init_27 : decode cX1_init 27 = .ok (.new 23, 3) := dk_187 0 23 (dk_at dksX1_init_1 4 rfl rfl)
theorem dX1_init_30 : decode cX1_init 30 = .ok (.dup, 1) := dk_89 (dk_at dksX1_init_1 7 rfl rfl)
theorem dX1_init_31 : decode cX1_init 31 = .ok (.invokespecial 25, 3) := dk_183 0 25 (dk_at dksX1_init_1 8 rfl rfl)
theorem dX1_init_34 : decode cX1_init 34 = .ok (.putfield 26, 3) := dk_181 0 26 (dk_at dksX1_init_1 11 rfl rfl)
theorem dX1_init_37 : decode cX1_init 37 = .ok (.aload_n 0, 1) := dk_42 (dk_at dksX1_init_1 14 rfl rfl)
theorem dX1_init_38 : decode cX1_init 38 = .ok (.sipush 700, 3) := dk_17 2 188 (dk_at dksX1_init_1 15 rfl rfl)
theorem dX1_init_41 : decode cX1_init 41 = .ok (.newarray .byte, 2) := dk_188_8 (dk_at dksX1_init_1 18 rfl rfl)
theorem dX1_init_43 : decode cX1_init 43 = .ok (.putfield 30, 3) := dk_181 0 30 (dk_at dksX1_init_1 20 rfl rfl)
theorem dX1_init_46 : decode cX1_init 46 = .ok (.aload_n 0, 1) := dk_42 (dk_at dksX1_init_1 23 rfl rfl)
theorem dX1_init_47 : decode cX1_init 47 = .ok (.iconst (-1), 1) := dk_2 (dk_at dksX1_init_2 0 rfl rfl)
theorem dX1_init_48 : decode cX1_init 48 = .ok (.putfield 34, 3) := dk_181 0 34 (dk_at dksX1_init_2 1 rfl rfl)
theorem dX1_init_51 : decode cX1_init 51 = .ok (.aload_n 0, 1) := dk_42 (dk_at dksX1_init_2 4 rfl rfl)
theorem dX1_init_52 : decode cX1_init 52 = .ok (.bipush 7, 2) := dk_16 7 (dk_at dksX1_init_2 5 rfl rfl)
theorem dX1_init_54 : decode cX1_init 54 = .ok (.anewarray 23, 3) := dk_189 0 23 (dk_at dksX1_init_2 7 rfl rfl)
theorem dX1_init_57 : decode cX1_init 57 = .ok (.dup, 1) := dk_89 (dk_at dksX1_init_2 10 rfl rfl)
theorem dX1_init_58 : decode cX1_init 58 = .ok (.iconst 0, 1) := dk_3 (dk_at dksX1_init_2 11 rfl rfl)
theorem dX1_init_59 : decode cX1_init 59 = .ok (.new 23, 3) := dk_187 0 23 (dk_at dksX1_init_2 12 rfl rfl)
theorem dX1_init_62 : decode cX1_init 62 = .ok (.dup, 1) := dk_89 (dk_at dksX1_init_2 15 rfl rfl)
theorem dX1_init_63 : decode cX1_init 63 = .ok (.invokespecial 25, 3) := dk_183 0 25 (dk_at dksX1_init_2 16 rfl rfl)
theorem dX1_init_66 : decode cX1_init 66 = .ok (.aastore, 1) := dk_83 (dk_at dksX1_init_2 19 rfl rfl)
theorem dX1_init_67 : decode cX1_init 67 = .ok (.dup, 1) := dk_89 (dk_at dksX1_init_2 20 rfl rfl)
theorem dX1_init_68 : decode cX1_init 68 = .ok (.iconst 1, 1) := dk_4 (dk_at dksX1_init_2 21 rfl rfl)
theorem dX1_init_69 : decode cX1_init 69 = .ok (.new 23, 3) := dk_187 0 23 (dk_at dksX1_init_3 0 rfl rfl)
theorem dX1_init_72 : decode cX1_init 72 = .ok (.dup, 1) := dk_89 (dk_at dksX1_init_3 3 rfl rfl)
theorem dX1_init_73 : decode cX1_init 73 = .ok (.invokespecial 25, 3) := dk_183 0 25 (dk_at dksX1_init_3 4 rfl rfl)
theorem dX1_init_76 : decode cX1_init 76 = .ok (.aastore, 1) := dk_83 (dk_at dksX1_init_3 7 rfl rfl)
theorem dX1_init_77 : decode cX1_init 77 = .ok (.dup, 1) := dk_89 (dk_at dksX1_init_3 8 rfl rfl)
theorem dX1_init_78 : decode cX1_init 78 = .ok (.iconst 2, 1) := dk_5 (dk_at dksX1_init_3 9 rfl rfl)
theorem dX1_init_79 : decode cX1_init 79 = .ok (.new 23, 3) := dk_187 0 23 (dk_at dksX1_init_3 10 rfl rfl)
theorem dX1_init_82 : decode cX1_init 82 = .ok (.dup, 1) := dk_89 (dk_at dksX1_init_3 13 rfl rfl)
theorem dX1_init_83 : decode cX1_init 83 = .ok (.invokespecial 25, 3) := dk_183 0 25 (dk_at dksX1_init_3 14 rfl rfl)
theorem dX1_init_86 : decode cX1_init 86 = .ok (.aastore, 1) := dk_83 (dk_at dksX1_init_3 17 rfl rfl)
theorem dX1_init_87 : decode cX1_init 87 = .ok (.dup, 1) := dk_89 (dk_at dksX1_init_3 18 rfl rfl)
theorem dX1_init_88 : decode cX1_init 88 = .ok (.iconst 3, 1) := dk_6 (dk_at dksX1_init_3 19 rfl rfl)
theorem dX1_init_89 : decode cX1_init 89 = .ok (.new 23, 3) := dk_187 0 23 (dk_at dksX1_init_3 20 rfl rfl)
theorem dX1_init_92 : decode cX1_init 92 = .ok (.dup, 1) := dk_89 (dk_at dksX1_init_3 23 rfl rfl)
theorem dX1_init_93 : decode cX1_init 93 = .ok (.invokespecial 25, 3) := dk_183 0 25 (dk_at dksX1_init_4 0 rfl rfl)
theorem dX1_init_96 : decode cX1_init 96 = .ok (.aastore, 1) := dk_83 (dk_at dksX1_init_4 3 rfl rfl)
theorem dX1_init_97 : decode cX1_init 97 = .ok (.dup, 1) := dk_89 (dk_at dksX1_init_4 4 rfl rfl)
theorem dX1_init_98 : decode cX1_init 98 = .ok (.iconst 4, 1) := dk_7 (dk_at dksX1_init_4 5 rfl rfl)
theorem dX1_init_99 : decode cX1_init 99 = .ok (.new 23, 3) := dk_187 0 23 (dk_at dksX1_init_4 6 rfl rfl)
theorem dX1_init_102 : decode cX1_init 102 = .ok (.dup, 1) := dk_89 (dk_at dksX1_init_4 9 rfl rfl)
theorem dX1_init_103 : decode cX1_init 103 = .ok (.invokespecial 25, 3) := dk_183 0 25 (dk_at dksX1_init_4 10 rfl rfl)
theorem dX1_init_106 : decode cX1_init 106 = .ok (.aastore, 1) := dk_83 (dk_at dksX1_init_4 13 rfl rfl)
theorem dX1_init_107 : decode cX1_init 107 = .ok (.dup, 1) := dk_89 (dk_at dksX1_init_4 14 rfl rfl)
theorem dX1_init_108 : decode cX1_init 108 = .ok (.iconst 5, 1) := dk_8 (dk_at dksX1_init_4 15 rfl rfl)
theorem dX1_init_109 : decode cX1_init 109 = .ok (.new 23, 3) := dk_187 0 23 (dk_at dksX1_init_4 16 rfl rfl)
theorem dX1_init_112 : decode cX1_init 112 = .ok (.dup, 1) := dk_89 (dk_at dksX1_init_4 19 rfl rfl)
theorem dX1_init_113 : decode cX1_init 113 = .ok (.invokespecial 25, 3) := dk_183 0 25 (dk_at dksX1_init_4 20 rfl rfl)
theorem dX1_init_116 : decode cX1_init 116 = .ok (.aastore, 1) := dk_83 (dk_at dksX1_init_4 23 rfl rfl)
theorem dX1_init_117 : decode cX1_init 117 = .ok (.dup, 1) := dk_89 (dk_at dksX1_init_5 0 rfl rfl)
theorem dX1_init_118 : decode cX1_init 118 = .ok (.bipush 6, 2) := dk_16 6 (dk_at dksX1_init_5 1 rfl rfl)
theorem dX1_init_120 : decode cX1_init 120 = .ok (.new 23, 3) := dk_187 0 23 (dk_at dksX1_init_5 3 rfl rfl)
theorem dX1_init_123 : decode cX1_init 123 = .ok (.dup, 1) := dk_89 (dk_at dksX1_init_5 6 rfl rfl)
theorem dX1_init_124 : decode cX1_init 124 = .ok (.invokespecial 25, 3) := dk_183 0 25 (dk_at dksX1_init_5 7 rfl rfl)
theorem dX1_init_127 : decode cX1_init 127 = .ok (.aastore, 1) := dk_83 (dk_at dksX1_init_5 10 rfl rfl)
theorem dX1_init_128 : decode cX1_init 128 = .ok (.putfield 38, 3) := dk_181 0 38 (dk_at dksX1_init_5 11 rfl rfl)
theorem dX1_init_131 : decode cX1_init 131 = .ok (.aload_n 0, 1) := dk_42 (dk_at dksX1_init_5 14 rfl rfl)
theorem dX1_init_132 : decode cX1_init 132 = .ok (.bipush 6, 2) := dk_16 6 (dk_at dksX1_init_5 15 rfl rfl)
theorem dX1_init_134 : decode cX1_init 134 = .ok (.newarray .int, 2) := dk_188_10 (dk_at dksX1_init_5 17 rfl rfl)
theorem dX1_init_136 : decode cX1_init 136 = .ok (.putfield 42, 3) := dk_181 0 42 (dk_at dksX1_init_5 19 rfl rfl)
theorem dX1_init_139 : decode cX1_init 139 = .ok (.aload_n 0, 1) := dk_42 (dk_at dksX1_init_5 22 rfl rfl)
theorem dX1_init_140 : decode cX1_init 140 = .ok (.bipush 6, 2) := dk_16 6 (dk_at dksX1_init_6 0 rfl rfl)
theorem dX1_init_142 : decode cX1_init 142 = .ok (.newarray .int, 2) := dk_188_10 (dk_at dksX1_init_6 2 rfl rfl)
theorem dX1_init_144 : decode cX1_init 144 = .ok (.putfield 46, 3) := dk_181 0 46 (dk_at dksX1_init_6 4 rfl rfl)
theorem dX1_init_147 : decode cX1_init 147 = .ok (.aload_n 0, 1) := dk_42 (dk_at dksX1_init_6 7 rfl rfl)
theorem dX1_init_148 : decode cX1_init 148 = .ok (.sipush 1000, 3) := dk_17 3 232 (dk_at dksX1_init_6 8 rfl rfl)
theorem dX1_init_151 : decode cX1_init 151 = .ok (.anewarray 23, 3) := dk_189 0 23 (dk_at dksX1_init_6 11 rfl rfl)
theorem dX1_init_154 : decode cX1_init 154 = .ok (.putfield 49, 3) := dk_181 0 49 (dk_at dksX1_init_6 14 rfl rfl)
theorem dX1_init_157 : decode cX1_init 157 = .ok (.aload_n 0, 1) := dk_42 (dk_at dksX1_init_6 17 rfl rfl)
theorem dX1_init_158 : decode cX1_init 158 = .ok (.sipush 1000, 3) := dk_17 3 232 (dk_at dksX1_init_6 18 rfl rfl)
theorem dX1_init_161 : decode cX1_init 161 = .ok (.newarray .int, 2) := dk_188_10 (dk_at dksX1_init_6 21 rfl rfl)
theorem dX1_init_163 : decode cX1_init 163 = .ok (.putfield 52, 3) := dk_181 0 52 (dk_at dksX1_init_7 0 rfl rfl)
theorem dX1_init_166 : decode cX1_init 166 = .ok (.aload_n 0, 1) := dk_42 (dk_at dksX1_init_7 3 rfl rfl)
theorem dX1_init_167 : decode cX1_init 167 = .ok (.sipush 4096, 3) := dk_17 16 0 (dk_at dksX1_init_7 4 rfl rfl)
theorem dX1_init_170 : decode cX1_init 170 = .ok (.newarray .int, 2) := dk_188_10 (dk_at dksX1_init_7 7 rfl rfl)
theorem dX1_init_172 : decode cX1_init 172 = .ok (.putfield 55, 3) := dk_181 0 55 (dk_at dksX1_init_7 9 rfl rfl)
theorem dX1_init_175 : decode cX1_init 175 = .ok (.aload_n 0, 1) := dk_42 (dk_at dksX1_init_7 12 rfl rfl)
theorem dX1_init_176 : decode cX1_init 176 = .ok (.bipush 20, 2) := dk_16 20 (dk_at dksX1_init_7 13 rfl rfl)
theorem dX1_init_178 : decode cX1_init 178 = .ok (.newarray .long, 2) := dk_188_11 (dk_at dksX1_init_7 15 rfl rfl)
theorem dX1_init_180 : decode cX1_init 180 = .ok (.putfield 58, 3) := dk_181 0 58 (dk_at dksX1_init_7 17 rfl rfl)
theorem dX1_init_183 : decode cX1_init 183 = .ok (.return_, 1) := dk_177 (dk_at dksX1_init_7 20 rfl rfl)
abbrev cX1_feed : ByteArray := prog_1_method_7_code
def yX1_feed : MethodName := ⟨RX1, "feed", "(IIIII)I"⟩
def dkwX1_feed_2 : List UInt8 := [172]
abbrev dktX1_feed_2 : List UInt8 := dkwX1_feed_2 ++ []
def dkwX1_feed_1 : List UInt8 := [182, 0, 89, 42, 29, 182, 0, 89, 42, 21, 4, 182, 0, 89, 42, 21, 5, 182, 0, 89, 42, 180, 0, 86]
abbrev dktX1_feed_1 : List UInt8 := dkwX1_feed_1 ++ dktX1_feed_2
def dkwX1_feed_0 : List UInt8 := [42, 180, 0, 86, 16, 20, 96, 17, 2, 188, 164, 0, 5, 2, 172, 42, 27, 182, 0, 89, 42, 28]
abbrev dktX1_feed_0 : List UInt8 := dkwX1_feed_0 ++ dktX1_feed_1
theorem dksX1_feed_0 : cX1_feed.data.toList.drop 0 = dktX1_feed_0 := by decide +kernel
theorem dksX1_feed_1 : cX1_feed.data.toList.drop 22 = dktX1_feed_1 := dk_seg dksX1_feed_0 22 rfl rfl
theorem dksX1_feed_2 : cX1_feed.data.toList.drop 46 = dktX1_feed_2 := dk_seg dksX1_feed_1 24 rfl rfl
theorem dX1_feed_0 : decode cX1_feed 0 = .ok (.aload_n 0, 1) := dk_42 (dk_at dksX1_feed_0 0 rfl rfl)
theorem dX1_feed_1 : decode cX1_feed 1 = .ok (.getfield 86, 3) := dk_180 0 86 (dk_at dksX1_feed_0 1 rfl rfl)
theorem dX1_feed_4 : decode cX1_feed 4 = .ok (.bipush 20, 2) := dk_16 20 (dk_at dksX1_feed_0 4 rfl rfl)
theorem dX1_feed_6 : decode cX1_feed 6 = .ok (.iadd, 1) := dk_96 (dk_at dksX1_feed_0 6 rfl rfl)
theorem dX1_feed_7 : decode cX1_feed 7 = .ok (.sipush 700, 3) := dk_17 2 188 (dk_at dksX1_feed_0 7 rfl rfl)
theorem dX1_feed_10 : decode cX1_feed 10 = .ok (.if_icmp .le 5, 3) := dk_164 0 5 (dk_at dksX1_feed_0 10 rfl rfl)
theorem dX1_feed_13 : decode cX1_feed 13 = .ok (.iconst (-1), 1) := dk_2 (dk_at dksX1_feed_0 13 rfl rfl)
theorem dX1_feed_14 : decode cX1_feed 14 = .ok (.ireturn, 1) := dk_172 (dk_at dksX1_feed_0 14 rfl rfl)
theorem dX1_feed_15 : decode cX1_feed 15 = .ok (.aload_n 0, 1) := dk_42 (dk_at dksX1_feed_0 15 rfl rfl)
theorem dX1_feed_16 : decode cX1_feed 16 = .ok (.iload_n 1, 1) := dk_27 (dk_at dksX1_feed_0 16 rfl rfl)
theorem dX1_feed_17 : decode cX1_feed 17 = .ok (.invokevirtual 89, 3) := dk_182 0 89 (dk_at dksX1_feed_0 17 rfl rfl)
theorem dX1_feed_20 : decode cX1_feed 20 = .ok (.aload_n 0, 1) := dk_42 (dk_at dksX1_feed_0 20 rfl rfl)
theorem dX1_feed_21 : decode cX1_feed 21 = .ok (.iload_n 2, 1) := dk_28 (dk_at dksX1_feed_0 21 rfl rfl)
theorem dX1_feed_22 : decode cX1_feed 22 = .ok (.invokevirtual 89, 3) := dk_182 0 89 (dk_at dksX1_feed_1 0 rfl rfl)
theorem dX1_feed_25 : decode cX1_feed 25 = .ok (.aload_n 0, 1) := dk_42 (dk_at dksX1_feed_1 3 rfl rfl)
theorem dX1_feed_26 : decode cX1_feed 26 = .ok (.iload_n 3, 1) := dk_29 (dk_at dksX1_feed_1 4 rfl rfl)
theorem dX1_feed_27 : decode cX1_feed 27 = .ok (.invokevirtual 89, 3) := dk_182 0 89 (dk_at dksX1_feed_1 5 rfl rfl)
theorem dX1_feed_30 : decode cX1_feed 30 = .ok (.aload_n 0, 1) := dk_42 (dk_at dksX1_feed_1 8 rfl rfl)
theorem dX1_feed_31 : decode cX1_feed 31 = .ok (.iload 4, 2) := dk_21 4 (dk_at dksX1_feed_1 9 rfl rfl)
theorem dX1_feed_33 : decode cX1_feed 33 = .ok (.invokevirtual 89, 3) := dk_182 0 89 (dk_at dksX1_feed_1 11 rfl rfl)
theorem dX1_feed_36 : decode cX1_feed 36 = .ok (.aload_n 0, 1) := dk_42 (dk_at dksX1_feed_1 14 rfl rfl)
theorem dX1_feed_37 : decode cX1_feed 37 = .ok (.iload 5, 2) := dk_21 5 (dk_at dksX1_feed_1 15 rfl rfl)
theorem dX1_feed_39 : decode cX1_feed 39 = .ok (.invokevirtual 89, 3) := dk_182 0 89 (dk_at dksX1_feed_1 17 rfl rfl)
theorem dX1_feed_42 : decode cX1_feed 42 = .ok (.aload_n 0, 1) := dk_42 (dk_at dksX1_feed_1 20 rfl rfl)
theorem dX1_feed_43 : decode cX1_feed 43 = .ok (.getfield 86, 3) := dk_180 0 86 (dk_at dksX1_feed_1 21 rfl rfl)
theorem dX1_feed_46 : decode cX1_feed 46 = .ok (.ireturn, 1) := dk_172 (dk_at dksX1_feed_2 0 rfl rfl)
abbrev cX1_lay : ByteArray := prog_1_method_8_code
def yX1_lay : MethodName := ⟨RX1, "lay", "(I)V"⟩
def dkwX1_lay_1 : List UInt8 := [180, 0, 86, 4, 96, 181, 0, 86, 132, 2, 248, 167, 255, 226, 177]
abbrev dktX1_lay_1 : List UInt8 := dkwX1_lay_1 ++ []
def dkwX1_lay_0 : List UInt8 := [16, 24, 61, 28, 155, 0, 32, 42, 180, 0, 30, 42, 180, 0, 86, 27, 28, 122, 145, 84, 42, 89]
abbrev dktX1_lay_0 : List UInt8 := dkwX1_lay_0 ++ dktX1_lay_1
theorem dksX1_lay_0 : cX1_lay.data.toList.drop 0 = dktX1_lay_0 := by decide +kernel
theorem dksX1_lay_1 : cX1_lay.data.toList.drop 22 = dktX1_lay_1 := dk_seg dksX1_lay_0 22 rfl rfl
theorem dX1_lay_0 : decode cX1_lay 0 = .ok (.bipush 24, 2) := dk_16 24 (dk_at dksX1_lay_0 0 rfl rfl)
theorem dX1_lay_2 : decode cX1_lay 2 = .ok (.istore_n 2, 1) := dk_61 (dk_at dksX1_lay_0 2 rfl rfl)
theorem dX1_lay_3 : decode cX1_lay 3 = .ok (.iload_n 2, 1) := dk_28 (dk_at dksX1_lay_0 3 rfl rfl)
theorem dX1_lay_4 : decode cX1_lay 4 = .ok (.ifCond .lt 32, 3) := dk_155 0 32 (dk_at dksX1_lay_0 4 rfl rfl)
theorem dX1_lay_7 : decode cX1_lay 7 = .ok (.aload_n 0, 1) := dk_42 (dk_at dksX1_lay_0 7 rfl rfl)
theorem dX1_lay_8 : decode cX1_lay 8 = .ok (.getfield 30, 3) := dk_180 0 30 (dk_at dksX1_lay_0 8 rfl rfl)
theorem dX1_lay_11 : decode cX1_lay 11 = .ok (.aload_n 0, 1) := dk_42 (dk_at dksX1_lay_0 11 rfl rfl)
theorem dX1_lay_12 : decode cX1_lay 12 = .ok (.getfield 86, 3) := dk_180 0 86 (dk_at dksX1_lay_0 12 rfl rfl)
theorem dX1_lay_15 : decode cX1_lay 15 = .ok (.iload_n 1, 1) := dk_27 (dk_at dksX1_lay_0 15 rfl rfl)
theorem dX1_lay_16 : decode cX1_lay 16 = .ok (.iload_n 2, 1) := dk_28 (dk_at dksX1_lay_0 16 rfl rfl)
theorem dX1_lay_17 : decode cX1_lay 17 = .ok (.ishr, 1) := dk_122 (dk_at dksX1_lay_0 17 rfl rfl)
theorem dX1_lay_18 : decode cX1_lay 18 = .ok (.i2b, 1) := dk_145 (dk_at dksX1_lay_0 18 rfl rfl)
theorem dX1_lay_19 : decode cX1_lay 19 = .ok (.bastore, 1) := dk_84 (dk_at dksX1_lay_0 19 rfl rfl)
theorem dX1_lay_20 : decode cX1_lay 20 = .ok (.aload_n 0, 1) := dk_42 (dk_at dksX1_lay_0 20 rfl rfl)
theorem dX1_lay_21 : decode cX1_lay 21 = .ok (.dup, 1) := dk_89 (dk_at dksX1_lay_0 21 rfl rfl)
theorem dX1_lay_22 : decode cX1_lay 22 = .ok (.getfield 86, 3) := dk_180 0 86 (dk_at dksX1_lay_1 0 rfl rfl)
theorem dX1_lay_25 : decode cX1_lay 25 = .ok (.iconst 1, 1) := dk_4 (dk_at dksX1_lay_1 3 rfl rfl)
theorem dX1_lay_26 : decode cX1_lay 26 = .ok (.iadd, 1) := dk_96 (dk_at dksX1_lay_1 4 rfl rfl)
theorem dX1_lay_27 : decode cX1_lay 27 = .ok (.putfield 86, 3) := dk_181 0 86 (dk_at dksX1_lay_1 5 rfl rfl)
theorem dX1_lay_30 : decode cX1_lay 30 = .ok (.iinc 2 (-8), 3) := dk_132 2 248 (dk_at dksX1_lay_1 8 rfl rfl)
theorem dX1_lay_33 : decode cX1_lay 33 = .ok (.goto (-30), 3) := dk_167 255 226 (dk_at dksX1_lay_1 11 rfl rfl)
theorem dX1_lay_36 : decode cX1_lay 36 = .ok (.return_, 1) := dk_177 (dk_at dksX1_lay_1 14 rfl rfl)
abbrev cX1_fault : ByteArray := prog_1_method_10_code
def yX1_fault : MethodName := ⟨RX1, "fault", "()I"⟩
theorem dX1_fault_0 : decode cX1_fault 0 = .ok (.aload_n 0, 1) := by decide +kernel
theorem dX1_fault_1 : decode cX1_fault 1 = .ok (.getfield 34, 3) := by decide +kernel
theorem dX1_fault_4 : decode cX1_fault 4 = .ok (.ireturn, 1) := by decide +kernel
abbrev cX1_judge : ByteArray := prog_1_method_15_code
def yX1_judge : MethodName := ⟨RX1, "judge", "(IIII)I"⟩
def dkwX1_judge_0 : List UInt8 := [42, 27, 28, 29, 21, 4, 182, 0, 203, 172]
abbrev dktX1_judge_0 : List UInt8 := dkwX1_judge_0 ++ []
theorem dksX1_judge_0 : cX1_judge.data.toList.drop 0 = dktX1_judge_0 := by decide +kernel
theorem dX1_judge_0 : decode cX1_judge 0 = .ok (.aload_n 0, 1) := dk_42 (dk_at dksX1_judge_0 0 rfl rfl)
theorem dX1_judge_1 : decode cX1_judge 1 = .ok (.iload_n 1, 1) := dk_27 (dk_at dksX1_judge_0 1 rfl rfl)
theorem dX1_judge_2 : decode cX1_judge 2 = .ok (.iload_n 2, 1) := dk_28 (dk_at dksX1_judge_0 2 rfl rfl)
theorem dX1_judge_3 : decode cX1_judge 3 = .ok (.iload_n 3, 1) := dk_29 (dk_at dksX1_judge_0 3 rfl rfl)
theorem dX1_judge_4 : decode cX1_judge 4 = .ok (.iload 4, 2) := dk_21 4 (dk_at dksX1_judge_0 4 rfl rfl)
theorem dX1_judge_6 : decode cX1_judge 6 = .ok (.invokevirtual 203, 3) := dk_182 0 203 (dk_at dksX1_judge_0 6 rfl rfl)
theorem dX1_judge_9 : decode cX1_judge 9 = .ok (.ireturn, 1) := dk_172 (dk_at dksX1_judge_0 9 rfl rfl)
abbrev cX1_trouble : ByteArray := prog_1_method_14_code
def yX1_trouble : MethodName := ⟨RX1, "trouble", "(IIII)I"⟩
def dkwX1_trouble_7 : List UInt8 := [180, 0, 10, 180, 0, 141, 96, 164, 0, 8, 16, 6, 167, 0, 4, 3, 172]
abbrev dktX1_trouble_7 : List UInt8 := dkwX1_trouble_7 ++ []
def dkwX1_trouble_6 : List UInt8 := [180, 0, 141, 100, 184, 0, 197, 162, 0, 7, 8, 167, 0, 29, 21, 6, 25, 5, 180, 0, 163, 27, 46, 42]
abbrev dktX1_trouble_6 : List UInt8 := dkwX1_trouble_6 ++ dktX1_trouble_7
def dkwX1_trouble_5 : List UInt8 := [25, 5, 28, 182, 0, 178, 29, 96, 54, 6, 21, 6, 4, 25, 5, 180, 0, 163, 27, 46, 42, 180, 0, 10]
abbrev dktX1_trouble_5 : List UInt8 := dkwX1_trouble_5 ++ dktX1_trouble_6
def dkwX1_trouble_4 : List UInt8 := [180, 0, 166, 27, 46, 2, 159, 0, 17, 25, 5, 180, 0, 166, 27, 46, 21, 4, 159, 0, 5, 7, 172]
abbrev dktX1_trouble_4 : List UInt8 := dkwX1_trouble_4 ++ dktX1_trouble_5
def dkwX1_trouble_3 : List UInt8 := [154, 0, 14, 29, 25, 5, 180, 0, 160, 27, 46, 164, 0, 5, 6, 172, 21, 4, 27, 159, 0, 26, 25, 5]
abbrev dktX1_trouble_3 : List UInt8 := dkwX1_trouble_3 ++ dktX1_trouble_4
def dkwX1_trouble_2 : List UInt8 := [25, 5, 180, 0, 163, 27, 46, 154, 0, 5, 5, 172, 28, 25, 5, 180, 0, 169, 27, 46, 2, 130, 126]
abbrev dktX1_trouble_2 : List UInt8 := dkwX1_trouble_2 ++ dktX1_trouble_3
def dkwX1_trouble_1 : List UInt8 := [180, 0, 10, 182, 0, 194, 163, 0, 7, 29, 156, 0, 5, 4, 172, 42, 180, 0, 19, 180, 0, 101, 58, 5]
abbrev dktX1_trouble_1 : List UInt8 := dkwX1_trouble_1 ++ dktX1_trouble_2
def dkwX1_trouble_0 : List UInt8 := [42, 27, 182, 0, 78, 153, 0, 31, 42, 21, 4, 182, 0, 78, 153, 0, 22, 28, 155, 0, 18, 28, 42]
abbrev dktX1_trouble_0 : List UInt8 := dkwX1_trouble_0 ++ dktX1_trouble_1
theorem dksX1_trouble_0 : cX1_trouble.data.toList.drop 0 = dktX1_trouble_0 := by decide +kernel
theorem dksX1_trouble_1 : cX1_trouble.data.toList.drop 23 = dktX1_trouble_1 := dk_seg dksX1_trouble_0 23 rfl rfl
theorem dksX1_trouble_2 : cX1_trouble.data.toList.drop 47 = dktX1_trouble_2 := dk_seg dksX1_trouble_1 24 rfl rfl
theorem dksX1_trouble_3 : cX1_trouble.data.toList.drop 70 = dktX1_trouble_3 := dk_seg dksX1_trouble_2 23 rfl rfl
theorem dksX1_trouble_4 : cX1_trouble.data.toList.drop 94 = dktX1_trouble_4 := dk_seg dksX1_trouble_3 24 rfl rfl
theorem dksX1_trouble_5 : cX1_trouble.data.toList.drop 117 = dktX1_trouble_5 := dk_seg dksX1_trouble_4 23 rfl rfl
theorem dksX1_trouble_6 : cX1_trouble.data.toList.drop 141 = dktX1_trouble_6 := dk_seg dksX1_trouble_5 24 rfl rfl
theorem dksX1_trouble_7 : cX1_trouble.data.toList.drop 165 = dktX1_trouble_7 := dk_seg dksX1_trouble_6 24 rfl rfl
theorem dX1_trouble_0 : decode cX1_trouble 0 = .ok (.aload_n 0, 1) := dk_42 (dk_at dksX1_trouble_0 0 rfl rfl)
theorem dX1_trouble_1 : decode cX1_trouble 1 = .ok (.iload_n 1, 1) := dk_27 (dk_at dksX1_trouble_0 1 rfl rfl)
theorem dX1_trouble_2 : decode cX1_trouble 2 = .ok (.invokevirtual 78, 3) := dk_182 0 78 (dk_at dksX1_trouble_0 2 rfl rfl)
theorem dX1_trouble_5 : decode cX1_trouble 5 = .ok (.ifCond .eq 31, 3) := dk_153 0 31 (dk_at dksX1_trouble_0 5 rfl rfl)
theorem dX1_trouble_8 : decode cX1_trouble 8 = .ok (.aload_n 0, 1) := dk_42 (dk_at dksX1_trouble_0 8 rfl rfl)
theorem dX1_trouble_9 : decode cX1_trouble 9 = .ok (.iload 4, 2) := dk_21 4 (dk_at dksX1_trouble_0 9 rfl rfl)
theorem dX1_trouble_11 : decode cX1_trouble 11 = .ok (.invokevirtual 78, 3) := dk_182 0 78 (dk_at dksX1_trouble_0 11 rfl rfl)
theorem dX1_trouble_14 : decode cX1_trouble 14 = .ok (.ifCond .eq 22, 3) := dk_153 0 22 (dk_at dksX1_trouble_0 14 rfl rfl)
theorem dX1_trouble_17 : decode cX1_trouble 17 = .ok (.iload_n 2, 1) := dk_28 (dk_at dksX1_trouble_0 17 rfl rfl)
theorem dX1_trouble_18 : decode cX1_trouble 18 = .ok (.ifCond .lt 18, 3) := dk_155 0 18 (dk_at dksX1_trouble_0 18 rfl rfl)
theorem dX1_trouble_21 : decode cX1_trouble 21 = .ok (.iload_n 2, 1) := dk_28 (dk_at dksX1_trouble_0 21 rfl rfl)
theorem dX1_trouble_22 : decode cX1_trouble 22 = .ok (.aload_n 0, 1) := dk_42 (dk_at dksX1_trouble_0 22 rfl rfl)
theorem dX1_trouble_23 : decode cX1_trouble 23 = .ok (.getfield 10, 3) := dk_180 0 10 (dk_at dksX1_trouble_1 0 rfl rfl)
theorem dX1_trouble_26 : decode cX1_trouble 26 = .ok (.invokevirtual 194, 3) := dk_182 0 194 (dk_at dksX1_trouble_1 3 rfl rfl)
theorem dX1_trouble_29 : decode cX1_trouble 29 = .ok (.if_icmp .gt 7, 3) := dk_163 0 7 (dk_at dksX1_trouble_1 6 rfl rfl)
theorem dX1_trouble_32 : decode cX1_trouble 32 = .ok (.iload_n 3, 1) := dk_29 (dk_at dksX1_trouble_1 9 rfl rfl)
theorem dX1_trouble_33 : decode cX1_trouble 33 = .ok (.ifCond .ge 5, 3) := dk_156 0 5 (dk_at dksX1_trouble_1 10 rfl rfl)
theorem dX1_trouble_36 : decode cX1_trouble 36 = .ok (.iconst 1, 1) := dk_4 (dk_at dksX1_trouble_1 13 rfl rfl)
theorem dX1_trouble_37 : decode cX1_trouble 37 = .ok (.ireturn, 1) := dk_172 (dk_at dksX1_trouble_1 14 rfl rfl)
theorem dX1_trouble_38 : decode cX1_trouble 38 = .ok (.aload_n 0, 1) := dk_42 (dk_at dksX1_trouble_1 15 rfl rfl)
theorem dX1_trouble_39 : decode cX1_trouble 39 = .ok (.getfield 19, 3) := dk_180 0 19 (dk_at dksX1_trouble_1 16 rfl rfl)
theorem dX1_trouble_42 : decode cX1_trouble 42 = .ok (.getfield 101, 3) := dk_180 0 101 (dk_at dksX1_trouble_1 19 rfl rfl)
theorem dX1_trouble_45 : decode cX1_trouble 45 = .ok (.astore 5, 2) := dk_58 5 (dk_at dksX1_trouble_1 22 rfl rfl)
theorem dX1_trouble_47 : decode cX1_trouble 47 = .ok (.aload 5, 2) := dk_25 5 (dk_at dksX1_trouble_2 0 rfl rfl)
theorem dX1_trouble_49 : decode cX1_trouble 49 = .ok (.getfield 163, 3) := dk_180 0 163 (dk_at dksX1_trouble_2 2 rfl rfl)
theorem dX1_trouble_52 : decode cX1_trouble 52 = .ok (.iload_n 1, 1) := dk_27 (dk_at dksX1_trouble_2 5 rfl rfl)
theorem dX1_trouble_53 : decode cX1_trouble 53 = .ok (.iaload, 1) := dk_46 (dk_at dksX1_trouble_2 6 rfl rfl)
theorem dX1_trouble_54 : decode cX1_trouble 54 = .ok (.ifCond .ne 5, 3) := dk_154 0 5 (dk_at dksX1_trouble_2 7 rfl rfl)
theorem dX1_trouble_57 : decode cX1_trouble 57 = .ok (.iconst 2, 1) := dk_5 (dk_at dksX1_trouble_2 10 rfl rfl)
theorem dX1_trouble_58 : decode cX1_trouble 58 = .ok (.ireturn, 1) := dk_172 (dk_at dksX1_trouble_2 11 rfl rfl)
theorem dX1_trouble_59 : decode cX1_trouble 59 = .ok (.iload_n 2, 1) := dk_28 (dk_at dksX1_trouble_2 12 rfl rfl)
theorem dX1_trouble_60 : decode cX1_trouble 60 = .ok (.aload 5, 2) := dk_25 5 (dk_at dksX1_trouble_2 13 rfl rfl)
theorem dX1_trouble_62 : decode cX1_trouble 62 = .ok (.getfield 169, 3) := dk_180 0 169 (dk_at dksX1_trouble_2 15 rfl rfl)
theorem dX1_trouble_65 : decode cX1_trouble 65 = .ok (.iload_n 1, 1) := dk_27 (dk_at dksX1_trouble_2 18 rfl rfl)
theorem dX1_trouble_66 : decode cX1_trouble 66 = .ok (.iaload, 1) := dk_46 (dk_at dksX1_trouble_2 19 rfl rfl)
theorem dX1_trouble_67 : decode cX1_trouble 67 = .ok (.iconst (-1), 1) := dk_2 (dk_at dksX1_trouble_2 20 rfl rfl)
theorem dX1_trouble_68 : decode cX1_trouble 68 = .ok (.ixor, 1) := dk_130 (dk_at dksX1_trouble_2 21 rfl rfl)
theorem dX1_trouble_69 : decode cX1_trouble 69 = .ok (.iand, 1) := dk_126 (dk_at dksX1_trouble_2 22 rfl rfl)
theorem dX1_trouble_70 : decode cX1_trouble 70 = .ok (.ifCond .ne 14, 3) := dk_154 0 14 (dk_at dksX1_trouble_3 0 rfl rfl)
theorem dX1_trouble_73 : decode cX1_trouble 73 = .ok (.iload_n 3, 1) := dk_29 (dk_at dksX1_trouble_3 3 rfl rfl)
theorem dX1_trouble_74 : decode cX1_trouble 74 = .ok (.aload 5, 2) := dk_25 5 (dk_at dksX1_trouble_3 4 rfl rfl)
theorem dX1_trouble_76 : decode cX1_trouble 76 = .ok (.getfield 160, 3) := dk_180 0 160 (dk_at dksX1_trouble_3 6 rfl rfl)
theorem dX1_trouble_79 : decode cX1_trouble 79 = .ok (.iload_n 1, 1) := dk_27 (dk_at dksX1_trouble_3 9 rfl rfl)
theorem dX1_trouble_80 : decode cX1_trouble 80 = .ok (.iaload, 1) := dk_46 (dk_at dksX1_trouble_3 10 rfl rfl)
theorem dX1_trouble_81 : decode cX1_trouble 81 = .ok (.if_icmp .le 5, 3) := dk_164 0 5 (dk_at dksX1_trouble_3 11 rfl rfl)
theorem dX1_trouble_84 : decode cX1_trouble 84 = .ok (.iconst 3, 1) := dk_6 (dk_at dksX1_trouble_3 14 rfl rfl)
theorem dX1_trouble_85 : decode cX1_trouble 85 = .ok (.ireturn, 1) := dk_172 (dk_at dksX1_trouble_3 15 rfl rfl)
theorem dX1_trouble_86 : decode cX1_trouble 86 = .ok (.iload 4, 2) := dk_21 4 (dk_at dksX1_trouble_3 16 rfl rfl)
theorem dX1_trouble_88 : decode cX1_trouble 88 = .ok (.iload_n 1, 1) := dk_27 (dk_at dksX1_trouble_3 18 rfl rfl)
theorem dX1_trouble_89 : decode cX1_trouble 89 = .ok (.if_icmp .eq 26, 3) := dk_159 0 26 (dk_at dksX1_trouble_3 19 rfl rfl)
theorem dX1_trouble_92 : decode cX1_trouble 92 = .ok (.aload 5, 2) := dk_25 5 (dk_at dksX1_trouble_3 22 rfl rfl)
theorem dX1_trouble_94 : decode cX1_trouble 94 = .ok (.getfield 166, 3) := dk_180 0 166 (dk_at dksX1_trouble_4 0 rfl rfl)
theorem dX1_trouble_97 : decode cX1_trouble 97 = .ok (.iload_n 1, 1) := dk_27 (dk_at dksX1_trouble_4 3 rfl rfl)
theorem dX1_trouble_98 : decode cX1_trouble 98 = .ok (.iaload, 1) := dk_46 (dk_at dksX1_trouble_4 4 rfl rfl)
theorem dX1_trouble_99 : decode cX1_trouble 99 = .ok (.iconst (-1), 1) := dk_2 (dk_at dksX1_trouble_4 5 rfl rfl)
theorem dX1_trouble_100 : decode cX1_trouble 100 = .ok (.if_icmp .eq 17, 3) := dk_159 0 17 (dk_at dksX1_trouble_4 6 rfl rfl)
theorem dX1_trouble_103 : decode cX1_trouble 103 = .ok (.aload 5, 2) := dk_25 5 (dk_at dksX1_trouble_4 9 rfl rfl)
theorem dX1_trouble_105 : decode cX1_trouble 105 = .ok (.getfield 166, 3) := dk_180 0 166 (dk_at dksX1_trouble_4 11 rfl rfl)
theorem dX1_trouble_108 : decode cX1_trouble 108 = .ok (.iload_n 1, 1) := dk_27 (dk_at dksX1_trouble_4 14 rfl rfl)
theorem dX1_trouble_109 : decode cX1_trouble 109 = .ok (.iaload, 1) := dk_46 (dk_at dksX1_trouble_4 15 rfl rfl)
theorem dX1_trouble_110 : decode cX1_trouble 110 = .ok (.iload 4, 2) := dk_21 4 (dk_at dksX1_trouble_4 16 rfl rfl)
theorem dX1_trouble_112 : decode cX1_trouble 112 = .ok (.if_icmp .eq 5, 3) := dk_159 0 5 (dk_at dksX1_trouble_4 18 rfl rfl)
theorem dX1_trouble_115 : decode cX1_trouble 115 = .ok (.iconst 4, 1) := dk_7 (dk_at dksX1_trouble_4 21 rfl rfl)
theorem dX1_trouble_116 : decode cX1_trouble 116 = .ok (.ireturn, 1) := dk_172 (dk_at dksX1_trouble_4 22 rfl rfl)
theorem dX1_trouble_117 : decode cX1_trouble 117 = .ok (.aload 5, 2) := dk_25 5 (dk_at dksX1_trouble_5 0 rfl rfl)
theorem dX1_trouble_119 : decode cX1_trouble 119 = .ok (.iload_n 2, 1) := dk_28 (dk_at dksX1_trouble_5 2 rfl rfl)
theorem dX1_trouble_120 : decode cX1_trouble 120 = .ok (.invokevirtual 178, 3) := dk_182 0 178 (dk_at dksX1_trouble_5 3 rfl rfl)
theorem dX1_trouble_123 : decode cX1_trouble 123 = .ok (.iload_n 3, 1) := dk_29 (dk_at dksX1_trouble_5 6 rfl rfl)
theorem dX1_trouble_124 : decode cX1_trouble 124 = .ok (.iadd, 1) := dk_96 (dk_at dksX1_trouble_5 7 rfl rfl)
theorem dX1_trouble_125 : decode cX1_trouble 125 = .ok (.istore 6, 2) := dk_54 6 (dk_at dksX1_trouble_5 8 rfl rfl)
theorem dX1_trouble_127 : decode cX1_trouble 127 = .ok (.iload 6, 2) := dk_21 6 (dk_at dksX1_trouble_5 10 rfl rfl)
theorem dX1_trouble_129 : decode cX1_trouble 129 = .ok (.iconst 1, 1) := dk_4 (dk_at dksX1_trouble_5 12 rfl rfl)
theorem dX1_trouble_130 : decode cX1_trouble 130 = .ok (.aload 5, 2) := dk_25 5 (dk_at dksX1_trouble_5 13 rfl rfl)
theorem dX1_trouble_132 : decode cX1_trouble 132 = .ok (.getfield 163, 3) := dk_180 0 163 (dk_at dksX1_trouble_5 15 rfl rfl)
theorem dX1_trouble_135 : decode cX1_trouble 135 = .ok (.iload_n 1, 1) := dk_27 (dk_at dksX1_trouble_5 18 rfl rfl)
theorem dX1_trouble_136 : decode cX1_trouble 136 = .ok (.iaload, 1) := dk_46 (dk_at dksX1_trouble_5 19 rfl rfl)
theorem dX1_trouble_137 : decode cX1_trouble 137 = .ok (.aload_n 0, 1) := dk_42 (dk_at dksX1_trouble_5 20 rfl rfl)
theorem dX1_trouble_138 : decode cX1_trouble 138 = .ok (.getfield 10, 3) := dk_180 0 10 (dk_at dksX1_trouble_5 21 rfl rfl)
theorem dX1_trouble_141 : decode cX1_trouble 141 = .ok (.getfield 141, 3) := dk_180 0 141 (dk_at dksX1_trouble_6 0 rfl rfl)
theorem dX1_trouble_144 : decode cX1_trouble 144 = .ok (.isub, 1) := dk_100 (dk_at dksX1_trouble_6 3 rfl rfl)
theorem dX1_trouble_145 : decode cX1_trouble 145 = .ok (.invokestatic 197, 3) := dk_184 0 197 (dk_at dksX1_trouble_6 4 rfl rfl)
theorem dX1_trouble_148 : decode cX1_trouble 148 = .ok (.if_icmp .ge 7, 3) := dk_162 0 7 (dk_at dksX1_trouble_6 7 rfl rfl)
theorem dX1_trouble_151 : decode cX1_trouble 151 = .ok (.iconst 5, 1) := dk_8 (dk_at dksX1_trouble_6 10 rfl rfl)
theorem dX1_trouble_152 : decode cX1_trouble 152 = .ok (.goto 29, 3) := dk_167 0 29 (dk_at dksX1_trouble_6 11 rfl rfl)
theorem dX1_trouble_155 : decode cX1_trouble 155 = .ok (.iload 6, 2) := dk_21 6 (dk_at dksX1_trouble_6 14 rfl rfl)
theorem dX1_trouble_157 : decode cX1_trouble 157 = .ok (.aload 5, 2) := dk_25 5 (dk_at dksX1_trouble_6 16 rfl rfl)
theorem dX1_trouble_159 : decode cX1_trouble 159 = .ok (.getfield 163, 3) := dk_180 0 163 (dk_at dksX1_trouble_6 18 rfl rfl)
theorem dX1_trouble_162 : decode cX1_trouble 162 = .ok (.iload_n 1, 1) := dk_27 (dk_at dksX1_trouble_6 21 rfl rfl)
theorem dX1_trouble_163 : decode cX1_trouble 163 = .ok (.iaload, 1) := dk_46 (dk_at dksX1_trouble_6 22 rfl rfl)
theorem dX1_trouble_164 : decode cX1_trouble 164 = .ok (.aload_n 0, 1) := dk_42 (dk_at dksX1_trouble_6 23 rfl rfl)
theorem dX1_trouble_165 : decode cX1_trouble 165 = .ok (.getfield 10, 3) := dk_180 0 10 (dk_at dksX1_trouble_7 0 rfl rfl)
theorem dX1_trouble_168 : decode cX1_trouble 168 = .ok (.getfield 141, 3) := dk_180 0 141 (dk_at dksX1_trouble_7 3 rfl rfl)
theorem dX1_trouble_171 : decode cX1_trouble 171 = .ok (.iadd, 1) := dk_96 (dk_at dksX1_trouble_7 6 rfl rfl)
theorem dX1_trouble_172 : decode cX1_trouble 172 = .ok (.if_icmp .le 8, 3) := dk_164 0 8 (dk_at dksX1_trouble_7 7 rfl rfl)
theorem dX1_trouble_175 : decode cX1_trouble 175 = .ok (.bipush 6, 2) := dk_16 6 (dk_at dksX1_trouble_7 10 rfl rfl)
theorem dX1_trouble_177 : decode cX1_trouble 177 = .ok (.goto 4, 3) := dk_167 0 4 (dk_at dksX1_trouble_7 12 rfl rfl)
theorem dX1_trouble_180 : decode cX1_trouble 180 = .ok (.iconst 0, 1) := dk_3 (dk_at dksX1_trouble_7 15 rfl rfl)
theorem dX1_trouble_181 : decode cX1_trouble 181 = .ok (.ireturn, 1) := dk_172 (dk_at dksX1_trouble_7 16 rfl rfl)
abbrev cX1_isPerson : ByteArray := prog_1_method_5_code
def yX1_isPerson : MethodName := ⟨RX1, "isPerson", "(I)Z"⟩
def dkwX1_isPerson_0 : List UInt8 := [27, 155, 0, 21, 27, 42, 180, 0, 10, 180, 0, 68, 182, 0, 72, 162, 0, 7, 4, 167, 0, 4, 3, 172]
abbrev dktX1_isPerson_0 : List UInt8 := dkwX1_isPerson_0 ++ []
theorem dksX1_isPerson_0 : cX1_isPerson.data.toList.drop 0 = dktX1_isPerson_0 := by decide +kernel
theorem dX1_isPerson_0 : decode cX1_isPerson 0 = .ok (.iload_n 1, 1) := dk_27 (dk_at dksX1_isPerson_0 0 rfl rfl)
theorem dX1_isPerson_1 : decode cX1_isPerson 1 = .ok (.ifCond .lt 21, 3) := dk_155 0 21 (dk_at dksX1_isPerson_0 1 rfl rfl)
theorem dX1_isPerson_4 : decode cX1_isPerson 4 = .ok (.iload_n 1, 1) := dk_27 (dk_at dksX1_isPerson_0 4 rfl rfl)
theorem dX1_isPerson_5 : decode cX1_isPerson 5 = .ok (.aload_n 0, 1) := dk_42 (dk_at dksX1_isPerson_0 5 rfl rfl)
theorem dX1_isPerson_6 : decode cX1_isPerson 6 = .ok (.getfield 10, 3) := dk_180 0 10 (dk_at dksX1_isPerson_0 6 rfl rfl)
theorem dX1_isPerson_9 : decode cX1_isPerson 9 = .ok (.getfield 68, 3) := dk_180 0 68 (dk_at dksX1_isPerson_0 9 rfl rfl)
theorem dX1_isPerson_12 : decode cX1_isPerson 12 = .ok (.invokevirtual 72, 3) := dk_182 0 72 (dk_at dksX1_isPerson_0 12 rfl rfl)
theorem dX1_isPerson_15 : decode cX1_isPerson 15 = .ok (.if_icmp .ge 7, 3) := dk_162 0 7 (dk_at dksX1_isPerson_0 15 rfl rfl)
theorem dX1_isPerson_18 : decode cX1_isPerson 18 = .ok (.iconst 1, 1) := dk_4 (dk_at dksX1_isPerson_0 18 rfl rfl)
theorem dX1_isPerson_19 : decode cX1_isPerson 19 = .ok (.goto 4, 3) := dk_167 0 4 (dk_at dksX1_isPerson_0 19 rfl rfl)
theorem dX1_isPerson_22 : decode cX1_isPerson 22 = .ok (.iconst 0, 1) := dk_3 (dk_at dksX1_isPerson_0 22 rfl rfl)
theorem dX1_isPerson_23 : decode cX1_isPerson 23 = .ok (.ireturn, 1) := dk_172 (dk_at dksX1_isPerson_0 23 rfl rfl)
abbrev cX1_give : ByteArray := prog_1_method_18_code
def yX1_give : MethodName := ⟨RX1, "give", "(IIII)I"⟩
def dkwX1_give_2 : List UInt8 := [180, 0, 112, 4, 92, 46, 4, 96, 79, 167, 0, 12, 42, 27, 28, 29, 21, 4, 182, 0, 223, 21, 5, 172]
abbrev dktX1_give_2 : List UInt8 := dkwX1_give_2 ++ []
def dkwX1_give_1 : List UInt8 := [182, 0, 72, 17, 0, 200, 160, 0, 7, 16, 7, 54, 5, 21, 5, 153, 0, 19, 42, 180, 0, 19]
abbrev dktX1_give_1 : List UInt8 := dkwX1_give_1 ++ dktX1_give_2
def dkwX1_give_0 : List UInt8 := [42, 27, 28, 29, 21, 4, 182, 0, 203, 54, 5, 21, 5, 154, 0, 23, 42, 180, 0, 19, 180, 0, 146]
abbrev dktX1_give_0 : List UInt8 := dkwX1_give_0 ++ dktX1_give_1
theorem dksX1_give_0 : cX1_give.data.toList.drop 0 = dktX1_give_0 := by decide +kernel
theorem dksX1_give_1 : cX1_give.data.toList.drop 23 = dktX1_give_1 := dk_seg dksX1_give_0 23 rfl rfl
theorem dksX1_give_2 : cX1_give.data.toList.drop 45 = dktX1_give_2 := dk_seg dksX1_give_1 22 rfl rfl
theorem dX1_give_0 : decode cX1_give 0 = .ok (.aload_n 0, 1) := dk_42 (dk_at dksX1_give_0 0 rfl rfl)
theorem dX1_give_1 : decode cX1_give 1 = .ok (.iload_n 1, 1) := dk_27 (dk_at dksX1_give_0 1 rfl rfl)
theorem dX1_give_2 : decode cX1_give 2 = .ok (.iload_n 2, 1) := dk_28 (dk_at dksX1_give_0 2 rfl rfl)
theorem dX1_give_3 : decode cX1_give 3 = .ok (.iload_n 3, 1) := dk_29 (dk_at dksX1_give_0 3 rfl rfl)
theorem dX1_give_4 : decode cX1_give 4 = .ok (.iload 4, 2) := dk_21 4 (dk_at dksX1_give_0 4 rfl rfl)
theorem dX1_give_6 : decode cX1_give 6 = .ok (.invokevirtual 203, 3) := dk_182 0 203 (dk_at dksX1_give_0 6 rfl rfl)
theorem dX1_give_9 : decode cX1_give 9 = .ok (.istore 5, 2) := dk_54 5 (dk_at dksX1_give_0 9 rfl rfl)
theorem dX1_give_11 : decode cX1_give 11 = .ok (.iload 5, 2) := dk_21 5 (dk_at dksX1_give_0 11 rfl rfl)
theorem dX1_give_13 : decode cX1_give 13 = .ok (.ifCond .ne 23, 3) := dk_154 0 23 (dk_at dksX1_give_0 13 rfl rfl)
theorem dX1_give_16 : decode cX1_give 16 = .ok (.aload_n 0, 1) := dk_42 (dk_at dksX1_give_0 16 rfl rfl)
theorem dX1_give_17 : decode cX1_give 17 = .ok (.getfield 19, 3) := dk_180 0 19 (dk_at dksX1_give_0 17 rfl rfl)
theorem dX1_give_20 : decode cX1_give 20 = .ok (.getfield 146, 3) := dk_180 0 146 (dk_at dksX1_give_0 20 rfl rfl)
theorem dX1_give_23 : decode cX1_give 23 = .ok (.invokevirtual 72, 3) := dk_182 0 72 (dk_at dksX1_give_1 0 rfl rfl)
theorem dX1_give_26 : decode cX1_give 26 = .ok (.sipush 200, 3) := dk_17 0 200 (dk_at dksX1_give_1 3 rfl rfl)
theorem dX1_give_29 : decode cX1_give 29 = .ok (.if_icmp .ne 7, 3) := dk_160 0 7 (dk_at dksX1_give_1 6 rfl rfl)
theorem dX1_give_32 : decode cX1_give 32 = .ok (.bipush 7, 2) := dk_16 7 (dk_at dksX1_give_1 9 rfl rfl)
theorem dX1_give_34 : decode cX1_give 34 = .ok (.istore 5, 2) := dk_54 5 (dk_at dksX1_give_1 11 rfl rfl)
theorem dX1_give_36 : decode cX1_give 36 = .ok (.iload 5, 2) := dk_21 5 (dk_at dksX1_give_1 13 rfl rfl)
theorem dX1_give_38 : decode cX1_give 38 = .ok (.ifCond .eq 19, 3) := dk_153 0 19 (dk_at dksX1_give_1 15 rfl rfl)
theorem dX1_give_41 : decode cX1_give 41 = .ok (.aload_n 0, 1) := dk_42 (dk_at dksX1_give_1 18 rfl rfl)
theorem dX1_give_42 : decode cX1_give 42 = .ok (.getfield 19, 3) := dk_180 0 19 (dk_at dksX1_give_1 19 rfl rfl)
theorem dX1_give_45 : decode cX1_give 45 = .ok (.getfield 112, 3) := dk_180 0 112 (dk_at dksX1_give_2 0 rfl rfl)
theorem dX1_give_48 : decode cX1_give 48 = .ok (.iconst 1, 1) := dk_4 (dk_at dksX1_give_2 3 rfl rfl)
theorem dX1_give_49 : decode cX1_give 49 = .ok (.dup2, 1) := dk_92 (dk_at dksX1_give_2 4 rfl rfl)
theorem dX1_give_50 : decode cX1_give 50 = .ok (.iaload, 1) := dk_46 (dk_at dksX1_give_2 5 rfl rfl)
theorem dX1_give_51 : decode cX1_give 51 = .ok (.iconst 1, 1) := dk_4 (dk_at dksX1_give_2 6 rfl rfl)
theorem dX1_give_52 : decode cX1_give 52 = .ok (.iadd, 1) := dk_96 (dk_at dksX1_give_2 7 rfl rfl)
theorem dX1_give_53 : decode cX1_give 53 = .ok (.iastore, 1) := dk_79 (dk_at dksX1_give_2 8 rfl rfl)
theorem dX1_give_54 : decode cX1_give 54 = .ok (.goto 12, 3) := dk_167 0 12 (dk_at dksX1_give_2 9 rfl rfl)
theorem dX1_give_57 : decode cX1_give 57 = .ok (.aload_n 0, 1) := dk_42 (dk_at dksX1_give_2 12 rfl rfl)
theorem dX1_give_58 : decode cX1_give 58 = .ok (.iload_n 1, 1) := dk_27 (dk_at dksX1_give_2 13 rfl rfl)
theorem dX1_give_59 : decode cX1_give 59 = .ok (.iload_n 2, 1) := dk_28 (dk_at dksX1_give_2 14 rfl rfl)
theorem dX1_give_60 : decode cX1_give 60 = .ok (.iload_n 3, 1) := dk_29 (dk_at dksX1_give_2 15 rfl rfl)
theorem dX1_give_61 : decode cX1_give 61 = .ok (.iload 4, 2) := dk_21 4 (dk_at dksX1_give_2 16 rfl rfl)
theorem dX1_give_63 : decode cX1_give 63 = .ok (.invokevirtual 223, 3) := dk_182 0 223 (dk_at dksX1_give_2 18 rfl rfl)
theorem dX1_give_66 : decode cX1_give 66 = .ok (.iload 5, 2) := dk_21 5 (dk_at dksX1_give_2 21 rfl rfl)
theorem dX1_give_68 : decode cX1_give 68 = .ok (.ireturn, 1) := dk_172 (dk_at dksX1_give_2 23 rfl rfl)
abbrev cX1_does : ByteArray := prog_1_method_17_code
def yX1_does : MethodName := ⟨RX1, "does", "(IIII)V"⟩
def dkwX1_does_1 : List UInt8 := [183, 0, 213, 182, 0, 216, 87, 42, 42, 180, 0, 19, 180, 0, 101, 27, 28, 29, 21, 4, 182, 0, 220, 177]
abbrev dktX1_does_1 : List UInt8 := dkwX1_does_1 ++ []
def dkwX1_does_0 : List UInt8 := [42, 180, 0, 19, 180, 0, 146, 187, 0, 211, 89, 42, 180, 0, 19, 180, 0, 101, 27, 28, 29, 21, 4]
abbrev dktX1_does_0 : List UInt8 := dkwX1_does_0 ++ dktX1_does_1
theorem dksX1_does_0 : cX1_does.data.toList.drop 0 = dktX1_does_0 := by decide +kernel
theorem dksX1_does_1 : cX1_does.data.toList.drop 23 = dktX1_does_1 := dk_seg dksX1_does_0 23 rfl rfl
theorem dX1_does_0 : decode cX1_does 0 = .ok (.aload_n 0, 1) := dk_42 (dk_at dksX1_does_0 0 rfl rfl)
theorem dX1_does_1 : decode cX1_does 1 = .ok (.getfield 19, 3) := dk_180 0 19 (dk_at dksX1_does_0 1 rfl rfl)
theorem dX1_does_4 : decode cX1_does 4 = .ok (.getfield 146, 3) := dk_180 0 146 (dk_at dksX1_does_0 4 rfl rfl)
theorem dX1_does_7 : decode cX1_does 7 = .ok (.new 211, 3) := dk_187 0 211 (dk_at dksX1_does_0 7 rfl rfl)
theorem dX1_does_10 : decode cX1_does 10 = .ok (.dup, 1) := dk_89 (dk_at dksX1_does_0 10 rfl rfl)
theorem dX1_does_11 : decode cX1_does 11 = .ok (.aload_n 0, 1) := dk_42 (dk_at dksX1_does_0 11 rfl rfl)
theorem dX1_does_12 : decode cX1_does 12 = .ok (.getfield 19, 3) := dk_180 0 19 (dk_at dksX1_does_0 12 rfl rfl)
theorem dX1_does_15 : decode cX1_does 15 = .ok (.getfield 101, 3) := dk_180 0 101 (dk_at dksX1_does_0 15 rfl rfl)
theorem dX1_does_18 : decode cX1_does 18 = .ok (.iload_n 1, 1) := dk_27 (dk_at dksX1_does_0 18 rfl rfl)
theorem dX1_does_19 : decode cX1_does 19 = .ok (.iload_n 2, 1) := dk_28 (dk_at dksX1_does_0 19 rfl rfl)
theorem dX1_does_20 : decode cX1_does 20 = .ok (.iload_n 3, 1) := dk_29 (dk_at dksX1_does_0 20 rfl rfl)
theorem dX1_does_21 : decode cX1_does 21 = .ok (.iload 4, 2) := dk_21 4 (dk_at dksX1_does_0 21 rfl rfl)
theorem dX1_does_23 : decode cX1_does 23 = .ok (.invokespecial 213, 3) := dk_183 0 213 (dk_at dksX1_does_1 0 rfl rfl)
theorem dX1_does_26 : decode cX1_does 26 = .ok (.invokevirtual 216, 3) := dk_182 0 216 (dk_at dksX1_does_1 3 rfl rfl)
theorem dX1_does_29 : decode cX1_does 29 = .ok (.pop, 1) := dk_87 (dk_at dksX1_does_1 6 rfl rfl)
theorem dX1_does_30 : decode cX1_does 30 = .ok (.aload_n 0, 1) := dk_42 (dk_at dksX1_does_1 7 rfl rfl)
theorem dX1_does_31 : decode cX1_does 31 = .ok (.aload_n 0, 1) := dk_42 (dk_at dksX1_does_1 8 rfl rfl)
theorem dX1_does_32 : decode cX1_does 32 = .ok (.getfield 19, 3) := dk_180 0 19 (dk_at dksX1_does_1 9 rfl rfl)
theorem dX1_does_35 : decode cX1_does 35 = .ok (.getfield 101, 3) := dk_180 0 101 (dk_at dksX1_does_1 12 rfl rfl)
theorem dX1_does_38 : decode cX1_does 38 = .ok (.iload_n 1, 1) := dk_27 (dk_at dksX1_does_1 15 rfl rfl)
theorem dX1_does_39 : decode cX1_does 39 = .ok (.iload_n 2, 1) := dk_28 (dk_at dksX1_does_1 16 rfl rfl)
theorem dX1_does_40 : decode cX1_does 40 = .ok (.iload_n 3, 1) := dk_29 (dk_at dksX1_does_1 17 rfl rfl)
theorem dX1_does_41 : decode cX1_does 41 = .ok (.iload 4, 2) := dk_21 4 (dk_at dksX1_does_1 18 rfl rfl)
theorem dX1_does_43 : decode cX1_does 43 = .ok (.invokevirtual 220, 3) := dk_182 0 220 (dk_at dksX1_does_1 20 rfl rfl)
theorem dX1_does_46 : decode cX1_does 46 = .ok (.return_, 1) := dk_177 (dk_at dksX1_does_1 23 rfl rfl)
abbrev cX1_gives : ByteArray := prog_1_method_16_code
def yX1_gives : MethodName := ⟨RX1, "gives", "(LHeavyGifts$State;IIII)V"⟩
def dkwX1_gives_2 : List UInt8 := [21, 5, 42, 180, 0, 10, 180, 0, 137, 153, 0, 7, 2, 167, 0, 4, 28, 79, 177]
abbrev dktX1_gives_2 : List UInt8 := dkwX1_gives_2 ++ []
def dkwX1_gives_1 : List UInt8 := [28, 3, 79, 43, 180, 0, 166, 28, 2, 79, 43, 180, 0, 163, 21, 5, 21, 6, 79, 43, 180, 0, 166]
abbrev dktX1_gives_1 : List UInt8 := dkwX1_gives_1 ++ dktX1_gives_2
def dkwX1_gives_0 : List UInt8 := [43, 29, 182, 0, 178, 21, 4, 96, 54, 6, 43, 28, 29, 21, 4, 21, 5, 182, 0, 207, 43, 180, 0, 163]
abbrev dktX1_gives_0 : List UInt8 := dkwX1_gives_0 ++ dktX1_gives_1
theorem dksX1_gives_0 : cX1_gives.data.toList.drop 0 = dktX1_gives_0 := by decide +kernel
theorem dksX1_gives_1 : cX1_gives.data.toList.drop 24 = dktX1_gives_1 := dk_seg dksX1_gives_0 24 rfl rfl
theorem dksX1_gives_2 : cX1_gives.data.toList.drop 47 = dktX1_gives_2 := dk_seg dksX1_gives_1 23 rfl rfl
theorem dX1_gives_0 : decode cX1_gives 0 = .ok (.aload_n 1, 1) := dk_43 (dk_at dksX1_gives_0 0 rfl rfl)
theorem dX1_gives_1 : decode cX1_gives 1 = .ok (.iload_n 3, 1) := dk_29 (dk_at dksX1_gives_0 1 rfl rfl)
theorem dX1_gives_2 : decode cX1_gives 2 = .ok (.invokevirtual 178, 3) := dk_182 0 178 (dk_at dksX1_gives_0 2 rfl rfl)
theorem dX1_gives_5 : decode cX1_gives 5 = .ok (.iload 4, 2) := dk_21 4 (dk_at dksX1_gives_0 5 rfl rfl)
theorem dX1_gives_7 : decode cX1_gives 7 = .ok (.iadd, 1) := dk_96 (dk_at dksX1_gives_0 7 rfl rfl)
theorem dX1_gives_8 : decode cX1_gives 8 = .ok (.istore 6, 2) := dk_54 6 (dk_at dksX1_gives_0 8 rfl rfl)
theorem dX1_gives_10 : decode cX1_gives 10 = .ok (.aload_n 1, 1) := dk_43 (dk_at dksX1_gives_0 10 rfl rfl)
theorem dX1_gives_11 : decode cX1_gives 11 = .ok (.iload_n 2, 1) := dk_28 (dk_at dksX1_gives_0 11 rfl rfl)
theorem dX1_gives_12 : decode cX1_gives 12 = .ok (.iload_n 3, 1) := dk_29 (dk_at dksX1_gives_0 12 rfl rfl)
theorem dX1_gives_13 : decode cX1_gives 13 = .ok (.iload 4, 2) := dk_21 4 (dk_at dksX1_gives_0 13 rfl rfl)
theorem dX1_gives_15 : decode cX1_gives 15 = .ok (.iload 5, 2) := dk_21 5 (dk_at dksX1_gives_0 15 rfl rfl)
theorem dX1_gives_17 : decode cX1_gives 17 = .ok (.invokevirtual 207, 3) := dk_182 0 207 (dk_at dksX1_gives_0 17 rfl rfl)
theorem dX1_gives_20 : decode cX1_gives 20 = .ok (.aload_n 1, 1) := dk_43 (dk_at dksX1_gives_0 20 rfl rfl)
theorem dX1_gives_21 : decode cX1_gives 21 = .ok (.getfield 163, 3) := dk_180 0 163 (dk_at dksX1_gives_0 21 rfl rfl)
theorem dX1_gives_24 : decode cX1_gives 24 = .ok (.iload_n 2, 1) := dk_28 (dk_at dksX1_gives_1 0 rfl rfl)
theorem dX1_gives_25 : decode cX1_gives 25 = .ok (.iconst 0, 1) := dk_3 (dk_at dksX1_gives_1 1 rfl rfl)
theorem dX1_gives_26 : decode cX1_gives 26 = .ok (.iastore, 1) := dk_79 (dk_at dksX1_gives_1 2 rfl rfl)
theorem dX1_gives_27 : decode cX1_gives 27 = .ok (.aload_n 1, 1) := dk_43 (dk_at dksX1_gives_1 3 rfl rfl)
theorem dX1_gives_28 : decode cX1_gives 28 = .ok (.getfield 166, 3) := dk_180 0 166 (dk_at dksX1_gives_1 4 rfl rfl)
theorem dX1_gives_31 : decode cX1_gives 31 = .ok (.iload_n 2, 1) := dk_28 (dk_at dksX1_gives_1 7 rfl rfl)
theorem dX1_gives_32 : decode cX1_gives 32 = .ok (.iconst (-1), 1) := dk_2 (dk_at dksX1_gives_1 8 rfl rfl)
theorem dX1_gives_33 : decode cX1_gives 33 = .ok (.iastore, 1) := dk_79 (dk_at dksX1_gives_1 9 rfl rfl)
theorem dX1_gives_34 : decode cX1_gives 34 = .ok (.aload_n 1, 1) := dk_43 (dk_at dksX1_gives_1 10 rfl rfl)
theorem dX1_gives_35 : decode cX1_gives 35 = .ok (.getfield 163, 3) := dk_180 0 163 (dk_at dksX1_gives_1 11 rfl rfl)
theorem dX1_gives_38 : decode cX1_gives 38 = .ok (.iload 5, 2) := dk_21 5 (dk_at dksX1_gives_1 14 rfl rfl)
theorem dX1_gives_40 : decode cX1_gives 40 = .ok (.iload 6, 2) := dk_21 6 (dk_at dksX1_gives_1 16 rfl rfl)
theorem dX1_gives_42 : decode cX1_gives 42 = .ok (.iastore, 1) := dk_79 (dk_at dksX1_gives_1 18 rfl rfl)
theorem dX1_gives_43 : decode cX1_gives 43 = .ok (.aload_n 1, 1) := dk_43 (dk_at dksX1_gives_1 19 rfl rfl)
theorem dX1_gives_44 : decode cX1_gives 44 = .ok (.getfield 166, 3) := dk_180 0 166 (dk_at dksX1_gives_1 20 rfl rfl)
theorem dX1_gives_47 : decode cX1_gives 47 = .ok (.iload 5, 2) := dk_21 5 (dk_at dksX1_gives_2 0 rfl rfl)
theorem dX1_gives_49 : decode cX1_gives 49 = .ok (.aload_n 0, 1) := dk_42 (dk_at dksX1_gives_2 2 rfl rfl)
theorem dX1_gives_50 : decode cX1_gives 50 = .ok (.getfield 10, 3) := dk_180 0 10 (dk_at dksX1_gives_2 3 rfl rfl)
theorem dX1_gives_53 : decode cX1_gives 53 = .ok (.getfield 137, 3) := dk_180 0 137 (dk_at dksX1_gives_2 6 rfl rfl)
theorem dX1_gives_56 : decode cX1_gives 56 = .ok (.ifCond .eq 7, 3) := dk_153 0 7 (dk_at dksX1_gives_2 9 rfl rfl)
theorem dX1_gives_59 : decode cX1_gives 59 = .ok (.iconst (-1), 1) := dk_2 (dk_at dksX1_gives_2 12 rfl rfl)
theorem dX1_gives_60 : decode cX1_gives 60 = .ok (.goto 4, 3) := dk_167 0 4 (dk_at dksX1_gives_2 13 rfl rfl)
theorem dX1_gives_63 : decode cX1_gives 63 = .ok (.iload_n 2, 1) := dk_28 (dk_at dksX1_gives_2 16 rfl rfl)
theorem dX1_gives_64 : decode cX1_gives 64 = .ok (.iastore, 1) := dk_79 (dk_at dksX1_gives_2 17 rfl rfl)
theorem dX1_gives_65 : decode cX1_gives 65 = .ok (.return_, 1) := dk_177 (dk_at dksX1_gives_2 18 rfl rfl)
abbrev cX1_undo : ByteArray := prog_1_method_19_code
def yX1_undo : MethodName := ⟨RX1, "undo", "()I"⟩
def dkwX1_undo_5 : List UInt8 := [180, 0, 233, 43, 180, 0, 253, 79, 42, 180, 0, 19, 180, 0, 146, 182, 0, 72, 172]
abbrev dktX1_undo_5 : List UInt8 := dkwX1_undo_5 ++ []
def dkwX1_undo_4 : List UInt8 := [180, 0, 247, 79, 44, 180, 0, 163, 43, 180, 0, 233, 43, 180, 0, 250, 79, 44, 180, 0, 166, 43]
abbrev dktX1_undo_4 : List UInt8 := dkwX1_undo_4 ++ dktX1_undo_5
def dkwX1_undo_3 : List UInt8 := [44, 180, 0, 163, 43, 180, 0, 241, 43, 180, 0, 244, 79, 44, 180, 0, 166, 43, 180, 0, 241, 43]
abbrev dktX1_undo_3 : List UInt8 := dkwX1_undo_3 ++ dktX1_undo_4
def dkwX1_undo_2 : List UInt8 := [180, 0, 101, 77, 44, 43, 180, 0, 233, 43, 180, 0, 236, 43, 180, 0, 239, 43, 180, 0, 241, 182, 0, 207]
abbrev dktX1_undo_2 : List UInt8 := dkwX1_undo_2 ++ dktX1_undo_3
def dkwX1_undo_1 : List UInt8 := [180, 0, 19, 180, 0, 146, 182, 0, 72, 4, 100, 182, 0, 230, 192, 0, 211, 76, 42, 180, 0, 19]
abbrev dktX1_undo_1 : List UInt8 := dkwX1_undo_1 ++ dktX1_undo_2
def dkwX1_undo_0 : List UInt8 := [42, 180, 0, 19, 180, 0, 146, 182, 0, 226, 153, 0, 5, 2, 172, 42, 180, 0, 19, 180, 0, 146, 42]
abbrev dktX1_undo_0 : List UInt8 := dkwX1_undo_0 ++ dktX1_undo_1
theorem dksX1_undo_0 : cX1_undo.data.toList.drop 0 = dktX1_undo_0 := by decide +kernel
theorem dksX1_undo_1 : cX1_undo.data.toList.drop 23 = dktX1_undo_1 := dk_seg dksX1_undo_0 23 rfl rfl
theorem dksX1_undo_2 : cX1_undo.data.toList.drop 45 = dktX1_undo_2 := dk_seg dksX1_undo_1 22 rfl rfl
theorem dksX1_undo_3 : cX1_undo.data.toList.drop 69 = dktX1_undo_3 := dk_seg dksX1_undo_2 24 rfl rfl
theorem dksX1_undo_4 : cX1_undo.data.toList.drop 91 = dktX1_undo_4 := dk_seg dksX1_undo_3 22 rfl rfl
theorem dksX1_undo_5 : cX1_undo.data.toList.drop 113 = dktX1_undo_5 := dk_seg dksX1_undo_4 22 rfl rfl
theorem dX1_undo_0 : decode cX1_undo 0 = .ok (.aload_n 0, 1) := dk_42 (dk_at dksX1_undo_0 0 rfl rfl)
theorem dX1_undo_1 : decode cX1_undo 1 = .ok (.getfield 19, 3) := dk_180 0 19 (dk_at dksX1_undo_0 1 rfl rfl)
theorem dX1_undo_4 : decode cX1_undo 4 = .ok (.getfield 146, 3) := dk_180 0 146 (dk_at dksX1_undo_0 4 rfl rfl)
theorem dX1_undo_7 : decode cX1_undo 7 = .ok (.invokevirtual 226, 3) := dk_182 0 226 (dk_at dksX1_undo_0 7 rfl rfl)
theorem dX1_undo_10 : decode cX1_undo 10 = .ok (.ifCond .eq 5, 3) := dk_153 0 5 (dk_at dksX1_undo_0 10 rfl rfl)
theorem dX1_undo_13 : decode cX1_undo 13 = .ok (.iconst (-1), 1) := dk_2 (dk_at dksX1_undo_0 13 rfl rfl)
theorem dX1_undo_14 : decode cX1_undo 14 = .ok (.ireturn, 1) := dk_172 (dk_at dksX1_undo_0 14 rfl rfl)
theorem dX1_undo_15 : decode cX1_undo 15 = .ok (.aload_n 0, 1) := dk_42 (dk_at dksX1_undo_0 15 rfl rfl)
theorem dX1_undo_16 : decode cX1_undo 16 = .ok (.getfield 19, 3) := dk_180 0 19 (dk_at dksX1_undo_0 16 rfl rfl)
theorem dX1_undo_19 : decode cX1_undo 19 = .ok (.getfield 146, 3) := dk_180 0 146 (dk_at dksX1_undo_0 19 rfl rfl)
theorem dX1_undo_22 : decode cX1_undo 22 = .ok (.aload_n 0, 1) := dk_42 (dk_at dksX1_undo_0 22 rfl rfl)
theorem dX1_undo_23 : decode cX1_undo 23 = .ok (.getfield 19, 3) := dk_180 0 19 (dk_at dksX1_undo_1 0 rfl rfl)
theorem dX1_undo_26 : decode cX1_undo 26 = .ok (.getfield 146, 3) := dk_180 0 146 (dk_at dksX1_undo_1 3 rfl rfl)
theorem dX1_undo_29 : decode cX1_undo 29 = .ok (.invokevirtual 72, 3) := dk_182 0 72 (dk_at dksX1_undo_1 6 rfl rfl)
theorem dX1_undo_32 : decode cX1_undo 32 = .ok (.iconst 1, 1) := dk_4 (dk_at dksX1_undo_1 9 rfl rfl)
theorem dX1_undo_33 : decode cX1_undo 33 = .ok (.isub, 1) := dk_100 (dk_at dksX1_undo_1 10 rfl rfl)
theorem dX1_undo_34 : decode cX1_undo 34 = .ok (.invokevirtual 230, 3) := dk_182 0 230 (dk_at dksX1_undo_1 11 rfl rfl)
theorem dX1_undo_37 : decode cX1_undo 37 = .ok (.checkcast 211, 3) := dk_192 0 211 (dk_at dksX1_undo_1 14 rfl rfl)
theorem dX1_undo_40 : decode cX1_undo 40 = .ok (.astore_n 1, 1) := dk_76 (dk_at dksX1_undo_1 17 rfl rfl)
theorem dX1_undo_41 : decode cX1_undo 41 = .ok (.aload_n 0, 1) := dk_42 (dk_at dksX1_undo_1 18 rfl rfl)
theorem dX1_undo_42 : decode cX1_undo 42 = .ok (.getfield 19, 3) := dk_180 0 19 (dk_at dksX1_undo_1 19 rfl rfl)
theorem dX1_undo_45 : decode cX1_undo 45 = .ok (.getfield 101, 3) := dk_180 0 101 (dk_at dksX1_undo_2 0 rfl rfl)
theorem dX1_undo_48 : decode cX1_undo 48 = .ok (.astore_n 2, 1) := dk_77 (dk_at dksX1_undo_2 3 rfl rfl)
theorem dX1_undo_49 : decode cX1_undo 49 = .ok (.aload_n 2, 1) := dk_44 (dk_at dksX1_undo_2 4 rfl rfl)
theorem dX1_undo_50 : decode cX1_undo 50 = .ok (.aload_n 1, 1) := dk_43 (dk_at dksX1_undo_2 5 rfl rfl)
theorem dX1_undo_51 : decode cX1_undo 51 = .ok (.getfield 233, 3) := dk_180 0 233 (dk_at dksX1_undo_2 6 rfl rfl)
theorem dX1_undo_54 : decode cX1_undo 54 = .ok (.aload_n 1, 1) := dk_43 (dk_at dksX1_undo_2 9 rfl rfl)
theorem dX1_undo_55 : decode cX1_undo 55 = .ok (.getfield 236, 3) := dk_180 0 236 (dk_at dksX1_undo_2 10 rfl rfl)
theorem dX1_undo_58 : decode cX1_undo 58 = .ok (.aload_n 1, 1) := dk_43 (dk_at dksX1_undo_2 13 rfl rfl)
theorem dX1_undo_59 : decode cX1_undo 59 = .ok (.getfield 239, 3) := dk_180 0 239 (dk_at dksX1_undo_2 14 rfl rfl)
theorem dX1_undo_62 : decode cX1_undo 62 = .ok (.aload_n 1, 1) := dk_43 (dk_at dksX1_undo_2 17 rfl rfl)
theorem dX1_undo_63 : decode cX1_undo 63 = .ok (.getfield 241, 3) := dk_180 0 241 (dk_at dksX1_undo_2 18 rfl rfl)
theorem dX1_undo_66 : decode cX1_undo 66 = .ok (.invokevirtual 207, 3) := dk_182 0 207 (dk_at dksX1_undo_2 21 rfl rfl)
theorem dX1_undo_69 : decode cX1_undo 69 = .ok (.aload_n 2, 1) := dk_44 (dk_at dksX1_undo_3 0 rfl rfl)
theorem dX1_undo_70 : decode cX1_undo 70 = .ok (.getfield 163, 3) := dk_180 0 163 (dk_at dksX1_undo_3 1 rfl rfl)
theorem dX1_undo_73 : decode cX1_undo 73 = .ok (.aload_n 1, 1) := dk_43 (dk_at dksX1_undo_3 4 rfl rfl)
theorem dX1_undo_74 : decode cX1_undo 74 = .ok (.getfield 241, 3) := dk_180 0 241 (dk_at dksX1_undo_3 5 rfl rfl)
theorem dX1_undo_77 : decode cX1_undo 77 = .ok (.aload_n 1, 1) := dk_43 (dk_at dksX1_undo_3 8 rfl rfl)
theorem dX1_undo_78 : decode cX1_undo 78 = .ok (.getfield 244, 3) := dk_180 0 244 (dk_at dksX1_undo_3 9 rfl rfl)
theorem dX1_undo_81 : decode cX1_undo 81 = .ok (.iastore, 1) := dk_79 (dk_at dksX1_undo_3 12 rfl rfl)
theorem dX1_undo_82 : decode cX1_undo 82 = .ok (.aload_n 2, 1) := dk_44 (dk_at dksX1_undo_3 13 rfl rfl)
theorem dX1_undo_83 : decode cX1_undo 83 = .ok (.getfield 166, 3) := dk_180 0 166 (dk_at dksX1_undo_3 14 rfl rfl)
theorem dX1_undo_86 : decode cX1_undo 86 = .ok (.aload_n 1, 1) := dk_43 (dk_at dksX1_undo_3 17 rfl rfl)
theorem dX1_undo_87 : decode cX1_undo 87 = .ok (.getfield 241, 3) := dk_180 0 241 (dk_at dksX1_undo_3 18 rfl rfl)
theorem dX1_undo_90 : decode cX1_undo 90 = .ok (.aload_n 1, 1) := dk_43 (dk_at dksX1_undo_3 21 rfl rfl)
theorem dX1_undo_91 : decode cX1_undo 91 = .ok (.getfield 247, 3) := dk_180 0 247 (dk_at dksX1_undo_4 0 rfl rfl)
theorem dX1_undo_94 : decode cX1_undo 94 = .ok (.iastore, 1) := dk_79 (dk_at dksX1_undo_4 3 rfl rfl)
theorem dX1_undo_95 : decode cX1_undo 95 = .ok (.aload_n 2, 1) := dk_44 (dk_at dksX1_undo_4 4 rfl rfl)
theorem dX1_undo_96 : decode cX1_undo 96 = .ok (.getfield 163, 3) := dk_180 0 163 (dk_at dksX1_undo_4 5 rfl rfl)
theorem dX1_undo_99 : decode cX1_undo 99 = .ok (.aload_n 1, 1) := dk_43 (dk_at dksX1_undo_4 8 rfl rfl)
theorem dX1_undo_100 : decode cX1_undo 100 = .ok (.getfield 233, 3) := dk_180 0 233 (dk_at dksX1_undo_4 9 rfl rfl)
theorem dX1_undo_103 : decode cX1_undo 103 = .ok (.aload_n 1, 1) := dk_43 (dk_at dksX1_undo_4 12 rfl rfl)
theorem dX1_undo_104 : decode cX1_undo 104 = .ok (.getfield 250, 3) := dk_180 0 250 (dk_at dksX1_undo_4 13 rfl rfl)
theorem dX1_undo_107 : decode cX1_undo 107 = .ok (.iastore, 1) := dk_79 (dk_at dksX1_undo_4 16 rfl rfl)
theorem dX1_undo_108 : decode cX1_undo 108 = .ok (.aload_n 2, 1) := dk_44 (dk_at dksX1_undo_4 17 rfl rfl)
theorem dX1_undo_109 : decode cX1_undo 109 = .ok (.getfield 166, 3) := dk_180 0 166 (dk_at dksX1_undo_4 18 rfl rfl)
theorem dX1_undo_112 : decode cX1_undo 112 = .ok (.aload_n 1, 1) := dk_43 (dk_at dksX1_undo_4 21 rfl rfl)
theorem dX1_undo_113 : decode cX1_undo 113 = .ok (.getfield 233, 3) := dk_180 0 233 (dk_at dksX1_undo_5 0 rfl rfl)
theorem dX1_undo_116 : decode cX1_undo 116 = .ok (.aload_n 1, 1) := dk_43 (dk_at dksX1_undo_5 3 rfl rfl)
theorem dX1_undo_117 : decode cX1_undo 117 = .ok (.getfield 253, 3) := dk_180 0 253 (dk_at dksX1_undo_5 4 rfl rfl)
theorem dX1_undo_120 : decode cX1_undo 120 = .ok (.iastore, 1) := dk_79 (dk_at dksX1_undo_5 7 rfl rfl)
theorem dX1_undo_121 : decode cX1_undo 121 = .ok (.aload_n 0, 1) := dk_42 (dk_at dksX1_undo_5 8 rfl rfl)
theorem dX1_undo_122 : decode cX1_undo 122 = .ok (.getfield 19, 3) := dk_180 0 19 (dk_at dksX1_undo_5 9 rfl rfl)
theorem dX1_undo_125 : decode cX1_undo 125 = .ok (.getfield 146, 3) := dk_180 0 146 (dk_at dksX1_undo_5 12 rfl rfl)
theorem dX1_undo_128 : decode cX1_undo 128 = .ok (.invokevirtual 72, 3) := dk_182 0 72 (dk_at dksX1_undo_5 15 rfl rfl)
theorem dX1_undo_131 : decode cX1_undo 131 = .ok (.ireturn, 1) := dk_172 (dk_at dksX1_undo_5 18 rfl rfl)
abbrev cX1_still : ByteArray := prog_1_method_47_code
def yX1_still : MethodName := ⟨RX1, "still", "()I"⟩
def dkwX1_still_6 : List UInt8 := [180, 0, 26, 182, 1, 95, 132, 1, 1, 167, 255, 121, 2, 172]
abbrev dktX1_still_6 : List UInt8 := dkwX1_still_6 ++ []
def dkwX1_still_5 : List UInt8 := [154, 0, 22, 42, 42, 180, 0, 26, 182, 1, 98, 154, 0, 11, 42, 180, 0, 26, 180, 0, 143, 172, 42, 42]
abbrev dktX1_still_5 : List UInt8 := dkwX1_still_5 ++ dktX1_still_6
def dkwX1_still_4 : List UInt8 := [42, 180, 0, 26, 180, 0, 166, 29, 46, 182, 1, 27, 182, 0, 220, 4, 61, 132, 3, 1, 167, 255, 168, 28]
abbrev dktX1_still_4 : List UInt8 := dkwX1_still_4 ++ dktX1_still_5
def dkwX1_still_3 : List UInt8 := [180, 0, 26, 29, 21, 4, 42, 180, 0, 26, 180, 0, 163, 29, 46, 182, 1, 2, 42, 42, 180, 0, 26, 29]
abbrev dktX1_still_3 : List UInt8 := dkwX1_still_3 ++ dktX1_still_4
def dkwX1_still_2 : List UInt8 := [182, 1, 23, 54, 4, 21, 4, 2, 160, 0, 6, 167, 0, 54, 42, 42, 180, 0, 26, 29, 21, 4, 42, 42]
abbrev dktX1_still_2 : List UInt8 := dkwX1_still_2 ++ dktX1_still_3
def dkwX1_still_1 : List UInt8 := [3, 62, 29, 42, 180, 0, 10, 180, 0, 68, 182, 0, 72, 162, 0, 80, 42, 42, 180, 0, 26, 29]
abbrev dktX1_still_1 : List UInt8 := dkwX1_still_1 ++ dktX1_still_2
def dkwX1_still_0 : List UInt8 := [42, 180, 0, 26, 42, 180, 0, 19, 180, 0, 101, 182, 1, 43, 3, 60, 27, 16, 100, 162, 0, 135, 3, 61]
abbrev dktX1_still_0 : List UInt8 := dkwX1_still_0 ++ dktX1_still_1
theorem dksX1_still_0 : cX1_still.data.toList.drop 0 = dktX1_still_0 := by decide +kernel
theorem dksX1_still_1 : cX1_still.data.toList.drop 24 = dktX1_still_1 := dk_seg dksX1_still_0 24 rfl rfl
theorem dksX1_still_2 : cX1_still.data.toList.drop 46 = dktX1_still_2 := dk_seg dksX1_still_1 22 rfl rfl
theorem dksX1_still_3 : cX1_still.data.toList.drop 70 = dktX1_still_3 := dk_seg dksX1_still_2 24 rfl rfl
theorem dksX1_still_4 : cX1_still.data.toList.drop 94 = dktX1_still_4 := dk_seg dksX1_still_3 24 rfl rfl
theorem dksX1_still_5 : cX1_still.data.toList.drop 118 = dktX1_still_5 := dk_seg dksX1_still_4 24 rfl rfl
theorem dksX1_still_6 : cX1_still.data.toList.drop 142 = dktX1_still_6 := dk_seg dksX1_still_5 24 rfl rfl
theorem dX1_still_0 : decode cX1_still 0 = .ok (.aload_n 0, 1) := dk_42 (dk_at dksX1_still_0 0 rfl rfl)
theorem dX1_still_1 : decode cX1_still 1 = .ok (.getfield 26, 3) := dk_180 0 26 (dk_at dksX1_still_0 1 rfl rfl)
theorem dX1_still_4 : decode cX1_still 4 = .ok (.aload_n 0, 1) := dk_42 (dk_at dksX1_still_0 4 rfl rfl)
theorem dX1_still_5 : decode cX1_still 5 = .ok (.getfield 19, 3) := dk_180 0 19 (dk_at dksX1_still_0 5 rfl rfl)
theorem dX1_still_8 : decode cX1_still 8 = .ok (.getfield 101, 3) := dk_180 0 101 (dk_at dksX1_still_0 8 rfl rfl)
theorem dX1_still_11 : decode cX1_still 11 = .ok (.invokevirtual 299, 3) := dk_182 1 43 (dk_at dksX1_still_0 11 rfl rfl)
theorem dX1_still_14 : decode cX1_still 14 = .ok (.iconst 0, 1) := dk_3 (dk_at dksX1_still_0 14 rfl rfl)
theorem dX1_still_15 : decode cX1_still 15 = .ok (.istore_n 1, 1) := dk_60 (dk_at dksX1_still_0 15 rfl rfl)
theorem dX1_still_16 : decode cX1_still 16 = .ok (.iload_n 1, 1) := dk_27 (dk_at dksX1_still_0 16 rfl rfl)
theorem dX1_still_17 : decode cX1_still 17 = .ok (.bipush 100, 2) := dk_16 100 (dk_at dksX1_still_0 17 rfl rfl)
theorem dX1_still_19 : decode cX1_still 19 = .ok (.if_icmp .ge 135, 3) := dk_162 0 135 (dk_at dksX1_still_0 19 rfl rfl)
theorem dX1_still_22 : decode cX1_still 22 = .ok (.iconst 0, 1) := dk_3 (dk_at dksX1_still_0 22 rfl rfl)
theorem dX1_still_23 : decode cX1_still 23 = .ok (.istore_n 2, 1) := dk_61 (dk_at dksX1_still_0 23 rfl rfl)
theorem dX1_still_24 : decode cX1_still 24 = .ok (.iconst 0, 1) := dk_3 (dk_at dksX1_still_1 0 rfl rfl)
theorem dX1_still_25 : decode cX1_still 25 = .ok (.istore_n 3, 1) := dk_62 (dk_at dksX1_still_1 1 rfl rfl)
theorem dX1_still_26 : decode cX1_still 26 = .ok (.iload_n 3, 1) := dk_29 (dk_at dksX1_still_1 2 rfl rfl)
theorem dX1_still_27 : decode cX1_still 27 = .ok (.aload_n 0, 1) := dk_42 (dk_at dksX1_still_1 3 rfl rfl)
theorem dX1_still_28 : decode cX1_still 28 = .ok (.getfield 10, 3) := dk_180 0 10 (dk_at dksX1_still_1 4 rfl rfl)
theorem dX1_still_31 : decode cX1_still 31 = .ok (.getfield 68, 3) := dk_180 0 68 (dk_at dksX1_still_1 7 rfl rfl)
theorem dX1_still_34 : decode cX1_still 34 = .ok (.invokevirtual 72, 3) := dk_182 0 72 (dk_at dksX1_still_1 10 rfl rfl)
theorem dX1_still_37 : decode cX1_still 37 = .ok (.if_icmp .ge 80, 3) := dk_162 0 80 (dk_at dksX1_still_1 13 rfl rfl)
theorem dX1_still_40 : decode cX1_still 40 = .ok (.aload_n 0, 1) := dk_42 (dk_at dksX1_still_1 16 rfl rfl)
theorem dX1_still_41 : decode cX1_still 41 = .ok (.aload_n 0, 1) := dk_42 (dk_at dksX1_still_1 17 rfl rfl)
theorem dX1_still_42 : decode cX1_still 42 = .ok (.getfield 26, 3) := dk_180 0 26 (dk_at dksX1_still_1 18 rfl rfl)
theorem dX1_still_45 : decode cX1_still 45 = .ok (.iload_n 3, 1) := dk_29 (dk_at dksX1_still_1 21 rfl rfl)
theorem dX1_still_46 : decode cX1_still 46 = .ok (.invokevirtual 279, 3) := dk_182 1 23 (dk_at dksX1_still_2 0 rfl rfl)
theorem dX1_still_49 : decode cX1_still 49 = .ok (.istore 4, 2) := dk_54 4 (dk_at dksX1_still_2 3 rfl rfl)
theorem dX1_still_51 : decode cX1_still 51 = .ok (.iload 4, 2) := dk_21 4 (dk_at dksX1_still_2 5 rfl rfl)
theorem dX1_still_53 : decode cX1_still 53 = .ok (.iconst (-1), 1) := dk_2 (dk_at dksX1_still_2 7 rfl rfl)
theorem dX1_still_54 : decode cX1_still 54 = .ok (.if_icmp .ne 6, 3) := dk_160 0 6 (dk_at dksX1_still_2 8 rfl rfl)
theorem dX1_still_57 : decode cX1_still 57 = .ok (.goto 54, 3) := dk_167 0 54 (dk_at dksX1_still_2 11 rfl rfl)
theorem dX1_still_60 : decode cX1_still 60 = .ok (.aload_n 0, 1) := dk_42 (dk_at dksX1_still_2 14 rfl rfl)
theorem dX1_still_61 : decode cX1_still 61 = .ok (.aload_n 0, 1) := dk_42 (dk_at dksX1_still_2 15 rfl rfl)
theorem dX1_still_62 : decode cX1_still 62 = .ok (.getfield 26, 3) := dk_180 0 26 (dk_at dksX1_still_2 16 rfl rfl)
theorem dX1_still_65 : decode cX1_still 65 = .ok (.iload_n 3, 1) := dk_29 (dk_at dksX1_still_2 19 rfl rfl)
theorem dX1_still_66 : decode cX1_still 66 = .ok (.iload 4, 2) := dk_21 4 (dk_at dksX1_still_2 20 rfl rfl)
theorem dX1_still_68 : decode cX1_still 68 = .ok (.aload_n 0, 1) := dk_42 (dk_at dksX1_still_2 22 rfl rfl)
theorem dX1_still_69 : decode cX1_still 69 = .ok (.aload_n 0, 1) := dk_42 (dk_at dksX1_still_2 23 rfl rfl)
theorem dX1_still_70 : decode cX1_still 70 = .ok (.getfield 26, 3) := dk_180 0 26 (dk_at dksX1_still_3 0 rfl rfl)
theorem dX1_still_73 : decode cX1_still 73 = .ok (.iload_n 3, 1) := dk_29 (dk_at dksX1_still_3 3 rfl rfl)
theorem dX1_still_74 : decode cX1_still 74 = .ok (.iload 4, 2) := dk_21 4 (dk_at dksX1_still_3 4 rfl rfl)
theorem dX1_still_76 : decode cX1_still 76 = .ok (.aload_n 0, 1) := dk_42 (dk_at dksX1_still_3 6 rfl rfl)
theorem dX1_still_77 : decode cX1_still 77 = .ok (.getfield 26, 3) := dk_180 0 26 (dk_at dksX1_still_3 7 rfl rfl)
theorem dX1_still_80 : decode cX1_still 80 = .ok (.getfield 163, 3) := dk_180 0 163 (dk_at dksX1_still_3 10 rfl rfl)
theorem dX1_still_83 : decode cX1_still 83 = .ok (.iload_n 3, 1) := dk_29 (dk_at dksX1_still_3 13 rfl rfl)
theorem dX1_still_84 : decode cX1_still 84 = .ok (.iaload, 1) := dk_46 (dk_at dksX1_still_3 14 rfl rfl)
theorem dX1_still_85 : decode cX1_still 85 = .ok (.invokevirtual 258, 3) := dk_182 1 2 (dk_at dksX1_still_3 15 rfl rfl)
theorem dX1_still_88 : decode cX1_still 88 = .ok (.aload_n 0, 1) := dk_42 (dk_at dksX1_still_3 18 rfl rfl)
theorem dX1_still_89 : decode cX1_still 89 = .ok (.aload_n 0, 1) := dk_42 (dk_at dksX1_still_3 19 rfl rfl)
theorem dX1_still_90 : decode cX1_still 90 = .ok (.getfield 26, 3) := dk_180 0 26 (dk_at dksX1_still_3 20 rfl rfl)
theorem dX1_still_93 : decode cX1_still 93 = .ok (.iload_n 3, 1) := dk_29 (dk_at dksX1_still_3 23 rfl rfl)
theorem dX1_still_94 : decode cX1_still 94 = .ok (.aload_n 0, 1) := dk_42 (dk_at dksX1_still_4 0 rfl rfl)
theorem dX1_still_95 : decode cX1_still 95 = .ok (.getfield 26, 3) := dk_180 0 26 (dk_at dksX1_still_4 1 rfl rfl)
theorem dX1_still_98 : decode cX1_still 98 = .ok (.getfield 166, 3) := dk_180 0 166 (dk_at dksX1_still_4 4 rfl rfl)
theorem dX1_still_101 : decode cX1_still 101 = .ok (.iload_n 3, 1) := dk_29 (dk_at dksX1_still_4 7 rfl rfl)
theorem dX1_still_102 : decode cX1_still 102 = .ok (.iaload, 1) := dk_46 (dk_at dksX1_still_4 8 rfl rfl)
theorem dX1_still_103 : decode cX1_still 103 = .ok (.invokevirtual 283, 3) := dk_182 1 27 (dk_at dksX1_still_4 9 rfl rfl)
theorem dX1_still_106 : decode cX1_still 106 = .ok (.invokevirtual 220, 3) := dk_182 0 220 (dk_at dksX1_still_4 12 rfl rfl)
theorem dX1_still_109 : decode cX1_still 109 = .ok (.iconst 1, 1) := dk_4 (dk_at dksX1_still_4 15 rfl rfl)
theorem dX1_still_110 : decode cX1_still 110 = .ok (.istore_n 2, 1) := dk_61 (dk_at dksX1_still_4 16 rfl rfl)
theorem dX1_still_111 : decode cX1_still 111 = .ok (.iinc 3 1, 3) := dk_132 3 1 (dk_at dksX1_still_4 17 rfl rfl)
theorem dX1_still_114 : decode cX1_still 114 = .ok (.goto (-88), 3) := dk_167 255 168 (dk_at dksX1_still_4 20 rfl rfl)
theorem dX1_still_117 : decode cX1_still 117 = .ok (.iload_n 2, 1) := dk_28 (dk_at dksX1_still_4 23 rfl rfl)
theorem dX1_still_118 : decode cX1_still 118 = .ok (.ifCond .ne 22, 3) := dk_154 0 22 (dk_at dksX1_still_5 0 rfl rfl)
theorem dX1_still_121 : decode cX1_still 121 = .ok (.aload_n 0, 1) := dk_42 (dk_at dksX1_still_5 3 rfl rfl)
theorem dX1_still_122 : decode cX1_still 122 = .ok (.aload_n 0, 1) := dk_42 (dk_at dksX1_still_5 4 rfl rfl)
theorem dX1_still_123 : decode cX1_still 123 = .ok (.getfield 26, 3) := dk_180 0 26 (dk_at dksX1_still_5 5 rfl rfl)
theorem dX1_still_126 : decode cX1_still 126 = .ok (.invokevirtual 354, 3) := dk_182 1 98 (dk_at dksX1_still_5 8 rfl rfl)
theorem dX1_still_129 : decode cX1_still 129 = .ok (.ifCond .ne 11, 3) := dk_154 0 11 (dk_at dksX1_still_5 11 rfl rfl)
theorem dX1_still_132 : decode cX1_still 132 = .ok (.aload_n 0, 1) := dk_42 (dk_at dksX1_still_5 14 rfl rfl)
theorem dX1_still_133 : decode cX1_still 133 = .ok (.getfield 26, 3) := dk_180 0 26 (dk_at dksX1_still_5 15 rfl rfl)
theorem dX1_still_136 : decode cX1_still 136 = .ok (.getfield 143, 3) := dk_180 0 143 (dk_at dksX1_still_5 18 rfl rfl)
theorem dX1_still_139 : decode cX1_still 139 = .ok (.ireturn, 1) := dk_172 (dk_at dksX1_still_5 21 rfl rfl)
theorem dX1_still_140 : decode cX1_still 140 = .ok (.aload_n 0, 1) := dk_42 (dk_at dksX1_still_5 22 rfl rfl)
theorem dX1_still_141 : decode cX1_still 141 = .ok (.aload_n 0, 1) := dk_42 (dk_at dksX1_still_5 23 rfl rfl)
theorem dX1_still_142 : decode cX1_still 142 = .ok (.getfield 26, 3) := dk_180 0 26 (dk_at dksX1_still_6 0 rfl rfl)
theorem dX1_still_145 : decode cX1_still 145 = .ok (.invokevirtual 351, 3) := dk_182 1 95 (dk_at dksX1_still_6 3 rfl rfl)
theorem dX1_still_148 : decode cX1_still 148 = .ok (.iinc 1 1, 3) := dk_132 1 1 (dk_at dksX1_still_6 6 rfl rfl)
theorem dX1_still_151 : decode cX1_still 151 = .ok (.goto (-135), 3) := dk_167 255 121 (dk_at dksX1_still_6 9 rfl rfl)
theorem dX1_still_154 : decode cX1_still 154 = .ok (.iconst (-1), 1) := dk_2 (dk_at dksX1_still_6 12 rfl rfl)
theorem dX1_still_155 : decode cX1_still 155 = .ok (.ireturn, 1) := dk_172 (dk_at dksX1_still_6 13 rfl rfl)
abbrev cX1_chosen : ByteArray := prog_1_method_24_code
def yX1_chosen : MethodName := ⟨RX1, "chosen", "(LHeavyGifts$State;I)I"⟩
def dkwX1_chosen_4 : List UInt8 := [184, 1, 6, 54, 5, 21, 5, 154, 255, 189, 21, 4, 172]
abbrev dktX1_chosen_4 : List UInt8 := dkwX1_chosen_4 ++ []
def dkwX1_chosen_3 : List UInt8 := [21, 4, 42, 180, 0, 10, 182, 1, 15, 153, 0, 7, 21, 5, 54, 4, 21, 5, 43, 180, 0, 169, 28, 46]
abbrev dktX1_chosen_3 : List UInt8 := dkwX1_chosen_3 ++ dktX1_chosen_4
def dkwX1_chosen_2 : List UInt8 := [21, 5, 43, 180, 0, 163, 28, 46, 182, 1, 2, 2, 159, 0, 28, 21, 4, 2, 159, 0, 18, 45, 21, 5]
abbrev dktX1_chosen_2 : List UInt8 := dkwX1_chosen_2 ++ dktX1_chosen_3
def dkwX1_chosen_1 : List UInt8 := [154, 0, 5, 2, 172, 2, 54, 4, 3, 54, 5, 45, 21, 5, 182, 1, 12, 153, 0, 46, 42, 43, 28]
abbrev dktX1_chosen_1 : List UInt8 := dkwX1_chosen_1 ++ dktX1_chosen_2
def dkwX1_chosen_0 : List UInt8 := [42, 180, 0, 10, 180, 0, 68, 28, 182, 0, 152, 192, 0, 156, 78, 45, 43, 180, 0, 143, 182, 1, 9]
abbrev dktX1_chosen_0 : List UInt8 := dkwX1_chosen_0 ++ dktX1_chosen_1
theorem dksX1_chosen_0 : cX1_chosen.data.toList.drop 0 = dktX1_chosen_0 := by decide +kernel
theorem dksX1_chosen_1 : cX1_chosen.data.toList.drop 23 = dktX1_chosen_1 := dk_seg dksX1_chosen_0 23 rfl rfl
theorem dksX1_chosen_2 : cX1_chosen.data.toList.drop 46 = dktX1_chosen_2 := dk_seg dksX1_chosen_1 23 rfl rfl
theorem dksX1_chosen_3 : cX1_chosen.data.toList.drop 70 = dktX1_chosen_3 := dk_seg dksX1_chosen_2 24 rfl rfl
theorem dksX1_chosen_4 : cX1_chosen.data.toList.drop 94 = dktX1_chosen_4 := dk_seg dksX1_chosen_3 24 rfl rfl
theorem dX1_chosen_0 : decode cX1_chosen 0 = .ok (.aload_n 0, 1) := dk_42 (dk_at dksX1_chosen_0 0 rfl rfl)
theorem dX1_chosen_1 : decode cX1_chosen 1 = .ok (.getfield 10, 3) := dk_180 0 10 (dk_at dksX1_chosen_0 1 rfl rfl)
theorem dX1_chosen_4 : decode cX1_chosen 4 = .ok (.getfield 68, 3) := dk_180 0 68 (dk_at dksX1_chosen_0 4 rfl rfl)
theorem dX1_chosen_7 : decode cX1_chosen 7 = .ok (.iload_n 2, 1) := dk_28 (dk_at dksX1_chosen_0 7 rfl rfl)
theorem dX1_chosen_8 : decode cX1_chosen 8 = .ok (.invokevirtual 152, 3) := dk_182 0 152 (dk_at dksX1_chosen_0 8 rfl rfl)
theorem dX1_chosen_11 : decode cX1_chosen 11 = .ok (.checkcast 156, 3) := dk_192 0 156 (dk_at dksX1_chosen_0 11 rfl rfl)
theorem dX1_chosen_14 : decode cX1_chosen 14 = .ok (.astore_n 3, 1) := dk_78 (dk_at dksX1_chosen_0 14 rfl rfl)
theorem dX1_chosen_15 : decode cX1_chosen 15 = .ok (.aload_n 3, 1) := dk_45 (dk_at dksX1_chosen_0 15 rfl rfl)
theorem dX1_chosen_16 : decode cX1_chosen 16 = .ok (.aload_n 1, 1) := dk_43 (dk_at dksX1_chosen_0 16 rfl rfl)
theorem dX1_chosen_17 : decode cX1_chosen 17 = .ok (.getfield 143, 3) := dk_180 0 143 (dk_at dksX1_chosen_0 17 rfl rfl)
theorem dX1_chosen_20 : decode cX1_chosen 20 = .ok (.invokevirtual 265, 3) := dk_182 1 9 (dk_at dksX1_chosen_0 20 rfl rfl)
theorem dX1_chosen_23 : decode cX1_chosen 23 = .ok (.ifCond .ne 5, 3) := dk_154 0 5 (dk_at dksX1_chosen_1 0 rfl rfl)
theorem dX1_chosen_26 : decode cX1_chosen 26 = .ok (.iconst (-1), 1) := dk_2 (dk_at dksX1_chosen_1 3 rfl rfl)
theorem dX1_chosen_27 : decode cX1_chosen 27 = .ok (.ireturn, 1) := dk_172 (dk_at dksX1_chosen_1 4 rfl rfl)
theorem dX1_chosen_28 : decode cX1_chosen 28 = .ok (.iconst (-1), 1) := dk_2 (dk_at dksX1_chosen_1 5 rfl rfl)
theorem dX1_chosen_29 : decode cX1_chosen 29 = .ok (.istore 4, 2) := dk_54 4 (dk_at dksX1_chosen_1 6 rfl rfl)
theorem dX1_chosen_31 : decode cX1_chosen 31 = .ok (.iconst 0, 1) := dk_3 (dk_at dksX1_chosen_1 8 rfl rfl)
theorem dX1_chosen_32 : decode cX1_chosen 32 = .ok (.istore 5, 2) := dk_54 5 (dk_at dksX1_chosen_1 9 rfl rfl)
theorem dX1_chosen_34 : decode cX1_chosen 34 = .ok (.aload_n 3, 1) := dk_45 (dk_at dksX1_chosen_1 11 rfl rfl)
theorem dX1_chosen_35 : decode cX1_chosen 35 = .ok (.iload 5, 2) := dk_21 5 (dk_at dksX1_chosen_1 12 rfl rfl)
theorem dX1_chosen_37 : decode cX1_chosen 37 = .ok (.invokevirtual 268, 3) := dk_182 1 12 (dk_at dksX1_chosen_1 14 rfl rfl)
theorem dX1_chosen_40 : decode cX1_chosen 40 = .ok (.ifCond .eq 46, 3) := dk_153 0 46 (dk_at dksX1_chosen_1 17 rfl rfl)
theorem dX1_chosen_43 : decode cX1_chosen 43 = .ok (.aload_n 0, 1) := dk_42 (dk_at dksX1_chosen_1 20 rfl rfl)
theorem dX1_chosen_44 : decode cX1_chosen 44 = .ok (.aload_n 1, 1) := dk_43 (dk_at dksX1_chosen_1 21 rfl rfl)
theorem dX1_chosen_45 : decode cX1_chosen 45 = .ok (.iload_n 2, 1) := dk_28 (dk_at dksX1_chosen_1 22 rfl rfl)
theorem dX1_chosen_46 : decode cX1_chosen 46 = .ok (.iload 5, 2) := dk_21 5 (dk_at dksX1_chosen_2 0 rfl rfl)
theorem dX1_chosen_48 : decode cX1_chosen 48 = .ok (.aload_n 1, 1) := dk_43 (dk_at dksX1_chosen_2 2 rfl rfl)
theorem dX1_chosen_49 : decode cX1_chosen 49 = .ok (.getfield 163, 3) := dk_180 0 163 (dk_at dksX1_chosen_2 3 rfl rfl)
theorem dX1_chosen_52 : decode cX1_chosen 52 = .ok (.iload_n 2, 1) := dk_28 (dk_at dksX1_chosen_2 6 rfl rfl)
theorem dX1_chosen_53 : decode cX1_chosen 53 = .ok (.iaload, 1) := dk_46 (dk_at dksX1_chosen_2 7 rfl rfl)
theorem dX1_chosen_54 : decode cX1_chosen 54 = .ok (.invokevirtual 258, 3) := dk_182 1 2 (dk_at dksX1_chosen_2 8 rfl rfl)
theorem dX1_chosen_57 : decode cX1_chosen 57 = .ok (.iconst (-1), 1) := dk_2 (dk_at dksX1_chosen_2 11 rfl rfl)
theorem dX1_chosen_58 : decode cX1_chosen 58 = .ok (.if_icmp .eq 28, 3) := dk_159 0 28 (dk_at dksX1_chosen_2 12 rfl rfl)
theorem dX1_chosen_61 : decode cX1_chosen 61 = .ok (.iload 4, 2) := dk_21 4 (dk_at dksX1_chosen_2 15 rfl rfl)
theorem dX1_chosen_63 : decode cX1_chosen 63 = .ok (.iconst (-1), 1) := dk_2 (dk_at dksX1_chosen_2 17 rfl rfl)
theorem dX1_chosen_64 : decode cX1_chosen 64 = .ok (.if_icmp .eq 18, 3) := dk_159 0 18 (dk_at dksX1_chosen_2 18 rfl rfl)
theorem dX1_chosen_67 : decode cX1_chosen 67 = .ok (.aload_n 3, 1) := dk_45 (dk_at dksX1_chosen_2 21 rfl rfl)
theorem dX1_chosen_68 : decode cX1_chosen 68 = .ok (.iload 5, 2) := dk_21 5 (dk_at dksX1_chosen_2 22 rfl rfl)
theorem dX1_chosen_70 : decode cX1_chosen 70 = .ok (.iload 4, 2) := dk_21 4 (dk_at dksX1_chosen_3 0 rfl rfl)
theorem dX1_chosen_72 : decode cX1_chosen 72 = .ok (.aload_n 0, 1) := dk_42 (dk_at dksX1_chosen_3 2 rfl rfl)
theorem dX1_chosen_73 : decode cX1_chosen 73 = .ok (.getfield 10, 3) := dk_180 0 10 (dk_at dksX1_chosen_3 3 rfl rfl)
theorem dX1_chosen_76 : decode cX1_chosen 76 = .ok (.invokevirtual 271, 3) := dk_182 1 15 (dk_at dksX1_chosen_3 6 rfl rfl)
theorem dX1_chosen_79 : decode cX1_chosen 79 = .ok (.ifCond .eq 7, 3) := dk_153 0 7 (dk_at dksX1_chosen_3 9 rfl rfl)
theorem dX1_chosen_82 : decode cX1_chosen 82 = .ok (.iload 5, 2) := dk_21 5 (dk_at dksX1_chosen_3 12 rfl rfl)
theorem dX1_chosen_84 : decode cX1_chosen 84 = .ok (.istore 4, 2) := dk_54 4 (dk_at dksX1_chosen_3 14 rfl rfl)
theorem dX1_chosen_86 : decode cX1_chosen 86 = .ok (.iload 5, 2) := dk_21 5 (dk_at dksX1_chosen_3 16 rfl rfl)
theorem dX1_chosen_88 : decode cX1_chosen 88 = .ok (.aload_n 1, 1) := dk_43 (dk_at dksX1_chosen_3 18 rfl rfl)
theorem dX1_chosen_89 : decode cX1_chosen 89 = .ok (.getfield 169, 3) := dk_180 0 169 (dk_at dksX1_chosen_3 19 rfl rfl)
theorem dX1_chosen_92 : decode cX1_chosen 92 = .ok (.iload_n 2, 1) := dk_28 (dk_at dksX1_chosen_3 22 rfl rfl)
theorem dX1_chosen_93 : decode cX1_chosen 93 = .ok (.iaload, 1) := dk_46 (dk_at dksX1_chosen_3 23 rfl rfl)
theorem dX1_chosen_94 : decode cX1_chosen 94 = .ok (.invokestatic 262, 3) := dk_184 1 6 (dk_at dksX1_chosen_4 0 rfl rfl)
theorem dX1_chosen_97 : decode cX1_chosen 97 = .ok (.istore 5, 2) := dk_54 5 (dk_at dksX1_chosen_4 3 rfl rfl)
theorem dX1_chosen_99 : decode cX1_chosen 99 = .ok (.iload 5, 2) := dk_21 5 (dk_at dksX1_chosen_4 5 rfl rfl)
theorem dX1_chosen_101 : decode cX1_chosen 101 = .ok (.ifCond .ne (-67), 3) := dk_154 255 189 (dk_at dksX1_chosen_4 7 rfl rfl)
theorem dX1_chosen_104 : decode cX1_chosen 104 = .ok (.iload 4, 2) := dk_21 4 (dk_at dksX1_chosen_4 10 rfl rfl)
theorem dX1_chosen_106 : decode cX1_chosen 106 = .ok (.ireturn, 1) := dk_172 (dk_at dksX1_chosen_4 12 rfl rfl)
abbrev cX1_sandFor : ByteArray := prog_1_method_21_code
def yX1_sandFor : MethodName := ⟨RX1, "sandFor", "(LHeavyGifts$State;III)I"⟩
def dkwX1_sandFor_3 : List UInt8 := [180, 0, 10, 180, 0, 141, 96, 164, 0, 7, 2, 167, 0, 5, 21, 6, 172]
abbrev dktX1_sandFor_3 : List UInt8 := dkwX1_sandFor_3 ++ []
def dkwX1_sandFor_2 : List UInt8 := [153, 0, 32, 21, 6, 43, 180, 0, 160, 28, 46, 163, 0, 21, 21, 5, 21, 6, 96, 21, 4, 42]
abbrev dktX1_sandFor_2 : List UInt8 := dkwX1_sandFor_2 ++ dktX1_sandFor_3
def dkwX1_sandFor_1 : List UInt8 := [100, 184, 0, 197, 54, 6, 42, 180, 0, 10, 180, 0, 68, 182, 0, 72, 5, 161, 0, 37, 21, 4]
abbrev dktX1_sandFor_1 : List UInt8 := dkwX1_sandFor_1 ++ dktX1_sandFor_2
def dkwX1_sandFor_0 : List UInt8 := [43, 29, 182, 0, 178, 54, 5, 3, 4, 21, 4, 42, 180, 0, 10, 180, 0, 141, 100, 184, 0, 197, 21, 5]
abbrev dktX1_sandFor_0 : List UInt8 := dkwX1_sandFor_0 ++ dktX1_sandFor_1
theorem dksX1_sandFor_0 : cX1_sandFor.data.toList.drop 0 = dktX1_sandFor_0 := by decide +kernel
theorem dksX1_sandFor_1 : cX1_sandFor.data.toList.drop 24 = dktX1_sandFor_1 := dk_seg dksX1_sandFor_0 24 rfl rfl
theorem dksX1_sandFor_2 : cX1_sandFor.data.toList.drop 46 = dktX1_sandFor_2 := dk_seg dksX1_sandFor_1 22 rfl rfl
theorem dksX1_sandFor_3 : cX1_sandFor.data.toList.drop 68 = dktX1_sandFor_3 := dk_seg dksX1_sandFor_2 22 rfl rfl
theorem dX1_sandFor_0 : decode cX1_sandFor 0 = .ok (.aload_n 1, 1) := dk_43 (dk_at dksX1_sandFor_0 0 rfl rfl)
theorem dX1_sandFor_1 : decode cX1_sandFor 1 = .ok (.iload_n 3, 1) := dk_29 (dk_at dksX1_sandFor_0 1 rfl rfl)
theorem dX1_sandFor_2 : decode cX1_sandFor 2 = .ok (.invokevirtual 178, 3) := dk_182 0 178 (dk_at dksX1_sandFor_0 2 rfl rfl)
theorem dX1_sandFor_5 : decode cX1_sandFor 5 = .ok (.istore 5, 2) := dk_54 5 (dk_at dksX1_sandFor_0 5 rfl rfl)
theorem dX1_sandFor_7 : decode cX1_sandFor 7 = .ok (.iconst 0, 1) := dk_3 (dk_at dksX1_sandFor_0 7 rfl rfl)
theorem dX1_sandFor_8 : decode cX1_sandFor 8 = .ok (.iconst 1, 1) := dk_4 (dk_at dksX1_sandFor_0 8 rfl rfl)
theorem dX1_sandFor_9 : decode cX1_sandFor 9 = .ok (.iload 4, 2) := dk_21 4 (dk_at dksX1_sandFor_0 9 rfl rfl)
theorem dX1_sandFor_11 : decode cX1_sandFor 11 = .ok (.aload_n 0, 1) := dk_42 (dk_at dksX1_sandFor_0 11 rfl rfl)
theorem dX1_sandFor_12 : decode cX1_sandFor 12 = .ok (.getfield 10, 3) := dk_180 0 10 (dk_at dksX1_sandFor_0 12 rfl rfl)
theorem dX1_sandFor_15 : decode cX1_sandFor 15 = .ok (.getfield 141, 3) := dk_180 0 141 (dk_at dksX1_sandFor_0 15 rfl rfl)
theorem dX1_sandFor_18 : decode cX1_sandFor 18 = .ok (.isub, 1) := dk_100 (dk_at dksX1_sandFor_0 18 rfl rfl)
theorem dX1_sandFor_19 : decode cX1_sandFor 19 = .ok (.invokestatic 197, 3) := dk_184 0 197 (dk_at dksX1_sandFor_0 19 rfl rfl)
theorem dX1_sandFor_22 : decode cX1_sandFor 22 = .ok (.iload 5, 2) := dk_21 5 (dk_at dksX1_sandFor_0 22 rfl rfl)
theorem dX1_sandFor_24 : decode cX1_sandFor 24 = .ok (.isub, 1) := dk_100 (dk_at dksX1_sandFor_1 0 rfl rfl)
theorem dX1_sandFor_25 : decode cX1_sandFor 25 = .ok (.invokestatic 197, 3) := dk_184 0 197 (dk_at dksX1_sandFor_1 1 rfl rfl)
theorem dX1_sandFor_28 : decode cX1_sandFor 28 = .ok (.istore 6, 2) := dk_54 6 (dk_at dksX1_sandFor_1 4 rfl rfl)
theorem dX1_sandFor_30 : decode cX1_sandFor 30 = .ok (.aload_n 0, 1) := dk_42 (dk_at dksX1_sandFor_1 6 rfl rfl)
theorem dX1_sandFor_31 : decode cX1_sandFor 31 = .ok (.getfield 10, 3) := dk_180 0 10 (dk_at dksX1_sandFor_1 7 rfl rfl)
theorem dX1_sandFor_34 : decode cX1_sandFor 34 = .ok (.getfield 68, 3) := dk_180 0 68 (dk_at dksX1_sandFor_1 10 rfl rfl)
theorem dX1_sandFor_37 : decode cX1_sandFor 37 = .ok (.invokevirtual 72, 3) := dk_182 0 72 (dk_at dksX1_sandFor_1 13 rfl rfl)
theorem dX1_sandFor_40 : decode cX1_sandFor 40 = .ok (.iconst 2, 1) := dk_5 (dk_at dksX1_sandFor_1 16 rfl rfl)
theorem dX1_sandFor_41 : decode cX1_sandFor 41 = .ok (.if_icmp .lt 37, 3) := dk_161 0 37 (dk_at dksX1_sandFor_1 17 rfl rfl)
theorem dX1_sandFor_44 : decode cX1_sandFor 44 = .ok (.iload 4, 2) := dk_21 4 (dk_at dksX1_sandFor_1 20 rfl rfl)
theorem dX1_sandFor_46 : decode cX1_sandFor 46 = .ok (.ifCond .eq 32, 3) := dk_153 0 32 (dk_at dksX1_sandFor_2 0 rfl rfl)
theorem dX1_sandFor_49 : decode cX1_sandFor 49 = .ok (.iload 6, 2) := dk_21 6 (dk_at dksX1_sandFor_2 3 rfl rfl)
theorem dX1_sandFor_51 : decode cX1_sandFor 51 = .ok (.aload_n 1, 1) := dk_43 (dk_at dksX1_sandFor_2 5 rfl rfl)
theorem dX1_sandFor_52 : decode cX1_sandFor 52 = .ok (.getfield 160, 3) := dk_180 0 160 (dk_at dksX1_sandFor_2 6 rfl rfl)
theorem dX1_sandFor_55 : decode cX1_sandFor 55 = .ok (.iload_n 2, 1) := dk_28 (dk_at dksX1_sandFor_2 9 rfl rfl)
theorem dX1_sandFor_56 : decode cX1_sandFor 56 = .ok (.iaload, 1) := dk_46 (dk_at dksX1_sandFor_2 10 rfl rfl)
theorem dX1_sandFor_57 : decode cX1_sandFor 57 = .ok (.if_icmp .gt 21, 3) := dk_163 0 21 (dk_at dksX1_sandFor_2 11 rfl rfl)
theorem dX1_sandFor_60 : decode cX1_sandFor 60 = .ok (.iload 5, 2) := dk_21 5 (dk_at dksX1_sandFor_2 14 rfl rfl)
theorem dX1_sandFor_62 : decode cX1_sandFor 62 = .ok (.iload 6, 2) := dk_21 6 (dk_at dksX1_sandFor_2 16 rfl rfl)
theorem dX1_sandFor_64 : decode cX1_sandFor 64 = .ok (.iadd, 1) := dk_96 (dk_at dksX1_sandFor_2 18 rfl rfl)
theorem dX1_sandFor_65 : decode cX1_sandFor 65 = .ok (.iload 4, 2) := dk_21 4 (dk_at dksX1_sandFor_2 19 rfl rfl)
theorem dX1_sandFor_67 : decode cX1_sandFor 67 = .ok (.aload_n 0, 1) := dk_42 (dk_at dksX1_sandFor_2 21 rfl rfl)
theorem dX1_sandFor_68 : decode cX1_sandFor 68 = .ok (.getfield 10, 3) := dk_180 0 10 (dk_at dksX1_sandFor_3 0 rfl rfl)
theorem dX1_sandFor_71 : decode cX1_sandFor 71 = .ok (.getfield 141, 3) := dk_180 0 141 (dk_at dksX1_sandFor_3 3 rfl rfl)
theorem dX1_sandFor_74 : decode cX1_sandFor 74 = .ok (.iadd, 1) := dk_96 (dk_at dksX1_sandFor_3 6 rfl rfl)
theorem dX1_sandFor_75 : decode cX1_sandFor 75 = .ok (.if_icmp .le 7, 3) := dk_164 0 7 (dk_at dksX1_sandFor_3 7 rfl rfl)
theorem dX1_sandFor_78 : decode cX1_sandFor 78 = .ok (.iconst (-1), 1) := dk_2 (dk_at dksX1_sandFor_3 10 rfl rfl)
theorem dX1_sandFor_79 : decode cX1_sandFor 79 = .ok (.goto 5, 3) := dk_167 0 5 (dk_at dksX1_sandFor_3 11 rfl rfl)
theorem dX1_sandFor_82 : decode cX1_sandFor 82 = .ok (.iload 6, 2) := dk_21 6 (dk_at dksX1_sandFor_3 14 rfl rfl)
theorem dX1_sandFor_84 : decode cX1_sandFor 84 = .ok (.ireturn, 1) := dk_172 (dk_at dksX1_sandFor_3 16 rfl rfl)
abbrev cX1_next : ByteArray := prog_1_method_22_code
def yX1_next : MethodName := ⟨RX1, "next", "(II)I"⟩
def dkwX1_next_0 : List UInt8 := [26, 27, 2, 130, 128, 4, 96, 27, 126, 172]
abbrev dktX1_next_0 : List UInt8 := dkwX1_next_0 ++ []
theorem dksX1_next_0 : cX1_next.data.toList.drop 0 = dktX1_next_0 := by decide +kernel
theorem dX1_next_0 : decode cX1_next 0 = .ok (.iload_n 0, 1) := dk_26 (dk_at dksX1_next_0 0 rfl rfl)
theorem dX1_next_1 : decode cX1_next 1 = .ok (.iload_n 1, 1) := dk_27 (dk_at dksX1_next_0 1 rfl rfl)
theorem dX1_next_2 : decode cX1_next 2 = .ok (.iconst (-1), 1) := dk_2 (dk_at dksX1_next_0 2 rfl rfl)
theorem dX1_next_3 : decode cX1_next 3 = .ok (.ixor, 1) := dk_130 (dk_at dksX1_next_0 3 rfl rfl)
theorem dX1_next_4 : decode cX1_next 4 = .ok (.ior, 1) := dk_128 (dk_at dksX1_next_0 4 rfl rfl)
theorem dX1_next_5 : decode cX1_next 5 = .ok (.iconst 1, 1) := dk_4 (dk_at dksX1_next_0 5 rfl rfl)
theorem dX1_next_6 : decode cX1_next 6 = .ok (.iadd, 1) := dk_96 (dk_at dksX1_next_0 6 rfl rfl)
theorem dX1_next_7 : decode cX1_next 7 = .ok (.iload_n 1, 1) := dk_27 (dk_at dksX1_next_0 7 rfl rfl)
theorem dX1_next_8 : decode cX1_next 8 = .ok (.iand, 1) := dk_126 (dk_at dksX1_next_0 8 rfl rfl)
theorem dX1_next_9 : decode cX1_next 9 = .ok (.ireturn, 1) := dk_172 (dk_at dksX1_next_0 9 rfl rfl)
abbrev cX1_toWhom : ByteArray := prog_1_method_25_code
def yX1_toWhom : MethodName := ⟨RX1, "toWhom", "(LHeavyGifts$State;II)I"⟩
def dkwX1_toWhom_2 : List UInt8 := [180, 0, 68, 182, 0, 72, 112, 167, 0, 5, 21, 4, 172]
abbrev dktX1_toWhom_2 : List UInt8 := dkwX1_toWhom_2 ++ []
def dkwX1_toWhom_1 : List UInt8 := [182, 1, 19, 54, 4, 21, 4, 2, 159, 0, 9, 21, 4, 28, 160, 0, 20, 28, 4, 96, 42, 180, 0, 10]
abbrev dktX1_toWhom_1 : List UInt8 := dkwX1_toWhom_1 ++ dktX1_toWhom_2
def dkwX1_toWhom_0 : List UInt8 := [29, 2, 159, 0, 5, 29, 172, 42, 180, 0, 10, 180, 0, 68, 28, 182, 0, 152, 192, 0, 156, 43]
abbrev dktX1_toWhom_0 : List UInt8 := dkwX1_toWhom_0 ++ dktX1_toWhom_1
theorem dksX1_toWhom_0 : cX1_toWhom.data.toList.drop 0 = dktX1_toWhom_0 := by decide +kernel
theorem dksX1_toWhom_1 : cX1_toWhom.data.toList.drop 22 = dktX1_toWhom_1 := dk_seg dksX1_toWhom_0 22 rfl rfl
theorem dksX1_toWhom_2 : cX1_toWhom.data.toList.drop 46 = dktX1_toWhom_2 := dk_seg dksX1_toWhom_1 24 rfl rfl
theorem dX1_toWhom_0 : decode cX1_toWhom 0 = .ok (.iload_n 3, 1) := dk_29 (dk_at dksX1_toWhom_0 0 rfl rfl)
theorem dX1_toWhom_1 : decode cX1_toWhom 1 = .ok (.iconst (-1), 1) := dk_2 (dk_at dksX1_toWhom_0 1 rfl rfl)
theorem dX1_toWhom_2 : decode cX1_toWhom 2 = .ok (.if_icmp .eq 5, 3) := dk_159 0 5 (dk_at dksX1_toWhom_0 2 rfl rfl)
theorem dX1_toWhom_5 : decode cX1_toWhom 5 = .ok (.iload_n 3, 1) := dk_29 (dk_at dksX1_toWhom_0 5 rfl rfl)
theorem dX1_toWhom_6 : decode cX1_toWhom 6 = .ok (.ireturn, 1) := dk_172 (dk_at dksX1_toWhom_0 6 rfl rfl)
theorem dX1_toWhom_7 : decode cX1_toWhom 7 = .ok (.aload_n 0, 1) := dk_42 (dk_at dksX1_toWhom_0 7 rfl rfl)
theorem dX1_toWhom_8 : decode cX1_toWhom 8 = .ok (.getfield 10, 3) := dk_180 0 10 (dk_at dksX1_toWhom_0 8 rfl rfl)
theorem dX1_toWhom_11 : decode cX1_toWhom 11 = .ok (.getfield 68, 3) := dk_180 0 68 (dk_at dksX1_toWhom_0 11 rfl rfl)
theorem dX1_toWhom_14 : decode cX1_toWhom 14 = .ok (.iload_n 2, 1) := dk_28 (dk_at dksX1_toWhom_0 14 rfl rfl)
theorem dX1_toWhom_15 : decode cX1_toWhom 15 = .ok (.invokevirtual 152, 3) := dk_182 0 152 (dk_at dksX1_toWhom_0 15 rfl rfl)
theorem dX1_toWhom_18 : decode cX1_toWhom 18 = .ok (.checkcast 156, 3) := dk_192 0 156 (dk_at dksX1_toWhom_0 18 rfl rfl)
theorem dX1_toWhom_21 : decode cX1_toWhom 21 = .ok (.aload_n 1, 1) := dk_43 (dk_at dksX1_toWhom_0 21 rfl rfl)
theorem dX1_toWhom_22 : decode cX1_toWhom 22 = .ok (.invokevirtual 275, 3) := dk_182 1 19 (dk_at dksX1_toWhom_1 0 rfl rfl)
theorem dX1_toWhom_25 : decode cX1_toWhom 25 = .ok (.istore 4, 2) := dk_54 4 (dk_at dksX1_toWhom_1 3 rfl rfl)
theorem dX1_toWhom_27 : decode cX1_toWhom 27 = .ok (.iload 4, 2) := dk_21 4 (dk_at dksX1_toWhom_1 5 rfl rfl)
theorem dX1_toWhom_29 : decode cX1_toWhom 29 = .ok (.iconst (-1), 1) := dk_2 (dk_at dksX1_toWhom_1 7 rfl rfl)
theorem dX1_toWhom_30 : decode cX1_toWhom 30 = .ok (.if_icmp .eq 9, 3) := dk_159 0 9 (dk_at dksX1_toWhom_1 8 rfl rfl)
theorem dX1_toWhom_33 : decode cX1_toWhom 33 = .ok (.iload 4, 2) := dk_21 4 (dk_at dksX1_toWhom_1 11 rfl rfl)
theorem dX1_toWhom_35 : decode cX1_toWhom 35 = .ok (.iload_n 2, 1) := dk_28 (dk_at dksX1_toWhom_1 13 rfl rfl)
theorem dX1_toWhom_36 : decode cX1_toWhom 36 = .ok (.if_icmp .ne 20, 3) := dk_160 0 20 (dk_at dksX1_toWhom_1 14 rfl rfl)
theorem dX1_toWhom_39 : decode cX1_toWhom 39 = .ok (.iload_n 2, 1) := dk_28 (dk_at dksX1_toWhom_1 17 rfl rfl)
theorem dX1_toWhom_40 : decode cX1_toWhom 40 = .ok (.iconst 1, 1) := dk_4 (dk_at dksX1_toWhom_1 18 rfl rfl)
theorem dX1_toWhom_41 : decode cX1_toWhom 41 = .ok (.iadd, 1) := dk_96 (dk_at dksX1_toWhom_1 19 rfl rfl)
theorem dX1_toWhom_42 : decode cX1_toWhom 42 = .ok (.aload_n 0, 1) := dk_42 (dk_at dksX1_toWhom_1 20 rfl rfl)
theorem dX1_toWhom_43 : decode cX1_toWhom 43 = .ok (.getfield 10, 3) := dk_180 0 10 (dk_at dksX1_toWhom_1 21 rfl rfl)
theorem dX1_toWhom_46 : decode cX1_toWhom 46 = .ok (.getfield 68, 3) := dk_180 0 68 (dk_at dksX1_toWhom_2 0 rfl rfl)
theorem dX1_toWhom_49 : decode cX1_toWhom 49 = .ok (.invokevirtual 72, 3) := dk_182 0 72 (dk_at dksX1_toWhom_2 3 rfl rfl)
theorem dX1_toWhom_52 : decode cX1_toWhom 52 = .ok (.irem, 1) := dk_112 (dk_at dksX1_toWhom_2 6 rfl rfl)
theorem dX1_toWhom_53 : decode cX1_toWhom 53 = .ok (.goto 5, 3) := dk_167 0 5 (dk_at dksX1_toWhom_2 7 rfl rfl)
theorem dX1_toWhom_56 : decode cX1_toWhom 56 = .ok (.iload 4, 2) := dk_21 4 (dk_at dksX1_toWhom_2 10 rfl rfl)
theorem dX1_toWhom_58 : decode cX1_toWhom 58 = .ok (.ireturn, 1) := dk_172 (dk_at dksX1_toWhom_2 12 rfl rfl)
abbrev cX1_mayChange : ByteArray := prog_1_method_46_code
def yX1_mayChange : MethodName := ⟨RX1, "mayChange", "(LHeavyGifts$State;)Z"⟩
def dkwX1_mayChange_4 : List UInt8 := [164, 0, 5, 4, 172, 132, 2, 1, 167, 255, 215, 3, 172]
abbrev dktX1_mayChange_4 : List UInt8 := dkwX1_mayChange_4 ++ []
def dkwX1_mayChange_3 : List UInt8 := [42, 180, 0, 10, 180, 0, 191, 28, 122, 4, 126, 4, 160, 0, 15, 43, 180, 0, 182, 28, 46, 4]
abbrev dktX1_mayChange_3 : List UInt8 := dkwX1_mayChange_3 ++ dktX1_mayChange_4
def dkwX1_mayChange_2 : List UInt8 := [154, 0, 5, 4, 172, 132, 2, 1, 167, 255, 204, 3, 61, 28, 42, 180, 0, 10, 180, 0, 134, 162, 0, 36]
abbrev dktX1_mayChange_2 : List UInt8 := dkwX1_mayChange_2 ++ dktX1_mayChange_3
def dkwX1_mayChange_1 : List UInt8 := [158, 0, 29, 42, 180, 0, 10, 180, 0, 68, 28, 182, 0, 152, 192, 0, 156, 43, 180, 0, 143, 182, 1, 9]
abbrev dktX1_mayChange_1 : List UInt8 := dkwX1_mayChange_1 ++ dktX1_mayChange_2
def dkwX1_mayChange_0 : List UInt8 := [3, 61, 28, 42, 180, 0, 10, 180, 0, 68, 182, 0, 72, 162, 0, 44, 43, 180, 0, 163, 28, 46]
abbrev dktX1_mayChange_0 : List UInt8 := dkwX1_mayChange_0 ++ dktX1_mayChange_1
theorem dksX1_mayChange_0 : cX1_mayChange.data.toList.drop 0 = dktX1_mayChange_0 := by decide +kernel
theorem dksX1_mayChange_1 : cX1_mayChange.data.toList.drop 22 = dktX1_mayChange_1 := dk_seg dksX1_mayChange_0 22 rfl rfl
theorem dksX1_mayChange_2 : cX1_mayChange.data.toList.drop 46 = dktX1_mayChange_2 := dk_seg dksX1_mayChange_1 24 rfl rfl
theorem dksX1_mayChange_3 : cX1_mayChange.data.toList.drop 70 = dktX1_mayChange_3 := dk_seg dksX1_mayChange_2 24 rfl rfl
theorem dksX1_mayChange_4 : cX1_mayChange.data.toList.drop 92 = dktX1_mayChange_4 := dk_seg dksX1_mayChange_3 22 rfl rfl
theorem dX1_mayChange_0 : decode cX1_mayChange 0 = .ok (.iconst 0, 1) := dk_3 (dk_at dksX1_mayChange_0 0 rfl rfl)
theorem dX1_mayChange_1 : decode cX1_mayChange 1 = .ok (.istore_n 2, 1) := dk_61 (dk_at dksX1_mayChange_0 1 rfl rfl)
theorem dX1_mayChange_2 : decode cX1_mayChange 2 = .ok (.iload_n 2, 1) := dk_28 (dk_at dksX1_mayChange_0 2 rfl rfl)
theorem dX1_mayChange_3 : decode cX1_mayChange 3 = .ok (.aload_n 0, 1) := dk_42 (dk_at dksX1_mayChange_0 3 rfl rfl)
theorem dX1_mayChange_4 : decode cX1_mayChange 4 = .ok (.getfield 10, 3) := dk_180 0 10 (dk_at dksX1_mayChange_0 4 rfl rfl)
theorem dX1_mayChange_7 : decode cX1_mayChange 7 = .ok (.getfield 68, 3) := dk_180 0 68 (dk_at dksX1_mayChange_0 7 rfl rfl)
theorem dX1_mayChange_10 : decode cX1_mayChange 10 = .ok (.invokevirtual 72, 3) := dk_182 0 72 (dk_at dksX1_mayChange_0 10 rfl rfl)
theorem dX1_mayChange_13 : decode cX1_mayChange 13 = .ok (.if_icmp .ge 44, 3) := dk_162 0 44 (dk_at dksX1_mayChange_0 13 rfl rfl)
theorem dX1_mayChange_16 : decode cX1_mayChange 16 = .ok (.aload_n 1, 1) := dk_43 (dk_at dksX1_mayChange_0 16 rfl rfl)
theorem dX1_mayChange_17 : decode cX1_mayChange 17 = .ok (.getfield 163, 3) := dk_180 0 163 (dk_at dksX1_mayChange_0 17 rfl rfl)
theorem dX1_mayChange_20 : decode cX1_mayChange 20 = .ok (.iload_n 2, 1) := dk_28 (dk_at dksX1_mayChange_0 20 rfl rfl)
theorem dX1_mayChange_21 : decode cX1_mayChange 21 = .ok (.iaload, 1) := dk_46 (dk_at dksX1_mayChange_0 21 rfl rfl)
theorem dX1_mayChange_22 : decode cX1_mayChange 22 = .ok (.ifCond .le 29, 3) := dk_158 0 29 (dk_at dksX1_mayChange_1 0 rfl rfl)
theorem dX1_mayChange_25 : decode cX1_mayChange 25 = .ok (.aload_n 0, 1) := dk_42 (dk_at dksX1_mayChange_1 3 rfl rfl)
theorem dX1_mayChange_26 : decode cX1_mayChange 26 = .ok (.getfield 10, 3) := dk_180 0 10 (dk_at dksX1_mayChange_1 4 rfl rfl)
theorem dX1_mayChange_29 : decode cX1_mayChange 29 = .ok (.getfield 68, 3) := dk_180 0 68 (dk_at dksX1_mayChange_1 7 rfl rfl)
theorem dX1_mayChange_32 : decode cX1_mayChange 32 = .ok (.iload_n 2, 1) := dk_28 (dk_at dksX1_mayChange_1 10 rfl rfl)
theorem dX1_mayChange_33 : decode cX1_mayChange 33 = .ok (.invokevirtual 152, 3) := dk_182 0 152 (dk_at dksX1_mayChange_1 11 rfl rfl)
theorem dX1_mayChange_36 : decode cX1_mayChange 36 = .ok (.checkcast 156, 3) := dk_192 0 156 (dk_at dksX1_mayChange_1 14 rfl rfl)
theorem dX1_mayChange_39 : decode cX1_mayChange 39 = .ok (.aload_n 1, 1) := dk_43 (dk_at dksX1_mayChange_1 17 rfl rfl)
theorem dX1_mayChange_40 : decode cX1_mayChange 40 = .ok (.getfield 143, 3) := dk_180 0 143 (dk_at dksX1_mayChange_1 18 rfl rfl)
theorem dX1_mayChange_43 : decode cX1_mayChange 43 = .ok (.invokevirtual 265, 3) := dk_182 1 9 (dk_at dksX1_mayChange_1 21 rfl rfl)
theorem dX1_mayChange_46 : decode cX1_mayChange 46 = .ok (.ifCond .ne 5, 3) := dk_154 0 5 (dk_at dksX1_mayChange_2 0 rfl rfl)
theorem dX1_mayChange_49 : decode cX1_mayChange 49 = .ok (.iconst 1, 1) := dk_4 (dk_at dksX1_mayChange_2 3 rfl rfl)
theorem dX1_mayChange_50 : decode cX1_mayChange 50 = .ok (.ireturn, 1) := dk_172 (dk_at dksX1_mayChange_2 4 rfl rfl)
theorem dX1_mayChange_51 : decode cX1_mayChange 51 = .ok (.iinc 2 1, 3) := dk_132 2 1 (dk_at dksX1_mayChange_2 5 rfl rfl)
theorem dX1_mayChange_54 : decode cX1_mayChange 54 = .ok (.goto (-52), 3) := dk_167 255 204 (dk_at dksX1_mayChange_2 8 rfl rfl)
theorem dX1_mayChange_57 : decode cX1_mayChange 57 = .ok (.iconst 0, 1) := dk_3 (dk_at dksX1_mayChange_2 11 rfl rfl)
theorem dX1_mayChange_58 : decode cX1_mayChange 58 = .ok (.istore_n 2, 1) := dk_61 (dk_at dksX1_mayChange_2 12 rfl rfl)
theorem dX1_mayChange_59 : decode cX1_mayChange 59 = .ok (.iload_n 2, 1) := dk_28 (dk_at dksX1_mayChange_2 13 rfl rfl)
theorem dX1_mayChange_60 : decode cX1_mayChange 60 = .ok (.aload_n 0, 1) := dk_42 (dk_at dksX1_mayChange_2 14 rfl rfl)
theorem dX1_mayChange_61 : decode cX1_mayChange 61 = .ok (.getfield 10, 3) := dk_180 0 10 (dk_at dksX1_mayChange_2 15 rfl rfl)
theorem dX1_mayChange_64 : decode cX1_mayChange 64 = .ok (.getfield 134, 3) := dk_180 0 134 (dk_at dksX1_mayChange_2 18 rfl rfl)
theorem dX1_mayChange_67 : decode cX1_mayChange 67 = .ok (.if_icmp .ge 36, 3) := dk_162 0 36 (dk_at dksX1_mayChange_2 21 rfl rfl)
theorem dX1_mayChange_70 : decode cX1_mayChange 70 = .ok (.aload_n 0, 1) := dk_42 (dk_at dksX1_mayChange_3 0 rfl rfl)
theorem dX1_mayChange_71 : decode cX1_mayChange 71 = .ok (.getfield 10, 3) := dk_180 0 10 (dk_at dksX1_mayChange_3 1 rfl rfl)
theorem dX1_mayChange_74 : decode cX1_mayChange 74 = .ok (.getfield 191, 3) := dk_180 0 191 (dk_at dksX1_mayChange_3 4 rfl rfl)
theorem dX1_mayChange_77 : decode cX1_mayChange 77 = .ok (.iload_n 2, 1) := dk_28 (dk_at dksX1_mayChange_3 7 rfl rfl)
theorem dX1_mayChange_78 : decode cX1_mayChange 78 = .ok (.ishr, 1) := dk_122 (dk_at dksX1_mayChange_3 8 rfl rfl)
theorem dX1_mayChange_79 : decode cX1_mayChange 79 = .ok (.iconst 1, 1) := dk_4 (dk_at dksX1_mayChange_3 9 rfl rfl)
theorem dX1_mayChange_80 : decode cX1_mayChange 80 = .ok (.iand, 1) := dk_126 (dk_at dksX1_mayChange_3 10 rfl rfl)
theorem dX1_mayChange_81 : decode cX1_mayChange 81 = .ok (.iconst 1, 1) := dk_4 (dk_at dksX1_mayChange_3 11 rfl rfl)
theorem dX1_mayChange_82 : decode cX1_mayChange 82 = .ok (.if_icmp .ne 15, 3) := dk_160 0 15 (dk_at dksX1_mayChange_3 12 rfl rfl)
theorem dX1_mayChange_85 : decode cX1_mayChange 85 = .ok (.aload_n 1, 1) := dk_43 (dk_at dksX1_mayChange_3 15 rfl rfl)
theorem dX1_mayChange_86 : decode cX1_mayChange 86 = .ok (.getfield 182, 3) := dk_180 0 182 (dk_at dksX1_mayChange_3 16 rfl rfl)
theorem dX1_mayChange_89 : decode cX1_mayChange 89 = .ok (.iload_n 2, 1) := dk_28 (dk_at dksX1_mayChange_3 19 rfl rfl)
theorem dX1_mayChange_90 : decode cX1_mayChange 90 = .ok (.iaload, 1) := dk_46 (dk_at dksX1_mayChange_3 20 rfl rfl)
theorem dX1_mayChange_91 : decode cX1_mayChange 91 = .ok (.iconst 1, 1) := dk_4 (dk_at dksX1_mayChange_3 21 rfl rfl)
theorem dX1_mayChange_92 : decode cX1_mayChange 92 = .ok (.if_icmp .le 5, 3) := dk_164 0 5 (dk_at dksX1_mayChange_4 0 rfl rfl)
theorem dX1_mayChange_95 : decode cX1_mayChange 95 = .ok (.iconst 1, 1) := dk_4 (dk_at dksX1_mayChange_4 3 rfl rfl)
theorem dX1_mayChange_96 : decode cX1_mayChange 96 = .ok (.ireturn, 1) := dk_172 (dk_at dksX1_mayChange_4 4 rfl rfl)
theorem dX1_mayChange_97 : decode cX1_mayChange 97 = .ok (.iinc 2 1, 3) := dk_132 2 1 (dk_at dksX1_mayChange_4 5 rfl rfl)
theorem dX1_mayChange_100 : decode cX1_mayChange 100 = .ok (.goto (-41), 3) := dk_167 255 215 (dk_at dksX1_mayChange_4 8 rfl rfl)
theorem dX1_mayChange_103 : decode cX1_mayChange 103 = .ok (.iconst 0, 1) := dk_3 (dk_at dksX1_mayChange_4 11 rfl rfl)
theorem dX1_mayChange_104 : decode cX1_mayChange 104 = .ok (.ireturn, 1) := dk_172 (dk_at dksX1_mayChange_4 12 rfl rfl)
abbrev cX1_dries : ByteArray := prog_1_method_44_code
def yX1_dries : MethodName := ⟨RX1, "dries", "(LHeavyGifts$State;)V"⟩
def dkwX1_dries_2 : List UInt8 := [132, 2, 1, 167, 255, 209, 43, 89, 180, 0, 143, 4, 96, 181, 0, 143, 177]
abbrev dktX1_dries_2 : List UInt8 := dkwX1_dries_2 ++ []
def dkwX1_dries_1 : List UInt8 := [4, 160, 0, 21, 43, 180, 0, 182, 28, 4, 43, 180, 0, 182, 28, 46, 4, 100, 184, 0, 197, 79]
abbrev dktX1_dries_1 : List UInt8 := dkwX1_dries_1 ++ dktX1_dries_2
def dkwX1_dries_0 : List UInt8 := [3, 61, 28, 42, 180, 0, 10, 180, 0, 134, 162, 0, 42, 42, 180, 0, 10, 180, 0, 191, 28, 122, 4, 126]
abbrev dktX1_dries_0 : List UInt8 := dkwX1_dries_0 ++ dktX1_dries_1
theorem dksX1_dries_0 : cX1_dries.data.toList.drop 0 = dktX1_dries_0 := by decide +kernel
theorem dksX1_dries_1 : cX1_dries.data.toList.drop 24 = dktX1_dries_1 := dk_seg dksX1_dries_0 24 rfl rfl
theorem dksX1_dries_2 : cX1_dries.data.toList.drop 46 = dktX1_dries_2 := dk_seg dksX1_dries_1 22 rfl rfl
theorem dX1_dries_0 : decode cX1_dries 0 = .ok (.iconst 0, 1) := dk_3 (dk_at dksX1_dries_0 0 rfl rfl)
theorem dX1_dries_1 : decode cX1_dries 1 = .ok (.istore_n 2, 1) := dk_61 (dk_at dksX1_dries_0 1 rfl rfl)
theorem dX1_dries_2 : decode cX1_dries 2 = .ok (.iload_n 2, 1) := dk_28 (dk_at dksX1_dries_0 2 rfl rfl)
theorem dX1_dries_3 : decode cX1_dries 3 = .ok (.aload_n 0, 1) := dk_42 (dk_at dksX1_dries_0 3 rfl rfl)
theorem dX1_dries_4 : decode cX1_dries 4 = .ok (.getfield 10, 3) := dk_180 0 10 (dk_at dksX1_dries_0 4 rfl rfl)
theorem dX1_dries_7 : decode cX1_dries 7 = .ok (.getfield 134, 3) := dk_180 0 134 (dk_at dksX1_dries_0 7 rfl rfl)
theorem dX1_dries_10 : decode cX1_dries 10 = .ok (.if_icmp .ge 42, 3) := dk_162 0 42 (dk_at dksX1_dries_0 10 rfl rfl)
theorem dX1_dries_13 : decode cX1_dries 13 = .ok (.aload_n 0, 1) := dk_42 (dk_at dksX1_dries_0 13 rfl rfl)
theorem dX1_dries_14 : decode cX1_dries 14 = .ok (.getfield 10, 3) := dk_180 0 10 (dk_at dksX1_dries_0 14 rfl rfl)
theorem dX1_dries_17 : decode cX1_dries 17 = .ok (.getfield 191, 3) := dk_180 0 191 (dk_at dksX1_dries_0 17 rfl rfl)
theorem dX1_dries_20 : decode cX1_dries 20 = .ok (.iload_n 2, 1) := dk_28 (dk_at dksX1_dries_0 20 rfl rfl)
theorem dX1_dries_21 : decode cX1_dries 21 = .ok (.ishr, 1) := dk_122 (dk_at dksX1_dries_0 21 rfl rfl)
theorem dX1_dries_22 : decode cX1_dries 22 = .ok (.iconst 1, 1) := dk_4 (dk_at dksX1_dries_0 22 rfl rfl)
theorem dX1_dries_23 : decode cX1_dries 23 = .ok (.iand, 1) := dk_126 (dk_at dksX1_dries_0 23 rfl rfl)
theorem dX1_dries_24 : decode cX1_dries 24 = .ok (.iconst 1, 1) := dk_4 (dk_at dksX1_dries_1 0 rfl rfl)
theorem dX1_dries_25 : decode cX1_dries 25 = .ok (.if_icmp .ne 21, 3) := dk_160 0 21 (dk_at dksX1_dries_1 1 rfl rfl)
theorem dX1_dries_28 : decode cX1_dries 28 = .ok (.aload_n 1, 1) := dk_43 (dk_at dksX1_dries_1 4 rfl rfl)
theorem dX1_dries_29 : decode cX1_dries 29 = .ok (.getfield 182, 3) := dk_180 0 182 (dk_at dksX1_dries_1 5 rfl rfl)
theorem dX1_dries_32 : decode cX1_dries 32 = .ok (.iload_n 2, 1) := dk_28 (dk_at dksX1_dries_1 8 rfl rfl)
theorem dX1_dries_33 : decode cX1_dries 33 = .ok (.iconst 1, 1) := dk_4 (dk_at dksX1_dries_1 9 rfl rfl)
theorem dX1_dries_34 : decode cX1_dries 34 = .ok (.aload_n 1, 1) := dk_43 (dk_at dksX1_dries_1 10 rfl rfl)
theorem dX1_dries_35 : decode cX1_dries 35 = .ok (.getfield 182, 3) := dk_180 0 182 (dk_at dksX1_dries_1 11 rfl rfl)
theorem dX1_dries_38 : decode cX1_dries 38 = .ok (.iload_n 2, 1) := dk_28 (dk_at dksX1_dries_1 14 rfl rfl)
theorem dX1_dries_39 : decode cX1_dries 39 = .ok (.iaload, 1) := dk_46 (dk_at dksX1_dries_1 15 rfl rfl)
theorem dX1_dries_40 : decode cX1_dries 40 = .ok (.iconst 1, 1) := dk_4 (dk_at dksX1_dries_1 16 rfl rfl)
theorem dX1_dries_41 : decode cX1_dries 41 = .ok (.isub, 1) := dk_100 (dk_at dksX1_dries_1 17 rfl rfl)
theorem dX1_dries_42 : decode cX1_dries 42 = .ok (.invokestatic 197, 3) := dk_184 0 197 (dk_at dksX1_dries_1 18 rfl rfl)
theorem dX1_dries_45 : decode cX1_dries 45 = .ok (.iastore, 1) := dk_79 (dk_at dksX1_dries_1 21 rfl rfl)
theorem dX1_dries_46 : decode cX1_dries 46 = .ok (.iinc 2 1, 3) := dk_132 2 1 (dk_at dksX1_dries_2 0 rfl rfl)
theorem dX1_dries_49 : decode cX1_dries 49 = .ok (.goto (-47), 3) := dk_167 255 209 (dk_at dksX1_dries_2 3 rfl rfl)
theorem dX1_dries_52 : decode cX1_dries 52 = .ok (.aload_n 1, 1) := dk_43 (dk_at dksX1_dries_2 6 rfl rfl)
theorem dX1_dries_53 : decode cX1_dries 53 = .ok (.dup, 1) := dk_89 (dk_at dksX1_dries_2 7 rfl rfl)
theorem dX1_dries_54 : decode cX1_dries 54 = .ok (.getfield 143, 3) := dk_180 0 143 (dk_at dksX1_dries_2 8 rfl rfl)
theorem dX1_dries_57 : decode cX1_dries 57 = .ok (.iconst 1, 1) := dk_4 (dk_at dksX1_dries_2 11 rfl rfl)
theorem dX1_dries_58 : decode cX1_dries 58 = .ok (.iadd, 1) := dk_96 (dk_at dksX1_dries_2 12 rfl rfl)
theorem dX1_dries_59 : decode cX1_dries 59 = .ok (.putfield 143, 3) := dk_181 0 143 (dk_at dksX1_dries_2 13 rfl rfl)
theorem dX1_dries_62 : decode cX1_dries 62 = .ok (.return_, 1) := dk_177 (dk_at dksX1_dries_2 16 rfl rfl)
abbrev cX1_image : ByteArray := prog_1_method_48_code
def yX1_image : MethodName := ⟨RX1, "image", "()V"⟩
def dkwX1_image_0 : List UInt8 := [42, 42, 180, 0, 19, 182, 1, 101, 181, 0, 127, 177]
abbrev dktX1_image_0 : List UInt8 := dkwX1_image_0 ++ []
theorem dksX1_image_0 : cX1_image.data.toList.drop 0 = dktX1_image_0 := by decide +kernel
theorem dX1_image_0 : decode cX1_image 0 = .ok (.aload_n 0, 1) := dk_42 (dk_at dksX1_image_0 0 rfl rfl)
theorem dX1_image_1 : decode cX1_image 1 = .ok (.aload_n 0, 1) := dk_42 (dk_at dksX1_image_0 1 rfl rfl)
theorem dX1_image_2 : decode cX1_image 2 = .ok (.getfield 19, 3) := dk_180 0 19 (dk_at dksX1_image_0 2 rfl rfl)
theorem dX1_image_5 : decode cX1_image 5 = .ok (.invokevirtual 357, 3) := dk_182 1 101 (dk_at dksX1_image_0 5 rfl rfl)
theorem dX1_image_8 : decode cX1_image 8 = .ok (.putfield 127, 3) := dk_181 0 127 (dk_at dksX1_image_0 8 rfl rfl)
theorem dX1_image_11 : decode cX1_image 11 = .ok (.return_, 1) := dk_177 (dk_at dksX1_image_0 11 rfl rfl)
abbrev cX1_restore : ByteArray := prog_1_method_49_code
def yX1_restore : MethodName := ⟨RX1, "restore", "()Z"⟩
def dkwX1_restore_0 : List UInt8 := [42, 180, 0, 127, 199, 0, 5, 3, 172, 42, 42, 180, 0, 127, 182, 1, 101, 181, 0, 19, 4, 172]
abbrev dktX1_restore_0 : List UInt8 := dkwX1_restore_0 ++ []
theorem dksX1_restore_0 : cX1_restore.data.toList.drop 0 = dktX1_restore_0 := by decide +kernel
theorem dX1_restore_0 : decode cX1_restore 0 = .ok (.aload_n 0, 1) := dk_42 (dk_at dksX1_restore_0 0 rfl rfl)
theorem dX1_restore_1 : decode cX1_restore 1 = .ok (.getfield 127, 3) := dk_180 0 127 (dk_at dksX1_restore_0 1 rfl rfl)
theorem dX1_restore_4 : decode cX1_restore 4 = .ok (.ifnonnull 5, 3) := dk_199 0 5 (dk_at dksX1_restore_0 4 rfl rfl)
theorem dX1_restore_7 : decode cX1_restore 7 = .ok (.iconst 0, 1) := dk_3 (dk_at dksX1_restore_0 7 rfl rfl)
theorem dX1_restore_8 : decode cX1_restore 8 = .ok (.ireturn, 1) := dk_172 (dk_at dksX1_restore_0 8 rfl rfl)
theorem dX1_restore_9 : decode cX1_restore 9 = .ok (.aload_n 0, 1) := dk_42 (dk_at dksX1_restore_0 9 rfl rfl)
theorem dX1_restore_10 : decode cX1_restore 10 = .ok (.aload_n 0, 1) := dk_42 (dk_at dksX1_restore_0 10 rfl rfl)
theorem dX1_restore_11 : decode cX1_restore 11 = .ok (.getfield 127, 3) := dk_180 0 127 (dk_at dksX1_restore_0 11 rfl rfl)
theorem dX1_restore_14 : decode cX1_restore 14 = .ok (.invokevirtual 357, 3) := dk_182 1 101 (dk_at dksX1_restore_0 14 rfl rfl)
theorem dX1_restore_17 : decode cX1_restore 17 = .ok (.putfield 19, 3) := dk_181 0 19 (dk_at dksX1_restore_0 17 rfl rfl)
theorem dX1_restore_20 : decode cX1_restore 20 = .ok (.iconst 1, 1) := dk_4 (dk_at dksX1_restore_0 20 rfl rfl)
theorem dX1_restore_21 : decode cX1_restore 21 = .ok (.ireturn, 1) := dk_172 (dk_at dksX1_restore_0 21 rfl rfl)
abbrev cX1_town : ByteArray := prog_1_method_9_code
def yX1_town : MethodName := ⟨RX1, "town", "(I)I"⟩
def dkwX1_town_5 : List UInt8 := [181, 0, 19, 42, 3, 181, 0, 124, 42, 1, 181, 0, 127, 3, 172]
abbrev dktX1_town_5 : List UInt8 := dkwX1_town_5 ++ []
def dkwX1_town_4 : List UInt8 := [42, 180, 0, 19, 180, 0, 112, 3, 44, 180, 0, 112, 3, 44, 180, 0, 112, 190, 184, 0, 118, 42, 44]
abbrev dktX1_town_4 : List UInt8 := dkwX1_town_4 ++ dktX1_town_5
def dkwX1_town_3 : List UInt8 := [180, 0, 109, 181, 0, 34, 42, 180, 0, 19, 180, 0, 112, 3, 92, 46, 4, 96, 79, 45, 180, 0, 115, 172]
abbrev dktX1_town_3 : List UInt8 := dkwX1_town_3 ++ dktX1_town_4
def dkwX1_town_2 : List UInt8 := [180, 0, 30, 27, 183, 0, 98, 44, 180, 0, 101, 182, 0, 104, 181, 0, 10, 167, 0, 30, 78, 42, 45]
abbrev dktX1_town_2 : List UInt8 := dkwX1_town_2 ++ dktX1_town_3
def dkwX1_town_1 : List UInt8 := [181, 0, 86, 42, 2, 181, 0, 34, 187, 0, 16, 89, 183, 0, 18, 77, 42, 187, 0, 96, 89, 42]
abbrev dktX1_town_1 : List UInt8 := dkwX1_town_1 ++ dktX1_town_2
def dkwX1_town_0 : List UInt8 := [27, 155, 0, 15, 27, 42, 180, 0, 86, 163, 0, 7, 4, 167, 0, 4, 3, 184, 0, 93, 42, 3]
abbrev dktX1_town_0 : List UInt8 := dkwX1_town_0 ++ dktX1_town_1
theorem dksX1_town_0 : cX1_town.data.toList.drop 0 = dktX1_town_0 := by decide +kernel
theorem dksX1_town_1 : cX1_town.data.toList.drop 22 = dktX1_town_1 := dk_seg dksX1_town_0 22 rfl rfl
theorem dksX1_town_2 : cX1_town.data.toList.drop 44 = dktX1_town_2 := dk_seg dksX1_town_1 22 rfl rfl
theorem dksX1_town_3 : cX1_town.data.toList.drop 67 = dktX1_town_3 := dk_seg dksX1_town_2 23 rfl rfl
theorem dksX1_town_4 : cX1_town.data.toList.drop 91 = dktX1_town_4 := dk_seg dksX1_town_3 24 rfl rfl
theorem dksX1_town_5 : cX1_town.data.toList.drop 114 = dktX1_town_5 := dk_seg dksX1_town_4 23 rfl rfl
theorem dX1_town_0 : decode cX1_town 0 = .ok (.iload_n 1, 1) := dk_27 (dk_at dksX1_town_0 0 rfl rfl)
theorem dX1_town_1 : decode cX1_town 1 = .ok (.ifCond .lt 15, 3) := dk_155 0 15 (dk_at dksX1_town_0 1 rfl rfl)
theorem dX1_town_4 : decode cX1_town 4 = .ok (.iload_n 1, 1) := dk_27 (dk_at dksX1_town_0 4 rfl rfl)
theorem dX1_town_5 : decode cX1_town 5 = .ok (.aload_n 0, 1) := dk_42 (dk_at dksX1_town_0 5 rfl rfl)
theorem dX1_town_6 : decode cX1_town 6 = .ok (.getfield 86, 3) := dk_180 0 86 (dk_at dksX1_town_0 6 rfl rfl)
theorem dX1_town_9 : decode cX1_town 9 = .ok (.if_icmp .gt 7, 3) := dk_163 0 7 (dk_at dksX1_town_0 9 rfl rfl)
theorem dX1_town_12 : decode cX1_town 12 = .ok (.iconst 1, 1) := dk_4 (dk_at dksX1_town_0 12 rfl rfl)
theorem dX1_town_13 : decode cX1_town 13 = .ok (.goto 4, 3) := dk_167 0 4 (dk_at dksX1_town_0 13 rfl rfl)
theorem dX1_town_16 : decode cX1_town 16 = .ok (.iconst 0, 1) := dk_3 (dk_at dksX1_town_0 16 rfl rfl)
theorem dX1_town_17 : decode cX1_town 17 = .ok (.invokestatic 93, 3) := dk_184 0 93 (dk_at dksX1_town_0 17 rfl rfl)
theorem dX1_town_20 : decode cX1_town 20 = .ok (.aload_n 0, 1) := dk_42 (dk_at dksX1_town_0 20 rfl rfl)
theorem dX1_town_21 : decode cX1_town 21 = .ok (.iconst 0, 1) := dk_3 (dk_at dksX1_town_0 21 rfl rfl)
theorem dX1_town_22 : decode cX1_town 22 = .ok (.putfield 86, 3) := dk_181 0 86 (dk_at dksX1_town_1 0 rfl rfl)
theorem dX1_town_25 : decode cX1_town 25 = .ok (.aload_n 0, 1) := dk_42 (dk_at dksX1_town_1 3 rfl rfl)
theorem dX1_town_26 : decode cX1_town 26 = .ok (.iconst (-1), 1) := dk_2 (dk_at dksX1_town_1 4 rfl rfl)
theorem dX1_town_27 : decode cX1_town 27 = .ok (.putfield 34, 3) := dk_181 0 34 (dk_at dksX1_town_1 5 rfl rfl)
theorem dX1_town_30 : decode cX1_town 30 = .ok (.new 16, 3) := dk_187 0 16 (dk_at dksX1_town_1 8 rfl rfl)
theorem dX1_town_33 : decode cX1_town 33 = .ok (.dup, 1) := dk_89 (dk_at dksX1_town_1 11 rfl rfl)
theorem dX1_town_34 : decode cX1_town 34 = .ok (.invokespecial 18, 3) := dk_183 0 18 (dk_at dksX1_town_1 12 rfl rfl)
theorem dX1_town_37 : decode cX1_town 37 = .ok (.astore_n 2, 1) := dk_77 (dk_at dksX1_town_1 15 rfl rfl)
theorem dX1_town_38 : decode cX1_town 38 = .ok (.aload_n 0, 1) := dk_42 (dk_at dksX1_town_1 16 rfl rfl)
theorem dX1_town_39 : decode cX1_town 39 = .ok (.new 96, 3) := dk_187 0 96 (dk_at dksX1_town_1 17 rfl rfl)
theorem dX1_town_42 : decode cX1_town 42 = .ok (.dup, 1) := dk_89 (dk_at dksX1_town_1 20 rfl rfl)
theorem dX1_town_43 : decode cX1_town 43 = .ok (.aload_n 0, 1) := dk_42 (dk_at dksX1_town_1 21 rfl rfl)
theorem dX1_town_44 : decode cX1_town 44 = .ok (.getfield 30, 3) := dk_180 0 30 (dk_at dksX1_town_2 0 rfl rfl)
theorem dX1_town_47 : decode cX1_town 47 = .ok (.iload_n 1, 1) := dk_27 (dk_at dksX1_town_2 3 rfl rfl)
theorem dX1_town_48 : decode cX1_town 48 = .ok (.invokespecial 98, 3) := dk_183 0 98 (dk_at dksX1_town_2 4 rfl rfl)
theorem dX1_town_51 : decode cX1_town 51 = .ok (.aload_n 2, 1) := dk_44 (dk_at dksX1_town_2 7 rfl rfl)
theorem dX1_town_52 : decode cX1_town 52 = .ok (.getfield 101, 3) := dk_180 0 101 (dk_at dksX1_town_2 8 rfl rfl)
theorem dX1_town_55 : decode cX1_town 55 = .ok (.invokevirtual 104, 3) := dk_182 0 104 (dk_at dksX1_town_2 11 rfl rfl)
theorem dX1_town_58 : decode cX1_town 58 = .ok (.putfield 10, 3) := dk_181 0 10 (dk_at dksX1_town_2 14 rfl rfl)
theorem dX1_town_61 : decode cX1_town 61 = .ok (.goto 30, 3) := dk_167 0 30 (dk_at dksX1_town_2 17 rfl rfl)
theorem dX1_town_64 : decode cX1_town 64 = .ok (.astore_n 3, 1) := dk_78 (dk_at dksX1_town_2 20 rfl rfl)
theorem dX1_town_65 : decode cX1_town 65 = .ok (.aload_n 0, 1) := dk_42 (dk_at dksX1_town_2 21 rfl rfl)
theorem dX1_town_66 : decode cX1_town 66 = .ok (.aload_n 3, 1) := dk_45 (dk_at dksX1_town_2 22 rfl rfl)
theorem dX1_town_67 : decode cX1_town 67 = .ok (.getfield 109, 3) := dk_180 0 109 (dk_at dksX1_town_3 0 rfl rfl)
theorem dX1_town_70 : decode cX1_town 70 = .ok (.putfield 34, 3) := dk_181 0 34 (dk_at dksX1_town_3 3 rfl rfl)
theorem dX1_town_73 : decode cX1_town 73 = .ok (.aload_n 0, 1) := dk_42 (dk_at dksX1_town_3 6 rfl rfl)
theorem dX1_town_74 : decode cX1_town 74 = .ok (.getfield 19, 3) := dk_180 0 19 (dk_at dksX1_town_3 7 rfl rfl)
theorem dX1_town_77 : decode cX1_town 77 = .ok (.getfield 112, 3) := dk_180 0 112 (dk_at dksX1_town_3 10 rfl rfl)
theorem dX1_town_80 : decode cX1_town 80 = .ok (.iconst 0, 1) := dk_3 (dk_at dksX1_town_3 13 rfl rfl)
theorem dX1_town_81 : decode cX1_town 81 = .ok (.dup2, 1) := dk_92 (dk_at dksX1_town_3 14 rfl rfl)
theorem dX1_town_82 : decode cX1_town 82 = .ok (.iaload, 1) := dk_46 (dk_at dksX1_town_3 15 rfl rfl)
theorem dX1_town_83 : decode cX1_town 83 = .ok (.iconst 1, 1) := dk_4 (dk_at dksX1_town_3 16 rfl rfl)
theorem dX1_town_84 : decode cX1_town 84 = .ok (.iadd, 1) := dk_96 (dk_at dksX1_town_3 17 rfl rfl)
theorem dX1_town_85 : decode cX1_town 85 = .ok (.iastore, 1) := dk_79 (dk_at dksX1_town_3 18 rfl rfl)
theorem dX1_town_86 : decode cX1_town 86 = .ok (.aload_n 3, 1) := dk_45 (dk_at dksX1_town_3 19 rfl rfl)
theorem dX1_town_87 : decode cX1_town 87 = .ok (.getfield 115, 3) := dk_180 0 115 (dk_at dksX1_town_3 20 rfl rfl)
theorem dX1_town_90 : decode cX1_town 90 = .ok (.ireturn, 1) := dk_172 (dk_at dksX1_town_3 23 rfl rfl)
theorem dX1_town_91 : decode cX1_town 91 = .ok (.aload_n 0, 1) := dk_42 (dk_at dksX1_town_4 0 rfl rfl)
theorem dX1_town_92 : decode cX1_town 92 = .ok (.getfield 19, 3) := dk_180 0 19 (dk_at dksX1_town_4 1 rfl rfl)
theorem dX1_town_95 : decode cX1_town 95 = .ok (.getfield 112, 3) := dk_180 0 112 (dk_at dksX1_town_4 4 rfl rfl)
theorem dX1_town_98 : decode cX1_town 98 = .ok (.iconst 0, 1) := dk_3 (dk_at dksX1_town_4 7 rfl rfl)
theorem dX1_town_99 : decode cX1_town 99 = .ok (.aload_n 2, 1) := dk_44 (dk_at dksX1_town_4 8 rfl rfl)
theorem dX1_town_100 : decode cX1_town 100 = .ok (.getfield 112, 3) := dk_180 0 112 (dk_at dksX1_town_4 9 rfl rfl)
theorem dX1_town_103 : decode cX1_town 103 = .ok (.iconst 0, 1) := dk_3 (dk_at dksX1_town_4 12 rfl rfl)
theorem dX1_town_104 : decode cX1_town 104 = .ok (.aload_n 2, 1) := dk_44 (dk_at dksX1_town_4 13 rfl rfl)
theorem dX1_town_105 : decode cX1_town 105 = .ok (.getfield 112, 3) := dk_180 0 112 (dk_at dksX1_town_4 14 rfl rfl)
theorem dX1_town_108 : decode cX1_town 108 = .ok (.arraylength, 1) := dk_190 (dk_at dksX1_town_4 17 rfl rfl)
theorem dX1_town_109 : decode cX1_town 109 = .ok (.invokestatic 118, 3) := dk_184 0 118 (dk_at dksX1_town_4 18 rfl rfl)
theorem dX1_town_112 : decode cX1_town 112 = .ok (.aload_n 0, 1) := dk_42 (dk_at dksX1_town_4 21 rfl rfl)
theorem dX1_town_113 : decode cX1_town 113 = .ok (.aload_n 2, 1) := dk_44 (dk_at dksX1_town_4 22 rfl rfl)
theorem dX1_town_114 : decode cX1_town 114 = .ok (.putfield 19, 3) := dk_181 0 19 (dk_at dksX1_town_5 0 rfl rfl)
theorem dX1_town_117 : decode cX1_town 117 = .ok (.aload_n 0, 1) := dk_42 (dk_at dksX1_town_5 3 rfl rfl)
theorem dX1_town_118 : decode cX1_town 118 = .ok (.iconst 0, 1) := dk_3 (dk_at dksX1_town_5 4 rfl rfl)
theorem dX1_town_119 : decode cX1_town 119 = .ok (.putfield 124, 3) := dk_181 0 124 (dk_at dksX1_town_5 5 rfl rfl)
theorem dX1_town_122 : decode cX1_town 122 = .ok (.aload_n 0, 1) := dk_42 (dk_at dksX1_town_5 8 rfl rfl)
theorem dX1_town_123 : decode cX1_town 123 = .ok (.aconst_null, 1) := dk_1 (dk_at dksX1_town_5 9 rfl rfl)
theorem dX1_town_124 : decode cX1_town 124 = .ok (.putfield 127, 3) := dk_181 0 127 (dk_at dksX1_town_5 10 rfl rfl)
theorem dX1_town_127 : decode cX1_town 127 = .ok (.iconst 0, 1) := dk_3 (dk_at dksX1_town_5 13 rfl rfl)
theorem dX1_town_128 : decode cX1_town 128 = .ok (.ireturn, 1) := dk_172 (dk_at dksX1_town_5 14 rfl rfl)
abbrev cX1_right : ByteArray := prog_1_method_2_code
def yX1_right : MethodName := ⟨RX1, "right", "(Z)V"⟩
def dkwX1_right_0 : List UInt8 := [26, 154, 0, 11, 187, 0, 62, 89, 183, 0, 64, 191, 177]
abbrev dktX1_right_0 : List UInt8 := dkwX1_right_0 ++ []
theorem dksX1_right_0 : cX1_right.data.toList.drop 0 = dktX1_right_0 := by decide +kernel
theorem dX1_right_0 : decode cX1_right 0 = .ok (.iload_n 0, 1) := dk_26 (dk_at dksX1_right_0 0 rfl rfl)
theorem dX1_right_1 : decode cX1_right 1 = .ok (.ifCond .ne 11, 3) := dk_154 0 11 (dk_at dksX1_right_0 1 rfl rfl)
theorem dX1_right_4 : decode cX1_right 4 = .ok (.new 62, 3) := dk_187 0 62 (dk_at dksX1_right_0 4 rfl rfl)
theorem dX1_right_7 : decode cX1_right 7 = .ok (.dup, 1) := dk_89 (dk_at dksX1_right_0 7 rfl rfl)
theorem dX1_right_8 : decode cX1_right 8 = .ok (.invokespecial 64, 3) := dk_183 0 64 (dk_at dksX1_right_0 8 rfl rfl)
theorem dX1_right_11 : decode cX1_right 11 = .ok (.athrow, 1) := dk_191 (dk_at dksX1_right_0 11 rfl rfl)
theorem dX1_right_12 : decode cX1_right 12 = .ok (.return_, 1) := dk_177 (dk_at dksX1_right_0 12 rfl rfl)
abbrev cX1_count : ByteArray := prog_1_method_11_code
def yX1_count : MethodName := ⟨RX1, "count", "(I)I"⟩
def dkwX1_count_5 : List UInt8 := [180, 0, 19, 180, 0, 112, 27, 16, 7, 100, 46, 172]
abbrev dktX1_count_5 : List UInt8 := dkwX1_count_5 ++ []
def dkwX1_count_4 : List UInt8 := [180, 0, 101, 180, 0, 143, 172, 42, 180, 0, 19, 180, 0, 146, 182, 0, 72, 172, 42, 180, 0, 86, 172, 42]
abbrev dktX1_count_4 : List UInt8 := dkwX1_count_4 ++ dktX1_count_5
def dkwX1_count_3 : List UInt8 := [180, 0, 137, 153, 0, 7, 4, 167, 0, 4, 3, 172, 42, 180, 0, 10, 180, 0, 141, 172, 42, 180, 0, 19]
abbrev dktX1_count_3 : List UInt8 := dkwX1_count_3 ++ dktX1_count_4
def dkwX1_count_2 : List UInt8 := [42, 180, 0, 10, 180, 0, 68, 182, 0, 72, 172, 42, 180, 0, 10, 180, 0, 134, 172, 42, 180, 0, 10]
abbrev dktX1_count_2 : List UInt8 := dkwX1_count_2 ++ dktX1_count_3
def dkwX1_count_1 : List UInt8 := [170, 0, 0, 0, 111, 0, 0, 0, 0, 0, 0, 0, 6, 0, 0, 0, 41, 0, 0, 0, 52, 0, 0, 0, 60, 0, 0, 0, 76, 0, 0, 0, 84, 0, 0, 0, 95, 0, 0, 0, 106]
abbrev dktX1_count_1 : List UInt8 := dkwX1_count_1 ++ dktX1_count_2
def dkwX1_count_0 : List UInt8 := [27, 3, 16, 8, 184, 0, 130, 184, 0, 82, 27]
abbrev dktX1_count_0 : List UInt8 := dkwX1_count_0 ++ dktX1_count_1
theorem dksX1_count_0 : cX1_count.data.toList.drop 0 = dktX1_count_0 := by decide +kernel
theorem dksX1_count_1 : cX1_count.data.toList.drop 11 = dktX1_count_1 := dk_seg dksX1_count_0 11 rfl rfl
theorem dksX1_count_2 : cX1_count.data.toList.drop 52 = dktX1_count_2 := dk_seg dksX1_count_1 41 rfl rfl
theorem dksX1_count_3 : cX1_count.data.toList.drop 75 = dktX1_count_3 := dk_seg dksX1_count_2 23 rfl rfl
theorem dksX1_count_4 : cX1_count.data.toList.drop 99 = dktX1_count_4 := dk_seg dksX1_count_3 24 rfl rfl
theorem dksX1_count_5 : cX1_count.data.toList.drop 123 = dktX1_count_5 := dk_seg dksX1_count_4 24 rfl rfl
theorem dX1_count_0 : decode cX1_count 0 = .ok (.iload_n 1, 1) := dk_27 (dk_at dksX1_count_0 0 rfl rfl)
theorem dX1_count_1 : decode cX1_count 1 = .ok (.iconst 0, 1) := dk_3 (dk_at dksX1_count_0 1 rfl rfl)
theorem dX1_count_2 : decode cX1_count 2 = .ok (.bipush 8, 2) := dk_16 8 (dk_at dksX1_count_0 2 rfl rfl)
theorem dX1_count_4 : decode cX1_count 4 = .ok (.invokestatic 130, 3) := dk_184 0 130 (dk_at dksX1_count_0 4 rfl rfl)
theorem dX1_count_7 : decode cX1_count 7 = .ok (.invokestatic 82, 3) := dk_184 0 82 (dk_at dksX1_count_0 7 rfl rfl)
theorem dX1_count_10 : decode cX1_count 10 = .ok (.iload_n 1, 1) := dk_27 (dk_at dksX1_count_0 10 rfl rfl)
theorem dX1_count_11 : decode cX1_count 11 = .ok (.tableswitch 111 0 6 #[41, 52, 60, 76, 84, 95, 106], 41) := by decide +kernel
theorem dX1_count_52 : decode cX1_count 52 = .ok (.aload_n 0, 1) := dk_42 (dk_at dksX1_count_2 0 rfl rfl)
theorem dX1_count_53 : decode cX1_count 53 = .ok (.getfield 10, 3) := dk_180 0 10 (dk_at dksX1_count_2 1 rfl rfl)
theorem dX1_count_56 : decode cX1_count 56 = .ok (.getfield 68, 3) := dk_180 0 68 (dk_at dksX1_count_2 4 rfl rfl)
theorem dX1_count_59 : decode cX1_count 59 = .ok (.invokevirtual 72, 3) := dk_182 0 72 (dk_at dksX1_count_2 7 rfl rfl)
theorem dX1_count_62 : decode cX1_count 62 = .ok (.ireturn, 1) := dk_172 (dk_at dksX1_count_2 10 rfl rfl)
theorem dX1_count_63 : decode cX1_count 63 = .ok (.aload_n 0, 1) := dk_42 (dk_at dksX1_count_2 11 rfl rfl)
theorem dX1_count_64 : decode cX1_count 64 = .ok (.getfield 10, 3) := dk_180 0 10 (dk_at dksX1_count_2 12 rfl rfl)
theorem dX1_count_67 : decode cX1_count 67 = .ok (.getfield 134, 3) := dk_180 0 134 (dk_at dksX1_count_2 15 rfl rfl)
theorem dX1_count_70 : decode cX1_count 70 = .ok (.ireturn, 1) := dk_172 (dk_at dksX1_count_2 18 rfl rfl)
theorem dX1_count_71 : decode cX1_count 71 = .ok (.aload_n 0, 1) := dk_42 (dk_at dksX1_count_2 19 rfl rfl)
theorem dX1_count_72 : decode cX1_count 72 = .ok (.getfield 10, 3) := dk_180 0 10 (dk_at dksX1_count_2 20 rfl rfl)
theorem dX1_count_75 : decode cX1_count 75 = .ok (.getfield 137, 3) := dk_180 0 137 (dk_at dksX1_count_3 0 rfl rfl)
theorem dX1_count_78 : decode cX1_count 78 = .ok (.ifCond .eq 7, 3) := dk_153 0 7 (dk_at dksX1_count_3 3 rfl rfl)
theorem dX1_count_81 : decode cX1_count 81 = .ok (.iconst 1, 1) := dk_4 (dk_at dksX1_count_3 6 rfl rfl)
theorem dX1_count_82 : decode cX1_count 82 = .ok (.goto 4, 3) := dk_167 0 4 (dk_at dksX1_count_3 7 rfl rfl)
theorem dX1_count_85 : decode cX1_count 85 = .ok (.iconst 0, 1) := dk_3 (dk_at dksX1_count_3 10 rfl rfl)
theorem dX1_count_86 : decode cX1_count 86 = .ok (.ireturn, 1) := dk_172 (dk_at dksX1_count_3 11 rfl rfl)
theorem dX1_count_87 : decode cX1_count 87 = .ok (.aload_n 0, 1) := dk_42 (dk_at dksX1_count_3 12 rfl rfl)
theorem dX1_count_88 : decode cX1_count 88 = .ok (.getfield 10, 3) := dk_180 0 10 (dk_at dksX1_count_3 13 rfl rfl)
theorem dX1_count_91 : decode cX1_count 91 = .ok (.getfield 141, 3) := dk_180 0 141 (dk_at dksX1_count_3 16 rfl rfl)
theorem dX1_count_94 : decode cX1_count 94 = .ok (.ireturn, 1) := dk_172 (dk_at dksX1_count_3 19 rfl rfl)
theorem dX1_count_95 : decode cX1_count 95 = .ok (.aload_n 0, 1) := dk_42 (dk_at dksX1_count_3 20 rfl rfl)
theorem dX1_count_96 : decode cX1_count 96 = .ok (.getfield 19, 3) := dk_180 0 19 (dk_at dksX1_count_3 21 rfl rfl)
theorem dX1_count_99 : decode cX1_count 99 = .ok (.getfield 101, 3) := dk_180 0 101 (dk_at dksX1_count_4 0 rfl rfl)
theorem dX1_count_102 : decode cX1_count 102 = .ok (.getfield 143, 3) := dk_180 0 143 (dk_at dksX1_count_4 3 rfl rfl)
theorem dX1_count_105 : decode cX1_count 105 = .ok (.ireturn, 1) := dk_172 (dk_at dksX1_count_4 6 rfl rfl)
theorem dX1_count_106 : decode cX1_count 106 = .ok (.aload_n 0, 1) := dk_42 (dk_at dksX1_count_4 7 rfl rfl)
theorem dX1_count_107 : decode cX1_count 107 = .ok (.getfield 19, 3) := dk_180 0 19 (dk_at dksX1_count_4 8 rfl rfl)
theorem dX1_count_110 : decode cX1_count 110 = .ok (.getfield 146, 3) := dk_180 0 146 (dk_at dksX1_count_4 11 rfl rfl)
theorem dX1_count_113 : decode cX1_count 113 = .ok (.invokevirtual 72, 3) := dk_182 0 72 (dk_at dksX1_count_4 14 rfl rfl)
theorem dX1_count_116 : decode cX1_count 116 = .ok (.ireturn, 1) := dk_172 (dk_at dksX1_count_4 17 rfl rfl)
theorem dX1_count_117 : decode cX1_count 117 = .ok (.aload_n 0, 1) := dk_42 (dk_at dksX1_count_4 18 rfl rfl)
theorem dX1_count_118 : decode cX1_count 118 = .ok (.getfield 86, 3) := dk_180 0 86 (dk_at dksX1_count_4 19 rfl rfl)
theorem dX1_count_121 : decode cX1_count 121 = .ok (.ireturn, 1) := dk_172 (dk_at dksX1_count_4 22 rfl rfl)
theorem dX1_count_122 : decode cX1_count 122 = .ok (.aload_n 0, 1) := dk_42 (dk_at dksX1_count_4 23 rfl rfl)
theorem dX1_count_123 : decode cX1_count 123 = .ok (.getfield 19, 3) := dk_180 0 19 (dk_at dksX1_count_5 0 rfl rfl)
theorem dX1_count_126 : decode cX1_count 126 = .ok (.getfield 112, 3) := dk_180 0 112 (dk_at dksX1_count_5 3 rfl rfl)
theorem dX1_count_129 : decode cX1_count 129 = .ok (.iload_n 1, 1) := dk_27 (dk_at dksX1_count_5 6 rfl rfl)
theorem dX1_count_130 : decode cX1_count 130 = .ok (.bipush 7, 2) := dk_16 7 (dk_at dksX1_count_5 7 rfl rfl)
theorem dX1_count_132 : decode cX1_count 132 = .ok (.isub, 1) := dk_100 (dk_at dksX1_count_5 9 rfl rfl)
theorem dX1_count_133 : decode cX1_count 133 = .ok (.iaload, 1) := dk_46 (dk_at dksX1_count_5 10 rfl rfl)
theorem dX1_count_134 : decode cX1_count 134 = .ok (.ireturn, 1) := dk_172 (dk_at dksX1_count_5 11 rfl rfl)
abbrev cX1_within : ByteArray := prog_1_method_4_code
def yX1_within : MethodName := ⟨RX1, "within", "(III)Z"⟩
def dkwX1_within_0 : List UInt8 := [26, 27, 161, 0, 12, 26, 28, 163, 0, 7, 4, 167, 0, 4, 3, 172]
abbrev dktX1_within_0 : List UInt8 := dkwX1_within_0 ++ []
theorem dksX1_within_0 : cX1_within.data.toList.drop 0 = dktX1_within_0 := by decide +kernel
theorem dX1_within_0 : decode cX1_within 0 = .ok (.iload_n 0, 1) := dk_26 (dk_at dksX1_within_0 0 rfl rfl)
theorem dX1_within_1 : decode cX1_within 1 = .ok (.iload_n 1, 1) := dk_27 (dk_at dksX1_within_0 1 rfl rfl)
theorem dX1_within_2 : decode cX1_within 2 = .ok (.if_icmp .lt 12, 3) := dk_161 0 12 (dk_at dksX1_within_0 2 rfl rfl)
theorem dX1_within_5 : decode cX1_within 5 = .ok (.iload_n 0, 1) := dk_26 (dk_at dksX1_within_0 5 rfl rfl)
theorem dX1_within_6 : decode cX1_within 6 = .ok (.iload_n 2, 1) := dk_28 (dk_at dksX1_within_0 6 rfl rfl)
theorem dX1_within_7 : decode cX1_within 7 = .ok (.if_icmp .gt 7, 3) := dk_163 0 7 (dk_at dksX1_within_0 7 rfl rfl)
theorem dX1_within_10 : decode cX1_within 10 = .ok (.iconst 1, 1) := dk_4 (dk_at dksX1_within_0 10 rfl rfl)
theorem dX1_within_11 : decode cX1_within 11 = .ok (.goto 4, 3) := dk_167 0 4 (dk_at dksX1_within_0 11 rfl rfl)
theorem dX1_within_14 : decode cX1_within 14 = .ok (.iconst 0, 1) := dk_3 (dk_at dksX1_within_0 14 rfl rfl)
theorem dX1_within_15 : decode cX1_within 15 = .ok (.ireturn, 1) := dk_172 (dk_at dksX1_within_0 15 rfl rfl)
abbrev cX1_there : ByteArray := prog_1_method_3_code
def yX1_there : MethodName := ⟨RX1, "there", "(Z)V"⟩
def dkwX1_there_0 : List UInt8 := [26, 154, 0, 11, 187, 0, 65, 89, 183, 0, 67, 191, 177]
abbrev dktX1_there_0 : List UInt8 := dkwX1_there_0 ++ []
theorem dksX1_there_0 : cX1_there.data.toList.drop 0 = dktX1_there_0 := by decide +kernel
theorem dX1_there_0 : decode cX1_there 0 = .ok (.iload_n 0, 1) := dk_26 (dk_at dksX1_there_0 0 rfl rfl)
theorem dX1_there_1 : decode cX1_there 1 = .ok (.ifCond .ne 11, 3) := dk_154 0 11 (dk_at dksX1_there_0 1 rfl rfl)
theorem dX1_there_4 : decode cX1_there 4 = .ok (.new 65, 3) := dk_187 0 65 (dk_at dksX1_there_0 4 rfl rfl)
theorem dX1_there_7 : decode cX1_there 7 = .ok (.dup, 1) := dk_89 (dk_at dksX1_there_0 7 rfl rfl)
theorem dX1_there_8 : decode cX1_there 8 = .ok (.invokespecial 67, 3) := dk_183 0 67 (dk_at dksX1_there_0 8 rfl rfl)
theorem dX1_there_11 : decode cX1_there 11 = .ok (.athrow, 1) := dk_191 (dk_at dksX1_there_0 11 rfl rfl)
theorem dX1_there_12 : decode cX1_there 12 = .ok (.return_, 1) := dk_177 (dk_at dksX1_there_0 12 rfl rfl)
abbrev cX1_person : ByteArray := prog_1_method_12_code
def yX1_person : MethodName := ⟨RX1, "person", "(II)I"⟩
def dkwX1_person_5 : List UInt8 := [184, 0, 172, 172, 45, 45, 180, 0, 169, 27, 46, 182, 0, 178, 172]
abbrev dktX1_person_5 : List UInt8 := dkwX1_person_5 ++ []
def dkwX1_person_4 : List UInt8 := [180, 0, 166, 27, 46, 172, 45, 180, 0, 169, 27, 46, 172, 45, 180, 0, 169, 27, 46, 42, 180, 0, 10]
abbrev dktX1_person_4 : List UInt8 := dkwX1_person_4 ++ dktX1_person_5
def dkwX1_person_3 : List UInt8 := [172, 45, 180, 0, 163, 27, 46, 172, 45, 180, 0, 163, 27, 46, 154, 0, 7, 2, 167, 0, 9, 45]
abbrev dktX1_person_3 : List UInt8 := dkwX1_person_3 ++ dktX1_person_4
def dkwX1_person_2 : List UInt8 := [42, 180, 0, 10, 180, 0, 68, 27, 182, 0, 152, 192, 0, 156, 182, 0, 158, 172, 45, 180, 0, 160, 27, 46]
abbrev dktX1_person_2 : List UInt8 := dkwX1_person_2 ++ dktX1_person_3
def dkwX1_person_1 : List UInt8 := [170, 0, 0, 0, 0, 0, 0, 113, 0, 0, 0, 0, 0, 0, 0, 5, 0, 0, 0, 40, 0, 0, 0, 58, 0, 0, 0, 65, 0, 0, 0, 72, 0, 0, 0, 92, 0, 0, 0, 99]
abbrev dktX1_person_1 : List UInt8 := dkwX1_person_1 ++ dktX1_person_2
def dkwX1_person_0 : List UInt8 := [42, 27, 182, 0, 149, 28, 3, 16, 6, 184, 0, 130, 184, 0, 82, 42, 180, 0, 19, 180, 0, 101, 78, 28]
abbrev dktX1_person_0 : List UInt8 := dkwX1_person_0 ++ dktX1_person_1
theorem dksX1_person_0 : cX1_person.data.toList.drop 0 = dktX1_person_0 := by decide +kernel
theorem dksX1_person_1 : cX1_person.data.toList.drop 24 = dktX1_person_1 := dk_seg dksX1_person_0 24 rfl rfl
theorem dksX1_person_2 : cX1_person.data.toList.drop 64 = dktX1_person_2 := dk_seg dksX1_person_1 40 rfl rfl
theorem dksX1_person_3 : cX1_person.data.toList.drop 88 = dktX1_person_3 := dk_seg dksX1_person_2 24 rfl rfl
theorem dksX1_person_4 : cX1_person.data.toList.drop 110 = dktX1_person_4 := dk_seg dksX1_person_3 22 rfl rfl
theorem dksX1_person_5 : cX1_person.data.toList.drop 133 = dktX1_person_5 := dk_seg dksX1_person_4 23 rfl rfl
theorem dX1_person_0 : decode cX1_person 0 = .ok (.aload_n 0, 1) := dk_42 (dk_at dksX1_person_0 0 rfl rfl)
theorem dX1_person_1 : decode cX1_person 1 = .ok (.iload_n 1, 1) := dk_27 (dk_at dksX1_person_0 1 rfl rfl)
theorem dX1_person_2 : decode cX1_person 2 = .ok (.invokevirtual 149, 3) := dk_182 0 149 (dk_at dksX1_person_0 2 rfl rfl)
theorem dX1_person_5 : decode cX1_person 5 = .ok (.iload_n 2, 1) := dk_28 (dk_at dksX1_person_0 5 rfl rfl)
theorem dX1_person_6 : decode cX1_person 6 = .ok (.iconst 0, 1) := dk_3 (dk_at dksX1_person_0 6 rfl rfl)
theorem dX1_person_7 : decode cX1_person 7 = .ok (.bipush 6, 2) := dk_16 6 (dk_at dksX1_person_0 7 rfl rfl)
theorem dX1_person_9 : decode cX1_person 9 = .ok (.invokestatic 130, 3) := dk_184 0 130 (dk_at dksX1_person_0 9 rfl rfl)
theorem dX1_person_12 : decode cX1_person 12 = .ok (.invokestatic 82, 3) := dk_184 0 82 (dk_at dksX1_person_0 12 rfl rfl)
theorem dX1_person_15 : decode cX1_person 15 = .ok (.aload_n 0, 1) := dk_42 (dk_at dksX1_person_0 15 rfl rfl)
theorem dX1_person_16 : decode cX1_person 16 = .ok (.getfield 19, 3) := dk_180 0 19 (dk_at dksX1_person_0 16 rfl rfl)
theorem dX1_person_19 : decode cX1_person 19 = .ok (.getfield 101, 3) := dk_180 0 101 (dk_at dksX1_person_0 19 rfl rfl)
theorem dX1_person_22 : decode cX1_person 22 = .ok (.astore_n 3, 1) := dk_78 (dk_at dksX1_person_0 22 rfl rfl)
theorem dX1_person_23 : decode cX1_person 23 = .ok (.iload_n 2, 1) := dk_28 (dk_at dksX1_person_0 23 rfl rfl)
theorem dX1_person_24 : decode cX1_person 24 = .ok (.tableswitch 113 0 5 #[40, 58, 65, 72, 92, 99], 40) := by decide +kernel
theorem dX1_person_64 : decode cX1_person 64 = .ok (.aload_n 0, 1) := dk_42 (dk_at dksX1_person_2 0 rfl rfl)
theorem dX1_person_65 : decode cX1_person 65 = .ok (.getfield 10, 3) := dk_180 0 10 (dk_at dksX1_person_2 1 rfl rfl)
theorem dX1_person_68 : decode cX1_person 68 = .ok (.getfield 68, 3) := dk_180 0 68 (dk_at dksX1_person_2 4 rfl rfl)
theorem dX1_person_71 : decode cX1_person 71 = .ok (.iload_n 1, 1) := dk_27 (dk_at dksX1_person_2 7 rfl rfl)
theorem dX1_person_72 : decode cX1_person 72 = .ok (.invokevirtual 152, 3) := dk_182 0 152 (dk_at dksX1_person_2 8 rfl rfl)
theorem dX1_person_75 : decode cX1_person 75 = .ok (.checkcast 156, 3) := dk_192 0 156 (dk_at dksX1_person_2 11 rfl rfl)
theorem dX1_person_78 : decode cX1_person 78 = .ok (.invokevirtual 158, 3) := dk_182 0 158 (dk_at dksX1_person_2 14 rfl rfl)
theorem dX1_person_81 : decode cX1_person 81 = .ok (.ireturn, 1) := dk_172 (dk_at dksX1_person_2 17 rfl rfl)
theorem dX1_person_82 : decode cX1_person 82 = .ok (.aload_n 3, 1) := dk_45 (dk_at dksX1_person_2 18 rfl rfl)
theorem dX1_person_83 : decode cX1_person 83 = .ok (.getfield 160, 3) := dk_180 0 160 (dk_at dksX1_person_2 19 rfl rfl)
theorem dX1_person_86 : decode cX1_person 86 = .ok (.iload_n 1, 1) := dk_27 (dk_at dksX1_person_2 22 rfl rfl)
theorem dX1_person_87 : decode cX1_person 87 = .ok (.iaload, 1) := dk_46 (dk_at dksX1_person_2 23 rfl rfl)
theorem dX1_person_88 : decode cX1_person 88 = .ok (.ireturn, 1) := dk_172 (dk_at dksX1_person_3 0 rfl rfl)
theorem dX1_person_89 : decode cX1_person 89 = .ok (.aload_n 3, 1) := dk_45 (dk_at dksX1_person_3 1 rfl rfl)
theorem dX1_person_90 : decode cX1_person 90 = .ok (.getfield 163, 3) := dk_180 0 163 (dk_at dksX1_person_3 2 rfl rfl)
theorem dX1_person_93 : decode cX1_person 93 = .ok (.iload_n 1, 1) := dk_27 (dk_at dksX1_person_3 5 rfl rfl)
theorem dX1_person_94 : decode cX1_person 94 = .ok (.iaload, 1) := dk_46 (dk_at dksX1_person_3 6 rfl rfl)
theorem dX1_person_95 : decode cX1_person 95 = .ok (.ireturn, 1) := dk_172 (dk_at dksX1_person_3 7 rfl rfl)
theorem dX1_person_96 : decode cX1_person 96 = .ok (.aload_n 3, 1) := dk_45 (dk_at dksX1_person_3 8 rfl rfl)
theorem dX1_person_97 : decode cX1_person 97 = .ok (.getfield 163, 3) := dk_180 0 163 (dk_at dksX1_person_3 9 rfl rfl)
theorem dX1_person_100 : decode cX1_person 100 = .ok (.iload_n 1, 1) := dk_27 (dk_at dksX1_person_3 12 rfl rfl)
theorem dX1_person_101 : decode cX1_person 101 = .ok (.iaload, 1) := dk_46 (dk_at dksX1_person_3 13 rfl rfl)
theorem dX1_person_102 : decode cX1_person 102 = .ok (.ifCond .ne 7, 3) := dk_154 0 7 (dk_at dksX1_person_3 14 rfl rfl)
theorem dX1_person_105 : decode cX1_person 105 = .ok (.iconst (-1), 1) := dk_2 (dk_at dksX1_person_3 17 rfl rfl)
theorem dX1_person_106 : decode cX1_person 106 = .ok (.goto 9, 3) := dk_167 0 9 (dk_at dksX1_person_3 18 rfl rfl)
theorem dX1_person_109 : decode cX1_person 109 = .ok (.aload_n 3, 1) := dk_45 (dk_at dksX1_person_3 21 rfl rfl)
theorem dX1_person_110 : decode cX1_person 110 = .ok (.getfield 166, 3) := dk_180 0 166 (dk_at dksX1_person_4 0 rfl rfl)
theorem dX1_person_113 : decode cX1_person 113 = .ok (.iload_n 1, 1) := dk_27 (dk_at dksX1_person_4 3 rfl rfl)
theorem dX1_person_114 : decode cX1_person 114 = .ok (.iaload, 1) := dk_46 (dk_at dksX1_person_4 4 rfl rfl)
theorem dX1_person_115 : decode cX1_person 115 = .ok (.ireturn, 1) := dk_172 (dk_at dksX1_person_4 5 rfl rfl)
theorem dX1_person_116 : decode cX1_person 116 = .ok (.aload_n 3, 1) := dk_45 (dk_at dksX1_person_4 6 rfl rfl)
theorem dX1_person_117 : decode cX1_person 117 = .ok (.getfield 169, 3) := dk_180 0 169 (dk_at dksX1_person_4 7 rfl rfl)
theorem dX1_person_120 : decode cX1_person 120 = .ok (.iload_n 1, 1) := dk_27 (dk_at dksX1_person_4 10 rfl rfl)
theorem dX1_person_121 : decode cX1_person 121 = .ok (.iaload, 1) := dk_46 (dk_at dksX1_person_4 11 rfl rfl)
theorem dX1_person_122 : decode cX1_person 122 = .ok (.ireturn, 1) := dk_172 (dk_at dksX1_person_4 12 rfl rfl)
theorem dX1_person_123 : decode cX1_person 123 = .ok (.aload_n 3, 1) := dk_45 (dk_at dksX1_person_4 13 rfl rfl)
theorem dX1_person_124 : decode cX1_person 124 = .ok (.getfield 169, 3) := dk_180 0 169 (dk_at dksX1_person_4 14 rfl rfl)
theorem dX1_person_127 : decode cX1_person 127 = .ok (.iload_n 1, 1) := dk_27 (dk_at dksX1_person_4 17 rfl rfl)
theorem dX1_person_128 : decode cX1_person 128 = .ok (.iaload, 1) := dk_46 (dk_at dksX1_person_4 18 rfl rfl)
theorem dX1_person_129 : decode cX1_person 129 = .ok (.aload_n 0, 1) := dk_42 (dk_at dksX1_person_4 19 rfl rfl)
theorem dX1_person_130 : decode cX1_person 130 = .ok (.getfield 10, 3) := dk_180 0 10 (dk_at dksX1_person_4 20 rfl rfl)
theorem dX1_person_133 : decode cX1_person 133 = .ok (.invokestatic 172, 3) := dk_184 0 172 (dk_at dksX1_person_5 0 rfl rfl)
theorem dX1_person_136 : decode cX1_person 136 = .ok (.ireturn, 1) := dk_172 (dk_at dksX1_person_5 3 rfl rfl)
theorem dX1_person_137 : decode cX1_person 137 = .ok (.aload_n 3, 1) := dk_45 (dk_at dksX1_person_5 4 rfl rfl)
theorem dX1_person_138 : decode cX1_person 138 = .ok (.aload_n 3, 1) := dk_45 (dk_at dksX1_person_5 5 rfl rfl)
theorem dX1_person_139 : decode cX1_person 139 = .ok (.getfield 169, 3) := dk_180 0 169 (dk_at dksX1_person_5 6 rfl rfl)
theorem dX1_person_142 : decode cX1_person 142 = .ok (.iload_n 1, 1) := dk_27 (dk_at dksX1_person_5 9 rfl rfl)
theorem dX1_person_143 : decode cX1_person 143 = .ok (.iaload, 1) := dk_46 (dk_at dksX1_person_5 10 rfl rfl)
theorem dX1_person_144 : decode cX1_person 144 = .ok (.invokevirtual 178, 3) := dk_182 0 178 (dk_at dksX1_person_5 11 rfl rfl)
theorem dX1_person_147 : decode cX1_person 147 = .ok (.ireturn, 1) := dk_172 (dk_at dksX1_person_5 14 rfl rfl)
abbrev cX1_person_2 : ByteArray := prog_1_method_6_code
def yX1_person_2 : MethodName := ⟨RX1, "person", "(I)V"⟩
def dkwX1_person_2_0 : List UInt8 := [42, 27, 182, 0, 78, 184, 0, 82, 177]
abbrev dktX1_person_2_0 : List UInt8 := dkwX1_person_2_0 ++ []
theorem dksX1_person_2_0 : cX1_person_2.data.toList.drop 0 = dktX1_person_2_0 := by decide +kernel
theorem dX1_person_2_0 : decode cX1_person_2 0 = .ok (.aload_n 0, 1) := dk_42 (dk_at dksX1_person_2_0 0 rfl rfl)
theorem dX1_person_2_1 : decode cX1_person_2 1 = .ok (.iload_n 1, 1) := dk_27 (dk_at dksX1_person_2_0 1 rfl rfl)
theorem dX1_person_2_2 : decode cX1_person_2 2 = .ok (.invokevirtual 78, 3) := dk_182 0 78 (dk_at dksX1_person_2_0 2 rfl rfl)
theorem dX1_person_2_5 : decode cX1_person_2 5 = .ok (.invokestatic 82, 3) := dk_184 0 82 (dk_at dksX1_person_2_0 5 rfl rfl)
theorem dX1_person_2_8 : decode cX1_person_2 8 = .ok (.return_, 1) := dk_177 (dk_at dksX1_person_2_0 8 rfl rfl)
abbrev cX1_thing : ByteArray := prog_1_method_13_code
def yX1_thing : MethodName := ⟨RX1, "thing", "(II)I"⟩
def dkwX1_thing_4 : List UInt8 := [180, 0, 19, 180, 0, 101, 27, 182, 0, 188, 172, 42, 180, 0, 10, 180, 0, 191, 27, 122, 4, 126, 172]
abbrev dktX1_thing_4 : List UInt8 := dkwX1_thing_4 ++ []
def dkwX1_thing_3 : List UInt8 := [42, 180, 0, 19, 180, 0, 101, 180, 0, 182, 27, 46, 172, 42, 180, 0, 10, 180, 0, 185, 27, 46, 172, 42]
abbrev dktX1_thing_3 : List UInt8 := dkwX1_thing_3 ++ dktX1_thing_4
def dkwX1_thing_2 : List UInt8 := [170, 0, 0, 0, 0, 0, 62, 0, 0, 0, 0, 0, 0, 0, 2, 0, 0, 0, 27, 0, 0, 0, 40, 0, 0, 0, 50]
abbrev dktX1_thing_2 : List UInt8 := dkwX1_thing_2 ++ dktX1_thing_3
def dkwX1_thing_1 : List UInt8 := [4, 167, 0, 4, 3, 184, 0, 82, 28]
abbrev dktX1_thing_1 : List UInt8 := dkwX1_thing_1 ++ dktX1_thing_2
def dkwX1_thing_0 : List UInt8 := [27, 155, 0, 27, 27, 42, 180, 0, 10, 180, 0, 134, 162, 0, 16, 28, 3, 6, 184, 0, 130, 153, 0, 7]
abbrev dktX1_thing_0 : List UInt8 := dkwX1_thing_0 ++ dktX1_thing_1
theorem dksX1_thing_0 : cX1_thing.data.toList.drop 0 = dktX1_thing_0 := by decide +kernel
theorem dksX1_thing_1 : cX1_thing.data.toList.drop 24 = dktX1_thing_1 := dk_seg dksX1_thing_0 24 rfl rfl
theorem dksX1_thing_2 : cX1_thing.data.toList.drop 33 = dktX1_thing_2 := dk_seg dksX1_thing_1 9 rfl rfl
theorem dksX1_thing_3 : cX1_thing.data.toList.drop 60 = dktX1_thing_3 := dk_seg dksX1_thing_2 27 rfl rfl
theorem dksX1_thing_4 : cX1_thing.data.toList.drop 84 = dktX1_thing_4 := dk_seg dksX1_thing_3 24 rfl rfl
theorem dX1_thing_0 : decode cX1_thing 0 = .ok (.iload_n 1, 1) := dk_27 (dk_at dksX1_thing_0 0 rfl rfl)
theorem dX1_thing_1 : decode cX1_thing 1 = .ok (.ifCond .lt 27, 3) := dk_155 0 27 (dk_at dksX1_thing_0 1 rfl rfl)
theorem dX1_thing_4 : decode cX1_thing 4 = .ok (.iload_n 1, 1) := dk_27 (dk_at dksX1_thing_0 4 rfl rfl)
theorem dX1_thing_5 : decode cX1_thing 5 = .ok (.aload_n 0, 1) := dk_42 (dk_at dksX1_thing_0 5 rfl rfl)
theorem dX1_thing_6 : decode cX1_thing 6 = .ok (.getfield 10, 3) := dk_180 0 10 (dk_at dksX1_thing_0 6 rfl rfl)
theorem dX1_thing_9 : decode cX1_thing 9 = .ok (.getfield 134, 3) := dk_180 0 134 (dk_at dksX1_thing_0 9 rfl rfl)
theorem dX1_thing_12 : decode cX1_thing 12 = .ok (.if_icmp .ge 16, 3) := dk_162 0 16 (dk_at dksX1_thing_0 12 rfl rfl)
theorem dX1_thing_15 : decode cX1_thing 15 = .ok (.iload_n 2, 1) := dk_28 (dk_at dksX1_thing_0 15 rfl rfl)
theorem dX1_thing_16 : decode cX1_thing 16 = .ok (.iconst 0, 1) := dk_3 (dk_at dksX1_thing_0 16 rfl rfl)
theorem dX1_thing_17 : decode cX1_thing 17 = .ok (.iconst 3, 1) := dk_6 (dk_at dksX1_thing_0 17 rfl rfl)
theorem dX1_thing_18 : decode cX1_thing 18 = .ok (.invokestatic 130, 3) := dk_184 0 130 (dk_at dksX1_thing_0 18 rfl rfl)
theorem dX1_thing_21 : decode cX1_thing 21 = .ok (.ifCond .eq 7, 3) := dk_153 0 7 (dk_at dksX1_thing_0 21 rfl rfl)
theorem dX1_thing_24 : decode cX1_thing 24 = .ok (.iconst 1, 1) := dk_4 (dk_at dksX1_thing_1 0 rfl rfl)
theorem dX1_thing_25 : decode cX1_thing 25 = .ok (.goto 4, 3) := dk_167 0 4 (dk_at dksX1_thing_1 1 rfl rfl)
theorem dX1_thing_28 : decode cX1_thing 28 = .ok (.iconst 0, 1) := dk_3 (dk_at dksX1_thing_1 4 rfl rfl)
theorem dX1_thing_29 : decode cX1_thing 29 = .ok (.invokestatic 82, 3) := dk_184 0 82 (dk_at dksX1_thing_1 5 rfl rfl)
theorem dX1_thing_32 : decode cX1_thing 32 = .ok (.iload_n 2, 1) := dk_28 (dk_at dksX1_thing_1 8 rfl rfl)
theorem dX1_thing_33 : decode cX1_thing 33 = .ok (.tableswitch 62 0 2 #[27, 40, 50], 27) := by decide +kernel
theorem dX1_thing_60 : decode cX1_thing 60 = .ok (.aload_n 0, 1) := dk_42 (dk_at dksX1_thing_3 0 rfl rfl)
theorem dX1_thing_61 : decode cX1_thing 61 = .ok (.getfield 19, 3) := dk_180 0 19 (dk_at dksX1_thing_3 1 rfl rfl)
theorem dX1_thing_64 : decode cX1_thing 64 = .ok (.getfield 101, 3) := dk_180 0 101 (dk_at dksX1_thing_3 4 rfl rfl)
theorem dX1_thing_67 : decode cX1_thing 67 = .ok (.getfield 182, 3) := dk_180 0 182 (dk_at dksX1_thing_3 7 rfl rfl)
theorem dX1_thing_70 : decode cX1_thing 70 = .ok (.iload_n 1, 1) := dk_27 (dk_at dksX1_thing_3 10 rfl rfl)
theorem dX1_thing_71 : decode cX1_thing 71 = .ok (.iaload, 1) := dk_46 (dk_at dksX1_thing_3 11 rfl rfl)
theorem dX1_thing_72 : decode cX1_thing 72 = .ok (.ireturn, 1) := dk_172 (dk_at dksX1_thing_3 12 rfl rfl)
theorem dX1_thing_73 : decode cX1_thing 73 = .ok (.aload_n 0, 1) := dk_42 (dk_at dksX1_thing_3 13 rfl rfl)
theorem dX1_thing_74 : decode cX1_thing 74 = .ok (.getfield 10, 3) := dk_180 0 10 (dk_at dksX1_thing_3 14 rfl rfl)
theorem dX1_thing_77 : decode cX1_thing 77 = .ok (.getfield 185, 3) := dk_180 0 185 (dk_at dksX1_thing_3 17 rfl rfl)
theorem dX1_thing_80 : decode cX1_thing 80 = .ok (.iload_n 1, 1) := dk_27 (dk_at dksX1_thing_3 20 rfl rfl)
theorem dX1_thing_81 : decode cX1_thing 81 = .ok (.iaload, 1) := dk_46 (dk_at dksX1_thing_3 21 rfl rfl)
theorem dX1_thing_82 : decode cX1_thing 82 = .ok (.ireturn, 1) := dk_172 (dk_at dksX1_thing_3 22 rfl rfl)
theorem dX1_thing_83 : decode cX1_thing 83 = .ok (.aload_n 0, 1) := dk_42 (dk_at dksX1_thing_3 23 rfl rfl)
theorem dX1_thing_84 : decode cX1_thing 84 = .ok (.getfield 19, 3) := dk_180 0 19 (dk_at dksX1_thing_4 0 rfl rfl)
theorem dX1_thing_87 : decode cX1_thing 87 = .ok (.getfield 101, 3) := dk_180 0 101 (dk_at dksX1_thing_4 3 rfl rfl)
theorem dX1_thing_90 : decode cX1_thing 90 = .ok (.iload_n 1, 1) := dk_27 (dk_at dksX1_thing_4 6 rfl rfl)
theorem dX1_thing_91 : decode cX1_thing 91 = .ok (.invokevirtual 188, 3) := dk_182 0 188 (dk_at dksX1_thing_4 7 rfl rfl)
theorem dX1_thing_94 : decode cX1_thing 94 = .ok (.ireturn, 1) := dk_172 (dk_at dksX1_thing_4 10 rfl rfl)
theorem dX1_thing_95 : decode cX1_thing 95 = .ok (.aload_n 0, 1) := dk_42 (dk_at dksX1_thing_4 11 rfl rfl)
theorem dX1_thing_96 : decode cX1_thing 96 = .ok (.getfield 10, 3) := dk_180 0 10 (dk_at dksX1_thing_4 12 rfl rfl)
theorem dX1_thing_99 : decode cX1_thing 99 = .ok (.getfield 191, 3) := dk_180 0 191 (dk_at dksX1_thing_4 15 rfl rfl)
theorem dX1_thing_102 : decode cX1_thing 102 = .ok (.iload_n 1, 1) := dk_27 (dk_at dksX1_thing_4 18 rfl rfl)
theorem dX1_thing_103 : decode cX1_thing 103 = .ok (.ishr, 1) := dk_122 (dk_at dksX1_thing_4 19 rfl rfl)
theorem dX1_thing_104 : decode cX1_thing 104 = .ok (.iconst 1, 1) := dk_4 (dk_at dksX1_thing_4 20 rfl rfl)
theorem dX1_thing_105 : decode cX1_thing 105 = .ok (.iand, 1) := dk_126 (dk_at dksX1_thing_4 21 rfl rfl)
theorem dX1_thing_106 : decode cX1_thing 106 = .ok (.ireturn, 1) := dk_172 (dk_at dksX1_thing_4 22 rfl rfl)
abbrev cX1_gift : ByteArray := prog_1_method_20_code
def yX1_gift : MethodName := ⟨RX1, "gift", "(II)I"⟩
def dkwX1_gift_5 : List UInt8 := [172]
abbrev dktX1_gift_5 : List UInt8 := dkwX1_gift_5 ++ []
def dkwX1_gift_4 : List UInt8 := [45, 180, 0, 241, 172, 45, 180, 0, 236, 172, 45, 180, 0, 239, 172, 45, 180, 0, 233, 172, 45, 180, 1, 0]
abbrev dktX1_gift_4 : List UInt8 := dkwX1_gift_4 ++ dktX1_gift_5
def dkwX1_gift_3 : List UInt8 := [170, 0, 0, 0, 49, 0, 0, 0, 0, 0, 0, 0, 3, 0, 0, 0, 29, 0, 0, 0, 34, 0, 0, 0, 39, 0, 0, 0, 44]
abbrev dktX1_gift_3 : List UInt8 := dkwX1_gift_3 ++ dktX1_gift_4
def dkwX1_gift_2 : List UInt8 := [192, 0, 211, 78, 28]
abbrev dktX1_gift_2 : List UInt8 := dkwX1_gift_2 ++ dktX1_gift_3
def dkwX1_gift_1 : List UInt8 := [153, 0, 7, 4, 167, 0, 4, 3, 184, 0, 82, 42, 180, 0, 19, 180, 0, 146, 27, 182, 0, 152]
abbrev dktX1_gift_1 : List UInt8 := dkwX1_gift_1 ++ dktX1_gift_2
def dkwX1_gift_0 : List UInt8 := [27, 155, 0, 30, 27, 42, 180, 0, 19, 180, 0, 146, 182, 0, 72, 162, 0, 16, 28, 3, 7, 184, 0, 130]
abbrev dktX1_gift_0 : List UInt8 := dkwX1_gift_0 ++ dktX1_gift_1
theorem dksX1_gift_0 : cX1_gift.data.toList.drop 0 = dktX1_gift_0 := by decide +kernel
theorem dksX1_gift_1 : cX1_gift.data.toList.drop 24 = dktX1_gift_1 := dk_seg dksX1_gift_0 24 rfl rfl
theorem dksX1_gift_2 : cX1_gift.data.toList.drop 46 = dktX1_gift_2 := dk_seg dksX1_gift_1 22 rfl rfl
theorem dksX1_gift_3 : cX1_gift.data.toList.drop 51 = dktX1_gift_3 := dk_seg dksX1_gift_2 5 rfl rfl
theorem dksX1_gift_4 : cX1_gift.data.toList.drop 80 = dktX1_gift_4 := dk_seg dksX1_gift_3 29 rfl rfl
theorem dksX1_gift_5 : cX1_gift.data.toList.drop 104 = dktX1_gift_5 := dk_seg dksX1_gift_4 24 rfl rfl
theorem dX1_gift_0 : decode cX1_gift 0 = .ok (.iload_n 1, 1) := dk_27 (dk_at dksX1_gift_0 0 rfl rfl)
theorem dX1_gift_1 : decode cX1_gift 1 = .ok (.ifCond .lt 30, 3) := dk_155 0 30 (dk_at dksX1_gift_0 1 rfl rfl)
theorem dX1_gift_4 : decode cX1_gift 4 = .ok (.iload_n 1, 1) := dk_27 (dk_at dksX1_gift_0 4 rfl rfl)
theorem dX1_gift_5 : decode cX1_gift 5 = .ok (.aload_n 0, 1) := dk_42 (dk_at dksX1_gift_0 5 rfl rfl)
theorem dX1_gift_6 : decode cX1_gift 6 = .ok (.getfield 19, 3) := dk_180 0 19 (dk_at dksX1_gift_0 6 rfl rfl)
theorem dX1_gift_9 : decode cX1_gift 9 = .ok (.getfield 146, 3) := dk_180 0 146 (dk_at dksX1_gift_0 9 rfl rfl)
theorem dX1_gift_12 : decode cX1_gift 12 = .ok (.invokevirtual 72, 3) := dk_182 0 72 (dk_at dksX1_gift_0 12 rfl rfl)
theorem dX1_gift_15 : decode cX1_gift 15 = .ok (.if_icmp .ge 16, 3) := dk_162 0 16 (dk_at dksX1_gift_0 15 rfl rfl)
theorem dX1_gift_18 : decode cX1_gift 18 = .ok (.iload_n 2, 1) := dk_28 (dk_at dksX1_gift_0 18 rfl rfl)
theorem dX1_gift_19 : decode cX1_gift 19 = .ok (.iconst 0, 1) := dk_3 (dk_at dksX1_gift_0 19 rfl rfl)
theorem dX1_gift_20 : decode cX1_gift 20 = .ok (.iconst 4, 1) := dk_7 (dk_at dksX1_gift_0 20 rfl rfl)
theorem dX1_gift_21 : decode cX1_gift 21 = .ok (.invokestatic 130, 3) := dk_184 0 130 (dk_at dksX1_gift_0 21 rfl rfl)
theorem dX1_gift_24 : decode cX1_gift 24 = .ok (.ifCond .eq 7, 3) := dk_153 0 7 (dk_at dksX1_gift_1 0 rfl rfl)
theorem dX1_gift_27 : decode cX1_gift 27 = .ok (.iconst 1, 1) := dk_4 (dk_at dksX1_gift_1 3 rfl rfl)
theorem dX1_gift_28 : decode cX1_gift 28 = .ok (.goto 4, 3) := dk_167 0 4 (dk_at dksX1_gift_1 4 rfl rfl)
theorem dX1_gift_31 : decode cX1_gift 31 = .ok (.iconst 0, 1) := dk_3 (dk_at dksX1_gift_1 7 rfl rfl)
theorem dX1_gift_32 : decode cX1_gift 32 = .ok (.invokestatic 82, 3) := dk_184 0 82 (dk_at dksX1_gift_1 8 rfl rfl)
theorem dX1_gift_35 : decode cX1_gift 35 = .ok (.aload_n 0, 1) := dk_42 (dk_at dksX1_gift_1 11 rfl rfl)
theorem dX1_gift_36 : decode cX1_gift 36 = .ok (.getfield 19, 3) := dk_180 0 19 (dk_at dksX1_gift_1 12 rfl rfl)
theorem dX1_gift_39 : decode cX1_gift 39 = .ok (.getfield 146, 3) := dk_180 0 146 (dk_at dksX1_gift_1 15 rfl rfl)
theorem dX1_gift_42 : decode cX1_gift 42 = .ok (.iload_n 1, 1) := dk_27 (dk_at dksX1_gift_1 18 rfl rfl)
theorem dX1_gift_43 : decode cX1_gift 43 = .ok (.invokevirtual 152, 3) := dk_182 0 152 (dk_at dksX1_gift_1 19 rfl rfl)
theorem dX1_gift_46 : decode cX1_gift 46 = .ok (.checkcast 211, 3) := dk_192 0 211 (dk_at dksX1_gift_2 0 rfl rfl)
theorem dX1_gift_49 : decode cX1_gift 49 = .ok (.astore_n 3, 1) := dk_78 (dk_at dksX1_gift_2 3 rfl rfl)
theorem dX1_gift_50 : decode cX1_gift 50 = .ok (.iload_n 2, 1) := dk_28 (dk_at dksX1_gift_2 4 rfl rfl)
theorem dX1_gift_51 : decode cX1_gift 51 = .ok (.tableswitch 49 0 3 #[29, 34, 39, 44], 29) := by decide +kernel
theorem dX1_gift_80 : decode cX1_gift 80 = .ok (.aload_n 3, 1) := dk_45 (dk_at dksX1_gift_4 0 rfl rfl)
theorem dX1_gift_81 : decode cX1_gift 81 = .ok (.getfield 241, 3) := dk_180 0 241 (dk_at dksX1_gift_4 1 rfl rfl)
theorem dX1_gift_84 : decode cX1_gift 84 = .ok (.ireturn, 1) := dk_172 (dk_at dksX1_gift_4 4 rfl rfl)
theorem dX1_gift_85 : decode cX1_gift 85 = .ok (.aload_n 3, 1) := dk_45 (dk_at dksX1_gift_4 5 rfl rfl)
theorem dX1_gift_86 : decode cX1_gift 86 = .ok (.getfield 236, 3) := dk_180 0 236 (dk_at dksX1_gift_4 6 rfl rfl)
theorem dX1_gift_89 : decode cX1_gift 89 = .ok (.ireturn, 1) := dk_172 (dk_at dksX1_gift_4 9 rfl rfl)
theorem dX1_gift_90 : decode cX1_gift 90 = .ok (.aload_n 3, 1) := dk_45 (dk_at dksX1_gift_4 10 rfl rfl)
theorem dX1_gift_91 : decode cX1_gift 91 = .ok (.getfield 239, 3) := dk_180 0 239 (dk_at dksX1_gift_4 11 rfl rfl)
theorem dX1_gift_94 : decode cX1_gift 94 = .ok (.ireturn, 1) := dk_172 (dk_at dksX1_gift_4 14 rfl rfl)
theorem dX1_gift_95 : decode cX1_gift 95 = .ok (.aload_n 3, 1) := dk_45 (dk_at dksX1_gift_4 15 rfl rfl)
theorem dX1_gift_96 : decode cX1_gift 96 = .ok (.getfield 233, 3) := dk_180 0 233 (dk_at dksX1_gift_4 16 rfl rfl)
theorem dX1_gift_99 : decode cX1_gift 99 = .ok (.ireturn, 1) := dk_172 (dk_at dksX1_gift_4 19 rfl rfl)
theorem dX1_gift_100 : decode cX1_gift 100 = .ok (.aload_n 3, 1) := dk_45 (dk_at dksX1_gift_4 20 rfl rfl)
theorem dX1_gift_101 : decode cX1_gift 101 = .ok (.getfield 256, 3) := dk_180 1 0 (dk_at dksX1_gift_4 21 rfl rfl)
theorem dX1_gift_104 : decode cX1_gift 104 = .ok (.ireturn, 1) := dk_172 (dk_at dksX1_gift_5 0 rfl rfl)
abbrev cX1_sets : ByteArray := prog_1_method_23_code
def yX1_sets : MethodName := ⟨RX1, "sets", "(I)I"⟩
def dkwX1_sets_2 : List UInt8 := [184, 1, 6, 54, 4, 21, 4, 154, 255, 220, 29, 172]
abbrev dktX1_sets_2 : List UInt8 := dkwX1_sets_2 ++ []
def dkwX1_sets_1 : List UInt8 := [180, 0, 163, 27, 46, 182, 1, 2, 2, 159, 0, 6, 132, 3, 1, 21, 4, 44, 180, 0, 169, 27, 46]
abbrev dktX1_sets_1 : List UInt8 := dkwX1_sets_1 ++ dktX1_sets_2
def dkwX1_sets_0 : List UInt8 := [42, 27, 182, 0, 149, 42, 180, 0, 19, 180, 0, 101, 77, 3, 62, 3, 54, 4, 42, 44, 27, 21, 4, 44]
abbrev dktX1_sets_0 : List UInt8 := dkwX1_sets_0 ++ dktX1_sets_1
theorem dksX1_sets_0 : cX1_sets.data.toList.drop 0 = dktX1_sets_0 := by decide +kernel
theorem dksX1_sets_1 : cX1_sets.data.toList.drop 24 = dktX1_sets_1 := dk_seg dksX1_sets_0 24 rfl rfl
theorem dksX1_sets_2 : cX1_sets.data.toList.drop 47 = dktX1_sets_2 := dk_seg dksX1_sets_1 23 rfl rfl
theorem dX1_sets_0 : decode cX1_sets 0 = .ok (.aload_n 0, 1) := dk_42 (dk_at dksX1_sets_0 0 rfl rfl)
theorem dX1_sets_1 : decode cX1_sets 1 = .ok (.iload_n 1, 1) := dk_27 (dk_at dksX1_sets_0 1 rfl rfl)
theorem dX1_sets_2 : decode cX1_sets 2 = .ok (.invokevirtual 149, 3) := dk_182 0 149 (dk_at dksX1_sets_0 2 rfl rfl)
theorem dX1_sets_5 : decode cX1_sets 5 = .ok (.aload_n 0, 1) := dk_42 (dk_at dksX1_sets_0 5 rfl rfl)
theorem dX1_sets_6 : decode cX1_sets 6 = .ok (.getfield 19, 3) := dk_180 0 19 (dk_at dksX1_sets_0 6 rfl rfl)
theorem dX1_sets_9 : decode cX1_sets 9 = .ok (.getfield 101, 3) := dk_180 0 101 (dk_at dksX1_sets_0 9 rfl rfl)
theorem dX1_sets_12 : decode cX1_sets 12 = .ok (.astore_n 2, 1) := dk_77 (dk_at dksX1_sets_0 12 rfl rfl)
theorem dX1_sets_13 : decode cX1_sets 13 = .ok (.iconst 0, 1) := dk_3 (dk_at dksX1_sets_0 13 rfl rfl)
theorem dX1_sets_14 : decode cX1_sets 14 = .ok (.istore_n 3, 1) := dk_62 (dk_at dksX1_sets_0 14 rfl rfl)
theorem dX1_sets_15 : decode cX1_sets 15 = .ok (.iconst 0, 1) := dk_3 (dk_at dksX1_sets_0 15 rfl rfl)
theorem dX1_sets_16 : decode cX1_sets 16 = .ok (.istore 4, 2) := dk_54 4 (dk_at dksX1_sets_0 16 rfl rfl)
theorem dX1_sets_18 : decode cX1_sets 18 = .ok (.aload_n 0, 1) := dk_42 (dk_at dksX1_sets_0 18 rfl rfl)
theorem dX1_sets_19 : decode cX1_sets 19 = .ok (.aload_n 2, 1) := dk_44 (dk_at dksX1_sets_0 19 rfl rfl)
theorem dX1_sets_20 : decode cX1_sets 20 = .ok (.iload_n 1, 1) := dk_27 (dk_at dksX1_sets_0 20 rfl rfl)
theorem dX1_sets_21 : decode cX1_sets 21 = .ok (.iload 4, 2) := dk_21 4 (dk_at dksX1_sets_0 21 rfl rfl)
theorem dX1_sets_23 : decode cX1_sets 23 = .ok (.aload_n 2, 1) := dk_44 (dk_at dksX1_sets_0 23 rfl rfl)
theorem dX1_sets_24 : decode cX1_sets 24 = .ok (.getfield 163, 3) := dk_180 0 163 (dk_at dksX1_sets_1 0 rfl rfl)
theorem dX1_sets_27 : decode cX1_sets 27 = .ok (.iload_n 1, 1) := dk_27 (dk_at dksX1_sets_1 3 rfl rfl)
theorem dX1_sets_28 : decode cX1_sets 28 = .ok (.iaload, 1) := dk_46 (dk_at dksX1_sets_1 4 rfl rfl)
theorem dX1_sets_29 : decode cX1_sets 29 = .ok (.invokevirtual 258, 3) := dk_182 1 2 (dk_at dksX1_sets_1 5 rfl rfl)
theorem dX1_sets_32 : decode cX1_sets 32 = .ok (.iconst (-1), 1) := dk_2 (dk_at dksX1_sets_1 8 rfl rfl)
theorem dX1_sets_33 : decode cX1_sets 33 = .ok (.if_icmp .eq 6, 3) := dk_159 0 6 (dk_at dksX1_sets_1 9 rfl rfl)
theorem dX1_sets_36 : decode cX1_sets 36 = .ok (.iinc 3 1, 3) := dk_132 3 1 (dk_at dksX1_sets_1 12 rfl rfl)
theorem dX1_sets_39 : decode cX1_sets 39 = .ok (.iload 4, 2) := dk_21 4 (dk_at dksX1_sets_1 15 rfl rfl)
theorem dX1_sets_41 : decode cX1_sets 41 = .ok (.aload_n 2, 1) := dk_44 (dk_at dksX1_sets_1 17 rfl rfl)
theorem dX1_sets_42 : decode cX1_sets 42 = .ok (.getfield 169, 3) := dk_180 0 169 (dk_at dksX1_sets_1 18 rfl rfl)
theorem dX1_sets_45 : decode cX1_sets 45 = .ok (.iload_n 1, 1) := dk_27 (dk_at dksX1_sets_1 21 rfl rfl)
theorem dX1_sets_46 : decode cX1_sets 46 = .ok (.iaload, 1) := dk_46 (dk_at dksX1_sets_1 22 rfl rfl)
theorem dX1_sets_47 : decode cX1_sets 47 = .ok (.invokestatic 262, 3) := dk_184 1 6 (dk_at dksX1_sets_2 0 rfl rfl)
theorem dX1_sets_50 : decode cX1_sets 50 = .ok (.istore 4, 2) := dk_54 4 (dk_at dksX1_sets_2 3 rfl rfl)
theorem dX1_sets_52 : decode cX1_sets 52 = .ok (.iload 4, 2) := dk_21 4 (dk_at dksX1_sets_2 5 rfl rfl)
theorem dX1_sets_54 : decode cX1_sets 54 = .ok (.ifCond .ne (-36), 3) := dk_154 255 220 (dk_at dksX1_sets_2 7 rfl rfl)
theorem dX1_sets_57 : decode cX1_sets 57 = .ok (.iload_n 3, 1) := dk_29 (dk_at dksX1_sets_2 10 rfl rfl)
theorem dX1_sets_58 : decode cX1_sets 58 = .ok (.ireturn, 1) := dk_172 (dk_at dksX1_sets_2 11 rfl rfl)
abbrev cX1_choice : ByteArray := prog_1_method_26_code
def yX1_choice : MethodName := ⟨RX1, "choice", "(II)I"⟩
def dkwX1_choice_3 : List UInt8 := [45, 180, 0, 166, 27, 46, 182, 1, 27, 172]
abbrev dktX1_choice_3 : List UInt8 := dkwX1_choice_3 ++ []
def dkwX1_choice_2 : List UInt8 := [4, 160, 0, 20, 42, 45, 27, 21, 4, 45, 180, 0, 163, 27, 46, 182, 1, 2, 167, 0, 15, 42, 45, 27]
abbrev dktX1_choice_2 : List UInt8 := dkwX1_choice_2 ++ dktX1_choice_3
def dkwX1_choice_1 : List UInt8 := [27, 182, 1, 23, 54, 4, 21, 4, 2, 160, 0, 5, 2, 172, 28, 154, 0, 8, 21, 4, 167, 0, 37, 28]
abbrev dktX1_choice_1 : List UInt8 := dkwX1_choice_1 ++ dktX1_choice_2
def dkwX1_choice_0 : List UInt8 := [42, 27, 182, 0, 149, 28, 3, 5, 184, 0, 130, 184, 0, 82, 42, 180, 0, 19, 180, 0, 101, 78, 42, 45]
abbrev dktX1_choice_0 : List UInt8 := dkwX1_choice_0 ++ dktX1_choice_1
theorem dksX1_choice_0 : cX1_choice.data.toList.drop 0 = dktX1_choice_0 := by decide +kernel
theorem dksX1_choice_1 : cX1_choice.data.toList.drop 24 = dktX1_choice_1 := dk_seg dksX1_choice_0 24 rfl rfl
theorem dksX1_choice_2 : cX1_choice.data.toList.drop 48 = dktX1_choice_2 := dk_seg dksX1_choice_1 24 rfl rfl
theorem dksX1_choice_3 : cX1_choice.data.toList.drop 72 = dktX1_choice_3 := dk_seg dksX1_choice_2 24 rfl rfl
theorem dX1_choice_0 : decode cX1_choice 0 = .ok (.aload_n 0, 1) := dk_42 (dk_at dksX1_choice_0 0 rfl rfl)
theorem dX1_choice_1 : decode cX1_choice 1 = .ok (.iload_n 1, 1) := dk_27 (dk_at dksX1_choice_0 1 rfl rfl)
theorem dX1_choice_2 : decode cX1_choice 2 = .ok (.invokevirtual 149, 3) := dk_182 0 149 (dk_at dksX1_choice_0 2 rfl rfl)
theorem dX1_choice_5 : decode cX1_choice 5 = .ok (.iload_n 2, 1) := dk_28 (dk_at dksX1_choice_0 5 rfl rfl)
theorem dX1_choice_6 : decode cX1_choice 6 = .ok (.iconst 0, 1) := dk_3 (dk_at dksX1_choice_0 6 rfl rfl)
theorem dX1_choice_7 : decode cX1_choice 7 = .ok (.iconst 2, 1) := dk_5 (dk_at dksX1_choice_0 7 rfl rfl)
theorem dX1_choice_8 : decode cX1_choice 8 = .ok (.invokestatic 130, 3) := dk_184 0 130 (dk_at dksX1_choice_0 8 rfl rfl)
theorem dX1_choice_11 : decode cX1_choice 11 = .ok (.invokestatic 82, 3) := dk_184 0 82 (dk_at dksX1_choice_0 11 rfl rfl)
theorem dX1_choice_14 : decode cX1_choice 14 = .ok (.aload_n 0, 1) := dk_42 (dk_at dksX1_choice_0 14 rfl rfl)
theorem dX1_choice_15 : decode cX1_choice 15 = .ok (.getfield 19, 3) := dk_180 0 19 (dk_at dksX1_choice_0 15 rfl rfl)
theorem dX1_choice_18 : decode cX1_choice 18 = .ok (.getfield 101, 3) := dk_180 0 101 (dk_at dksX1_choice_0 18 rfl rfl)
theorem dX1_choice_21 : decode cX1_choice 21 = .ok (.astore_n 3, 1) := dk_78 (dk_at dksX1_choice_0 21 rfl rfl)
theorem dX1_choice_22 : decode cX1_choice 22 = .ok (.aload_n 0, 1) := dk_42 (dk_at dksX1_choice_0 22 rfl rfl)
theorem dX1_choice_23 : decode cX1_choice 23 = .ok (.aload_n 3, 1) := dk_45 (dk_at dksX1_choice_0 23 rfl rfl)
theorem dX1_choice_24 : decode cX1_choice 24 = .ok (.iload_n 1, 1) := dk_27 (dk_at dksX1_choice_1 0 rfl rfl)
theorem dX1_choice_25 : decode cX1_choice 25 = .ok (.invokevirtual 279, 3) := dk_182 1 23 (dk_at dksX1_choice_1 1 rfl rfl)
theorem dX1_choice_28 : decode cX1_choice 28 = .ok (.istore 4, 2) := dk_54 4 (dk_at dksX1_choice_1 4 rfl rfl)
theorem dX1_choice_30 : decode cX1_choice 30 = .ok (.iload 4, 2) := dk_21 4 (dk_at dksX1_choice_1 6 rfl rfl)
theorem dX1_choice_32 : decode cX1_choice 32 = .ok (.iconst (-1), 1) := dk_2 (dk_at dksX1_choice_1 8 rfl rfl)
theorem dX1_choice_33 : decode cX1_choice 33 = .ok (.if_icmp .ne 5, 3) := dk_160 0 5 (dk_at dksX1_choice_1 9 rfl rfl)
theorem dX1_choice_36 : decode cX1_choice 36 = .ok (.iconst (-1), 1) := dk_2 (dk_at dksX1_choice_1 12 rfl rfl)
theorem dX1_choice_37 : decode cX1_choice 37 = .ok (.ireturn, 1) := dk_172 (dk_at dksX1_choice_1 13 rfl rfl)
theorem dX1_choice_38 : decode cX1_choice 38 = .ok (.iload_n 2, 1) := dk_28 (dk_at dksX1_choice_1 14 rfl rfl)
theorem dX1_choice_39 : decode cX1_choice 39 = .ok (.ifCond .ne 8, 3) := dk_154 0 8 (dk_at dksX1_choice_1 15 rfl rfl)
theorem dX1_choice_42 : decode cX1_choice 42 = .ok (.iload 4, 2) := dk_21 4 (dk_at dksX1_choice_1 18 rfl rfl)
theorem dX1_choice_44 : decode cX1_choice 44 = .ok (.goto 37, 3) := dk_167 0 37 (dk_at dksX1_choice_1 20 rfl rfl)
theorem dX1_choice_47 : decode cX1_choice 47 = .ok (.iload_n 2, 1) := dk_28 (dk_at dksX1_choice_1 23 rfl rfl)
theorem dX1_choice_48 : decode cX1_choice 48 = .ok (.iconst 1, 1) := dk_4 (dk_at dksX1_choice_2 0 rfl rfl)
theorem dX1_choice_49 : decode cX1_choice 49 = .ok (.if_icmp .ne 20, 3) := dk_160 0 20 (dk_at dksX1_choice_2 1 rfl rfl)
theorem dX1_choice_52 : decode cX1_choice 52 = .ok (.aload_n 0, 1) := dk_42 (dk_at dksX1_choice_2 4 rfl rfl)
theorem dX1_choice_53 : decode cX1_choice 53 = .ok (.aload_n 3, 1) := dk_45 (dk_at dksX1_choice_2 5 rfl rfl)
theorem dX1_choice_54 : decode cX1_choice 54 = .ok (.iload_n 1, 1) := dk_27 (dk_at dksX1_choice_2 6 rfl rfl)
theorem dX1_choice_55 : decode cX1_choice 55 = .ok (.iload 4, 2) := dk_21 4 (dk_at dksX1_choice_2 7 rfl rfl)
theorem dX1_choice_57 : decode cX1_choice 57 = .ok (.aload_n 3, 1) := dk_45 (dk_at dksX1_choice_2 9 rfl rfl)
theorem dX1_choice_58 : decode cX1_choice 58 = .ok (.getfield 163, 3) := dk_180 0 163 (dk_at dksX1_choice_2 10 rfl rfl)
theorem dX1_choice_61 : decode cX1_choice 61 = .ok (.iload_n 1, 1) := dk_27 (dk_at dksX1_choice_2 13 rfl rfl)
theorem dX1_choice_62 : decode cX1_choice 62 = .ok (.iaload, 1) := dk_46 (dk_at dksX1_choice_2 14 rfl rfl)
theorem dX1_choice_63 : decode cX1_choice 63 = .ok (.invokevirtual 258, 3) := dk_182 1 2 (dk_at dksX1_choice_2 15 rfl rfl)
theorem dX1_choice_66 : decode cX1_choice 66 = .ok (.goto 15, 3) := dk_167 0 15 (dk_at dksX1_choice_2 18 rfl rfl)
theorem dX1_choice_69 : decode cX1_choice 69 = .ok (.aload_n 0, 1) := dk_42 (dk_at dksX1_choice_2 21 rfl rfl)
theorem dX1_choice_70 : decode cX1_choice 70 = .ok (.aload_n 3, 1) := dk_45 (dk_at dksX1_choice_2 22 rfl rfl)
theorem dX1_choice_71 : decode cX1_choice 71 = .ok (.iload_n 1, 1) := dk_27 (dk_at dksX1_choice_2 23 rfl rfl)
theorem dX1_choice_72 : decode cX1_choice 72 = .ok (.aload_n 3, 1) := dk_45 (dk_at dksX1_choice_3 0 rfl rfl)
theorem dX1_choice_73 : decode cX1_choice 73 = .ok (.getfield 166, 3) := dk_180 0 166 (dk_at dksX1_choice_3 1 rfl rfl)
theorem dX1_choice_76 : decode cX1_choice 76 = .ok (.iload_n 1, 1) := dk_27 (dk_at dksX1_choice_3 4 rfl rfl)
theorem dX1_choice_77 : decode cX1_choice 77 = .ok (.iaload, 1) := dk_46 (dk_at dksX1_choice_3 5 rfl rfl)
theorem dX1_choice_78 : decode cX1_choice 78 = .ok (.invokevirtual 283, 3) := dk_182 1 27 (dk_at dksX1_choice_3 6 rfl rfl)
theorem dX1_choice_81 : decode cX1_choice 81 = .ok (.ireturn, 1) := dk_172 (dk_at dksX1_choice_3 9 rfl rfl)
abbrev cX1_gap : ByteArray := prog_1_method_27_code
def yX1_gap : MethodName := ⟨RX1, "gap", "(I)I"⟩
def dkwX1_gap_5 : List UInt8 := [29, 167, 0, 17, 3, 21, 4, 42, 180, 0, 10, 180, 0, 141, 100, 184, 0, 197, 172]
abbrev dktX1_gap_5 : List UInt8 := dkwX1_gap_5 ++ []
def dkwX1_gap_4 : List UInt8 := [21, 5, 44, 180, 0, 169, 27, 46, 184, 1, 6, 54, 5, 21, 5, 154, 255, 178, 21, 4, 2, 160, 0, 7]
abbrev dktX1_gap_4 : List UInt8 := dkwX1_gap_4 ++ dktX1_gap_5
def dkwX1_gap_3 : List UInt8 := [21, 7, 100, 184, 1, 34, 167, 0, 15, 21, 4, 29, 21, 7, 100, 184, 1, 34, 184, 1, 31, 54, 4]
abbrev dktX1_gap_3 : List UInt8 := dkwX1_gap_3 ++ dktX1_gap_4
def dkwX1_gap_2 : List UInt8 := [27, 46, 96, 29, 184, 1, 31, 184, 0, 197, 54, 7, 21, 7, 158, 0, 33, 21, 4, 2, 160, 0, 13, 29]
abbrev dktX1_gap_2 : List UInt8 := dkwX1_gap_2 ++ dktX1_gap_3
def dkwX1_gap_1 : List UInt8 := [2, 172, 2, 54, 4, 3, 54, 5, 44, 21, 5, 182, 0, 178, 54, 6, 21, 6, 21, 6, 44, 180, 0, 160]
abbrev dktX1_gap_1 : List UInt8 := dkwX1_gap_1 ++ dktX1_gap_2
def dkwX1_gap_0 : List UInt8 := [42, 27, 182, 0, 149, 42, 180, 0, 19, 180, 0, 101, 77, 44, 180, 0, 163, 27, 46, 62, 29, 154, 0, 5]
abbrev dktX1_gap_0 : List UInt8 := dkwX1_gap_0 ++ dktX1_gap_1
theorem dksX1_gap_0 : cX1_gap.data.toList.drop 0 = dktX1_gap_0 := by decide +kernel
theorem dksX1_gap_1 : cX1_gap.data.toList.drop 24 = dktX1_gap_1 := dk_seg dksX1_gap_0 24 rfl rfl
theorem dksX1_gap_2 : cX1_gap.data.toList.drop 48 = dktX1_gap_2 := dk_seg dksX1_gap_1 24 rfl rfl
theorem dksX1_gap_3 : cX1_gap.data.toList.drop 72 = dktX1_gap_3 := dk_seg dksX1_gap_2 24 rfl rfl
theorem dksX1_gap_4 : cX1_gap.data.toList.drop 95 = dktX1_gap_4 := dk_seg dksX1_gap_3 23 rfl rfl
theorem dksX1_gap_5 : cX1_gap.data.toList.drop 119 = dktX1_gap_5 := dk_seg dksX1_gap_4 24 rfl rfl
theorem dX1_gap_0 : decode cX1_gap 0 = .ok (.aload_n 0, 1) := dk_42 (dk_at dksX1_gap_0 0 rfl rfl)
theorem dX1_gap_1 : decode cX1_gap 1 = .ok (.iload_n 1, 1) := dk_27 (dk_at dksX1_gap_0 1 rfl rfl)
theorem dX1_gap_2 : decode cX1_gap 2 = .ok (.invokevirtual 149, 3) := dk_182 0 149 (dk_at dksX1_gap_0 2 rfl rfl)
theorem dX1_gap_5 : decode cX1_gap 5 = .ok (.aload_n 0, 1) := dk_42 (dk_at dksX1_gap_0 5 rfl rfl)
theorem dX1_gap_6 : decode cX1_gap 6 = .ok (.getfield 19, 3) := dk_180 0 19 (dk_at dksX1_gap_0 6 rfl rfl)
theorem dX1_gap_9 : decode cX1_gap 9 = .ok (.getfield 101, 3) := dk_180 0 101 (dk_at dksX1_gap_0 9 rfl rfl)
theorem dX1_gap_12 : decode cX1_gap 12 = .ok (.astore_n 2, 1) := dk_77 (dk_at dksX1_gap_0 12 rfl rfl)
theorem dX1_gap_13 : decode cX1_gap 13 = .ok (.aload_n 2, 1) := dk_44 (dk_at dksX1_gap_0 13 rfl rfl)
theorem dX1_gap_14 : decode cX1_gap 14 = .ok (.getfield 163, 3) := dk_180 0 163 (dk_at dksX1_gap_0 14 rfl rfl)
theorem dX1_gap_17 : decode cX1_gap 17 = .ok (.iload_n 1, 1) := dk_27 (dk_at dksX1_gap_0 17 rfl rfl)
theorem dX1_gap_18 : decode cX1_gap 18 = .ok (.iaload, 1) := dk_46 (dk_at dksX1_gap_0 18 rfl rfl)
theorem dX1_gap_19 : decode cX1_gap 19 = .ok (.istore_n 3, 1) := dk_62 (dk_at dksX1_gap_0 19 rfl rfl)
theorem dX1_gap_20 : decode cX1_gap 20 = .ok (.iload_n 3, 1) := dk_29 (dk_at dksX1_gap_0 20 rfl rfl)
theorem dX1_gap_21 : decode cX1_gap 21 = .ok (.ifCond .ne 5, 3) := dk_154 0 5 (dk_at dksX1_gap_0 21 rfl rfl)
theorem dX1_gap_24 : decode cX1_gap 24 = .ok (.iconst (-1), 1) := dk_2 (dk_at dksX1_gap_1 0 rfl rfl)
theorem dX1_gap_25 : decode cX1_gap 25 = .ok (.ireturn, 1) := dk_172 (dk_at dksX1_gap_1 1 rfl rfl)
theorem dX1_gap_26 : decode cX1_gap 26 = .ok (.iconst (-1), 1) := dk_2 (dk_at dksX1_gap_1 2 rfl rfl)
theorem dX1_gap_27 : decode cX1_gap 27 = .ok (.istore 4, 2) := dk_54 4 (dk_at dksX1_gap_1 3 rfl rfl)
theorem dX1_gap_29 : decode cX1_gap 29 = .ok (.iconst 0, 1) := dk_3 (dk_at dksX1_gap_1 5 rfl rfl)
theorem dX1_gap_30 : decode cX1_gap 30 = .ok (.istore 5, 2) := dk_54 5 (dk_at dksX1_gap_1 6 rfl rfl)
theorem dX1_gap_32 : decode cX1_gap 32 = .ok (.aload_n 2, 1) := dk_44 (dk_at dksX1_gap_1 8 rfl rfl)
theorem dX1_gap_33 : decode cX1_gap 33 = .ok (.iload 5, 2) := dk_21 5 (dk_at dksX1_gap_1 9 rfl rfl)
theorem dX1_gap_35 : decode cX1_gap 35 = .ok (.invokevirtual 178, 3) := dk_182 0 178 (dk_at dksX1_gap_1 11 rfl rfl)
theorem dX1_gap_38 : decode cX1_gap 38 = .ok (.istore 6, 2) := dk_54 6 (dk_at dksX1_gap_1 14 rfl rfl)
theorem dX1_gap_40 : decode cX1_gap 40 = .ok (.iload 6, 2) := dk_21 6 (dk_at dksX1_gap_1 16 rfl rfl)
theorem dX1_gap_42 : decode cX1_gap 42 = .ok (.iload 6, 2) := dk_21 6 (dk_at dksX1_gap_1 18 rfl rfl)
theorem dX1_gap_44 : decode cX1_gap 44 = .ok (.aload_n 2, 1) := dk_44 (dk_at dksX1_gap_1 20 rfl rfl)
theorem dX1_gap_45 : decode cX1_gap 45 = .ok (.getfield 160, 3) := dk_180 0 160 (dk_at dksX1_gap_1 21 rfl rfl)
theorem dX1_gap_48 : decode cX1_gap 48 = .ok (.iload_n 1, 1) := dk_27 (dk_at dksX1_gap_2 0 rfl rfl)
theorem dX1_gap_49 : decode cX1_gap 49 = .ok (.iaload, 1) := dk_46 (dk_at dksX1_gap_2 1 rfl rfl)
theorem dX1_gap_50 : decode cX1_gap 50 = .ok (.iadd, 1) := dk_96 (dk_at dksX1_gap_2 2 rfl rfl)
theorem dX1_gap_51 : decode cX1_gap 51 = .ok (.iload_n 3, 1) := dk_29 (dk_at dksX1_gap_2 3 rfl rfl)
theorem dX1_gap_52 : decode cX1_gap 52 = .ok (.invokestatic 287, 3) := dk_184 1 31 (dk_at dksX1_gap_2 4 rfl rfl)
theorem dX1_gap_55 : decode cX1_gap 55 = .ok (.invokestatic 197, 3) := dk_184 0 197 (dk_at dksX1_gap_2 7 rfl rfl)
theorem dX1_gap_58 : decode cX1_gap 58 = .ok (.istore 7, 2) := dk_54 7 (dk_at dksX1_gap_2 10 rfl rfl)
theorem dX1_gap_60 : decode cX1_gap 60 = .ok (.iload 7, 2) := dk_21 7 (dk_at dksX1_gap_2 12 rfl rfl)
theorem dX1_gap_62 : decode cX1_gap 62 = .ok (.ifCond .le 33, 3) := dk_158 0 33 (dk_at dksX1_gap_2 14 rfl rfl)
theorem dX1_gap_65 : decode cX1_gap 65 = .ok (.iload 4, 2) := dk_21 4 (dk_at dksX1_gap_2 17 rfl rfl)
theorem dX1_gap_67 : decode cX1_gap 67 = .ok (.iconst (-1), 1) := dk_2 (dk_at dksX1_gap_2 19 rfl rfl)
theorem dX1_gap_68 : decode cX1_gap 68 = .ok (.if_icmp .ne 13, 3) := dk_160 0 13 (dk_at dksX1_gap_2 20 rfl rfl)
theorem dX1_gap_71 : decode cX1_gap 71 = .ok (.iload_n 3, 1) := dk_29 (dk_at dksX1_gap_2 23 rfl rfl)
theorem dX1_gap_72 : decode cX1_gap 72 = .ok (.iload 7, 2) := dk_21 7 (dk_at dksX1_gap_3 0 rfl rfl)
theorem dX1_gap_74 : decode cX1_gap 74 = .ok (.isub, 1) := dk_100 (dk_at dksX1_gap_3 2 rfl rfl)
theorem dX1_gap_75 : decode cX1_gap 75 = .ok (.invokestatic 290, 3) := dk_184 1 34 (dk_at dksX1_gap_3 3 rfl rfl)
theorem dX1_gap_78 : decode cX1_gap 78 = .ok (.goto 15, 3) := dk_167 0 15 (dk_at dksX1_gap_3 6 rfl rfl)
theorem dX1_gap_81 : decode cX1_gap 81 = .ok (.iload 4, 2) := dk_21 4 (dk_at dksX1_gap_3 9 rfl rfl)
theorem dX1_gap_83 : decode cX1_gap 83 = .ok (.iload_n 3, 1) := dk_29 (dk_at dksX1_gap_3 11 rfl rfl)
theorem dX1_gap_84 : decode cX1_gap 84 = .ok (.iload 7, 2) := dk_21 7 (dk_at dksX1_gap_3 12 rfl rfl)
theorem dX1_gap_86 : decode cX1_gap 86 = .ok (.isub, 1) := dk_100 (dk_at dksX1_gap_3 14 rfl rfl)
theorem dX1_gap_87 : decode cX1_gap 87 = .ok (.invokestatic 290, 3) := dk_184 1 34 (dk_at dksX1_gap_3 15 rfl rfl)
theorem dX1_gap_90 : decode cX1_gap 90 = .ok (.invokestatic 287, 3) := dk_184 1 31 (dk_at dksX1_gap_3 18 rfl rfl)
theorem dX1_gap_93 : decode cX1_gap 93 = .ok (.istore 4, 2) := dk_54 4 (dk_at dksX1_gap_3 21 rfl rfl)
theorem dX1_gap_95 : decode cX1_gap 95 = .ok (.iload 5, 2) := dk_21 5 (dk_at dksX1_gap_4 0 rfl rfl)
theorem dX1_gap_97 : decode cX1_gap 97 = .ok (.aload_n 2, 1) := dk_44 (dk_at dksX1_gap_4 2 rfl rfl)
theorem dX1_gap_98 : decode cX1_gap 98 = .ok (.getfield 169, 3) := dk_180 0 169 (dk_at dksX1_gap_4 3 rfl rfl)
theorem dX1_gap_101 : decode cX1_gap 101 = .ok (.iload_n 1, 1) := dk_27 (dk_at dksX1_gap_4 6 rfl rfl)
theorem dX1_gap_102 : decode cX1_gap 102 = .ok (.iaload, 1) := dk_46 (dk_at dksX1_gap_4 7 rfl rfl)
theorem dX1_gap_103 : decode cX1_gap 103 = .ok (.invokestatic 262, 3) := dk_184 1 6 (dk_at dksX1_gap_4 8 rfl rfl)
theorem dX1_gap_106 : decode cX1_gap 106 = .ok (.istore 5, 2) := dk_54 5 (dk_at dksX1_gap_4 11 rfl rfl)
theorem dX1_gap_108 : decode cX1_gap 108 = .ok (.iload 5, 2) := dk_21 5 (dk_at dksX1_gap_4 13 rfl rfl)
theorem dX1_gap_110 : decode cX1_gap 110 = .ok (.ifCond .ne (-78), 3) := dk_154 255 178 (dk_at dksX1_gap_4 15 rfl rfl)
theorem dX1_gap_113 : decode cX1_gap 113 = .ok (.iload 4, 2) := dk_21 4 (dk_at dksX1_gap_4 18 rfl rfl)
theorem dX1_gap_115 : decode cX1_gap 115 = .ok (.iconst (-1), 1) := dk_2 (dk_at dksX1_gap_4 20 rfl rfl)
theorem dX1_gap_116 : decode cX1_gap 116 = .ok (.if_icmp .ne 7, 3) := dk_160 0 7 (dk_at dksX1_gap_4 21 rfl rfl)
theorem dX1_gap_119 : decode cX1_gap 119 = .ok (.iload_n 3, 1) := dk_29 (dk_at dksX1_gap_5 0 rfl rfl)
theorem dX1_gap_120 : decode cX1_gap 120 = .ok (.goto 17, 3) := dk_167 0 17 (dk_at dksX1_gap_5 1 rfl rfl)
theorem dX1_gap_123 : decode cX1_gap 123 = .ok (.iconst 0, 1) := dk_3 (dk_at dksX1_gap_5 4 rfl rfl)
theorem dX1_gap_124 : decode cX1_gap 124 = .ok (.iload 4, 2) := dk_21 4 (dk_at dksX1_gap_5 5 rfl rfl)
theorem dX1_gap_126 : decode cX1_gap 126 = .ok (.aload_n 0, 1) := dk_42 (dk_at dksX1_gap_5 7 rfl rfl)
theorem dX1_gap_127 : decode cX1_gap 127 = .ok (.getfield 10, 3) := dk_180 0 10 (dk_at dksX1_gap_5 8 rfl rfl)
theorem dX1_gap_130 : decode cX1_gap 130 = .ok (.getfield 141, 3) := dk_180 0 141 (dk_at dksX1_gap_5 11 rfl rfl)
theorem dX1_gap_133 : decode cX1_gap 133 = .ok (.isub, 1) := dk_100 (dk_at dksX1_gap_5 14 rfl rfl)
theorem dX1_gap_134 : decode cX1_gap 134 = .ok (.invokestatic 197, 3) := dk_184 0 197 (dk_at dksX1_gap_5 15 rfl rfl)
theorem dX1_gap_137 : decode cX1_gap 137 = .ok (.ireturn, 1) := dk_172 (dk_at dksX1_gap_5 18 rfl rfl)
abbrev cX1_week : ByteArray := prog_1_method_29_code
def yX1_week : MethodName := ⟨RX1, "week", "(I)I"⟩
def dkwX1_week_5 : List UInt8 := [160, 0, 10, 42, 180, 1, 37, 167, 0, 7, 42, 180, 1, 40, 172]
abbrev dktX1_week_5 : List UInt8 := dkwX1_week_5 ++ []
def dkwX1_week_4 : List UInt8 := [160, 0, 6, 16, 254, 172, 27, 154, 0, 15, 29, 153, 0, 7, 4, 167, 0, 23, 3, 167, 0, 19, 27, 4]
abbrev dktX1_week_4 : List UInt8 := dkwX1_week_4 ++ dktX1_week_5
def dkwX1_week_3 : List UInt8 := [180, 0, 19, 180, 0, 101, 182, 1, 43, 42, 3, 28, 182, 1, 47, 62, 42, 180, 1, 40, 16, 254]
abbrev dktX1_week_3 : List UInt8 := dkwX1_week_3 ++ dktX1_week_4
def dkwX1_week_2 : List UInt8 := [132, 3, 1, 167, 255, 218, 42, 3, 181, 1, 40, 42, 3, 181, 1, 37, 42, 180, 0, 38, 3, 50, 42]
abbrev dktX1_week_2 : List UInt8 := dkwX1_week_2 ++ dktX1_week_3
def dkwX1_week_1 : List UInt8 := [162, 0, 30, 42, 180, 0, 19, 180, 0, 101, 180, 0, 163, 29, 46, 158, 0, 9, 28, 4, 29, 120, 128, 61]
abbrev dktX1_week_1 : List UInt8 := dkwX1_week_1 ++ dktX1_week_2
def dkwX1_week_0 : List UInt8 := [27, 3, 5, 184, 0, 130, 184, 0, 82, 3, 61, 3, 62, 29, 42, 180, 0, 10, 180, 0, 68, 182, 0, 72]
abbrev dktX1_week_0 : List UInt8 := dkwX1_week_0 ++ dktX1_week_1
theorem dksX1_week_0 : cX1_week.data.toList.drop 0 = dktX1_week_0 := by decide +kernel
theorem dksX1_week_1 : cX1_week.data.toList.drop 24 = dktX1_week_1 := dk_seg dksX1_week_0 24 rfl rfl
theorem dksX1_week_2 : cX1_week.data.toList.drop 48 = dktX1_week_2 := dk_seg dksX1_week_1 24 rfl rfl
theorem dksX1_week_3 : cX1_week.data.toList.drop 71 = dktX1_week_3 := dk_seg dksX1_week_2 23 rfl rfl
theorem dksX1_week_4 : cX1_week.data.toList.drop 93 = dktX1_week_4 := dk_seg dksX1_week_3 22 rfl rfl
theorem dksX1_week_5 : cX1_week.data.toList.drop 117 = dktX1_week_5 := dk_seg dksX1_week_4 24 rfl rfl
theorem dX1_week_0 : decode cX1_week 0 = .ok (.iload_n 1, 1) := dk_27 (dk_at dksX1_week_0 0 rfl rfl)
theorem dX1_week_1 : decode cX1_week 1 = .ok (.iconst 0, 1) := dk_3 (dk_at dksX1_week_0 1 rfl rfl)
theorem dX1_week_2 : decode cX1_week 2 = .ok (.iconst 2, 1) := dk_5 (dk_at dksX1_week_0 2 rfl rfl)
theorem dX1_week_3 : decode cX1_week 3 = .ok (.invokestatic 130, 3) := dk_184 0 130 (dk_at dksX1_week_0 3 rfl rfl)
theorem dX1_week_6 : decode cX1_week 6 = .ok (.invokestatic 82, 3) := dk_184 0 82 (dk_at dksX1_week_0 6 rfl rfl)
theorem dX1_week_9 : decode cX1_week 9 = .ok (.iconst 0, 1) := dk_3 (dk_at dksX1_week_0 9 rfl rfl)
theorem dX1_week_10 : decode cX1_week 10 = .ok (.istore_n 2, 1) := dk_61 (dk_at dksX1_week_0 10 rfl rfl)
theorem dX1_week_11 : decode cX1_week 11 = .ok (.iconst 0, 1) := dk_3 (dk_at dksX1_week_0 11 rfl rfl)
theorem dX1_week_12 : decode cX1_week 12 = .ok (.istore_n 3, 1) := dk_62 (dk_at dksX1_week_0 12 rfl rfl)
theorem dX1_week_13 : decode cX1_week 13 = .ok (.iload_n 3, 1) := dk_29 (dk_at dksX1_week_0 13 rfl rfl)
theorem dX1_week_14 : decode cX1_week 14 = .ok (.aload_n 0, 1) := dk_42 (dk_at dksX1_week_0 14 rfl rfl)
theorem dX1_week_15 : decode cX1_week 15 = .ok (.getfield 10, 3) := dk_180 0 10 (dk_at dksX1_week_0 15 rfl rfl)
theorem dX1_week_18 : decode cX1_week 18 = .ok (.getfield 68, 3) := dk_180 0 68 (dk_at dksX1_week_0 18 rfl rfl)
theorem dX1_week_21 : decode cX1_week 21 = .ok (.invokevirtual 72, 3) := dk_182 0 72 (dk_at dksX1_week_0 21 rfl rfl)
theorem dX1_week_24 : decode cX1_week 24 = .ok (.if_icmp .ge 30, 3) := dk_162 0 30 (dk_at dksX1_week_1 0 rfl rfl)
theorem dX1_week_27 : decode cX1_week 27 = .ok (.aload_n 0, 1) := dk_42 (dk_at dksX1_week_1 3 rfl rfl)
theorem dX1_week_28 : decode cX1_week 28 = .ok (.getfield 19, 3) := dk_180 0 19 (dk_at dksX1_week_1 4 rfl rfl)
theorem dX1_week_31 : decode cX1_week 31 = .ok (.getfield 101, 3) := dk_180 0 101 (dk_at dksX1_week_1 7 rfl rfl)
theorem dX1_week_34 : decode cX1_week 34 = .ok (.getfield 163, 3) := dk_180 0 163 (dk_at dksX1_week_1 10 rfl rfl)
theorem dX1_week_37 : decode cX1_week 37 = .ok (.iload_n 3, 1) := dk_29 (dk_at dksX1_week_1 13 rfl rfl)
theorem dX1_week_38 : decode cX1_week 38 = .ok (.iaload, 1) := dk_46 (dk_at dksX1_week_1 14 rfl rfl)
theorem dX1_week_39 : decode cX1_week 39 = .ok (.ifCond .le 9, 3) := dk_158 0 9 (dk_at dksX1_week_1 15 rfl rfl)
theorem dX1_week_42 : decode cX1_week 42 = .ok (.iload_n 2, 1) := dk_28 (dk_at dksX1_week_1 18 rfl rfl)
theorem dX1_week_43 : decode cX1_week 43 = .ok (.iconst 1, 1) := dk_4 (dk_at dksX1_week_1 19 rfl rfl)
theorem dX1_week_44 : decode cX1_week 44 = .ok (.iload_n 3, 1) := dk_29 (dk_at dksX1_week_1 20 rfl rfl)
theorem dX1_week_45 : decode cX1_week 45 = .ok (.ishl, 1) := dk_120 (dk_at dksX1_week_1 21 rfl rfl)
theorem dX1_week_46 : decode cX1_week 46 = .ok (.ior, 1) := dk_128 (dk_at dksX1_week_1 22 rfl rfl)
theorem dX1_week_47 : decode cX1_week 47 = .ok (.istore_n 2, 1) := dk_61 (dk_at dksX1_week_1 23 rfl rfl)
theorem dX1_week_48 : decode cX1_week 48 = .ok (.iinc 3 1, 3) := dk_132 3 1 (dk_at dksX1_week_2 0 rfl rfl)
theorem dX1_week_51 : decode cX1_week 51 = .ok (.goto (-38), 3) := dk_167 255 218 (dk_at dksX1_week_2 3 rfl rfl)
theorem dX1_week_54 : decode cX1_week 54 = .ok (.aload_n 0, 1) := dk_42 (dk_at dksX1_week_2 6 rfl rfl)
theorem dX1_week_55 : decode cX1_week 55 = .ok (.iconst 0, 1) := dk_3 (dk_at dksX1_week_2 7 rfl rfl)
theorem dX1_week_56 : decode cX1_week 56 = .ok (.putfield 296, 3) := dk_181 1 40 (dk_at dksX1_week_2 8 rfl rfl)
theorem dX1_week_59 : decode cX1_week 59 = .ok (.aload_n 0, 1) := dk_42 (dk_at dksX1_week_2 11 rfl rfl)
theorem dX1_week_60 : decode cX1_week 60 = .ok (.iconst 0, 1) := dk_3 (dk_at dksX1_week_2 12 rfl rfl)
theorem dX1_week_61 : decode cX1_week 61 = .ok (.putfield 293, 3) := dk_181 1 37 (dk_at dksX1_week_2 13 rfl rfl)
theorem dX1_week_64 : decode cX1_week 64 = .ok (.aload_n 0, 1) := dk_42 (dk_at dksX1_week_2 16 rfl rfl)
theorem dX1_week_65 : decode cX1_week 65 = .ok (.getfield 38, 3) := dk_180 0 38 (dk_at dksX1_week_2 17 rfl rfl)
theorem dX1_week_68 : decode cX1_week 68 = .ok (.iconst 0, 1) := dk_3 (dk_at dksX1_week_2 20 rfl rfl)
theorem dX1_week_69 : decode cX1_week 69 = .ok (.aaload, 1) := dk_50 (dk_at dksX1_week_2 21 rfl rfl)
theorem dX1_week_70 : decode cX1_week 70 = .ok (.aload_n 0, 1) := dk_42 (dk_at dksX1_week_2 22 rfl rfl)
theorem dX1_week_71 : decode cX1_week 71 = .ok (.getfield 19, 3) := dk_180 0 19 (dk_at dksX1_week_3 0 rfl rfl)
theorem dX1_week_74 : decode cX1_week 74 = .ok (.getfield 101, 3) := dk_180 0 101 (dk_at dksX1_week_3 3 rfl rfl)
theorem dX1_week_77 : decode cX1_week 77 = .ok (.invokevirtual 299, 3) := dk_182 1 43 (dk_at dksX1_week_3 6 rfl rfl)
theorem dX1_week_80 : decode cX1_week 80 = .ok (.aload_n 0, 1) := dk_42 (dk_at dksX1_week_3 9 rfl rfl)
theorem dX1_week_81 : decode cX1_week 81 = .ok (.iconst 0, 1) := dk_3 (dk_at dksX1_week_3 10 rfl rfl)
theorem dX1_week_82 : decode cX1_week 82 = .ok (.iload_n 2, 1) := dk_28 (dk_at dksX1_week_3 11 rfl rfl)
theorem dX1_week_83 : decode cX1_week 83 = .ok (.invokevirtual 303, 3) := dk_182 1 47 (dk_at dksX1_week_3 12 rfl rfl)
theorem dX1_week_86 : decode cX1_week 86 = .ok (.istore_n 3, 1) := dk_62 (dk_at dksX1_week_3 15 rfl rfl)
theorem dX1_week_87 : decode cX1_week 87 = .ok (.aload_n 0, 1) := dk_42 (dk_at dksX1_week_3 16 rfl rfl)
theorem dX1_week_88 : decode cX1_week 88 = .ok (.getfield 296, 3) := dk_180 1 40 (dk_at dksX1_week_3 17 rfl rfl)
theorem dX1_week_91 : decode cX1_week 91 = .ok (.bipush (-2), 2) := dk_16 254 (dk_at dksX1_week_3 20 rfl rfl)
theorem dX1_week_93 : decode cX1_week 93 = .ok (.if_icmp .ne 6, 3) := dk_160 0 6 (dk_at dksX1_week_4 0 rfl rfl)
theorem dX1_week_96 : decode cX1_week 96 = .ok (.bipush (-2), 2) := dk_16 254 (dk_at dksX1_week_4 3 rfl rfl)
theorem dX1_week_98 : decode cX1_week 98 = .ok (.ireturn, 1) := dk_172 (dk_at dksX1_week_4 5 rfl rfl)
theorem dX1_week_99 : decode cX1_week 99 = .ok (.iload_n 1, 1) := dk_27 (dk_at dksX1_week_4 6 rfl rfl)
theorem dX1_week_100 : decode cX1_week 100 = .ok (.ifCond .ne 15, 3) := dk_154 0 15 (dk_at dksX1_week_4 7 rfl rfl)
theorem dX1_week_103 : decode cX1_week 103 = .ok (.iload_n 3, 1) := dk_29 (dk_at dksX1_week_4 10 rfl rfl)
theorem dX1_week_104 : decode cX1_week 104 = .ok (.ifCond .eq 7, 3) := dk_153 0 7 (dk_at dksX1_week_4 11 rfl rfl)
theorem dX1_week_107 : decode cX1_week 107 = .ok (.iconst 1, 1) := dk_4 (dk_at dksX1_week_4 14 rfl rfl)
theorem dX1_week_108 : decode cX1_week 108 = .ok (.goto 23, 3) := dk_167 0 23 (dk_at dksX1_week_4 15 rfl rfl)
theorem dX1_week_111 : decode cX1_week 111 = .ok (.iconst 0, 1) := dk_3 (dk_at dksX1_week_4 18 rfl rfl)
theorem dX1_week_112 : decode cX1_week 112 = .ok (.goto 19, 3) := dk_167 0 19 (dk_at dksX1_week_4 19 rfl rfl)
theorem dX1_week_115 : decode cX1_week 115 = .ok (.iload_n 1, 1) := dk_27 (dk_at dksX1_week_4 22 rfl rfl)
theorem dX1_week_116 : decode cX1_week 116 = .ok (.iconst 1, 1) := dk_4 (dk_at dksX1_week_4 23 rfl rfl)
theorem dX1_week_117 : decode cX1_week 117 = .ok (.if_icmp .ne 10, 3) := dk_160 0 10 (dk_at dksX1_week_5 0 rfl rfl)
theorem dX1_week_120 : decode cX1_week 120 = .ok (.aload_n 0, 1) := dk_42 (dk_at dksX1_week_5 3 rfl rfl)
theorem dX1_week_121 : decode cX1_week 121 = .ok (.getfield 293, 3) := dk_180 1 37 (dk_at dksX1_week_5 4 rfl rfl)
theorem dX1_week_124 : decode cX1_week 124 = .ok (.goto 7, 3) := dk_167 0 7 (dk_at dksX1_week_5 7 rfl rfl)
theorem dX1_week_127 : decode cX1_week 127 = .ok (.aload_n 0, 1) := dk_42 (dk_at dksX1_week_5 10 rfl rfl)
theorem dX1_week_128 : decode cX1_week 128 = .ok (.getfield 296, 3) := dk_180 1 40 (dk_at dksX1_week_5 11 rfl rfl)
theorem dX1_week_131 : decode cX1_week 131 = .ok (.ireturn, 1) := dk_172 (dk_at dksX1_week_5 14 rfl rfl)
abbrev cX1_answer : ByteArray := prog_1_method_28_code
def yX1_answer : MethodName := ⟨RX1, "answer", "(II)Z"⟩
def dkwX1_answer_10 : List UInt8 := [132, 4, 1, 167, 255, 65, 3, 172]
abbrev dktX1_answer_10 : List UInt8 := dkwX1_answer_10 ++ []
def dkwX1_answer_9 : List UInt8 := [153, 0, 5, 4, 172, 21, 6, 45, 180, 0, 169, 21, 4, 46, 184, 1, 6, 54, 6, 21, 6, 154, 255, 124]
abbrev dktX1_answer_9 : List UInt8 := dkwX1_answer_9 ++ dktX1_answer_10
def dkwX1_answer_8 : List UInt8 := [21, 4, 46, 182, 1, 27, 182, 0, 207, 42, 27, 4, 96, 28, 4, 21, 4, 120, 2, 130, 126, 182, 1, 47]
abbrev dktX1_answer_8 : List UInt8 := dkwX1_answer_8 ++ dktX1_answer_9
def dkwX1_answer_7 : List UInt8 := [27, 4, 96, 50, 21, 4, 21, 6, 21, 7, 42, 45, 21, 4, 42, 180, 0, 19, 180, 0, 101, 180, 0, 166]
abbrev dktX1_answer_7 : List UInt8 := dkwX1_answer_7 ++ dktX1_answer_8
def dkwX1_answer_6 : List UInt8 := [180, 1, 40, 4, 96, 181, 1, 40, 42, 180, 0, 38, 27, 4, 96, 50, 45, 182, 1, 43, 42, 180, 0, 38]
abbrev dktX1_answer_6 : List UInt8 := dkwX1_answer_6 ++ dktX1_answer_7
def dkwX1_answer_5 : List UInt8 := [159, 0, 100, 42, 180, 1, 40, 17, 78, 32, 160, 0, 11, 42, 16, 254, 181, 1, 40, 4, 172, 42, 89]
abbrev dktX1_answer_5 : List UInt8 := dkwX1_answer_5 ++ dktX1_answer_6
def dkwX1_answer_4 : List UInt8 := [21, 4, 46, 54, 5, 3, 54, 6, 42, 45, 21, 4, 21, 6, 21, 5, 182, 1, 2, 54, 7, 21, 7, 2]
abbrev dktX1_answer_4 : List UInt8 := dkwX1_answer_4 ++ dktX1_answer_5
def dkwX1_answer_3 : List UInt8 := [154, 0, 6, 167, 0, 164, 42, 180, 0, 46, 27, 21, 4, 79, 42, 180, 0, 19, 180, 0, 101, 180, 0, 163]
abbrev dktX1_answer_3 : List UInt8 := dkwX1_answer_3 ++ dktX1_answer_4
def dkwX1_answer_2 : List UInt8 := [54, 4, 21, 4, 42, 180, 0, 10, 180, 0, 68, 182, 0, 72, 162, 0, 182, 28, 21, 4, 122, 4, 126]
abbrev dktX1_answer_2 : List UInt8 := dkwX1_answer_2 ++ dktX1_answer_3
def dkwX1_answer_1 : List UInt8 := [180, 0, 42, 3, 27, 184, 0, 118, 42, 27, 181, 0, 124, 4, 172, 42, 180, 0, 38, 27, 50, 78, 3]
abbrev dktX1_answer_1 : List UInt8 := dkwX1_answer_1 ++ dktX1_answer_2
def dkwX1_answer_0 : List UInt8 := [42, 42, 180, 1, 37, 27, 184, 0, 197, 181, 1, 37, 28, 154, 0, 24, 42, 180, 0, 46, 3, 42]
abbrev dktX1_answer_0 : List UInt8 := dkwX1_answer_0 ++ dktX1_answer_1
theorem dksX1_answer_0 : cX1_answer.data.toList.drop 0 = dktX1_answer_0 := by decide +kernel
theorem dksX1_answer_1 : cX1_answer.data.toList.drop 22 = dktX1_answer_1 := dk_seg dksX1_answer_0 22 rfl rfl
theorem dksX1_answer_2 : cX1_answer.data.toList.drop 45 = dktX1_answer_2 := dk_seg dksX1_answer_1 23 rfl rfl
theorem dksX1_answer_3 : cX1_answer.data.toList.drop 68 = dktX1_answer_3 := dk_seg dksX1_answer_2 23 rfl rfl
theorem dksX1_answer_4 : cX1_answer.data.toList.drop 92 = dktX1_answer_4 := dk_seg dksX1_answer_3 24 rfl rfl
theorem dksX1_answer_5 : cX1_answer.data.toList.drop 116 = dktX1_answer_5 := dk_seg dksX1_answer_4 24 rfl rfl
theorem dksX1_answer_6 : cX1_answer.data.toList.drop 139 = dktX1_answer_6 := dk_seg dksX1_answer_5 23 rfl rfl
theorem dksX1_answer_7 : cX1_answer.data.toList.drop 163 = dktX1_answer_7 := dk_seg dksX1_answer_6 24 rfl rfl
theorem dksX1_answer_8 : cX1_answer.data.toList.drop 187 = dktX1_answer_8 := dk_seg dksX1_answer_7 24 rfl rfl
theorem dksX1_answer_9 : cX1_answer.data.toList.drop 211 = dktX1_answer_9 := dk_seg dksX1_answer_8 24 rfl rfl
theorem dksX1_answer_10 : cX1_answer.data.toList.drop 235 = dktX1_answer_10 := dk_seg dksX1_answer_9 24 rfl rfl
theorem dX1_answer_0 : decode cX1_answer 0 = .ok (.aload_n 0, 1) := dk_42 (dk_at dksX1_answer_0 0 rfl rfl)
theorem dX1_answer_1 : decode cX1_answer 1 = .ok (.aload_n 0, 1) := dk_42 (dk_at dksX1_answer_0 1 rfl rfl)
theorem dX1_answer_2 : decode cX1_answer 2 = .ok (.getfield 293, 3) := dk_180 1 37 (dk_at dksX1_answer_0 2 rfl rfl)
theorem dX1_answer_5 : decode cX1_answer 5 = .ok (.iload_n 1, 1) := dk_27 (dk_at dksX1_answer_0 5 rfl rfl)
theorem dX1_answer_6 : decode cX1_answer 6 = .ok (.invokestatic 197, 3) := dk_184 0 197 (dk_at dksX1_answer_0 6 rfl rfl)
theorem dX1_answer_9 : decode cX1_answer 9 = .ok (.putfield 293, 3) := dk_181 1 37 (dk_at dksX1_answer_0 9 rfl rfl)
theorem dX1_answer_12 : decode cX1_answer 12 = .ok (.iload_n 2, 1) := dk_28 (dk_at dksX1_answer_0 12 rfl rfl)
theorem dX1_answer_13 : decode cX1_answer 13 = .ok (.ifCond .ne 24, 3) := dk_154 0 24 (dk_at dksX1_answer_0 13 rfl rfl)
theorem dX1_answer_16 : decode cX1_answer 16 = .ok (.aload_n 0, 1) := dk_42 (dk_at dksX1_answer_0 16 rfl rfl)
theorem dX1_answer_17 : decode cX1_answer 17 = .ok (.getfield 46, 3) := dk_180 0 46 (dk_at dksX1_answer_0 17 rfl rfl)
theorem dX1_answer_20 : decode cX1_answer 20 = .ok (.iconst 0, 1) := dk_3 (dk_at dksX1_answer_0 20 rfl rfl)
theorem dX1_answer_21 : decode cX1_answer 21 = .ok (.aload_n 0, 1) := dk_42 (dk_at dksX1_answer_0 21 rfl rfl)
theorem dX1_answer_22 : decode cX1_answer 22 = .ok (.getfield 42, 3) := dk_180 0 42 (dk_at dksX1_answer_1 0 rfl rfl)
theorem dX1_answer_25 : decode cX1_answer 25 = .ok (.iconst 0, 1) := dk_3 (dk_at dksX1_answer_1 3 rfl rfl)
theorem dX1_answer_26 : decode cX1_answer 26 = .ok (.iload_n 1, 1) := dk_27 (dk_at dksX1_answer_1 4 rfl rfl)
theorem dX1_answer_27 : decode cX1_answer 27 = .ok (.invokestatic 118, 3) := dk_184 0 118 (dk_at dksX1_answer_1 5 rfl rfl)
theorem dX1_answer_30 : decode cX1_answer 30 = .ok (.aload_n 0, 1) := dk_42 (dk_at dksX1_answer_1 8 rfl rfl)
theorem dX1_answer_31 : decode cX1_answer 31 = .ok (.iload_n 1, 1) := dk_27 (dk_at dksX1_answer_1 9 rfl rfl)
theorem dX1_answer_32 : decode cX1_answer 32 = .ok (.putfield 124, 3) := dk_181 0 124 (dk_at dksX1_answer_1 10 rfl rfl)
theorem dX1_answer_35 : decode cX1_answer 35 = .ok (.iconst 1, 1) := dk_4 (dk_at dksX1_answer_1 13 rfl rfl)
theorem dX1_answer_36 : decode cX1_answer 36 = .ok (.ireturn, 1) := dk_172 (dk_at dksX1_answer_1 14 rfl rfl)
theorem dX1_answer_37 : decode cX1_answer 37 = .ok (.aload_n 0, 1) := dk_42 (dk_at dksX1_answer_1 15 rfl rfl)
theorem dX1_answer_38 : decode cX1_answer 38 = .ok (.getfield 38, 3) := dk_180 0 38 (dk_at dksX1_answer_1 16 rfl rfl)
theorem dX1_answer_41 : decode cX1_answer 41 = .ok (.iload_n 1, 1) := dk_27 (dk_at dksX1_answer_1 19 rfl rfl)
theorem dX1_answer_42 : decode cX1_answer 42 = .ok (.aaload, 1) := dk_50 (dk_at dksX1_answer_1 20 rfl rfl)
theorem dX1_answer_43 : decode cX1_answer 43 = .ok (.astore_n 3, 1) := dk_78 (dk_at dksX1_answer_1 21 rfl rfl)
theorem dX1_answer_44 : decode cX1_answer 44 = .ok (.iconst 0, 1) := dk_3 (dk_at dksX1_answer_1 22 rfl rfl)
theorem dX1_answer_45 : decode cX1_answer 45 = .ok (.istore 4, 2) := dk_54 4 (dk_at dksX1_answer_2 0 rfl rfl)
theorem dX1_answer_47 : decode cX1_answer 47 = .ok (.iload 4, 2) := dk_21 4 (dk_at dksX1_answer_2 2 rfl rfl)
theorem dX1_answer_49 : decode cX1_answer 49 = .ok (.aload_n 0, 1) := dk_42 (dk_at dksX1_answer_2 4 rfl rfl)
theorem dX1_answer_50 : decode cX1_answer 50 = .ok (.getfield 10, 3) := dk_180 0 10 (dk_at dksX1_answer_2 5 rfl rfl)
theorem dX1_answer_53 : decode cX1_answer 53 = .ok (.getfield 68, 3) := dk_180 0 68 (dk_at dksX1_answer_2 8 rfl rfl)
theorem dX1_answer_56 : decode cX1_answer 56 = .ok (.invokevirtual 72, 3) := dk_182 0 72 (dk_at dksX1_answer_2 11 rfl rfl)
theorem dX1_answer_59 : decode cX1_answer 59 = .ok (.if_icmp .ge 182, 3) := dk_162 0 182 (dk_at dksX1_answer_2 14 rfl rfl)
theorem dX1_answer_62 : decode cX1_answer 62 = .ok (.iload_n 2, 1) := dk_28 (dk_at dksX1_answer_2 17 rfl rfl)
theorem dX1_answer_63 : decode cX1_answer 63 = .ok (.iload 4, 2) := dk_21 4 (dk_at dksX1_answer_2 18 rfl rfl)
theorem dX1_answer_65 : decode cX1_answer 65 = .ok (.ishr, 1) := dk_122 (dk_at dksX1_answer_2 20 rfl rfl)
theorem dX1_answer_66 : decode cX1_answer 66 = .ok (.iconst 1, 1) := dk_4 (dk_at dksX1_answer_2 21 rfl rfl)
theorem dX1_answer_67 : decode cX1_answer 67 = .ok (.iand, 1) := dk_126 (dk_at dksX1_answer_2 22 rfl rfl)
theorem dX1_answer_68 : decode cX1_answer 68 = .ok (.ifCond .ne 6, 3) := dk_154 0 6 (dk_at dksX1_answer_3 0 rfl rfl)
theorem dX1_answer_71 : decode cX1_answer 71 = .ok (.goto 164, 3) := dk_167 0 164 (dk_at dksX1_answer_3 3 rfl rfl)
theorem dX1_answer_74 : decode cX1_answer 74 = .ok (.aload_n 0, 1) := dk_42 (dk_at dksX1_answer_3 6 rfl rfl)
theorem dX1_answer_75 : decode cX1_answer 75 = .ok (.getfield 46, 3) := dk_180 0 46 (dk_at dksX1_answer_3 7 rfl rfl)
theorem dX1_answer_78 : decode cX1_answer 78 = .ok (.iload_n 1, 1) := dk_27 (dk_at dksX1_answer_3 10 rfl rfl)
theorem dX1_answer_79 : decode cX1_answer 79 = .ok (.iload 4, 2) := dk_21 4 (dk_at dksX1_answer_3 11 rfl rfl)
theorem dX1_answer_81 : decode cX1_answer 81 = .ok (.iastore, 1) := dk_79 (dk_at dksX1_answer_3 13 rfl rfl)
theorem dX1_answer_82 : decode cX1_answer 82 = .ok (.aload_n 0, 1) := dk_42 (dk_at dksX1_answer_3 14 rfl rfl)
theorem dX1_answer_83 : decode cX1_answer 83 = .ok (.getfield 19, 3) := dk_180 0 19 (dk_at dksX1_answer_3 15 rfl rfl)
theorem dX1_answer_86 : decode cX1_answer 86 = .ok (.getfield 101, 3) := dk_180 0 101 (dk_at dksX1_answer_3 18 rfl rfl)
theorem dX1_answer_89 : decode cX1_answer 89 = .ok (.getfield 163, 3) := dk_180 0 163 (dk_at dksX1_answer_3 21 rfl rfl)
theorem dX1_answer_92 : decode cX1_answer 92 = .ok (.iload 4, 2) := dk_21 4 (dk_at dksX1_answer_4 0 rfl rfl)
theorem dX1_answer_94 : decode cX1_answer 94 = .ok (.iaload, 1) := dk_46 (dk_at dksX1_answer_4 2 rfl rfl)
theorem dX1_answer_95 : decode cX1_answer 95 = .ok (.istore 5, 2) := dk_54 5 (dk_at dksX1_answer_4 3 rfl rfl)
theorem dX1_answer_97 : decode cX1_answer 97 = .ok (.iconst 0, 1) := dk_3 (dk_at dksX1_answer_4 5 rfl rfl)
theorem dX1_answer_98 : decode cX1_answer 98 = .ok (.istore 6, 2) := dk_54 6 (dk_at dksX1_answer_4 6 rfl rfl)
theorem dX1_answer_100 : decode cX1_answer 100 = .ok (.aload_n 0, 1) := dk_42 (dk_at dksX1_answer_4 8 rfl rfl)
theorem dX1_answer_101 : decode cX1_answer 101 = .ok (.aload_n 3, 1) := dk_45 (dk_at dksX1_answer_4 9 rfl rfl)
theorem dX1_answer_102 : decode cX1_answer 102 = .ok (.iload 4, 2) := dk_21 4 (dk_at dksX1_answer_4 10 rfl rfl)
theorem dX1_answer_104 : decode cX1_answer 104 = .ok (.iload 6, 2) := dk_21 6 (dk_at dksX1_answer_4 12 rfl rfl)
theorem dX1_answer_106 : decode cX1_answer 106 = .ok (.iload 5, 2) := dk_21 5 (dk_at dksX1_answer_4 14 rfl rfl)
theorem dX1_answer_108 : decode cX1_answer 108 = .ok (.invokevirtual 258, 3) := dk_182 1 2 (dk_at dksX1_answer_4 16 rfl rfl)
theorem dX1_answer_111 : decode cX1_answer 111 = .ok (.istore 7, 2) := dk_54 7 (dk_at dksX1_answer_4 19 rfl rfl)
theorem dX1_answer_113 : decode cX1_answer 113 = .ok (.iload 7, 2) := dk_21 7 (dk_at dksX1_answer_4 21 rfl rfl)
theorem dX1_answer_115 : decode cX1_answer 115 = .ok (.iconst (-1), 1) := dk_2 (dk_at dksX1_answer_4 23 rfl rfl)
theorem dX1_answer_116 : decode cX1_answer 116 = .ok (.if_icmp .eq 100, 3) := dk_159 0 100 (dk_at dksX1_answer_5 0 rfl rfl)
theorem dX1_answer_119 : decode cX1_answer 119 = .ok (.aload_n 0, 1) := dk_42 (dk_at dksX1_answer_5 3 rfl rfl)
theorem dX1_answer_120 : decode cX1_answer 120 = .ok (.getfield 296, 3) := dk_180 1 40 (dk_at dksX1_answer_5 4 rfl rfl)
theorem dX1_answer_123 : decode cX1_answer 123 = .ok (.sipush 20000, 3) := dk_17 78 32 (dk_at dksX1_answer_5 7 rfl rfl)
theorem dX1_answer_126 : decode cX1_answer 126 = .ok (.if_icmp .ne 11, 3) := dk_160 0 11 (dk_at dksX1_answer_5 10 rfl rfl)
theorem dX1_answer_129 : decode cX1_answer 129 = .ok (.aload_n 0, 1) := dk_42 (dk_at dksX1_answer_5 13 rfl rfl)
theorem dX1_answer_130 : decode cX1_answer 130 = .ok (.bipush (-2), 2) := dk_16 254 (dk_at dksX1_answer_5 14 rfl rfl)
theorem dX1_answer_132 : decode cX1_answer 132 = .ok (.putfield 296, 3) := dk_181 1 40 (dk_at dksX1_answer_5 16 rfl rfl)
theorem dX1_answer_135 : decode cX1_answer 135 = .ok (.iconst 1, 1) := dk_4 (dk_at dksX1_answer_5 19 rfl rfl)
theorem dX1_answer_136 : decode cX1_answer 136 = .ok (.ireturn, 1) := dk_172 (dk_at dksX1_answer_5 20 rfl rfl)
theorem dX1_answer_137 : decode cX1_answer 137 = .ok (.aload_n 0, 1) := dk_42 (dk_at dksX1_answer_5 21 rfl rfl)
theorem dX1_answer_138 : decode cX1_answer 138 = .ok (.dup, 1) := dk_89 (dk_at dksX1_answer_5 22 rfl rfl)
theorem dX1_answer_139 : decode cX1_answer 139 = .ok (.getfield 296, 3) := dk_180 1 40 (dk_at dksX1_answer_6 0 rfl rfl)
theorem dX1_answer_142 : decode cX1_answer 142 = .ok (.iconst 1, 1) := dk_4 (dk_at dksX1_answer_6 3 rfl rfl)
theorem dX1_answer_143 : decode cX1_answer 143 = .ok (.iadd, 1) := dk_96 (dk_at dksX1_answer_6 4 rfl rfl)
theorem dX1_answer_144 : decode cX1_answer 144 = .ok (.putfield 296, 3) := dk_181 1 40 (dk_at dksX1_answer_6 5 rfl rfl)
theorem dX1_answer_147 : decode cX1_answer 147 = .ok (.aload_n 0, 1) := dk_42 (dk_at dksX1_answer_6 8 rfl rfl)
theorem dX1_answer_148 : decode cX1_answer 148 = .ok (.getfield 38, 3) := dk_180 0 38 (dk_at dksX1_answer_6 9 rfl rfl)
theorem dX1_answer_151 : decode cX1_answer 151 = .ok (.iload_n 1, 1) := dk_27 (dk_at dksX1_answer_6 12 rfl rfl)
theorem dX1_answer_152 : decode cX1_answer 152 = .ok (.iconst 1, 1) := dk_4 (dk_at dksX1_answer_6 13 rfl rfl)
theorem dX1_answer_153 : decode cX1_answer 153 = .ok (.iadd, 1) := dk_96 (dk_at dksX1_answer_6 14 rfl rfl)
theorem dX1_answer_154 : decode cX1_answer 154 = .ok (.aaload, 1) := dk_50 (dk_at dksX1_answer_6 15 rfl rfl)
theorem dX1_answer_155 : decode cX1_answer 155 = .ok (.aload_n 3, 1) := dk_45 (dk_at dksX1_answer_6 16 rfl rfl)
theorem dX1_answer_156 : decode cX1_answer 156 = .ok (.invokevirtual 299, 3) := dk_182 1 43 (dk_at dksX1_answer_6 17 rfl rfl)
theorem dX1_answer_159 : decode cX1_answer 159 = .ok (.aload_n 0, 1) := dk_42 (dk_at dksX1_answer_6 20 rfl rfl)
theorem dX1_answer_160 : decode cX1_answer 160 = .ok (.getfield 38, 3) := dk_180 0 38 (dk_at dksX1_answer_6 21 rfl rfl)
theorem dX1_answer_163 : decode cX1_answer 163 = .ok (.iload_n 1, 1) := dk_27 (dk_at dksX1_answer_7 0 rfl rfl)
theorem dX1_answer_164 : decode cX1_answer 164 = .ok (.iconst 1, 1) := dk_4 (dk_at dksX1_answer_7 1 rfl rfl)
theorem dX1_answer_165 : decode cX1_answer 165 = .ok (.iadd, 1) := dk_96 (dk_at dksX1_answer_7 2 rfl rfl)
theorem dX1_answer_166 : decode cX1_answer 166 = .ok (.aaload, 1) := dk_50 (dk_at dksX1_answer_7 3 rfl rfl)
theorem dX1_answer_167 : decode cX1_answer 167 = .ok (.iload 4, 2) := dk_21 4 (dk_at dksX1_answer_7 4 rfl rfl)
theorem dX1_answer_169 : decode cX1_answer 169 = .ok (.iload 6, 2) := dk_21 6 (dk_at dksX1_answer_7 6 rfl rfl)
theorem dX1_answer_171 : decode cX1_answer 171 = .ok (.iload 7, 2) := dk_21 7 (dk_at dksX1_answer_7 8 rfl rfl)
theorem dX1_answer_173 : decode cX1_answer 173 = .ok (.aload_n 0, 1) := dk_42 (dk_at dksX1_answer_7 10 rfl rfl)
theorem dX1_answer_174 : decode cX1_answer 174 = .ok (.aload_n 3, 1) := dk_45 (dk_at dksX1_answer_7 11 rfl rfl)
theorem dX1_answer_175 : decode cX1_answer 175 = .ok (.iload 4, 2) := dk_21 4 (dk_at dksX1_answer_7 12 rfl rfl)
theorem dX1_answer_177 : decode cX1_answer 177 = .ok (.aload_n 0, 1) := dk_42 (dk_at dksX1_answer_7 14 rfl rfl)
theorem dX1_answer_178 : decode cX1_answer 178 = .ok (.getfield 19, 3) := dk_180 0 19 (dk_at dksX1_answer_7 15 rfl rfl)
theorem dX1_answer_181 : decode cX1_answer 181 = .ok (.getfield 101, 3) := dk_180 0 101 (dk_at dksX1_answer_7 18 rfl rfl)
theorem dX1_answer_184 : decode cX1_answer 184 = .ok (.getfield 166, 3) := dk_180 0 166 (dk_at dksX1_answer_7 21 rfl rfl)
theorem dX1_answer_187 : decode cX1_answer 187 = .ok (.iload 4, 2) := dk_21 4 (dk_at dksX1_answer_8 0 rfl rfl)
theorem dX1_answer_189 : decode cX1_answer 189 = .ok (.iaload, 1) := dk_46 (dk_at dksX1_answer_8 2 rfl rfl)
theorem dX1_answer_190 : decode cX1_answer 190 = .ok (.invokevirtual 283, 3) := dk_182 1 27 (dk_at dksX1_answer_8 3 rfl rfl)
theorem dX1_answer_193 : decode cX1_answer 193 = .ok (.invokevirtual 207, 3) := dk_182 0 207 (dk_at dksX1_answer_8 6 rfl rfl)
theorem dX1_answer_196 : decode cX1_answer 196 = .ok (.aload_n 0, 1) := dk_42 (dk_at dksX1_answer_8 9 rfl rfl)
theorem dX1_answer_197 : decode cX1_answer 197 = .ok (.iload_n 1, 1) := dk_27 (dk_at dksX1_answer_8 10 rfl rfl)
theorem dX1_answer_198 : decode cX1_answer 198 = .ok (.iconst 1, 1) := dk_4 (dk_at dksX1_answer_8 11 rfl rfl)
theorem dX1_answer_199 : decode cX1_answer 199 = .ok (.iadd, 1) := dk_96 (dk_at dksX1_answer_8 12 rfl rfl)
theorem dX1_answer_200 : decode cX1_answer 200 = .ok (.iload_n 2, 1) := dk_28 (dk_at dksX1_answer_8 13 rfl rfl)
theorem dX1_answer_201 : decode cX1_answer 201 = .ok (.iconst 1, 1) := dk_4 (dk_at dksX1_answer_8 14 rfl rfl)
theorem dX1_answer_202 : decode cX1_answer 202 = .ok (.iload 4, 2) := dk_21 4 (dk_at dksX1_answer_8 15 rfl rfl)
theorem dX1_answer_204 : decode cX1_answer 204 = .ok (.ishl, 1) := dk_120 (dk_at dksX1_answer_8 17 rfl rfl)
theorem dX1_answer_205 : decode cX1_answer 205 = .ok (.iconst (-1), 1) := dk_2 (dk_at dksX1_answer_8 18 rfl rfl)
theorem dX1_answer_206 : decode cX1_answer 206 = .ok (.ixor, 1) := dk_130 (dk_at dksX1_answer_8 19 rfl rfl)
theorem dX1_answer_207 : decode cX1_answer 207 = .ok (.iand, 1) := dk_126 (dk_at dksX1_answer_8 20 rfl rfl)
theorem dX1_answer_208 : decode cX1_answer 208 = .ok (.invokevirtual 303, 3) := dk_182 1 47 (dk_at dksX1_answer_8 21 rfl rfl)
theorem dX1_answer_211 : decode cX1_answer 211 = .ok (.ifCond .eq 5, 3) := dk_153 0 5 (dk_at dksX1_answer_9 0 rfl rfl)
theorem dX1_answer_214 : decode cX1_answer 214 = .ok (.iconst 1, 1) := dk_4 (dk_at dksX1_answer_9 3 rfl rfl)
theorem dX1_answer_215 : decode cX1_answer 215 = .ok (.ireturn, 1) := dk_172 (dk_at dksX1_answer_9 4 rfl rfl)
theorem dX1_answer_216 : decode cX1_answer 216 = .ok (.iload 6, 2) := dk_21 6 (dk_at dksX1_answer_9 5 rfl rfl)
theorem dX1_answer_218 : decode cX1_answer 218 = .ok (.aload_n 3, 1) := dk_45 (dk_at dksX1_answer_9 7 rfl rfl)
theorem dX1_answer_219 : decode cX1_answer 219 = .ok (.getfield 169, 3) := dk_180 0 169 (dk_at dksX1_answer_9 8 rfl rfl)
theorem dX1_answer_222 : decode cX1_answer 222 = .ok (.iload 4, 2) := dk_21 4 (dk_at dksX1_answer_9 11 rfl rfl)
theorem dX1_answer_224 : decode cX1_answer 224 = .ok (.iaload, 1) := dk_46 (dk_at dksX1_answer_9 13 rfl rfl)
theorem dX1_answer_225 : decode cX1_answer 225 = .ok (.invokestatic 262, 3) := dk_184 1 6 (dk_at dksX1_answer_9 14 rfl rfl)
theorem dX1_answer_228 : decode cX1_answer 228 = .ok (.istore 6, 2) := dk_54 6 (dk_at dksX1_answer_9 17 rfl rfl)
theorem dX1_answer_230 : decode cX1_answer 230 = .ok (.iload 6, 2) := dk_21 6 (dk_at dksX1_answer_9 19 rfl rfl)
theorem dX1_answer_232 : decode cX1_answer 232 = .ok (.ifCond .ne (-132), 3) := dk_154 255 124 (dk_at dksX1_answer_9 21 rfl rfl)
theorem dX1_answer_235 : decode cX1_answer 235 = .ok (.iinc 4 1, 3) := dk_132 4 1 (dk_at dksX1_answer_10 0 rfl rfl)
theorem dX1_answer_238 : decode cX1_answer 238 = .ok (.goto (-191), 3) := dk_167 255 65 (dk_at dksX1_answer_10 3 rfl rfl)
theorem dX1_answer_241 : decode cX1_answer 241 = .ok (.iconst 0, 1) := dk_3 (dk_at dksX1_answer_10 6 rfl rfl)
theorem dX1_answer_242 : decode cX1_answer 242 = .ok (.ireturn, 1) := dk_172 (dk_at dksX1_answer_10 7 rfl rfl)
abbrev cX1_order : ByteArray := prog_1_method_30_code
def yX1_order : MethodName := ⟨RX1, "order", "(I)I"⟩
def dkwX1_order_1 : List UInt8 := [27, 46, 172]
abbrev dktX1_order_1 : List UInt8 := dkwX1_order_1 ++ []
def dkwX1_order_0 : List UInt8 := [27, 155, 0, 15, 27, 42, 180, 0, 124, 162, 0, 7, 4, 167, 0, 4, 3, 184, 0, 82, 42, 180, 0, 42]
abbrev dktX1_order_0 : List UInt8 := dkwX1_order_0 ++ dktX1_order_1
theorem dksX1_order_0 : cX1_order.data.toList.drop 0 = dktX1_order_0 := by decide +kernel
theorem dksX1_order_1 : cX1_order.data.toList.drop 24 = dktX1_order_1 := dk_seg dksX1_order_0 24 rfl rfl
theorem dX1_order_0 : decode cX1_order 0 = .ok (.iload_n 1, 1) := dk_27 (dk_at dksX1_order_0 0 rfl rfl)
theorem dX1_order_1 : decode cX1_order 1 = .ok (.ifCond .lt 15, 3) := dk_155 0 15 (dk_at dksX1_order_0 1 rfl rfl)
theorem dX1_order_4 : decode cX1_order 4 = .ok (.iload_n 1, 1) := dk_27 (dk_at dksX1_order_0 4 rfl rfl)
theorem dX1_order_5 : decode cX1_order 5 = .ok (.aload_n 0, 1) := dk_42 (dk_at dksX1_order_0 5 rfl rfl)
theorem dX1_order_6 : decode cX1_order 6 = .ok (.getfield 124, 3) := dk_180 0 124 (dk_at dksX1_order_0 6 rfl rfl)
theorem dX1_order_9 : decode cX1_order 9 = .ok (.if_icmp .ge 7, 3) := dk_162 0 7 (dk_at dksX1_order_0 9 rfl rfl)
theorem dX1_order_12 : decode cX1_order 12 = .ok (.iconst 1, 1) := dk_4 (dk_at dksX1_order_0 12 rfl rfl)
theorem dX1_order_13 : decode cX1_order 13 = .ok (.goto 4, 3) := dk_167 0 4 (dk_at dksX1_order_0 13 rfl rfl)
theorem dX1_order_16 : decode cX1_order 16 = .ok (.iconst 0, 1) := dk_3 (dk_at dksX1_order_0 16 rfl rfl)
theorem dX1_order_17 : decode cX1_order 17 = .ok (.invokestatic 82, 3) := dk_184 0 82 (dk_at dksX1_order_0 17 rfl rfl)
theorem dX1_order_20 : decode cX1_order 20 = .ok (.aload_n 0, 1) := dk_42 (dk_at dksX1_order_0 20 rfl rfl)
theorem dX1_order_21 : decode cX1_order 21 = .ok (.getfield 42, 3) := dk_180 0 42 (dk_at dksX1_order_0 21 rfl rfl)
theorem dX1_order_24 : decode cX1_order 24 = .ok (.iload_n 1, 1) := dk_27 (dk_at dksX1_order_1 0 rfl rfl)
theorem dX1_order_25 : decode cX1_order 25 = .ok (.iaload, 1) := dk_46 (dk_at dksX1_order_1 1 rfl rfl)
theorem dX1_order_26 : decode cX1_order 26 = .ok (.ireturn, 1) := dk_172 (dk_at dksX1_order_1 2 rfl rfl)
abbrev cX1_get : ByteArray := prog_1_method_34_code
def yX1_get : MethodName := ⟨RX1, "get", "(II)I"⟩
def dkwX1_get_11 : List UInt8 := [153, 0, 8, 16, 254, 167, 0, 4, 29, 172]
abbrev dktX1_get_11 : List UInt8 := dkwX1_get_11 ++ []
def dkwX1_get_10 : List UInt8 := [46, 4, 96, 182, 1, 68, 132, 6, 1, 167, 255, 147, 132, 4, 1, 167, 255, 82, 42, 180, 1, 61]
abbrev dktX1_get_10 : List UInt8 := dkwX1_get_10 ++ dktX1_get_11
def dkwX1_get_9 : List UInt8 := [21, 7, 42, 25, 5, 21, 6, 25, 5, 180, 0, 166, 21, 6, 46, 182, 1, 27, 42, 180, 0, 52, 21, 4]
abbrev dktX1_get_9 : List UInt8 := dkwX1_get_9 ++ dktX1_get_10
def dkwX1_get_8 : List UInt8 := [167, 0, 54, 42, 25, 5, 21, 6, 182, 1, 23, 54, 7, 21, 7, 2, 159, 0, 38, 42, 25, 5, 21, 6]
abbrev dktX1_get_8 : List UInt8 := dkwX1_get_8 ++ dktX1_get_9
def dkwX1_get_7 : List UInt8 := [21, 6, 27, 160, 0, 23, 42, 25, 5, 21, 6, 42, 180, 0, 52, 21, 4, 46, 4, 96, 182, 1, 71]
abbrev dktX1_get_7 : List UInt8 := dkwX1_get_7 ++ dktX1_get_8
def dkwX1_get_6 : List UInt8 := [180, 0, 68, 182, 0, 72, 162, 0, 100, 25, 5, 180, 0, 163, 21, 6, 46, 154, 0, 6, 167, 0, 80]
abbrev dktX1_get_6 : List UInt8 := dkwX1_get_6 ++ dktX1_get_7
def dkwX1_get_5 : List UInt8 := [2, 160, 0, 129, 42, 180, 0, 52, 21, 4, 46, 62, 167, 0, 118, 3, 54, 6, 21, 6, 42, 180, 0, 10]
abbrev dktX1_get_5 : List UInt8 := dkwX1_get_5 ++ dktX1_get_6
def dkwX1_get_4 : List UInt8 := [180, 0, 49, 21, 4, 50, 58, 5, 25, 5, 180, 0, 169, 27, 46, 28, 122, 4, 126, 4, 160, 0, 19, 29]
abbrev dktX1_get_4 : List UInt8 := dkwX1_get_4 ++ dktX1_get_5
def dkwX1_get_3 : List UInt8 := [2, 62, 3, 54, 4, 21, 4, 42, 180, 1, 58, 162, 0, 171, 42, 180, 1, 61, 154, 0, 164, 42]
abbrev dktX1_get_3 : List UInt8 := dkwX1_get_3 ++ dktX1_get_4
def dkwX1_get_2 : List UInt8 := [180, 0, 55, 29, 3, 79, 132, 3, 1, 167, 255, 239, 42, 42, 180, 0, 19, 180, 0, 101, 3, 182, 1, 64]
abbrev dktX1_get_2 : List UInt8 := dkwX1_get_2 ++ dktX1_get_3
def dkwX1_get_1 : List UInt8 := [3, 184, 0, 82, 42, 3, 181, 1, 61, 42, 3, 181, 1, 58, 3, 62, 29, 17, 16, 0, 162, 0, 16, 42]
abbrev dktX1_get_1 : List UInt8 := dkwX1_get_1 ++ dktX1_get_2
def dkwX1_get_0 : List UInt8 := [42, 27, 182, 0, 149, 28, 155, 0, 18, 28, 42, 180, 0, 10, 180, 0, 134, 162, 0, 7, 4, 167, 0, 4]
abbrev dktX1_get_0 : List UInt8 := dkwX1_get_0 ++ dktX1_get_1
theorem dksX1_get_0 : cX1_get.data.toList.drop 0 = dktX1_get_0 := by decide +kernel
theorem dksX1_get_1 : cX1_get.data.toList.drop 24 = dktX1_get_1 := dk_seg dksX1_get_0 24 rfl rfl
theorem dksX1_get_2 : cX1_get.data.toList.drop 48 = dktX1_get_2 := dk_seg dksX1_get_1 24 rfl rfl
theorem dksX1_get_3 : cX1_get.data.toList.drop 72 = dktX1_get_3 := dk_seg dksX1_get_2 24 rfl rfl
theorem dksX1_get_4 : cX1_get.data.toList.drop 94 = dktX1_get_4 := dk_seg dksX1_get_3 22 rfl rfl
theorem dksX1_get_5 : cX1_get.data.toList.drop 118 = dktX1_get_5 := dk_seg dksX1_get_4 24 rfl rfl
theorem dksX1_get_6 : cX1_get.data.toList.drop 142 = dktX1_get_6 := dk_seg dksX1_get_5 24 rfl rfl
theorem dksX1_get_7 : cX1_get.data.toList.drop 165 = dktX1_get_7 := dk_seg dksX1_get_6 23 rfl rfl
theorem dksX1_get_8 : cX1_get.data.toList.drop 188 = dktX1_get_8 := dk_seg dksX1_get_7 23 rfl rfl
theorem dksX1_get_9 : cX1_get.data.toList.drop 212 = dktX1_get_9 := dk_seg dksX1_get_8 24 rfl rfl
theorem dksX1_get_10 : cX1_get.data.toList.drop 236 = dktX1_get_10 := dk_seg dksX1_get_9 24 rfl rfl
theorem dksX1_get_11 : cX1_get.data.toList.drop 258 = dktX1_get_11 := dk_seg dksX1_get_10 22 rfl rfl
theorem dX1_get_0 : decode cX1_get 0 = .ok (.aload_n 0, 1) := dk_42 (dk_at dksX1_get_0 0 rfl rfl)
theorem dX1_get_1 : decode cX1_get 1 = .ok (.iload_n 1, 1) := dk_27 (dk_at dksX1_get_0 1 rfl rfl)
theorem dX1_get_2 : decode cX1_get 2 = .ok (.invokevirtual 149, 3) := dk_182 0 149 (dk_at dksX1_get_0 2 rfl rfl)
theorem dX1_get_5 : decode cX1_get 5 = .ok (.iload_n 2, 1) := dk_28 (dk_at dksX1_get_0 5 rfl rfl)
theorem dX1_get_6 : decode cX1_get 6 = .ok (.ifCond .lt 18, 3) := dk_155 0 18 (dk_at dksX1_get_0 6 rfl rfl)
theorem dX1_get_9 : decode cX1_get 9 = .ok (.iload_n 2, 1) := dk_28 (dk_at dksX1_get_0 9 rfl rfl)
theorem dX1_get_10 : decode cX1_get 10 = .ok (.aload_n 0, 1) := dk_42 (dk_at dksX1_get_0 10 rfl rfl)
theorem dX1_get_11 : decode cX1_get 11 = .ok (.getfield 10, 3) := dk_180 0 10 (dk_at dksX1_get_0 11 rfl rfl)
theorem dX1_get_14 : decode cX1_get 14 = .ok (.getfield 134, 3) := dk_180 0 134 (dk_at dksX1_get_0 14 rfl rfl)
theorem dX1_get_17 : decode cX1_get 17 = .ok (.if_icmp .ge 7, 3) := dk_162 0 7 (dk_at dksX1_get_0 17 rfl rfl)
theorem dX1_get_20 : decode cX1_get 20 = .ok (.iconst 1, 1) := dk_4 (dk_at dksX1_get_0 20 rfl rfl)
theorem dX1_get_21 : decode cX1_get 21 = .ok (.goto 4, 3) := dk_167 0 4 (dk_at dksX1_get_0 21 rfl rfl)
theorem dX1_get_24 : decode cX1_get 24 = .ok (.iconst 0, 1) := dk_3 (dk_at dksX1_get_1 0 rfl rfl)
theorem dX1_get_25 : decode cX1_get 25 = .ok (.invokestatic 82, 3) := dk_184 0 82 (dk_at dksX1_get_1 1 rfl rfl)
theorem dX1_get_28 : decode cX1_get 28 = .ok (.aload_n 0, 1) := dk_42 (dk_at dksX1_get_1 4 rfl rfl)
theorem dX1_get_29 : decode cX1_get 29 = .ok (.iconst 0, 1) := dk_3 (dk_at dksX1_get_1 5 rfl rfl)
theorem dX1_get_30 : decode cX1_get 30 = .ok (.putfield 317, 3) := dk_181 1 61 (dk_at dksX1_get_1 6 rfl rfl)
theorem dX1_get_33 : decode cX1_get 33 = .ok (.aload_n 0, 1) := dk_42 (dk_at dksX1_get_1 9 rfl rfl)
theorem dX1_get_34 : decode cX1_get 34 = .ok (.iconst 0, 1) := dk_3 (dk_at dksX1_get_1 10 rfl rfl)
theorem dX1_get_35 : decode cX1_get 35 = .ok (.putfield 314, 3) := dk_181 1 58 (dk_at dksX1_get_1 11 rfl rfl)
theorem dX1_get_38 : decode cX1_get 38 = .ok (.iconst 0, 1) := dk_3 (dk_at dksX1_get_1 14 rfl rfl)
theorem dX1_get_39 : decode cX1_get 39 = .ok (.istore_n 3, 1) := dk_62 (dk_at dksX1_get_1 15 rfl rfl)
theorem dX1_get_40 : decode cX1_get 40 = .ok (.iload_n 3, 1) := dk_29 (dk_at dksX1_get_1 16 rfl rfl)
theorem dX1_get_41 : decode cX1_get 41 = .ok (.sipush 4096, 3) := dk_17 16 0 (dk_at dksX1_get_1 17 rfl rfl)
theorem dX1_get_44 : decode cX1_get 44 = .ok (.if_icmp .ge 16, 3) := dk_162 0 16 (dk_at dksX1_get_1 20 rfl rfl)
theorem dX1_get_47 : decode cX1_get 47 = .ok (.aload_n 0, 1) := dk_42 (dk_at dksX1_get_1 23 rfl rfl)
theorem dX1_get_48 : decode cX1_get 48 = .ok (.getfield 55, 3) := dk_180 0 55 (dk_at dksX1_get_2 0 rfl rfl)
theorem dX1_get_51 : decode cX1_get 51 = .ok (.iload_n 3, 1) := dk_29 (dk_at dksX1_get_2 3 rfl rfl)
theorem dX1_get_52 : decode cX1_get 52 = .ok (.iconst 0, 1) := dk_3 (dk_at dksX1_get_2 4 rfl rfl)
theorem dX1_get_53 : decode cX1_get 53 = .ok (.iastore, 1) := dk_79 (dk_at dksX1_get_2 5 rfl rfl)
theorem dX1_get_54 : decode cX1_get 54 = .ok (.iinc 3 1, 3) := dk_132 3 1 (dk_at dksX1_get_2 6 rfl rfl)
theorem dX1_get_57 : decode cX1_get 57 = .ok (.goto (-17), 3) := dk_167 255 239 (dk_at dksX1_get_2 9 rfl rfl)
theorem dX1_get_60 : decode cX1_get 60 = .ok (.aload_n 0, 1) := dk_42 (dk_at dksX1_get_2 12 rfl rfl)
theorem dX1_get_61 : decode cX1_get 61 = .ok (.aload_n 0, 1) := dk_42 (dk_at dksX1_get_2 13 rfl rfl)
theorem dX1_get_62 : decode cX1_get 62 = .ok (.getfield 19, 3) := dk_180 0 19 (dk_at dksX1_get_2 14 rfl rfl)
theorem dX1_get_65 : decode cX1_get 65 = .ok (.getfield 101, 3) := dk_180 0 101 (dk_at dksX1_get_2 17 rfl rfl)
theorem dX1_get_68 : decode cX1_get 68 = .ok (.iconst 0, 1) := dk_3 (dk_at dksX1_get_2 20 rfl rfl)
theorem dX1_get_69 : decode cX1_get 69 = .ok (.invokevirtual 320, 3) := dk_182 1 64 (dk_at dksX1_get_2 21 rfl rfl)
theorem dX1_get_72 : decode cX1_get 72 = .ok (.iconst (-1), 1) := dk_2 (dk_at dksX1_get_3 0 rfl rfl)
theorem dX1_get_73 : decode cX1_get 73 = .ok (.istore_n 3, 1) := dk_62 (dk_at dksX1_get_3 1 rfl rfl)
theorem dX1_get_74 : decode cX1_get 74 = .ok (.iconst 0, 1) := dk_3 (dk_at dksX1_get_3 2 rfl rfl)
theorem dX1_get_75 : decode cX1_get 75 = .ok (.istore 4, 2) := dk_54 4 (dk_at dksX1_get_3 3 rfl rfl)
theorem dX1_get_77 : decode cX1_get 77 = .ok (.iload 4, 2) := dk_21 4 (dk_at dksX1_get_3 5 rfl rfl)
theorem dX1_get_79 : decode cX1_get 79 = .ok (.aload_n 0, 1) := dk_42 (dk_at dksX1_get_3 7 rfl rfl)
theorem dX1_get_80 : decode cX1_get 80 = .ok (.getfield 314, 3) := dk_180 1 58 (dk_at dksX1_get_3 8 rfl rfl)
theorem dX1_get_83 : decode cX1_get 83 = .ok (.if_icmp .ge 171, 3) := dk_162 0 171 (dk_at dksX1_get_3 11 rfl rfl)
theorem dX1_get_86 : decode cX1_get 86 = .ok (.aload_n 0, 1) := dk_42 (dk_at dksX1_get_3 14 rfl rfl)
theorem dX1_get_87 : decode cX1_get 87 = .ok (.getfield 317, 3) := dk_180 1 61 (dk_at dksX1_get_3 15 rfl rfl)
theorem dX1_get_90 : decode cX1_get 90 = .ok (.ifCond .ne 164, 3) := dk_154 0 164 (dk_at dksX1_get_3 18 rfl rfl)
theorem dX1_get_93 : decode cX1_get 93 = .ok (.aload_n 0, 1) := dk_42 (dk_at dksX1_get_3 21 rfl rfl)
theorem dX1_get_94 : decode cX1_get 94 = .ok (.getfield 49, 3) := dk_180 0 49 (dk_at dksX1_get_4 0 rfl rfl)
theorem dX1_get_97 : decode cX1_get 97 = .ok (.iload 4, 2) := dk_21 4 (dk_at dksX1_get_4 3 rfl rfl)
theorem dX1_get_99 : decode cX1_get 99 = .ok (.aaload, 1) := dk_50 (dk_at dksX1_get_4 5 rfl rfl)
theorem dX1_get_100 : decode cX1_get 100 = .ok (.astore 5, 2) := dk_58 5 (dk_at dksX1_get_4 6 rfl rfl)
theorem dX1_get_102 : decode cX1_get 102 = .ok (.aload 5, 2) := dk_25 5 (dk_at dksX1_get_4 8 rfl rfl)
theorem dX1_get_104 : decode cX1_get 104 = .ok (.getfield 169, 3) := dk_180 0 169 (dk_at dksX1_get_4 10 rfl rfl)
theorem dX1_get_107 : decode cX1_get 107 = .ok (.iload_n 1, 1) := dk_27 (dk_at dksX1_get_4 13 rfl rfl)
theorem dX1_get_108 : decode cX1_get 108 = .ok (.iaload, 1) := dk_46 (dk_at dksX1_get_4 14 rfl rfl)
theorem dX1_get_109 : decode cX1_get 109 = .ok (.iload_n 2, 1) := dk_28 (dk_at dksX1_get_4 15 rfl rfl)
theorem dX1_get_110 : decode cX1_get 110 = .ok (.ishr, 1) := dk_122 (dk_at dksX1_get_4 16 rfl rfl)
theorem dX1_get_111 : decode cX1_get 111 = .ok (.iconst 1, 1) := dk_4 (dk_at dksX1_get_4 17 rfl rfl)
theorem dX1_get_112 : decode cX1_get 112 = .ok (.iand, 1) := dk_126 (dk_at dksX1_get_4 18 rfl rfl)
theorem dX1_get_113 : decode cX1_get 113 = .ok (.iconst 1, 1) := dk_4 (dk_at dksX1_get_4 19 rfl rfl)
theorem dX1_get_114 : decode cX1_get 114 = .ok (.if_icmp .ne 19, 3) := dk_160 0 19 (dk_at dksX1_get_4 20 rfl rfl)
theorem dX1_get_117 : decode cX1_get 117 = .ok (.iload_n 3, 1) := dk_29 (dk_at dksX1_get_4 23 rfl rfl)
theorem dX1_get_118 : decode cX1_get 118 = .ok (.iconst (-1), 1) := dk_2 (dk_at dksX1_get_5 0 rfl rfl)
theorem dX1_get_119 : decode cX1_get 119 = .ok (.if_icmp .ne 129, 3) := dk_160 0 129 (dk_at dksX1_get_5 1 rfl rfl)
theorem dX1_get_122 : decode cX1_get 122 = .ok (.aload_n 0, 1) := dk_42 (dk_at dksX1_get_5 4 rfl rfl)
theorem dX1_get_123 : decode cX1_get 123 = .ok (.getfield 52, 3) := dk_180 0 52 (dk_at dksX1_get_5 5 rfl rfl)
theorem dX1_get_126 : decode cX1_get 126 = .ok (.iload 4, 2) := dk_21 4 (dk_at dksX1_get_5 8 rfl rfl)
theorem dX1_get_128 : decode cX1_get 128 = .ok (.iaload, 1) := dk_46 (dk_at dksX1_get_5 10 rfl rfl)
theorem dX1_get_129 : decode cX1_get 129 = .ok (.istore_n 3, 1) := dk_62 (dk_at dksX1_get_5 11 rfl rfl)
theorem dX1_get_130 : decode cX1_get 130 = .ok (.goto 118, 3) := dk_167 0 118 (dk_at dksX1_get_5 12 rfl rfl)
theorem dX1_get_133 : decode cX1_get 133 = .ok (.iconst 0, 1) := dk_3 (dk_at dksX1_get_5 15 rfl rfl)
theorem dX1_get_134 : decode cX1_get 134 = .ok (.istore 6, 2) := dk_54 6 (dk_at dksX1_get_5 16 rfl rfl)
theorem dX1_get_136 : decode cX1_get 136 = .ok (.iload 6, 2) := dk_21 6 (dk_at dksX1_get_5 18 rfl rfl)
theorem dX1_get_138 : decode cX1_get 138 = .ok (.aload_n 0, 1) := dk_42 (dk_at dksX1_get_5 20 rfl rfl)
theorem dX1_get_139 : decode cX1_get 139 = .ok (.getfield 10, 3) := dk_180 0 10 (dk_at dksX1_get_5 21 rfl rfl)
theorem dX1_get_142 : decode cX1_get 142 = .ok (.getfield 68, 3) := dk_180 0 68 (dk_at dksX1_get_6 0 rfl rfl)
theorem dX1_get_145 : decode cX1_get 145 = .ok (.invokevirtual 72, 3) := dk_182 0 72 (dk_at dksX1_get_6 3 rfl rfl)
theorem dX1_get_148 : decode cX1_get 148 = .ok (.if_icmp .ge 100, 3) := dk_162 0 100 (dk_at dksX1_get_6 6 rfl rfl)
theorem dX1_get_151 : decode cX1_get 151 = .ok (.aload 5, 2) := dk_25 5 (dk_at dksX1_get_6 9 rfl rfl)
theorem dX1_get_153 : decode cX1_get 153 = .ok (.getfield 163, 3) := dk_180 0 163 (dk_at dksX1_get_6 11 rfl rfl)
theorem dX1_get_156 : decode cX1_get 156 = .ok (.iload 6, 2) := dk_21 6 (dk_at dksX1_get_6 14 rfl rfl)
theorem dX1_get_158 : decode cX1_get 158 = .ok (.iaload, 1) := dk_46 (dk_at dksX1_get_6 16 rfl rfl)
theorem dX1_get_159 : decode cX1_get 159 = .ok (.ifCond .ne 6, 3) := dk_154 0 6 (dk_at dksX1_get_6 17 rfl rfl)
theorem dX1_get_162 : decode cX1_get 162 = .ok (.goto 80, 3) := dk_167 0 80 (dk_at dksX1_get_6 20 rfl rfl)
theorem dX1_get_165 : decode cX1_get 165 = .ok (.iload 6, 2) := dk_21 6 (dk_at dksX1_get_7 0 rfl rfl)
theorem dX1_get_167 : decode cX1_get 167 = .ok (.iload_n 1, 1) := dk_27 (dk_at dksX1_get_7 2 rfl rfl)
theorem dX1_get_168 : decode cX1_get 168 = .ok (.if_icmp .ne 23, 3) := dk_160 0 23 (dk_at dksX1_get_7 3 rfl rfl)
theorem dX1_get_171 : decode cX1_get 171 = .ok (.aload_n 0, 1) := dk_42 (dk_at dksX1_get_7 6 rfl rfl)
theorem dX1_get_172 : decode cX1_get 172 = .ok (.aload 5, 2) := dk_25 5 (dk_at dksX1_get_7 7 rfl rfl)
theorem dX1_get_174 : decode cX1_get 174 = .ok (.iload 6, 2) := dk_21 6 (dk_at dksX1_get_7 9 rfl rfl)
theorem dX1_get_176 : decode cX1_get 176 = .ok (.aload_n 0, 1) := dk_42 (dk_at dksX1_get_7 11 rfl rfl)
theorem dX1_get_177 : decode cX1_get 177 = .ok (.getfield 52, 3) := dk_180 0 52 (dk_at dksX1_get_7 12 rfl rfl)
theorem dX1_get_180 : decode cX1_get 180 = .ok (.iload 4, 2) := dk_21 4 (dk_at dksX1_get_7 15 rfl rfl)
theorem dX1_get_182 : decode cX1_get 182 = .ok (.iaload, 1) := dk_46 (dk_at dksX1_get_7 17 rfl rfl)
theorem dX1_get_183 : decode cX1_get 183 = .ok (.iconst 1, 1) := dk_4 (dk_at dksX1_get_7 18 rfl rfl)
theorem dX1_get_184 : decode cX1_get 184 = .ok (.iadd, 1) := dk_96 (dk_at dksX1_get_7 19 rfl rfl)
theorem dX1_get_185 : decode cX1_get 185 = .ok (.invokevirtual 327, 3) := dk_182 1 71 (dk_at dksX1_get_7 20 rfl rfl)
theorem dX1_get_188 : decode cX1_get 188 = .ok (.goto 54, 3) := dk_167 0 54 (dk_at dksX1_get_8 0 rfl rfl)
theorem dX1_get_191 : decode cX1_get 191 = .ok (.aload_n 0, 1) := dk_42 (dk_at dksX1_get_8 3 rfl rfl)
theorem dX1_get_192 : decode cX1_get 192 = .ok (.aload 5, 2) := dk_25 5 (dk_at dksX1_get_8 4 rfl rfl)
theorem dX1_get_194 : decode cX1_get 194 = .ok (.iload 6, 2) := dk_21 6 (dk_at dksX1_get_8 6 rfl rfl)
theorem dX1_get_196 : decode cX1_get 196 = .ok (.invokevirtual 279, 3) := dk_182 1 23 (dk_at dksX1_get_8 8 rfl rfl)
theorem dX1_get_199 : decode cX1_get 199 = .ok (.istore 7, 2) := dk_54 7 (dk_at dksX1_get_8 11 rfl rfl)
theorem dX1_get_201 : decode cX1_get 201 = .ok (.iload 7, 2) := dk_21 7 (dk_at dksX1_get_8 13 rfl rfl)
theorem dX1_get_203 : decode cX1_get 203 = .ok (.iconst (-1), 1) := dk_2 (dk_at dksX1_get_8 15 rfl rfl)
theorem dX1_get_204 : decode cX1_get 204 = .ok (.if_icmp .eq 38, 3) := dk_159 0 38 (dk_at dksX1_get_8 16 rfl rfl)
theorem dX1_get_207 : decode cX1_get 207 = .ok (.aload_n 0, 1) := dk_42 (dk_at dksX1_get_8 19 rfl rfl)
theorem dX1_get_208 : decode cX1_get 208 = .ok (.aload 5, 2) := dk_25 5 (dk_at dksX1_get_8 20 rfl rfl)
theorem dX1_get_210 : decode cX1_get 210 = .ok (.iload 6, 2) := dk_21 6 (dk_at dksX1_get_8 22 rfl rfl)
theorem dX1_get_212 : decode cX1_get 212 = .ok (.iload 7, 2) := dk_21 7 (dk_at dksX1_get_9 0 rfl rfl)
theorem dX1_get_214 : decode cX1_get 214 = .ok (.aload_n 0, 1) := dk_42 (dk_at dksX1_get_9 2 rfl rfl)
theorem dX1_get_215 : decode cX1_get 215 = .ok (.aload 5, 2) := dk_25 5 (dk_at dksX1_get_9 3 rfl rfl)
theorem dX1_get_217 : decode cX1_get 217 = .ok (.iload 6, 2) := dk_21 6 (dk_at dksX1_get_9 5 rfl rfl)
theorem dX1_get_219 : decode cX1_get 219 = .ok (.aload 5, 2) := dk_25 5 (dk_at dksX1_get_9 7 rfl rfl)
theorem dX1_get_221 : decode cX1_get 221 = .ok (.getfield 166, 3) := dk_180 0 166 (dk_at dksX1_get_9 9 rfl rfl)
theorem dX1_get_224 : decode cX1_get 224 = .ok (.iload 6, 2) := dk_21 6 (dk_at dksX1_get_9 12 rfl rfl)
theorem dX1_get_226 : decode cX1_get 226 = .ok (.iaload, 1) := dk_46 (dk_at dksX1_get_9 14 rfl rfl)
theorem dX1_get_227 : decode cX1_get 227 = .ok (.invokevirtual 283, 3) := dk_182 1 27 (dk_at dksX1_get_9 15 rfl rfl)
theorem dX1_get_230 : decode cX1_get 230 = .ok (.aload_n 0, 1) := dk_42 (dk_at dksX1_get_9 18 rfl rfl)
theorem dX1_get_231 : decode cX1_get 231 = .ok (.getfield 52, 3) := dk_180 0 52 (dk_at dksX1_get_9 19 rfl rfl)
theorem dX1_get_234 : decode cX1_get 234 = .ok (.iload 4, 2) := dk_21 4 (dk_at dksX1_get_9 22 rfl rfl)
theorem dX1_get_236 : decode cX1_get 236 = .ok (.iaload, 1) := dk_46 (dk_at dksX1_get_10 0 rfl rfl)
theorem dX1_get_237 : decode cX1_get 237 = .ok (.iconst 1, 1) := dk_4 (dk_at dksX1_get_10 1 rfl rfl)
theorem dX1_get_238 : decode cX1_get 238 = .ok (.iadd, 1) := dk_96 (dk_at dksX1_get_10 2 rfl rfl)
theorem dX1_get_239 : decode cX1_get 239 = .ok (.invokevirtual 324, 3) := dk_182 1 68 (dk_at dksX1_get_10 3 rfl rfl)
theorem dX1_get_242 : decode cX1_get 242 = .ok (.iinc 6 1, 3) := dk_132 6 1 (dk_at dksX1_get_10 6 rfl rfl)
theorem dX1_get_245 : decode cX1_get 245 = .ok (.goto (-109), 3) := dk_167 255 147 (dk_at dksX1_get_10 9 rfl rfl)
theorem dX1_get_248 : decode cX1_get 248 = .ok (.iinc 4 1, 3) := dk_132 4 1 (dk_at dksX1_get_10 12 rfl rfl)
theorem dX1_get_251 : decode cX1_get 251 = .ok (.goto (-174), 3) := dk_167 255 82 (dk_at dksX1_get_10 15 rfl rfl)
theorem dX1_get_254 : decode cX1_get 254 = .ok (.aload_n 0, 1) := dk_42 (dk_at dksX1_get_10 18 rfl rfl)
theorem dX1_get_255 : decode cX1_get 255 = .ok (.getfield 317, 3) := dk_180 1 61 (dk_at dksX1_get_10 19 rfl rfl)
theorem dX1_get_258 : decode cX1_get 258 = .ok (.ifCond .eq 8, 3) := dk_153 0 8 (dk_at dksX1_get_11 0 rfl rfl)
theorem dX1_get_261 : decode cX1_get 261 = .ok (.bipush (-2), 2) := dk_16 254 (dk_at dksX1_get_11 3 rfl rfl)
theorem dX1_get_263 : decode cX1_get 263 = .ok (.goto 4, 3) := dk_167 0 4 (dk_at dksX1_get_11 5 rfl rfl)
theorem dX1_get_266 : decode cX1_get 266 = .ok (.iload_n 3, 1) := dk_29 (dk_at dksX1_get_11 8 rfl rfl)
theorem dX1_get_267 : decode cX1_get 267 = .ok (.ireturn, 1) := dk_172 (dk_at dksX1_get_11 9 rfl rfl)
abbrev cX1_comes : ByteArray := prog_1_method_31_code
def yX1_comes : MethodName := ⟨RX1, "comes", "(LHeavyGifts$State;I)V"⟩
def dkwX1_comes_6 : List UInt8 := [79, 177]
abbrev dktX1_comes_6 : List UInt8 := dkwX1_comes_6 ++ []
def dkwX1_comes_5 : List UInt8 := [180, 1, 58, 28, 79, 42, 89, 180, 1, 58, 4, 96, 181, 1, 58, 42, 180, 0, 55, 29, 42, 180, 1, 58]
abbrev dktX1_comes_5 : List UInt8 := dkwX1_comes_5 ++ dktX1_comes_6
def dkwX1_comes_4 : List UInt8 := [89, 183, 0, 25, 83, 42, 180, 0, 49, 42, 180, 1, 58, 50, 43, 182, 1, 43, 42, 180, 0, 52, 42]
abbrev dktX1_comes_4 : List UInt8 := dkwX1_comes_4 ++ dktX1_comes_5
def dkwX1_comes_3 : List UInt8 := [177, 42, 180, 0, 49, 42, 180, 1, 58, 50, 199, 0, 19, 42, 180, 0, 49, 42, 180, 1, 58, 187, 0, 23]
abbrev dktX1_comes_3 : List UInt8 := dkwX1_comes_3 ++ dktX1_comes_4
def dkwX1_comes_2 : List UInt8 := [180, 0, 55, 29, 46, 153, 0, 4, 177, 42, 180, 1, 58, 17, 3, 232, 160, 0, 9, 42, 4, 181, 1, 61]
abbrev dktX1_comes_2 : List UInt8 := dkwX1_comes_2 ++ dktX1_comes_3
def dkwX1_comes_1 : List UInt8 := [4, 100, 50, 43, 182, 1, 54, 154, 0, 14, 29, 4, 96, 17, 15, 255, 126, 62, 167, 255, 219, 42]
abbrev dktX1_comes_1 : List UInt8 := dkwX1_comes_1 ++ dktX1_comes_2
def dkwX1_comes_0 : List UInt8 := [43, 182, 1, 51, 62, 42, 180, 0, 55, 29, 46, 153, 0, 34, 42, 180, 0, 49, 42, 180, 0, 55, 29, 46]
abbrev dktX1_comes_0 : List UInt8 := dkwX1_comes_0 ++ dktX1_comes_1
theorem dksX1_comes_0 : cX1_comes.data.toList.drop 0 = dktX1_comes_0 := by decide +kernel
theorem dksX1_comes_1 : cX1_comes.data.toList.drop 24 = dktX1_comes_1 := dk_seg dksX1_comes_0 24 rfl rfl
theorem dksX1_comes_2 : cX1_comes.data.toList.drop 46 = dktX1_comes_2 := dk_seg dksX1_comes_1 22 rfl rfl
theorem dksX1_comes_3 : cX1_comes.data.toList.drop 70 = dktX1_comes_3 := dk_seg dksX1_comes_2 24 rfl rfl
theorem dksX1_comes_4 : cX1_comes.data.toList.drop 94 = dktX1_comes_4 := dk_seg dksX1_comes_3 24 rfl rfl
theorem dksX1_comes_5 : cX1_comes.data.toList.drop 117 = dktX1_comes_5 := dk_seg dksX1_comes_4 23 rfl rfl
theorem dksX1_comes_6 : cX1_comes.data.toList.drop 141 = dktX1_comes_6 := dk_seg dksX1_comes_5 24 rfl rfl
theorem dX1_comes_0 : decode cX1_comes 0 = .ok (.aload_n 1, 1) := dk_43 (dk_at dksX1_comes_0 0 rfl rfl)
theorem dX1_comes_1 : decode cX1_comes 1 = .ok (.invokevirtual 307, 3) := dk_182 1 51 (dk_at dksX1_comes_0 1 rfl rfl)
theorem dX1_comes_4 : decode cX1_comes 4 = .ok (.istore_n 3, 1) := dk_62 (dk_at dksX1_comes_0 4 rfl rfl)
theorem dX1_comes_5 : decode cX1_comes 5 = .ok (.aload_n 0, 1) := dk_42 (dk_at dksX1_comes_0 5 rfl rfl)
theorem dX1_comes_6 : decode cX1_comes 6 = .ok (.getfield 55, 3) := dk_180 0 55 (dk_at dksX1_comes_0 6 rfl rfl)
theorem dX1_comes_9 : decode cX1_comes 9 = .ok (.iload_n 3, 1) := dk_29 (dk_at dksX1_comes_0 9 rfl rfl)
theorem dX1_comes_10 : decode cX1_comes 10 = .ok (.iaload, 1) := dk_46 (dk_at dksX1_comes_0 10 rfl rfl)
theorem dX1_comes_11 : decode cX1_comes 11 = .ok (.ifCond .eq 34, 3) := dk_153 0 34 (dk_at dksX1_comes_0 11 rfl rfl)
theorem dX1_comes_14 : decode cX1_comes 14 = .ok (.aload_n 0, 1) := dk_42 (dk_at dksX1_comes_0 14 rfl rfl)
theorem dX1_comes_15 : decode cX1_comes 15 = .ok (.getfield 49, 3) := dk_180 0 49 (dk_at dksX1_comes_0 15 rfl rfl)
theorem dX1_comes_18 : decode cX1_comes 18 = .ok (.aload_n 0, 1) := dk_42 (dk_at dksX1_comes_0 18 rfl rfl)
theorem dX1_comes_19 : decode cX1_comes 19 = .ok (.getfield 55, 3) := dk_180 0 55 (dk_at dksX1_comes_0 19 rfl rfl)
theorem dX1_comes_22 : decode cX1_comes 22 = .ok (.iload_n 3, 1) := dk_29 (dk_at dksX1_comes_0 22 rfl rfl)
theorem dX1_comes_23 : decode cX1_comes 23 = .ok (.iaload, 1) := dk_46 (dk_at dksX1_comes_0 23 rfl rfl)
theorem dX1_comes_24 : decode cX1_comes 24 = .ok (.iconst 1, 1) := dk_4 (dk_at dksX1_comes_1 0 rfl rfl)
theorem dX1_comes_25 : decode cX1_comes 25 = .ok (.isub, 1) := dk_100 (dk_at dksX1_comes_1 1 rfl rfl)
theorem dX1_comes_26 : decode cX1_comes 26 = .ok (.aaload, 1) := dk_50 (dk_at dksX1_comes_1 2 rfl rfl)
theorem dX1_comes_27 : decode cX1_comes 27 = .ok (.aload_n 1, 1) := dk_43 (dk_at dksX1_comes_1 3 rfl rfl)
theorem dX1_comes_28 : decode cX1_comes 28 = .ok (.invokevirtual 310, 3) := dk_182 1 54 (dk_at dksX1_comes_1 4 rfl rfl)
theorem dX1_comes_31 : decode cX1_comes 31 = .ok (.ifCond .ne 14, 3) := dk_154 0 14 (dk_at dksX1_comes_1 7 rfl rfl)
theorem dX1_comes_34 : decode cX1_comes 34 = .ok (.iload_n 3, 1) := dk_29 (dk_at dksX1_comes_1 10 rfl rfl)
theorem dX1_comes_35 : decode cX1_comes 35 = .ok (.iconst 1, 1) := dk_4 (dk_at dksX1_comes_1 11 rfl rfl)
theorem dX1_comes_36 : decode cX1_comes 36 = .ok (.iadd, 1) := dk_96 (dk_at dksX1_comes_1 12 rfl rfl)
theorem dX1_comes_37 : decode cX1_comes 37 = .ok (.sipush 4095, 3) := dk_17 15 255 (dk_at dksX1_comes_1 13 rfl rfl)
theorem dX1_comes_40 : decode cX1_comes 40 = .ok (.iand, 1) := dk_126 (dk_at dksX1_comes_1 16 rfl rfl)
theorem dX1_comes_41 : decode cX1_comes 41 = .ok (.istore_n 3, 1) := dk_62 (dk_at dksX1_comes_1 17 rfl rfl)
theorem dX1_comes_42 : decode cX1_comes 42 = .ok (.goto (-37), 3) := dk_167 255 219 (dk_at dksX1_comes_1 18 rfl rfl)
theorem dX1_comes_45 : decode cX1_comes 45 = .ok (.aload_n 0, 1) := dk_42 (dk_at dksX1_comes_1 21 rfl rfl)
theorem dX1_comes_46 : decode cX1_comes 46 = .ok (.getfield 55, 3) := dk_180 0 55 (dk_at dksX1_comes_2 0 rfl rfl)
theorem dX1_comes_49 : decode cX1_comes 49 = .ok (.iload_n 3, 1) := dk_29 (dk_at dksX1_comes_2 3 rfl rfl)
theorem dX1_comes_50 : decode cX1_comes 50 = .ok (.iaload, 1) := dk_46 (dk_at dksX1_comes_2 4 rfl rfl)
theorem dX1_comes_51 : decode cX1_comes 51 = .ok (.ifCond .eq 4, 3) := dk_153 0 4 (dk_at dksX1_comes_2 5 rfl rfl)
theorem dX1_comes_54 : decode cX1_comes 54 = .ok (.return_, 1) := dk_177 (dk_at dksX1_comes_2 8 rfl rfl)
theorem dX1_comes_55 : decode cX1_comes 55 = .ok (.aload_n 0, 1) := dk_42 (dk_at dksX1_comes_2 9 rfl rfl)
theorem dX1_comes_56 : decode cX1_comes 56 = .ok (.getfield 314, 3) := dk_180 1 58 (dk_at dksX1_comes_2 10 rfl rfl)
theorem dX1_comes_59 : decode cX1_comes 59 = .ok (.sipush 1000, 3) := dk_17 3 232 (dk_at dksX1_comes_2 13 rfl rfl)
theorem dX1_comes_62 : decode cX1_comes 62 = .ok (.if_icmp .ne 9, 3) := dk_160 0 9 (dk_at dksX1_comes_2 16 rfl rfl)
theorem dX1_comes_65 : decode cX1_comes 65 = .ok (.aload_n 0, 1) := dk_42 (dk_at dksX1_comes_2 19 rfl rfl)
theorem dX1_comes_66 : decode cX1_comes 66 = .ok (.iconst 1, 1) := dk_4 (dk_at dksX1_comes_2 20 rfl rfl)
theorem dX1_comes_67 : decode cX1_comes 67 = .ok (.putfield 317, 3) := dk_181 1 61 (dk_at dksX1_comes_2 21 rfl rfl)
theorem dX1_comes_70 : decode cX1_comes 70 = .ok (.return_, 1) := dk_177 (dk_at dksX1_comes_3 0 rfl rfl)
theorem dX1_comes_71 : decode cX1_comes 71 = .ok (.aload_n 0, 1) := dk_42 (dk_at dksX1_comes_3 1 rfl rfl)
theorem dX1_comes_72 : decode cX1_comes 72 = .ok (.getfield 49, 3) := dk_180 0 49 (dk_at dksX1_comes_3 2 rfl rfl)
theorem dX1_comes_75 : decode cX1_comes 75 = .ok (.aload_n 0, 1) := dk_42 (dk_at dksX1_comes_3 5 rfl rfl)
theorem dX1_comes_76 : decode cX1_comes 76 = .ok (.getfield 314, 3) := dk_180 1 58 (dk_at dksX1_comes_3 6 rfl rfl)
theorem dX1_comes_79 : decode cX1_comes 79 = .ok (.aaload, 1) := dk_50 (dk_at dksX1_comes_3 9 rfl rfl)
theorem dX1_comes_80 : decode cX1_comes 80 = .ok (.ifnonnull 19, 3) := dk_199 0 19 (dk_at dksX1_comes_3 10 rfl rfl)
theorem dX1_comes_83 : decode cX1_comes 83 = .ok (.aload_n 0, 1) := dk_42 (dk_at dksX1_comes_3 13 rfl rfl)
theorem dX1_comes_84 : decode cX1_comes 84 = .ok (.getfield 49, 3) := dk_180 0 49 (dk_at dksX1_comes_3 14 rfl rfl)
theorem dX1_comes_87 : decode cX1_comes 87 = .ok (.aload_n 0, 1) := dk_42 (dk_at dksX1_comes_3 17 rfl rfl)
theorem dX1_comes_88 : decode cX1_comes 88 = .ok (.getfield 314, 3) := dk_180 1 58 (dk_at dksX1_comes_3 18 rfl rfl)
theorem dX1_comes_91 : decode cX1_comes 91 = .ok (.new 23, 3) := dk_187 0 23 (dk_at dksX1_comes_3 21 rfl rfl)
theorem dX1_comes_94 : decode cX1_comes 94 = .ok (.dup, 1) := dk_89 (dk_at dksX1_comes_4 0 rfl rfl)
theorem dX1_comes_95 : decode cX1_comes 95 = .ok (.invokespecial 25, 3) := dk_183 0 25 (dk_at dksX1_comes_4 1 rfl rfl)
theorem dX1_comes_98 : decode cX1_comes 98 = .ok (.aastore, 1) := dk_83 (dk_at dksX1_comes_4 4 rfl rfl)
theorem dX1_comes_99 : decode cX1_comes 99 = .ok (.aload_n 0, 1) := dk_42 (dk_at dksX1_comes_4 5 rfl rfl)
theorem dX1_comes_100 : decode cX1_comes 100 = .ok (.getfield 49, 3) := dk_180 0 49 (dk_at dksX1_comes_4 6 rfl rfl)
theorem dX1_comes_103 : decode cX1_comes 103 = .ok (.aload_n 0, 1) := dk_42 (dk_at dksX1_comes_4 9 rfl rfl)
theorem dX1_comes_104 : decode cX1_comes 104 = .ok (.getfield 314, 3) := dk_180 1 58 (dk_at dksX1_comes_4 10 rfl rfl)
theorem dX1_comes_107 : decode cX1_comes 107 = .ok (.aaload, 1) := dk_50 (dk_at dksX1_comes_4 13 rfl rfl)
theorem dX1_comes_108 : decode cX1_comes 108 = .ok (.aload_n 1, 1) := dk_43 (dk_at dksX1_comes_4 14 rfl rfl)
theorem dX1_comes_109 : decode cX1_comes 109 = .ok (.invokevirtual 299, 3) := dk_182 1 43 (dk_at dksX1_comes_4 15 rfl rfl)
theorem dX1_comes_112 : decode cX1_comes 112 = .ok (.aload_n 0, 1) := dk_42 (dk_at dksX1_comes_4 18 rfl rfl)
theorem dX1_comes_113 : decode cX1_comes 113 = .ok (.getfield 52, 3) := dk_180 0 52 (dk_at dksX1_comes_4 19 rfl rfl)
theorem dX1_comes_116 : decode cX1_comes 116 = .ok (.aload_n 0, 1) := dk_42 (dk_at dksX1_comes_4 22 rfl rfl)
theorem dX1_comes_117 : decode cX1_comes 117 = .ok (.getfield 314, 3) := dk_180 1 58 (dk_at dksX1_comes_5 0 rfl rfl)
theorem dX1_comes_120 : decode cX1_comes 120 = .ok (.iload_n 2, 1) := dk_28 (dk_at dksX1_comes_5 3 rfl rfl)
theorem dX1_comes_121 : decode cX1_comes 121 = .ok (.iastore, 1) := dk_79 (dk_at dksX1_comes_5 4 rfl rfl)
theorem dX1_comes_122 : decode cX1_comes 122 = .ok (.aload_n 0, 1) := dk_42 (dk_at dksX1_comes_5 5 rfl rfl)
theorem dX1_comes_123 : decode cX1_comes 123 = .ok (.dup, 1) := dk_89 (dk_at dksX1_comes_5 6 rfl rfl)
theorem dX1_comes_124 : decode cX1_comes 124 = .ok (.getfield 314, 3) := dk_180 1 58 (dk_at dksX1_comes_5 7 rfl rfl)
theorem dX1_comes_127 : decode cX1_comes 127 = .ok (.iconst 1, 1) := dk_4 (dk_at dksX1_comes_5 10 rfl rfl)
theorem dX1_comes_128 : decode cX1_comes 128 = .ok (.iadd, 1) := dk_96 (dk_at dksX1_comes_5 11 rfl rfl)
theorem dX1_comes_129 : decode cX1_comes 129 = .ok (.putfield 314, 3) := dk_181 1 58 (dk_at dksX1_comes_5 12 rfl rfl)
theorem dX1_comes_132 : decode cX1_comes 132 = .ok (.aload_n 0, 1) := dk_42 (dk_at dksX1_comes_5 15 rfl rfl)
theorem dX1_comes_133 : decode cX1_comes 133 = .ok (.getfield 55, 3) := dk_180 0 55 (dk_at dksX1_comes_5 16 rfl rfl)
theorem dX1_comes_136 : decode cX1_comes 136 = .ok (.iload_n 3, 1) := dk_29 (dk_at dksX1_comes_5 19 rfl rfl)
theorem dX1_comes_137 : decode cX1_comes 137 = .ok (.aload_n 0, 1) := dk_42 (dk_at dksX1_comes_5 20 rfl rfl)
theorem dX1_comes_138 : decode cX1_comes 138 = .ok (.getfield 314, 3) := dk_180 1 58 (dk_at dksX1_comes_5 21 rfl rfl)
theorem dX1_comes_141 : decode cX1_comes 141 = .ok (.iastore, 1) := dk_79 (dk_at dksX1_comes_6 0 rfl rfl)
theorem dX1_comes_142 : decode cX1_comes 142 = .ok (.return_, 1) := dk_177 (dk_at dksX1_comes_6 1 rfl rfl)
abbrev cX1_seeks : ByteArray := prog_1_method_33_code
def yX1_seeks : MethodName := ⟨RX1, "seeks", "(LHeavyGifts$State;II)V"⟩
def dkwX1_seeks_4 : List UInt8 := [184, 1, 6, 54, 4, 21, 4, 154, 255, 161, 177]
abbrev dktX1_seeks_4 : List UInt8 := dkwX1_seeks_4 ++ []
def dkwX1_seeks_3 : List UInt8 := [21, 4, 21, 5, 29, 182, 1, 68, 132, 5, 1, 167, 255, 182, 21, 4, 43, 180, 0, 169, 28, 46]
abbrev dktX1_seeks_3 : List UInt8 := dkwX1_seeks_3 ++ dktX1_seeks_4
def dkwX1_seeks_2 : List UInt8 := [180, 0, 166, 28, 46, 2, 159, 0, 14, 43, 180, 0, 166, 28, 46, 21, 5, 160, 0, 14, 42, 43, 28]
abbrev dktX1_seeks_2 : List UInt8 := dkwX1_seeks_2 ++ dktX1_seeks_3
def dkwX1_seeks_1 : List UInt8 := [21, 4, 43, 180, 0, 163, 28, 46, 182, 1, 2, 2, 159, 0, 47, 21, 5, 28, 159, 0, 35, 43]
abbrev dktX1_seeks_1 : List UInt8 := dkwX1_seeks_1 ++ dktX1_seeks_2
def dkwX1_seeks_0 : List UInt8 := [3, 54, 4, 3, 54, 5, 21, 5, 42, 180, 0, 10, 180, 0, 68, 182, 0, 72, 162, 0, 65, 42, 43, 28]
abbrev dktX1_seeks_0 : List UInt8 := dkwX1_seeks_0 ++ dktX1_seeks_1
theorem dksX1_seeks_0 : cX1_seeks.data.toList.drop 0 = dktX1_seeks_0 := by decide +kernel
theorem dksX1_seeks_1 : cX1_seeks.data.toList.drop 24 = dktX1_seeks_1 := dk_seg dksX1_seeks_0 24 rfl rfl
theorem dksX1_seeks_2 : cX1_seeks.data.toList.drop 46 = dktX1_seeks_2 := dk_seg dksX1_seeks_1 22 rfl rfl
theorem dksX1_seeks_3 : cX1_seeks.data.toList.drop 69 = dktX1_seeks_3 := dk_seg dksX1_seeks_2 23 rfl rfl
theorem dksX1_seeks_4 : cX1_seeks.data.toList.drop 91 = dktX1_seeks_4 := dk_seg dksX1_seeks_3 22 rfl rfl
theorem dX1_seeks_0 : decode cX1_seeks 0 = .ok (.iconst 0, 1) := dk_3 (dk_at dksX1_seeks_0 0 rfl rfl)
theorem dX1_seeks_1 : decode cX1_seeks 1 = .ok (.istore 4, 2) := dk_54 4 (dk_at dksX1_seeks_0 1 rfl rfl)
theorem dX1_seeks_3 : decode cX1_seeks 3 = .ok (.iconst 0, 1) := dk_3 (dk_at dksX1_seeks_0 3 rfl rfl)
theorem dX1_seeks_4 : decode cX1_seeks 4 = .ok (.istore 5, 2) := dk_54 5 (dk_at dksX1_seeks_0 4 rfl rfl)
theorem dX1_seeks_6 : decode cX1_seeks 6 = .ok (.iload 5, 2) := dk_21 5 (dk_at dksX1_seeks_0 6 rfl rfl)
theorem dX1_seeks_8 : decode cX1_seeks 8 = .ok (.aload_n 0, 1) := dk_42 (dk_at dksX1_seeks_0 8 rfl rfl)
theorem dX1_seeks_9 : decode cX1_seeks 9 = .ok (.getfield 10, 3) := dk_180 0 10 (dk_at dksX1_seeks_0 9 rfl rfl)
theorem dX1_seeks_12 : decode cX1_seeks 12 = .ok (.getfield 68, 3) := dk_180 0 68 (dk_at dksX1_seeks_0 12 rfl rfl)
theorem dX1_seeks_15 : decode cX1_seeks 15 = .ok (.invokevirtual 72, 3) := dk_182 0 72 (dk_at dksX1_seeks_0 15 rfl rfl)
theorem dX1_seeks_18 : decode cX1_seeks 18 = .ok (.if_icmp .ge 65, 3) := dk_162 0 65 (dk_at dksX1_seeks_0 18 rfl rfl)
theorem dX1_seeks_21 : decode cX1_seeks 21 = .ok (.aload_n 0, 1) := dk_42 (dk_at dksX1_seeks_0 21 rfl rfl)
theorem dX1_seeks_22 : decode cX1_seeks 22 = .ok (.aload_n 1, 1) := dk_43 (dk_at dksX1_seeks_0 22 rfl rfl)
theorem dX1_seeks_23 : decode cX1_seeks 23 = .ok (.iload_n 2, 1) := dk_28 (dk_at dksX1_seeks_0 23 rfl rfl)
theorem dX1_seeks_24 : decode cX1_seeks 24 = .ok (.iload 4, 2) := dk_21 4 (dk_at dksX1_seeks_1 0 rfl rfl)
theorem dX1_seeks_26 : decode cX1_seeks 26 = .ok (.aload_n 1, 1) := dk_43 (dk_at dksX1_seeks_1 2 rfl rfl)
theorem dX1_seeks_27 : decode cX1_seeks 27 = .ok (.getfield 163, 3) := dk_180 0 163 (dk_at dksX1_seeks_1 3 rfl rfl)
theorem dX1_seeks_30 : decode cX1_seeks 30 = .ok (.iload_n 2, 1) := dk_28 (dk_at dksX1_seeks_1 6 rfl rfl)
theorem dX1_seeks_31 : decode cX1_seeks 31 = .ok (.iaload, 1) := dk_46 (dk_at dksX1_seeks_1 7 rfl rfl)
theorem dX1_seeks_32 : decode cX1_seeks 32 = .ok (.invokevirtual 258, 3) := dk_182 1 2 (dk_at dksX1_seeks_1 8 rfl rfl)
theorem dX1_seeks_35 : decode cX1_seeks 35 = .ok (.iconst (-1), 1) := dk_2 (dk_at dksX1_seeks_1 11 rfl rfl)
theorem dX1_seeks_36 : decode cX1_seeks 36 = .ok (.if_icmp .eq 47, 3) := dk_159 0 47 (dk_at dksX1_seeks_1 12 rfl rfl)
theorem dX1_seeks_39 : decode cX1_seeks 39 = .ok (.iload 5, 2) := dk_21 5 (dk_at dksX1_seeks_1 15 rfl rfl)
theorem dX1_seeks_41 : decode cX1_seeks 41 = .ok (.iload_n 2, 1) := dk_28 (dk_at dksX1_seeks_1 17 rfl rfl)
theorem dX1_seeks_42 : decode cX1_seeks 42 = .ok (.if_icmp .eq 35, 3) := dk_159 0 35 (dk_at dksX1_seeks_1 18 rfl rfl)
theorem dX1_seeks_45 : decode cX1_seeks 45 = .ok (.aload_n 1, 1) := dk_43 (dk_at dksX1_seeks_1 21 rfl rfl)
theorem dX1_seeks_46 : decode cX1_seeks 46 = .ok (.getfield 166, 3) := dk_180 0 166 (dk_at dksX1_seeks_2 0 rfl rfl)
theorem dX1_seeks_49 : decode cX1_seeks 49 = .ok (.iload_n 2, 1) := dk_28 (dk_at dksX1_seeks_2 3 rfl rfl)
theorem dX1_seeks_50 : decode cX1_seeks 50 = .ok (.iaload, 1) := dk_46 (dk_at dksX1_seeks_2 4 rfl rfl)
theorem dX1_seeks_51 : decode cX1_seeks 51 = .ok (.iconst (-1), 1) := dk_2 (dk_at dksX1_seeks_2 5 rfl rfl)
theorem dX1_seeks_52 : decode cX1_seeks 52 = .ok (.if_icmp .eq 14, 3) := dk_159 0 14 (dk_at dksX1_seeks_2 6 rfl rfl)
theorem dX1_seeks_55 : decode cX1_seeks 55 = .ok (.aload_n 1, 1) := dk_43 (dk_at dksX1_seeks_2 9 rfl rfl)
theorem dX1_seeks_56 : decode cX1_seeks 56 = .ok (.getfield 166, 3) := dk_180 0 166 (dk_at dksX1_seeks_2 10 rfl rfl)
theorem dX1_seeks_59 : decode cX1_seeks 59 = .ok (.iload_n 2, 1) := dk_28 (dk_at dksX1_seeks_2 13 rfl rfl)
theorem dX1_seeks_60 : decode cX1_seeks 60 = .ok (.iaload, 1) := dk_46 (dk_at dksX1_seeks_2 14 rfl rfl)
theorem dX1_seeks_61 : decode cX1_seeks 61 = .ok (.iload 5, 2) := dk_21 5 (dk_at dksX1_seeks_2 15 rfl rfl)
theorem dX1_seeks_63 : decode cX1_seeks 63 = .ok (.if_icmp .ne 14, 3) := dk_160 0 14 (dk_at dksX1_seeks_2 17 rfl rfl)
theorem dX1_seeks_66 : decode cX1_seeks 66 = .ok (.aload_n 0, 1) := dk_42 (dk_at dksX1_seeks_2 20 rfl rfl)
theorem dX1_seeks_67 : decode cX1_seeks 67 = .ok (.aload_n 1, 1) := dk_43 (dk_at dksX1_seeks_2 21 rfl rfl)
theorem dX1_seeks_68 : decode cX1_seeks 68 = .ok (.iload_n 2, 1) := dk_28 (dk_at dksX1_seeks_2 22 rfl rfl)
theorem dX1_seeks_69 : decode cX1_seeks 69 = .ok (.iload 4, 2) := dk_21 4 (dk_at dksX1_seeks_3 0 rfl rfl)
theorem dX1_seeks_71 : decode cX1_seeks 71 = .ok (.iload 5, 2) := dk_21 5 (dk_at dksX1_seeks_3 2 rfl rfl)
theorem dX1_seeks_73 : decode cX1_seeks 73 = .ok (.iload_n 3, 1) := dk_29 (dk_at dksX1_seeks_3 4 rfl rfl)
theorem dX1_seeks_74 : decode cX1_seeks 74 = .ok (.invokevirtual 324, 3) := dk_182 1 68 (dk_at dksX1_seeks_3 5 rfl rfl)
theorem dX1_seeks_77 : decode cX1_seeks 77 = .ok (.iinc 5 1, 3) := dk_132 5 1 (dk_at dksX1_seeks_3 8 rfl rfl)
theorem dX1_seeks_80 : decode cX1_seeks 80 = .ok (.goto (-74), 3) := dk_167 255 182 (dk_at dksX1_seeks_3 11 rfl rfl)
theorem dX1_seeks_83 : decode cX1_seeks 83 = .ok (.iload 4, 2) := dk_21 4 (dk_at dksX1_seeks_3 14 rfl rfl)
theorem dX1_seeks_85 : decode cX1_seeks 85 = .ok (.aload_n 1, 1) := dk_43 (dk_at dksX1_seeks_3 16 rfl rfl)
theorem dX1_seeks_86 : decode cX1_seeks 86 = .ok (.getfield 169, 3) := dk_180 0 169 (dk_at dksX1_seeks_3 17 rfl rfl)
theorem dX1_seeks_89 : decode cX1_seeks 89 = .ok (.iload_n 2, 1) := dk_28 (dk_at dksX1_seeks_3 20 rfl rfl)
theorem dX1_seeks_90 : decode cX1_seeks 90 = .ok (.iaload, 1) := dk_46 (dk_at dksX1_seeks_3 21 rfl rfl)
theorem dX1_seeks_91 : decode cX1_seeks 91 = .ok (.invokestatic 262, 3) := dk_184 1 6 (dk_at dksX1_seeks_4 0 rfl rfl)
theorem dX1_seeks_94 : decode cX1_seeks 94 = .ok (.istore 4, 2) := dk_54 4 (dk_at dksX1_seeks_4 3 rfl rfl)
theorem dX1_seeks_96 : decode cX1_seeks 96 = .ok (.iload 4, 2) := dk_21 4 (dk_at dksX1_seeks_4 5 rfl rfl)
theorem dX1_seeks_98 : decode cX1_seeks 98 = .ok (.ifCond .ne (-95), 3) := dk_154 255 161 (dk_at dksX1_seeks_4 7 rfl rfl)
theorem dX1_seeks_101 : decode cX1_seeks 101 = .ok (.return_, 1) := dk_177 (dk_at dksX1_seeks_4 10 rfl rfl)
abbrev cX1_goes : ByteArray := prog_1_method_32_code
def yX1_goes : MethodName := ⟨RX1, "goes", "(LHeavyGifts$State;IIII)V"⟩
def dkwX1_goes_1 : List UInt8 := [46, 182, 1, 2, 21, 4, 182, 0, 220, 42, 42, 180, 0, 26, 21, 5, 182, 1, 64, 177]
abbrev dktX1_goes_1 : List UInt8 := dkwX1_goes_1 ++ []
def dkwX1_goes_0 : List UInt8 := [42, 180, 0, 26, 43, 182, 1, 43, 42, 42, 180, 0, 26, 28, 29, 42, 43, 28, 29, 43, 180, 0, 163, 28]
abbrev dktX1_goes_0 : List UInt8 := dkwX1_goes_0 ++ dktX1_goes_1
theorem dksX1_goes_0 : cX1_goes.data.toList.drop 0 = dktX1_goes_0 := by decide +kernel
theorem dksX1_goes_1 : cX1_goes.data.toList.drop 24 = dktX1_goes_1 := dk_seg dksX1_goes_0 24 rfl rfl
theorem dX1_goes_0 : decode cX1_goes 0 = .ok (.aload_n 0, 1) := dk_42 (dk_at dksX1_goes_0 0 rfl rfl)
theorem dX1_goes_1 : decode cX1_goes 1 = .ok (.getfield 26, 3) := dk_180 0 26 (dk_at dksX1_goes_0 1 rfl rfl)
theorem dX1_goes_4 : decode cX1_goes 4 = .ok (.aload_n 1, 1) := dk_43 (dk_at dksX1_goes_0 4 rfl rfl)
theorem dX1_goes_5 : decode cX1_goes 5 = .ok (.invokevirtual 299, 3) := dk_182 1 43 (dk_at dksX1_goes_0 5 rfl rfl)
theorem dX1_goes_8 : decode cX1_goes 8 = .ok (.aload_n 0, 1) := dk_42 (dk_at dksX1_goes_0 8 rfl rfl)
theorem dX1_goes_9 : decode cX1_goes 9 = .ok (.aload_n 0, 1) := dk_42 (dk_at dksX1_goes_0 9 rfl rfl)
theorem dX1_goes_10 : decode cX1_goes 10 = .ok (.getfield 26, 3) := dk_180 0 26 (dk_at dksX1_goes_0 10 rfl rfl)
theorem dX1_goes_13 : decode cX1_goes 13 = .ok (.iload_n 2, 1) := dk_28 (dk_at dksX1_goes_0 13 rfl rfl)
theorem dX1_goes_14 : decode cX1_goes 14 = .ok (.iload_n 3, 1) := dk_29 (dk_at dksX1_goes_0 14 rfl rfl)
theorem dX1_goes_15 : decode cX1_goes 15 = .ok (.aload_n 0, 1) := dk_42 (dk_at dksX1_goes_0 15 rfl rfl)
theorem dX1_goes_16 : decode cX1_goes 16 = .ok (.aload_n 1, 1) := dk_43 (dk_at dksX1_goes_0 16 rfl rfl)
theorem dX1_goes_17 : decode cX1_goes 17 = .ok (.iload_n 2, 1) := dk_28 (dk_at dksX1_goes_0 17 rfl rfl)
theorem dX1_goes_18 : decode cX1_goes 18 = .ok (.iload_n 3, 1) := dk_29 (dk_at dksX1_goes_0 18 rfl rfl)
theorem dX1_goes_19 : decode cX1_goes 19 = .ok (.aload_n 1, 1) := dk_43 (dk_at dksX1_goes_0 19 rfl rfl)
theorem dX1_goes_20 : decode cX1_goes 20 = .ok (.getfield 163, 3) := dk_180 0 163 (dk_at dksX1_goes_0 20 rfl rfl)
theorem dX1_goes_23 : decode cX1_goes 23 = .ok (.iload_n 2, 1) := dk_28 (dk_at dksX1_goes_0 23 rfl rfl)
theorem dX1_goes_24 : decode cX1_goes 24 = .ok (.iaload, 1) := dk_46 (dk_at dksX1_goes_1 0 rfl rfl)
theorem dX1_goes_25 : decode cX1_goes 25 = .ok (.invokevirtual 258, 3) := dk_182 1 2 (dk_at dksX1_goes_1 1 rfl rfl)
theorem dX1_goes_28 : decode cX1_goes 28 = .ok (.iload 4, 2) := dk_21 4 (dk_at dksX1_goes_1 4 rfl rfl)
theorem dX1_goes_30 : decode cX1_goes 30 = .ok (.invokevirtual 220, 3) := dk_182 0 220 (dk_at dksX1_goes_1 6 rfl rfl)
theorem dX1_goes_33 : decode cX1_goes 33 = .ok (.aload_n 0, 1) := dk_42 (dk_at dksX1_goes_1 9 rfl rfl)
theorem dX1_goes_34 : decode cX1_goes 34 = .ok (.aload_n 0, 1) := dk_42 (dk_at dksX1_goes_1 10 rfl rfl)
theorem dX1_goes_35 : decode cX1_goes 35 = .ok (.getfield 26, 3) := dk_180 0 26 (dk_at dksX1_goes_1 11 rfl rfl)
theorem dX1_goes_38 : decode cX1_goes 38 = .ok (.iload 5, 2) := dk_21 5 (dk_at dksX1_goes_1 14 rfl rfl)
theorem dX1_goes_40 : decode cX1_goes 40 = .ok (.invokevirtual 320, 3) := dk_182 1 64 (dk_at dksX1_goes_1 16 rfl rfl)
theorem dX1_goes_43 : decode cX1_goes 43 = .ok (.return_, 1) := dk_177 (dk_at dksX1_goes_1 19 rfl rfl)
abbrev cX1_cut : ByteArray := prog_1_method_39_code
def yX1_cut : MethodName := ⟨RX1, "cut", "(II)I"⟩
def dkwX1_cut_11 : List UInt8 := [154, 0, 8, 21, 5, 167, 0, 5, 21, 4, 172]
abbrev dktX1_cut_11 : List UInt8 := dkwX1_cut_11 ++ []
def dkwX1_cut_10 : List UInt8 := [16, 100, 21, 8, 104, 21, 9, 96, 54, 4, 132, 9, 1, 167, 255, 157, 132, 8, 1, 167, 255, 106, 28]
abbrev dktX1_cut_10 : List UInt8 := dkwX1_cut_10 ++ dktX1_cut_11
def dkwX1_cut_9 : List UInt8 := [100, 21, 7, 21, 10, 100, 182, 1, 87, 154, 0, 6, 167, 0, 22, 132, 5, 1, 21, 4, 2, 160, 0, 13]
abbrev dktX1_cut_9 : List UInt8 := dkwX1_cut_9 ++ dktX1_cut_10
def dkwX1_cut_8 : List UInt8 := [100, 21, 7, 21, 9, 100, 182, 1, 87, 154, 0, 30, 42, 21, 6, 45, 180, 0, 160, 27, 46, 100, 21, 10]
abbrev dktX1_cut_8 : List UInt8 := dkwX1_cut_8 ++ dktX1_cut_9
def dkwX1_cut_7 : List UInt8 := [45, 180, 0, 182, 21, 8, 46, 21, 9, 100, 54, 10, 42, 21, 6, 45, 180, 0, 160, 27, 46, 100, 21, 9]
abbrev dktX1_cut_7 : List UInt8 := dkwX1_cut_7 ++ dktX1_cut_8
def dkwX1_cut_6 : List UInt8 := [120, 2, 130, 126, 182, 1, 84, 4, 54, 9, 5, 21, 9, 104, 45, 180, 0, 182, 21, 8, 46, 163, 0, 91]
abbrev dktX1_cut_6 : List UInt8 := dkwX1_cut_6 ++ dktX1_cut_7
def dkwX1_cut_5 : List UInt8 := [27, 46, 21, 8, 122, 4, 126, 154, 0, 6, 167, 0, 126, 42, 45, 45, 180, 0, 169, 27, 46, 4, 21, 8]
abbrev dktX1_cut_5 : List UInt8 := dkwX1_cut_5 ++ dktX1_cut_6
def dkwX1_cut_4 : List UInt8 := [42, 180, 0, 10, 180, 0, 141, 96, 54, 7, 3, 54, 8, 21, 8, 16, 12, 162, 0, 149, 45, 180, 0, 169]
abbrev dktX1_cut_4 : List UInt8 := dkwX1_cut_4 ++ dktX1_cut_5
def dkwX1_cut_3 : List UInt8 := [180, 0, 163, 27, 46, 42, 180, 0, 10, 180, 0, 141, 100, 184, 0, 197, 54, 6, 45, 180, 0, 163, 27, 46]
abbrev dktX1_cut_3 : List UInt8 := dkwX1_cut_3 ++ dktX1_cut_4
def dkwX1_cut_2 : List UInt8 := [182, 1, 81, 154, 0, 209, 42, 180, 0, 10, 180, 0, 68, 182, 0, 72, 4, 164, 0, 195, 4, 45]
abbrev dktX1_cut_2 : List UInt8 := dkwX1_cut_2 ++ dktX1_cut_3
def dkwX1_cut_1 : List UInt8 := [180, 0, 19, 180, 0, 101, 78, 2, 54, 4, 3, 54, 5, 45, 180, 0, 163, 27, 46, 158, 0, 217, 42, 27]
abbrev dktX1_cut_1 : List UInt8 := dkwX1_cut_1 ++ dktX1_cut_2
def dkwX1_cut_0 : List UInt8 := [42, 27, 182, 0, 149, 28, 153, 0, 8, 28, 4, 160, 0, 7, 4, 167, 0, 4, 3, 184, 0, 82, 42]
abbrev dktX1_cut_0 : List UInt8 := dkwX1_cut_0 ++ dktX1_cut_1
theorem dksX1_cut_0 : cX1_cut.data.toList.drop 0 = dktX1_cut_0 := by decide +kernel
theorem dksX1_cut_1 : cX1_cut.data.toList.drop 23 = dktX1_cut_1 := dk_seg dksX1_cut_0 23 rfl rfl
theorem dksX1_cut_2 : cX1_cut.data.toList.drop 47 = dktX1_cut_2 := dk_seg dksX1_cut_1 24 rfl rfl
theorem dksX1_cut_3 : cX1_cut.data.toList.drop 69 = dktX1_cut_3 := dk_seg dksX1_cut_2 22 rfl rfl
theorem dksX1_cut_4 : cX1_cut.data.toList.drop 93 = dktX1_cut_4 := dk_seg dksX1_cut_3 24 rfl rfl
theorem dksX1_cut_5 : cX1_cut.data.toList.drop 117 = dktX1_cut_5 := dk_seg dksX1_cut_4 24 rfl rfl
theorem dksX1_cut_6 : cX1_cut.data.toList.drop 141 = dktX1_cut_6 := dk_seg dksX1_cut_5 24 rfl rfl
theorem dksX1_cut_7 : cX1_cut.data.toList.drop 165 = dktX1_cut_7 := dk_seg dksX1_cut_6 24 rfl rfl
theorem dksX1_cut_8 : cX1_cut.data.toList.drop 189 = dktX1_cut_8 := dk_seg dksX1_cut_7 24 rfl rfl
theorem dksX1_cut_9 : cX1_cut.data.toList.drop 213 = dktX1_cut_9 := dk_seg dksX1_cut_8 24 rfl rfl
theorem dksX1_cut_10 : cX1_cut.data.toList.drop 237 = dktX1_cut_10 := dk_seg dksX1_cut_9 24 rfl rfl
theorem dksX1_cut_11 : cX1_cut.data.toList.drop 260 = dktX1_cut_11 := dk_seg dksX1_cut_10 23 rfl rfl
theorem dX1_cut_0 : decode cX1_cut 0 = .ok (.aload_n 0, 1) := dk_42 (dk_at dksX1_cut_0 0 rfl rfl)
theorem dX1_cut_1 : decode cX1_cut 1 = .ok (.iload_n 1, 1) := dk_27 (dk_at dksX1_cut_0 1 rfl rfl)
theorem dX1_cut_2 : decode cX1_cut 2 = .ok (.invokevirtual 149, 3) := dk_182 0 149 (dk_at dksX1_cut_0 2 rfl rfl)
theorem dX1_cut_5 : decode cX1_cut 5 = .ok (.iload_n 2, 1) := dk_28 (dk_at dksX1_cut_0 5 rfl rfl)
theorem dX1_cut_6 : decode cX1_cut 6 = .ok (.ifCond .eq 8, 3) := dk_153 0 8 (dk_at dksX1_cut_0 6 rfl rfl)
theorem dX1_cut_9 : decode cX1_cut 9 = .ok (.iload_n 2, 1) := dk_28 (dk_at dksX1_cut_0 9 rfl rfl)
theorem dX1_cut_10 : decode cX1_cut 10 = .ok (.iconst 1, 1) := dk_4 (dk_at dksX1_cut_0 10 rfl rfl)
theorem dX1_cut_11 : decode cX1_cut 11 = .ok (.if_icmp .ne 7, 3) := dk_160 0 7 (dk_at dksX1_cut_0 11 rfl rfl)
theorem dX1_cut_14 : decode cX1_cut 14 = .ok (.iconst 1, 1) := dk_4 (dk_at dksX1_cut_0 14 rfl rfl)
theorem dX1_cut_15 : decode cX1_cut 15 = .ok (.goto 4, 3) := dk_167 0 4 (dk_at dksX1_cut_0 15 rfl rfl)
theorem dX1_cut_18 : decode cX1_cut 18 = .ok (.iconst 0, 1) := dk_3 (dk_at dksX1_cut_0 18 rfl rfl)
theorem dX1_cut_19 : decode cX1_cut 19 = .ok (.invokestatic 82, 3) := dk_184 0 82 (dk_at dksX1_cut_0 19 rfl rfl)
theorem dX1_cut_22 : decode cX1_cut 22 = .ok (.aload_n 0, 1) := dk_42 (dk_at dksX1_cut_0 22 rfl rfl)
theorem dX1_cut_23 : decode cX1_cut 23 = .ok (.getfield 19, 3) := dk_180 0 19 (dk_at dksX1_cut_1 0 rfl rfl)
theorem dX1_cut_26 : decode cX1_cut 26 = .ok (.getfield 101, 3) := dk_180 0 101 (dk_at dksX1_cut_1 3 rfl rfl)
theorem dX1_cut_29 : decode cX1_cut 29 = .ok (.astore_n 3, 1) := dk_78 (dk_at dksX1_cut_1 6 rfl rfl)
theorem dX1_cut_30 : decode cX1_cut 30 = .ok (.iconst (-1), 1) := dk_2 (dk_at dksX1_cut_1 7 rfl rfl)
theorem dX1_cut_31 : decode cX1_cut 31 = .ok (.istore 4, 2) := dk_54 4 (dk_at dksX1_cut_1 8 rfl rfl)
theorem dX1_cut_33 : decode cX1_cut 33 = .ok (.iconst 0, 1) := dk_3 (dk_at dksX1_cut_1 10 rfl rfl)
theorem dX1_cut_34 : decode cX1_cut 34 = .ok (.istore 5, 2) := dk_54 5 (dk_at dksX1_cut_1 11 rfl rfl)
theorem dX1_cut_36 : decode cX1_cut 36 = .ok (.aload_n 3, 1) := dk_45 (dk_at dksX1_cut_1 13 rfl rfl)
theorem dX1_cut_37 : decode cX1_cut 37 = .ok (.getfield 163, 3) := dk_180 0 163 (dk_at dksX1_cut_1 14 rfl rfl)
theorem dX1_cut_40 : decode cX1_cut 40 = .ok (.iload_n 1, 1) := dk_27 (dk_at dksX1_cut_1 17 rfl rfl)
theorem dX1_cut_41 : decode cX1_cut 41 = .ok (.iaload, 1) := dk_46 (dk_at dksX1_cut_1 18 rfl rfl)
theorem dX1_cut_42 : decode cX1_cut 42 = .ok (.ifCond .le 217, 3) := dk_158 0 217 (dk_at dksX1_cut_1 19 rfl rfl)
theorem dX1_cut_45 : decode cX1_cut 45 = .ok (.aload_n 0, 1) := dk_42 (dk_at dksX1_cut_1 22 rfl rfl)
theorem dX1_cut_46 : decode cX1_cut 46 = .ok (.iload_n 1, 1) := dk_27 (dk_at dksX1_cut_1 23 rfl rfl)
theorem dX1_cut_47 : decode cX1_cut 47 = .ok (.invokevirtual 337, 3) := dk_182 1 81 (dk_at dksX1_cut_2 0 rfl rfl)
theorem dX1_cut_50 : decode cX1_cut 50 = .ok (.ifCond .ne 209, 3) := dk_154 0 209 (dk_at dksX1_cut_2 3 rfl rfl)
theorem dX1_cut_53 : decode cX1_cut 53 = .ok (.aload_n 0, 1) := dk_42 (dk_at dksX1_cut_2 6 rfl rfl)
theorem dX1_cut_54 : decode cX1_cut 54 = .ok (.getfield 10, 3) := dk_180 0 10 (dk_at dksX1_cut_2 7 rfl rfl)
theorem dX1_cut_57 : decode cX1_cut 57 = .ok (.getfield 68, 3) := dk_180 0 68 (dk_at dksX1_cut_2 10 rfl rfl)
theorem dX1_cut_60 : decode cX1_cut 60 = .ok (.invokevirtual 72, 3) := dk_182 0 72 (dk_at dksX1_cut_2 13 rfl rfl)
theorem dX1_cut_63 : decode cX1_cut 63 = .ok (.iconst 1, 1) := dk_4 (dk_at dksX1_cut_2 16 rfl rfl)
theorem dX1_cut_64 : decode cX1_cut 64 = .ok (.if_icmp .le 195, 3) := dk_164 0 195 (dk_at dksX1_cut_2 17 rfl rfl)
theorem dX1_cut_67 : decode cX1_cut 67 = .ok (.iconst 1, 1) := dk_4 (dk_at dksX1_cut_2 20 rfl rfl)
theorem dX1_cut_68 : decode cX1_cut 68 = .ok (.aload_n 3, 1) := dk_45 (dk_at dksX1_cut_2 21 rfl rfl)
theorem dX1_cut_69 : decode cX1_cut 69 = .ok (.getfield 163, 3) := dk_180 0 163 (dk_at dksX1_cut_3 0 rfl rfl)
theorem dX1_cut_72 : decode cX1_cut 72 = .ok (.iload_n 1, 1) := dk_27 (dk_at dksX1_cut_3 3 rfl rfl)
theorem dX1_cut_73 : decode cX1_cut 73 = .ok (.iaload, 1) := dk_46 (dk_at dksX1_cut_3 4 rfl rfl)
theorem dX1_cut_74 : decode cX1_cut 74 = .ok (.aload_n 0, 1) := dk_42 (dk_at dksX1_cut_3 5 rfl rfl)
theorem dX1_cut_75 : decode cX1_cut 75 = .ok (.getfield 10, 3) := dk_180 0 10 (dk_at dksX1_cut_3 6 rfl rfl)
theorem dX1_cut_78 : decode cX1_cut 78 = .ok (.getfield 141, 3) := dk_180 0 141 (dk_at dksX1_cut_3 9 rfl rfl)
theorem dX1_cut_81 : decode cX1_cut 81 = .ok (.isub, 1) := dk_100 (dk_at dksX1_cut_3 12 rfl rfl)
theorem dX1_cut_82 : decode cX1_cut 82 = .ok (.invokestatic 197, 3) := dk_184 0 197 (dk_at dksX1_cut_3 13 rfl rfl)
theorem dX1_cut_85 : decode cX1_cut 85 = .ok (.istore 6, 2) := dk_54 6 (dk_at dksX1_cut_3 16 rfl rfl)
theorem dX1_cut_87 : decode cX1_cut 87 = .ok (.aload_n 3, 1) := dk_45 (dk_at dksX1_cut_3 18 rfl rfl)
theorem dX1_cut_88 : decode cX1_cut 88 = .ok (.getfield 163, 3) := dk_180 0 163 (dk_at dksX1_cut_3 19 rfl rfl)
theorem dX1_cut_91 : decode cX1_cut 91 = .ok (.iload_n 1, 1) := dk_27 (dk_at dksX1_cut_3 22 rfl rfl)
theorem dX1_cut_92 : decode cX1_cut 92 = .ok (.iaload, 1) := dk_46 (dk_at dksX1_cut_3 23 rfl rfl)
theorem dX1_cut_93 : decode cX1_cut 93 = .ok (.aload_n 0, 1) := dk_42 (dk_at dksX1_cut_4 0 rfl rfl)
theorem dX1_cut_94 : decode cX1_cut 94 = .ok (.getfield 10, 3) := dk_180 0 10 (dk_at dksX1_cut_4 1 rfl rfl)
theorem dX1_cut_97 : decode cX1_cut 97 = .ok (.getfield 141, 3) := dk_180 0 141 (dk_at dksX1_cut_4 4 rfl rfl)
theorem dX1_cut_100 : decode cX1_cut 100 = .ok (.iadd, 1) := dk_96 (dk_at dksX1_cut_4 7 rfl rfl)
theorem dX1_cut_101 : decode cX1_cut 101 = .ok (.istore 7, 2) := dk_54 7 (dk_at dksX1_cut_4 8 rfl rfl)
theorem dX1_cut_103 : decode cX1_cut 103 = .ok (.iconst 0, 1) := dk_3 (dk_at dksX1_cut_4 10 rfl rfl)
theorem dX1_cut_104 : decode cX1_cut 104 = .ok (.istore 8, 2) := dk_54 8 (dk_at dksX1_cut_4 11 rfl rfl)
theorem dX1_cut_106 : decode cX1_cut 106 = .ok (.iload 8, 2) := dk_21 8 (dk_at dksX1_cut_4 13 rfl rfl)
theorem dX1_cut_108 : decode cX1_cut 108 = .ok (.bipush 12, 2) := dk_16 12 (dk_at dksX1_cut_4 15 rfl rfl)
theorem dX1_cut_110 : decode cX1_cut 110 = .ok (.if_icmp .ge 149, 3) := dk_162 0 149 (dk_at dksX1_cut_4 17 rfl rfl)
theorem dX1_cut_113 : decode cX1_cut 113 = .ok (.aload_n 3, 1) := dk_45 (dk_at dksX1_cut_4 20 rfl rfl)
theorem dX1_cut_114 : decode cX1_cut 114 = .ok (.getfield 169, 3) := dk_180 0 169 (dk_at dksX1_cut_4 21 rfl rfl)
theorem dX1_cut_117 : decode cX1_cut 117 = .ok (.iload_n 1, 1) := dk_27 (dk_at dksX1_cut_5 0 rfl rfl)
theorem dX1_cut_118 : decode cX1_cut 118 = .ok (.iaload, 1) := dk_46 (dk_at dksX1_cut_5 1 rfl rfl)
theorem dX1_cut_119 : decode cX1_cut 119 = .ok (.iload 8, 2) := dk_21 8 (dk_at dksX1_cut_5 2 rfl rfl)
theorem dX1_cut_121 : decode cX1_cut 121 = .ok (.ishr, 1) := dk_122 (dk_at dksX1_cut_5 4 rfl rfl)
theorem dX1_cut_122 : decode cX1_cut 122 = .ok (.iconst 1, 1) := dk_4 (dk_at dksX1_cut_5 5 rfl rfl)
theorem dX1_cut_123 : decode cX1_cut 123 = .ok (.iand, 1) := dk_126 (dk_at dksX1_cut_5 6 rfl rfl)
theorem dX1_cut_124 : decode cX1_cut 124 = .ok (.ifCond .ne 6, 3) := dk_154 0 6 (dk_at dksX1_cut_5 7 rfl rfl)
theorem dX1_cut_127 : decode cX1_cut 127 = .ok (.goto 126, 3) := dk_167 0 126 (dk_at dksX1_cut_5 10 rfl rfl)
theorem dX1_cut_130 : decode cX1_cut 130 = .ok (.aload_n 0, 1) := dk_42 (dk_at dksX1_cut_5 13 rfl rfl)
theorem dX1_cut_131 : decode cX1_cut 131 = .ok (.aload_n 3, 1) := dk_45 (dk_at dksX1_cut_5 14 rfl rfl)
theorem dX1_cut_132 : decode cX1_cut 132 = .ok (.aload_n 3, 1) := dk_45 (dk_at dksX1_cut_5 15 rfl rfl)
theorem dX1_cut_133 : decode cX1_cut 133 = .ok (.getfield 169, 3) := dk_180 0 169 (dk_at dksX1_cut_5 16 rfl rfl)
theorem dX1_cut_136 : decode cX1_cut 136 = .ok (.iload_n 1, 1) := dk_27 (dk_at dksX1_cut_5 19 rfl rfl)
theorem dX1_cut_137 : decode cX1_cut 137 = .ok (.iaload, 1) := dk_46 (dk_at dksX1_cut_5 20 rfl rfl)
theorem dX1_cut_138 : decode cX1_cut 138 = .ok (.iconst 1, 1) := dk_4 (dk_at dksX1_cut_5 21 rfl rfl)
theorem dX1_cut_139 : decode cX1_cut 139 = .ok (.iload 8, 2) := dk_21 8 (dk_at dksX1_cut_5 22 rfl rfl)
theorem dX1_cut_141 : decode cX1_cut 141 = .ok (.ishl, 1) := dk_120 (dk_at dksX1_cut_6 0 rfl rfl)
theorem dX1_cut_142 : decode cX1_cut 142 = .ok (.iconst (-1), 1) := dk_2 (dk_at dksX1_cut_6 1 rfl rfl)
theorem dX1_cut_143 : decode cX1_cut 143 = .ok (.ixor, 1) := dk_130 (dk_at dksX1_cut_6 2 rfl rfl)
theorem dX1_cut_144 : decode cX1_cut 144 = .ok (.iand, 1) := dk_126 (dk_at dksX1_cut_6 3 rfl rfl)
theorem dX1_cut_145 : decode cX1_cut 145 = .ok (.invokevirtual 340, 3) := dk_182 1 84 (dk_at dksX1_cut_6 4 rfl rfl)
theorem dX1_cut_148 : decode cX1_cut 148 = .ok (.iconst 1, 1) := dk_4 (dk_at dksX1_cut_6 7 rfl rfl)
theorem dX1_cut_149 : decode cX1_cut 149 = .ok (.istore 9, 2) := dk_54 9 (dk_at dksX1_cut_6 8 rfl rfl)
theorem dX1_cut_151 : decode cX1_cut 151 = .ok (.iconst 2, 1) := dk_5 (dk_at dksX1_cut_6 10 rfl rfl)
theorem dX1_cut_152 : decode cX1_cut 152 = .ok (.iload 9, 2) := dk_21 9 (dk_at dksX1_cut_6 11 rfl rfl)
theorem dX1_cut_154 : decode cX1_cut 154 = .ok (.imul, 1) := dk_104 (dk_at dksX1_cut_6 13 rfl rfl)
theorem dX1_cut_155 : decode cX1_cut 155 = .ok (.aload_n 3, 1) := dk_45 (dk_at dksX1_cut_6 14 rfl rfl)
theorem dX1_cut_156 : decode cX1_cut 156 = .ok (.getfield 182, 3) := dk_180 0 182 (dk_at dksX1_cut_6 15 rfl rfl)
theorem dX1_cut_159 : decode cX1_cut 159 = .ok (.iload 8, 2) := dk_21 8 (dk_at dksX1_cut_6 18 rfl rfl)
theorem dX1_cut_161 : decode cX1_cut 161 = .ok (.iaload, 1) := dk_46 (dk_at dksX1_cut_6 20 rfl rfl)
theorem dX1_cut_162 : decode cX1_cut 162 = .ok (.if_icmp .gt 91, 3) := dk_163 0 91 (dk_at dksX1_cut_6 21 rfl rfl)
theorem dX1_cut_165 : decode cX1_cut 165 = .ok (.aload_n 3, 1) := dk_45 (dk_at dksX1_cut_7 0 rfl rfl)
theorem dX1_cut_166 : decode cX1_cut 166 = .ok (.getfield 182, 3) := dk_180 0 182 (dk_at dksX1_cut_7 1 rfl rfl)
theorem dX1_cut_169 : decode cX1_cut 169 = .ok (.iload 8, 2) := dk_21 8 (dk_at dksX1_cut_7 4 rfl rfl)
theorem dX1_cut_171 : decode cX1_cut 171 = .ok (.iaload, 1) := dk_46 (dk_at dksX1_cut_7 6 rfl rfl)
theorem dX1_cut_172 : decode cX1_cut 172 = .ok (.iload 9, 2) := dk_21 9 (dk_at dksX1_cut_7 7 rfl rfl)
theorem dX1_cut_174 : decode cX1_cut 174 = .ok (.isub, 1) := dk_100 (dk_at dksX1_cut_7 9 rfl rfl)
theorem dX1_cut_175 : decode cX1_cut 175 = .ok (.istore 10, 2) := dk_54 10 (dk_at dksX1_cut_7 10 rfl rfl)
theorem dX1_cut_177 : decode cX1_cut 177 = .ok (.aload_n 0, 1) := dk_42 (dk_at dksX1_cut_7 12 rfl rfl)
theorem dX1_cut_178 : decode cX1_cut 178 = .ok (.iload 6, 2) := dk_21 6 (dk_at dksX1_cut_7 13 rfl rfl)
theorem dX1_cut_180 : decode cX1_cut 180 = .ok (.aload_n 3, 1) := dk_45 (dk_at dksX1_cut_7 15 rfl rfl)
theorem dX1_cut_181 : decode cX1_cut 181 = .ok (.getfield 160, 3) := dk_180 0 160 (dk_at dksX1_cut_7 16 rfl rfl)
theorem dX1_cut_184 : decode cX1_cut 184 = .ok (.iload_n 1, 1) := dk_27 (dk_at dksX1_cut_7 19 rfl rfl)
theorem dX1_cut_185 : decode cX1_cut 185 = .ok (.iaload, 1) := dk_46 (dk_at dksX1_cut_7 20 rfl rfl)
theorem dX1_cut_186 : decode cX1_cut 186 = .ok (.isub, 1) := dk_100 (dk_at dksX1_cut_7 21 rfl rfl)
theorem dX1_cut_187 : decode cX1_cut 187 = .ok (.iload 9, 2) := dk_21 9 (dk_at dksX1_cut_7 22 rfl rfl)
theorem dX1_cut_189 : decode cX1_cut 189 = .ok (.isub, 1) := dk_100 (dk_at dksX1_cut_8 0 rfl rfl)
theorem dX1_cut_190 : decode cX1_cut 190 = .ok (.iload 7, 2) := dk_21 7 (dk_at dksX1_cut_8 1 rfl rfl)
theorem dX1_cut_192 : decode cX1_cut 192 = .ok (.iload 9, 2) := dk_21 9 (dk_at dksX1_cut_8 3 rfl rfl)
theorem dX1_cut_194 : decode cX1_cut 194 = .ok (.isub, 1) := dk_100 (dk_at dksX1_cut_8 5 rfl rfl)
theorem dX1_cut_195 : decode cX1_cut 195 = .ok (.invokevirtual 343, 3) := dk_182 1 87 (dk_at dksX1_cut_8 6 rfl rfl)
theorem dX1_cut_198 : decode cX1_cut 198 = .ok (.ifCond .ne 30, 3) := dk_154 0 30 (dk_at dksX1_cut_8 9 rfl rfl)
theorem dX1_cut_201 : decode cX1_cut 201 = .ok (.aload_n 0, 1) := dk_42 (dk_at dksX1_cut_8 12 rfl rfl)
theorem dX1_cut_202 : decode cX1_cut 202 = .ok (.iload 6, 2) := dk_21 6 (dk_at dksX1_cut_8 13 rfl rfl)
theorem dX1_cut_204 : decode cX1_cut 204 = .ok (.aload_n 3, 1) := dk_45 (dk_at dksX1_cut_8 15 rfl rfl)
theorem dX1_cut_205 : decode cX1_cut 205 = .ok (.getfield 160, 3) := dk_180 0 160 (dk_at dksX1_cut_8 16 rfl rfl)
theorem dX1_cut_208 : decode cX1_cut 208 = .ok (.iload_n 1, 1) := dk_27 (dk_at dksX1_cut_8 19 rfl rfl)
theorem dX1_cut_209 : decode cX1_cut 209 = .ok (.iaload, 1) := dk_46 (dk_at dksX1_cut_8 20 rfl rfl)
theorem dX1_cut_210 : decode cX1_cut 210 = .ok (.isub, 1) := dk_100 (dk_at dksX1_cut_8 21 rfl rfl)
theorem dX1_cut_211 : decode cX1_cut 211 = .ok (.iload 10, 2) := dk_21 10 (dk_at dksX1_cut_8 22 rfl rfl)
theorem dX1_cut_213 : decode cX1_cut 213 = .ok (.isub, 1) := dk_100 (dk_at dksX1_cut_9 0 rfl rfl)
theorem dX1_cut_214 : decode cX1_cut 214 = .ok (.iload 7, 2) := dk_21 7 (dk_at dksX1_cut_9 1 rfl rfl)
theorem dX1_cut_216 : decode cX1_cut 216 = .ok (.iload 10, 2) := dk_21 10 (dk_at dksX1_cut_9 3 rfl rfl)
theorem dX1_cut_218 : decode cX1_cut 218 = .ok (.isub, 1) := dk_100 (dk_at dksX1_cut_9 5 rfl rfl)
theorem dX1_cut_219 : decode cX1_cut 219 = .ok (.invokevirtual 343, 3) := dk_182 1 87 (dk_at dksX1_cut_9 6 rfl rfl)
theorem dX1_cut_222 : decode cX1_cut 222 = .ok (.ifCond .ne 6, 3) := dk_154 0 6 (dk_at dksX1_cut_9 9 rfl rfl)
theorem dX1_cut_225 : decode cX1_cut 225 = .ok (.goto 22, 3) := dk_167 0 22 (dk_at dksX1_cut_9 12 rfl rfl)
theorem dX1_cut_228 : decode cX1_cut 228 = .ok (.iinc 5 1, 3) := dk_132 5 1 (dk_at dksX1_cut_9 15 rfl rfl)
theorem dX1_cut_231 : decode cX1_cut 231 = .ok (.iload 4, 2) := dk_21 4 (dk_at dksX1_cut_9 18 rfl rfl)
theorem dX1_cut_233 : decode cX1_cut 233 = .ok (.iconst (-1), 1) := dk_2 (dk_at dksX1_cut_9 20 rfl rfl)
theorem dX1_cut_234 : decode cX1_cut 234 = .ok (.if_icmp .ne 13, 3) := dk_160 0 13 (dk_at dksX1_cut_9 21 rfl rfl)
theorem dX1_cut_237 : decode cX1_cut 237 = .ok (.bipush 100, 2) := dk_16 100 (dk_at dksX1_cut_10 0 rfl rfl)
theorem dX1_cut_239 : decode cX1_cut 239 = .ok (.iload 8, 2) := dk_21 8 (dk_at dksX1_cut_10 2 rfl rfl)
theorem dX1_cut_241 : decode cX1_cut 241 = .ok (.imul, 1) := dk_104 (dk_at dksX1_cut_10 4 rfl rfl)
theorem dX1_cut_242 : decode cX1_cut 242 = .ok (.iload 9, 2) := dk_21 9 (dk_at dksX1_cut_10 5 rfl rfl)
theorem dX1_cut_244 : decode cX1_cut 244 = .ok (.iadd, 1) := dk_96 (dk_at dksX1_cut_10 7 rfl rfl)
theorem dX1_cut_245 : decode cX1_cut 245 = .ok (.istore 4, 2) := dk_54 4 (dk_at dksX1_cut_10 8 rfl rfl)
theorem dX1_cut_247 : decode cX1_cut 247 = .ok (.iinc 9 1, 3) := dk_132 9 1 (dk_at dksX1_cut_10 10 rfl rfl)
theorem dX1_cut_250 : decode cX1_cut 250 = .ok (.goto (-99), 3) := dk_167 255 157 (dk_at dksX1_cut_10 13 rfl rfl)
theorem dX1_cut_253 : decode cX1_cut 253 = .ok (.iinc 8 1, 3) := dk_132 8 1 (dk_at dksX1_cut_10 16 rfl rfl)
theorem dX1_cut_256 : decode cX1_cut 256 = .ok (.goto (-150), 3) := dk_167 255 106 (dk_at dksX1_cut_10 19 rfl rfl)
theorem dX1_cut_259 : decode cX1_cut 259 = .ok (.iload_n 2, 1) := dk_28 (dk_at dksX1_cut_10 22 rfl rfl)
theorem dX1_cut_260 : decode cX1_cut 260 = .ok (.ifCond .ne 8, 3) := dk_154 0 8 (dk_at dksX1_cut_11 0 rfl rfl)
theorem dX1_cut_263 : decode cX1_cut 263 = .ok (.iload 5, 2) := dk_21 5 (dk_at dksX1_cut_11 3 rfl rfl)
theorem dX1_cut_265 : decode cX1_cut 265 = .ok (.goto 5, 3) := dk_167 0 5 (dk_at dksX1_cut_11 5 rfl rfl)
theorem dX1_cut_268 : decode cX1_cut 268 = .ok (.iload 4, 2) := dk_21 4 (dk_at dksX1_cut_11 8 rfl rfl)
theorem dX1_cut_270 : decode cX1_cut 270 = .ok (.ireturn, 1) := dk_172 (dk_at dksX1_cut_11 10 rfl rfl)
abbrev cX1_makes : ByteArray := prog_1_method_35_code
def yX1_makes : MethodName := ⟨RX1, "makes", "(LHeavyGifts$State;I)V"⟩
def dkwX1_makes_2 : List UInt8 := [43, 180, 0, 182, 29, 46, 182, 1, 75, 132, 3, 1, 167, 255, 228, 177]
abbrev dktX1_makes_2 : List UInt8 := dkwX1_makes_2 ++ []
def dkwX1_makes_1 : List UInt8 := [132, 3, 1, 167, 255, 232, 3, 62, 29, 16, 12, 162, 0, 28, 28, 29, 122, 4, 126, 4, 160, 0, 13, 42]
abbrev dktX1_makes_1 : List UInt8 := dkwX1_makes_1 ++ dktX1_makes_2
def dkwX1_makes_0 : List UInt8 := [3, 62, 29, 16, 20, 162, 0, 24, 42, 180, 0, 58, 29, 29, 154, 0, 7, 10, 167, 0, 4, 9, 80]
abbrev dktX1_makes_0 : List UInt8 := dkwX1_makes_0 ++ dktX1_makes_1
theorem dksX1_makes_0 : cX1_makes.data.toList.drop 0 = dktX1_makes_0 := by decide +kernel
theorem dksX1_makes_1 : cX1_makes.data.toList.drop 23 = dktX1_makes_1 := dk_seg dksX1_makes_0 23 rfl rfl
theorem dksX1_makes_2 : cX1_makes.data.toList.drop 47 = dktX1_makes_2 := dk_seg dksX1_makes_1 24 rfl rfl
theorem dX1_makes_0 : decode cX1_makes 0 = .ok (.iconst 0, 1) := dk_3 (dk_at dksX1_makes_0 0 rfl rfl)
theorem dX1_makes_1 : decode cX1_makes 1 = .ok (.istore_n 3, 1) := dk_62 (dk_at dksX1_makes_0 1 rfl rfl)
theorem dX1_makes_2 : decode cX1_makes 2 = .ok (.iload_n 3, 1) := dk_29 (dk_at dksX1_makes_0 2 rfl rfl)
theorem dX1_makes_3 : decode cX1_makes 3 = .ok (.bipush 20, 2) := dk_16 20 (dk_at dksX1_makes_0 3 rfl rfl)
theorem dX1_makes_5 : decode cX1_makes 5 = .ok (.if_icmp .ge 24, 3) := dk_162 0 24 (dk_at dksX1_makes_0 5 rfl rfl)
theorem dX1_makes_8 : decode cX1_makes 8 = .ok (.aload_n 0, 1) := dk_42 (dk_at dksX1_makes_0 8 rfl rfl)
theorem dX1_makes_9 : decode cX1_makes 9 = .ok (.getfield 58, 3) := dk_180 0 58 (dk_at dksX1_makes_0 9 rfl rfl)
theorem dX1_makes_12 : decode cX1_makes 12 = .ok (.iload_n 3, 1) := dk_29 (dk_at dksX1_makes_0 12 rfl rfl)
theorem dX1_makes_13 : decode cX1_makes 13 = .ok (.iload_n 3, 1) := dk_29 (dk_at dksX1_makes_0 13 rfl rfl)
theorem dX1_makes_14 : decode cX1_makes 14 = .ok (.ifCond .ne 7, 3) := dk_154 0 7 (dk_at dksX1_makes_0 14 rfl rfl)
theorem dX1_makes_17 : decode cX1_makes 17 = .ok (.lconst 1, 1) := dk_10 (dk_at dksX1_makes_0 17 rfl rfl)
theorem dX1_makes_18 : decode cX1_makes 18 = .ok (.goto 4, 3) := dk_167 0 4 (dk_at dksX1_makes_0 18 rfl rfl)
theorem dX1_makes_21 : decode cX1_makes 21 = .ok (.lconst 0, 1) := dk_9 (dk_at dksX1_makes_0 21 rfl rfl)
theorem dX1_makes_22 : decode cX1_makes 22 = .ok (.lastore, 1) := dk_80 (dk_at dksX1_makes_0 22 rfl rfl)
theorem dX1_makes_23 : decode cX1_makes 23 = .ok (.iinc 3 1, 3) := dk_132 3 1 (dk_at dksX1_makes_1 0 rfl rfl)
theorem dX1_makes_26 : decode cX1_makes 26 = .ok (.goto (-24), 3) := dk_167 255 232 (dk_at dksX1_makes_1 3 rfl rfl)
theorem dX1_makes_29 : decode cX1_makes 29 = .ok (.iconst 0, 1) := dk_3 (dk_at dksX1_makes_1 6 rfl rfl)
theorem dX1_makes_30 : decode cX1_makes 30 = .ok (.istore_n 3, 1) := dk_62 (dk_at dksX1_makes_1 7 rfl rfl)
theorem dX1_makes_31 : decode cX1_makes 31 = .ok (.iload_n 3, 1) := dk_29 (dk_at dksX1_makes_1 8 rfl rfl)
theorem dX1_makes_32 : decode cX1_makes 32 = .ok (.bipush 12, 2) := dk_16 12 (dk_at dksX1_makes_1 9 rfl rfl)
theorem dX1_makes_34 : decode cX1_makes 34 = .ok (.if_icmp .ge 28, 3) := dk_162 0 28 (dk_at dksX1_makes_1 11 rfl rfl)
theorem dX1_makes_37 : decode cX1_makes 37 = .ok (.iload_n 2, 1) := dk_28 (dk_at dksX1_makes_1 14 rfl rfl)
theorem dX1_makes_38 : decode cX1_makes 38 = .ok (.iload_n 3, 1) := dk_29 (dk_at dksX1_makes_1 15 rfl rfl)
theorem dX1_makes_39 : decode cX1_makes 39 = .ok (.ishr, 1) := dk_122 (dk_at dksX1_makes_1 16 rfl rfl)
theorem dX1_makes_40 : decode cX1_makes 40 = .ok (.iconst 1, 1) := dk_4 (dk_at dksX1_makes_1 17 rfl rfl)
theorem dX1_makes_41 : decode cX1_makes 41 = .ok (.iand, 1) := dk_126 (dk_at dksX1_makes_1 18 rfl rfl)
theorem dX1_makes_42 : decode cX1_makes 42 = .ok (.iconst 1, 1) := dk_4 (dk_at dksX1_makes_1 19 rfl rfl)
theorem dX1_makes_43 : decode cX1_makes 43 = .ok (.if_icmp .ne 13, 3) := dk_160 0 13 (dk_at dksX1_makes_1 20 rfl rfl)
theorem dX1_makes_46 : decode cX1_makes 46 = .ok (.aload_n 0, 1) := dk_42 (dk_at dksX1_makes_1 23 rfl rfl)
theorem dX1_makes_47 : decode cX1_makes 47 = .ok (.aload_n 1, 1) := dk_43 (dk_at dksX1_makes_2 0 rfl rfl)
theorem dX1_makes_48 : decode cX1_makes 48 = .ok (.getfield 182, 3) := dk_180 0 182 (dk_at dksX1_makes_2 1 rfl rfl)
theorem dX1_makes_51 : decode cX1_makes 51 = .ok (.iload_n 3, 1) := dk_29 (dk_at dksX1_makes_2 4 rfl rfl)
theorem dX1_makes_52 : decode cX1_makes 52 = .ok (.iaload, 1) := dk_46 (dk_at dksX1_makes_2 5 rfl rfl)
theorem dX1_makes_53 : decode cX1_makes 53 = .ok (.invokevirtual 331, 3) := dk_182 1 75 (dk_at dksX1_makes_2 6 rfl rfl)
theorem dX1_makes_56 : decode cX1_makes 56 = .ok (.iinc 3 1, 3) := dk_132 3 1 (dk_at dksX1_makes_2 9 rfl rfl)
theorem dX1_makes_59 : decode cX1_makes 59 = .ok (.goto (-28), 3) := dk_167 255 228 (dk_at dksX1_makes_2 12 rfl rfl)
theorem dX1_makes_62 : decode cX1_makes 62 = .ok (.return_, 1) := dk_177 (dk_at dksX1_makes_2 15 rfl rfl)
abbrev cX1_shifts : ByteArray := prog_1_method_36_code
def yX1_shifts : MethodName := ⟨RX1, "shifts", "(I)V"⟩
def dkwX1_shifts_3 : List UInt8 := [92, 47, 22, 5, 129, 80, 132, 4, 255, 167, 255, 191, 177]
abbrev dktX1_shifts_3 : List UInt8 := dkwX1_shifts_3 ++ []
def dkwX1_shifts_2 : List UInt8 := [180, 0, 58, 21, 4, 28, 100, 4, 100, 47, 16, 64, 29, 100, 125, 129, 55, 5, 42, 180, 0, 58, 21, 4]
abbrev dktX1_shifts_2 : List UInt8 := dkwX1_shifts_2 ++ dktX1_shifts_3
def dkwX1_shifts_1 : List UInt8 := [21, 4, 28, 100, 47, 29, 121, 55, 5, 29, 158, 0, 30, 21, 4, 28, 164, 0, 24, 22, 5, 42]
abbrev dktX1_shifts_1 : List UInt8 := dkwX1_shifts_1 ++ dktX1_shifts_2
def dkwX1_shifts_0 : List UInt8 := [27, 16, 64, 108, 61, 27, 16, 64, 112, 62, 16, 19, 54, 4, 21, 4, 28, 161, 0, 65, 42, 180, 0, 58]
abbrev dktX1_shifts_0 : List UInt8 := dkwX1_shifts_0 ++ dktX1_shifts_1
theorem dksX1_shifts_0 : cX1_shifts.data.toList.drop 0 = dktX1_shifts_0 := by decide +kernel
theorem dksX1_shifts_1 : cX1_shifts.data.toList.drop 24 = dktX1_shifts_1 := dk_seg dksX1_shifts_0 24 rfl rfl
theorem dksX1_shifts_2 : cX1_shifts.data.toList.drop 46 = dktX1_shifts_2 := dk_seg dksX1_shifts_1 22 rfl rfl
theorem dksX1_shifts_3 : cX1_shifts.data.toList.drop 70 = dktX1_shifts_3 := dk_seg dksX1_shifts_2 24 rfl rfl
theorem dX1_shifts_0 : decode cX1_shifts 0 = .ok (.iload_n 1, 1) := dk_27 (dk_at dksX1_shifts_0 0 rfl rfl)
theorem dX1_shifts_1 : decode cX1_shifts 1 = .ok (.bipush 64, 2) := dk_16 64 (dk_at dksX1_shifts_0 1 rfl rfl)
theorem dX1_shifts_3 : decode cX1_shifts 3 = .ok (.idiv, 1) := dk_108 (dk_at dksX1_shifts_0 3 rfl rfl)
theorem dX1_shifts_4 : decode cX1_shifts 4 = .ok (.istore_n 2, 1) := dk_61 (dk_at dksX1_shifts_0 4 rfl rfl)
theorem dX1_shifts_5 : decode cX1_shifts 5 = .ok (.iload_n 1, 1) := dk_27 (dk_at dksX1_shifts_0 5 rfl rfl)
theorem dX1_shifts_6 : decode cX1_shifts 6 = .ok (.bipush 64, 2) := dk_16 64 (dk_at dksX1_shifts_0 6 rfl rfl)
theorem dX1_shifts_8 : decode cX1_shifts 8 = .ok (.irem, 1) := dk_112 (dk_at dksX1_shifts_0 8 rfl rfl)
theorem dX1_shifts_9 : decode cX1_shifts 9 = .ok (.istore_n 3, 1) := dk_62 (dk_at dksX1_shifts_0 9 rfl rfl)
theorem dX1_shifts_10 : decode cX1_shifts 10 = .ok (.bipush 19, 2) := dk_16 19 (dk_at dksX1_shifts_0 10 rfl rfl)
theorem dX1_shifts_12 : decode cX1_shifts 12 = .ok (.istore 4, 2) := dk_54 4 (dk_at dksX1_shifts_0 12 rfl rfl)
theorem dX1_shifts_14 : decode cX1_shifts 14 = .ok (.iload 4, 2) := dk_21 4 (dk_at dksX1_shifts_0 14 rfl rfl)
theorem dX1_shifts_16 : decode cX1_shifts 16 = .ok (.iload_n 2, 1) := dk_28 (dk_at dksX1_shifts_0 16 rfl rfl)
theorem dX1_shifts_17 : decode cX1_shifts 17 = .ok (.if_icmp .lt 65, 3) := dk_161 0 65 (dk_at dksX1_shifts_0 17 rfl rfl)
theorem dX1_shifts_20 : decode cX1_shifts 20 = .ok (.aload_n 0, 1) := dk_42 (dk_at dksX1_shifts_0 20 rfl rfl)
theorem dX1_shifts_21 : decode cX1_shifts 21 = .ok (.getfield 58, 3) := dk_180 0 58 (dk_at dksX1_shifts_0 21 rfl rfl)
theorem dX1_shifts_24 : decode cX1_shifts 24 = .ok (.iload 4, 2) := dk_21 4 (dk_at dksX1_shifts_1 0 rfl rfl)
theorem dX1_shifts_26 : decode cX1_shifts 26 = .ok (.iload_n 2, 1) := dk_28 (dk_at dksX1_shifts_1 2 rfl rfl)
theorem dX1_shifts_27 : decode cX1_shifts 27 = .ok (.isub, 1) := dk_100 (dk_at dksX1_shifts_1 3 rfl rfl)
theorem dX1_shifts_28 : decode cX1_shifts 28 = .ok (.laload, 1) := dk_47 (dk_at dksX1_shifts_1 4 rfl rfl)
theorem dX1_shifts_29 : decode cX1_shifts 29 = .ok (.iload_n 3, 1) := dk_29 (dk_at dksX1_shifts_1 5 rfl rfl)
theorem dX1_shifts_30 : decode cX1_shifts 30 = .ok (.lshl, 1) := dk_121 (dk_at dksX1_shifts_1 6 rfl rfl)
theorem dX1_shifts_31 : decode cX1_shifts 31 = .ok (.lstore 5, 2) := dk_55 5 (dk_at dksX1_shifts_1 7 rfl rfl)
theorem dX1_shifts_33 : decode cX1_shifts 33 = .ok (.iload_n 3, 1) := dk_29 (dk_at dksX1_shifts_1 9 rfl rfl)
theorem dX1_shifts_34 : decode cX1_shifts 34 = .ok (.ifCond .le 30, 3) := dk_158 0 30 (dk_at dksX1_shifts_1 10 rfl rfl)
theorem dX1_shifts_37 : decode cX1_shifts 37 = .ok (.iload 4, 2) := dk_21 4 (dk_at dksX1_shifts_1 13 rfl rfl)
theorem dX1_shifts_39 : decode cX1_shifts 39 = .ok (.iload_n 2, 1) := dk_28 (dk_at dksX1_shifts_1 15 rfl rfl)
theorem dX1_shifts_40 : decode cX1_shifts 40 = .ok (.if_icmp .le 24, 3) := dk_164 0 24 (dk_at dksX1_shifts_1 16 rfl rfl)
theorem dX1_shifts_43 : decode cX1_shifts 43 = .ok (.lload 5, 2) := dk_22 5 (dk_at dksX1_shifts_1 19 rfl rfl)
theorem dX1_shifts_45 : decode cX1_shifts 45 = .ok (.aload_n 0, 1) := dk_42 (dk_at dksX1_shifts_1 21 rfl rfl)
theorem dX1_shifts_46 : decode cX1_shifts 46 = .ok (.getfield 58, 3) := dk_180 0 58 (dk_at dksX1_shifts_2 0 rfl rfl)
theorem dX1_shifts_49 : decode cX1_shifts 49 = .ok (.iload 4, 2) := dk_21 4 (dk_at dksX1_shifts_2 3 rfl rfl)
theorem dX1_shifts_51 : decode cX1_shifts 51 = .ok (.iload_n 2, 1) := dk_28 (dk_at dksX1_shifts_2 5 rfl rfl)
theorem dX1_shifts_52 : decode cX1_shifts 52 = .ok (.isub, 1) := dk_100 (dk_at dksX1_shifts_2 6 rfl rfl)
theorem dX1_shifts_53 : decode cX1_shifts 53 = .ok (.iconst 1, 1) := dk_4 (dk_at dksX1_shifts_2 7 rfl rfl)
theorem dX1_shifts_54 : decode cX1_shifts 54 = .ok (.isub, 1) := dk_100 (dk_at dksX1_shifts_2 8 rfl rfl)
theorem dX1_shifts_55 : decode cX1_shifts 55 = .ok (.laload, 1) := dk_47 (dk_at dksX1_shifts_2 9 rfl rfl)
theorem dX1_shifts_56 : decode cX1_shifts 56 = .ok (.bipush 64, 2) := dk_16 64 (dk_at dksX1_shifts_2 10 rfl rfl)
theorem dX1_shifts_58 : decode cX1_shifts 58 = .ok (.iload_n 3, 1) := dk_29 (dk_at dksX1_shifts_2 12 rfl rfl)
theorem dX1_shifts_59 : decode cX1_shifts 59 = .ok (.isub, 1) := dk_100 (dk_at dksX1_shifts_2 13 rfl rfl)
theorem dX1_shifts_60 : decode cX1_shifts 60 = .ok (.lushr, 1) := dk_125 (dk_at dksX1_shifts_2 14 rfl rfl)
theorem dX1_shifts_61 : decode cX1_shifts 61 = .ok (.lor, 1) := dk_129 (dk_at dksX1_shifts_2 15 rfl rfl)
theorem dX1_shifts_62 : decode cX1_shifts 62 = .ok (.lstore 5, 2) := dk_55 5 (dk_at dksX1_shifts_2 16 rfl rfl)
theorem dX1_shifts_64 : decode cX1_shifts 64 = .ok (.aload_n 0, 1) := dk_42 (dk_at dksX1_shifts_2 18 rfl rfl)
theorem dX1_shifts_65 : decode cX1_shifts 65 = .ok (.getfield 58, 3) := dk_180 0 58 (dk_at dksX1_shifts_2 19 rfl rfl)
theorem dX1_shifts_68 : decode cX1_shifts 68 = .ok (.iload 4, 2) := dk_21 4 (dk_at dksX1_shifts_2 22 rfl rfl)
theorem dX1_shifts_70 : decode cX1_shifts 70 = .ok (.dup2, 1) := dk_92 (dk_at dksX1_shifts_3 0 rfl rfl)
theorem dX1_shifts_71 : decode cX1_shifts 71 = .ok (.laload, 1) := dk_47 (dk_at dksX1_shifts_3 1 rfl rfl)
theorem dX1_shifts_72 : decode cX1_shifts 72 = .ok (.lload 5, 2) := dk_22 5 (dk_at dksX1_shifts_3 2 rfl rfl)
theorem dX1_shifts_74 : decode cX1_shifts 74 = .ok (.lor, 1) := dk_129 (dk_at dksX1_shifts_3 4 rfl rfl)
theorem dX1_shifts_75 : decode cX1_shifts 75 = .ok (.lastore, 1) := dk_80 (dk_at dksX1_shifts_3 5 rfl rfl)
theorem dX1_shifts_76 : decode cX1_shifts 76 = .ok (.iinc 4 (-1), 3) := dk_132 4 255 (dk_at dksX1_shifts_3 6 rfl rfl)
theorem dX1_shifts_79 : decode cX1_shifts 79 = .ok (.goto (-65), 3) := dk_167 255 191 (dk_at dksX1_shifts_3 9 rfl rfl)
theorem dX1_shifts_82 : decode cX1_shifts 82 = .ok (.return_, 1) := dk_177 (dk_at dksX1_shifts_3 12 rfl rfl)
abbrev cX1_isMadeBetween : ByteArray := prog_1_method_38_code
def yX1_isMadeBetween : MethodName := ⟨RX1, "isMadeBetween", "(II)Z"⟩
def dkwX1_isMadeBetween_1 : List UInt8 := [167, 255, 238, 3, 172]
abbrev dktX1_isMadeBetween_1 : List UInt8 := dkwX1_isMadeBetween_1 ++ []
def dkwX1_isMadeBetween_0 : List UInt8 := [3, 27, 184, 0, 197, 62, 29, 28, 163, 0, 19, 42, 29, 182, 1, 78, 153, 0, 5, 4, 172, 132, 3, 1]
abbrev dktX1_isMadeBetween_0 : List UInt8 := dkwX1_isMadeBetween_0 ++ dktX1_isMadeBetween_1
theorem dksX1_isMadeBetween_0 : cX1_isMadeBetween.data.toList.drop 0 = dktX1_isMadeBetween_0 := by decide +kernel
theorem dksX1_isMadeBetween_1 : cX1_isMadeBetween.data.toList.drop 24 = dktX1_isMadeBetween_1 := dk_seg dksX1_isMadeBetween_0 24 rfl rfl
theorem dX1_isMadeBetween_0 : decode cX1_isMadeBetween 0 = .ok (.iconst 0, 1) := dk_3 (dk_at dksX1_isMadeBetween_0 0 rfl rfl)
theorem dX1_isMadeBetween_1 : decode cX1_isMadeBetween 1 = .ok (.iload_n 1, 1) := dk_27 (dk_at dksX1_isMadeBetween_0 1 rfl rfl)
theorem dX1_isMadeBetween_2 : decode cX1_isMadeBetween 2 = .ok (.invokestatic 197, 3) := dk_184 0 197 (dk_at dksX1_isMadeBetween_0 2 rfl rfl)
theorem dX1_isMadeBetween_5 : decode cX1_isMadeBetween 5 = .ok (.istore_n 3, 1) := dk_62 (dk_at dksX1_isMadeBetween_0 5 rfl rfl)
theorem dX1_isMadeBetween_6 : decode cX1_isMadeBetween 6 = .ok (.iload_n 3, 1) := dk_29 (dk_at dksX1_isMadeBetween_0 6 rfl rfl)
theorem dX1_isMadeBetween_7 : decode cX1_isMadeBetween 7 = .ok (.iload_n 2, 1) := dk_28 (dk_at dksX1_isMadeBetween_0 7 rfl rfl)
theorem dX1_isMadeBetween_8 : decode cX1_isMadeBetween 8 = .ok (.if_icmp .gt 19, 3) := dk_163 0 19 (dk_at dksX1_isMadeBetween_0 8 rfl rfl)
theorem dX1_isMadeBetween_11 : decode cX1_isMadeBetween 11 = .ok (.aload_n 0, 1) := dk_42 (dk_at dksX1_isMadeBetween_0 11 rfl rfl)
theorem dX1_isMadeBetween_12 : decode cX1_isMadeBetween 12 = .ok (.iload_n 3, 1) := dk_29 (dk_at dksX1_isMadeBetween_0 12 rfl rfl)
theorem dX1_isMadeBetween_13 : decode cX1_isMadeBetween 13 = .ok (.invokevirtual 334, 3) := dk_182 1 78 (dk_at dksX1_isMadeBetween_0 13 rfl rfl)
theorem dX1_isMadeBetween_16 : decode cX1_isMadeBetween 16 = .ok (.ifCond .eq 5, 3) := dk_153 0 5 (dk_at dksX1_isMadeBetween_0 16 rfl rfl)
theorem dX1_isMadeBetween_19 : decode cX1_isMadeBetween 19 = .ok (.iconst 1, 1) := dk_4 (dk_at dksX1_isMadeBetween_0 19 rfl rfl)
theorem dX1_isMadeBetween_20 : decode cX1_isMadeBetween 20 = .ok (.ireturn, 1) := dk_172 (dk_at dksX1_isMadeBetween_0 20 rfl rfl)
theorem dX1_isMadeBetween_21 : decode cX1_isMadeBetween 21 = .ok (.iinc 3 1, 3) := dk_132 3 1 (dk_at dksX1_isMadeBetween_0 21 rfl rfl)
theorem dX1_isMadeBetween_24 : decode cX1_isMadeBetween 24 = .ok (.goto (-18), 3) := dk_167 255 238 (dk_at dksX1_isMadeBetween_1 0 rfl rfl)
theorem dX1_isMadeBetween_27 : decode cX1_isMadeBetween 27 = .ok (.iconst 0, 1) := dk_3 (dk_at dksX1_isMadeBetween_1 3 rfl rfl)
theorem dX1_isMadeBetween_28 : decode cX1_isMadeBetween 28 = .ok (.ireturn, 1) := dk_172 (dk_at dksX1_isMadeBetween_1 4 rfl rfl)
abbrev cX1_isMade : ByteArray := prog_1_method_37_code
def yX1_isMade : MethodName := ⟨RX1, "isMade", "(I)Z"⟩
def dkwX1_isMade_1 : List UInt8 := [123, 10, 127, 10, 148, 154, 0, 7, 4, 167, 0, 4, 3, 172]
abbrev dktX1_isMade_1 : List UInt8 := dkwX1_isMade_1 ++ []
def dkwX1_isMade_0 : List UInt8 := [27, 155, 0, 35, 27, 17, 5, 0, 162, 0, 28, 42, 180, 0, 58, 27, 16, 64, 108, 47, 27, 16, 64, 112]
abbrev dktX1_isMade_0 : List UInt8 := dkwX1_isMade_0 ++ dktX1_isMade_1
theorem dksX1_isMade_0 : cX1_isMade.data.toList.drop 0 = dktX1_isMade_0 := by decide +kernel
theorem dksX1_isMade_1 : cX1_isMade.data.toList.drop 24 = dktX1_isMade_1 := dk_seg dksX1_isMade_0 24 rfl rfl
theorem dX1_isMade_0 : decode cX1_isMade 0 = .ok (.iload_n 1, 1) := dk_27 (dk_at dksX1_isMade_0 0 rfl rfl)
theorem dX1_isMade_1 : decode cX1_isMade 1 = .ok (.ifCond .lt 35, 3) := dk_155 0 35 (dk_at dksX1_isMade_0 1 rfl rfl)
theorem dX1_isMade_4 : decode cX1_isMade 4 = .ok (.iload_n 1, 1) := dk_27 (dk_at dksX1_isMade_0 4 rfl rfl)
theorem dX1_isMade_5 : decode cX1_isMade 5 = .ok (.sipush 1280, 3) := dk_17 5 0 (dk_at dksX1_isMade_0 5 rfl rfl)
theorem dX1_isMade_8 : decode cX1_isMade 8 = .ok (.if_icmp .ge 28, 3) := dk_162 0 28 (dk_at dksX1_isMade_0 8 rfl rfl)
theorem dX1_isMade_11 : decode cX1_isMade 11 = .ok (.aload_n 0, 1) := dk_42 (dk_at dksX1_isMade_0 11 rfl rfl)
theorem dX1_isMade_12 : decode cX1_isMade 12 = .ok (.getfield 58, 3) := dk_180 0 58 (dk_at dksX1_isMade_0 12 rfl rfl)
theorem dX1_isMade_15 : decode cX1_isMade 15 = .ok (.iload_n 1, 1) := dk_27 (dk_at dksX1_isMade_0 15 rfl rfl)
theorem dX1_isMade_16 : decode cX1_isMade 16 = .ok (.bipush 64, 2) := dk_16 64 (dk_at dksX1_isMade_0 16 rfl rfl)
theorem dX1_isMade_18 : decode cX1_isMade 18 = .ok (.idiv, 1) := dk_108 (dk_at dksX1_isMade_0 18 rfl rfl)
theorem dX1_isMade_19 : decode cX1_isMade 19 = .ok (.laload, 1) := dk_47 (dk_at dksX1_isMade_0 19 rfl rfl)
theorem dX1_isMade_20 : decode cX1_isMade 20 = .ok (.iload_n 1, 1) := dk_27 (dk_at dksX1_isMade_0 20 rfl rfl)
theorem dX1_isMade_21 : decode cX1_isMade 21 = .ok (.bipush 64, 2) := dk_16 64 (dk_at dksX1_isMade_0 21 rfl rfl)
theorem dX1_isMade_23 : decode cX1_isMade 23 = .ok (.irem, 1) := dk_112 (dk_at dksX1_isMade_0 23 rfl rfl)
theorem dX1_isMade_24 : decode cX1_isMade 24 = .ok (.lshr, 1) := dk_123 (dk_at dksX1_isMade_1 0 rfl rfl)
theorem dX1_isMade_25 : decode cX1_isMade 25 = .ok (.lconst 1, 1) := dk_10 (dk_at dksX1_isMade_1 1 rfl rfl)
theorem dX1_isMade_26 : decode cX1_isMade 26 = .ok (.land, 1) := dk_127 (dk_at dksX1_isMade_1 2 rfl rfl)
theorem dX1_isMade_27 : decode cX1_isMade 27 = .ok (.lconst 1, 1) := dk_10 (dk_at dksX1_isMade_1 3 rfl rfl)
theorem dX1_isMade_28 : decode cX1_isMade 28 = .ok (.lcmp, 1) := dk_148 (dk_at dksX1_isMade_1 4 rfl rfl)
theorem dX1_isMade_29 : decode cX1_isMade 29 = .ok (.ifCond .ne 7, 3) := dk_154 0 7 (dk_at dksX1_isMade_1 5 rfl rfl)
theorem dX1_isMade_32 : decode cX1_isMade 32 = .ok (.iconst 1, 1) := dk_4 (dk_at dksX1_isMade_1 8 rfl rfl)
theorem dX1_isMade_33 : decode cX1_isMade 33 = .ok (.goto 4, 3) := dk_167 0 4 (dk_at dksX1_isMade_1 9 rfl rfl)
theorem dX1_isMade_36 : decode cX1_isMade 36 = .ok (.iconst 0, 1) := dk_3 (dk_at dksX1_isMade_1 12 rfl rfl)
theorem dX1_isMade_37 : decode cX1_isMade 37 = .ok (.ireturn, 1) := dk_172 (dk_at dksX1_isMade_1 13 rfl rfl)
abbrev cX1_keep : ByteArray := prog_1_method_40_code
def yX1_keep : MethodName := ⟨RX1, "keep", "(II)I"⟩
def dkwX1_keep_3 : List UInt8 := [167, 255, 218, 28, 2, 160, 0, 7, 4, 167, 0, 4, 3, 184, 0, 82, 21, 4, 172]
abbrev dktX1_keep_3 : List UInt8 := dkwX1_keep_3 ++ []
def dkwX1_keep_2 : List UInt8 := [21, 4, 28, 160, 0, 6, 21, 6, 172, 29, 21, 6, 96, 62, 132, 4, 1, 21, 5, 5, 104, 54, 5]
abbrev dktX1_keep_2 : List UInt8 := dkwX1_keep_2 ++ dktX1_keep_3
def dkwX1_keep_1 : List UInt8 := [3, 62, 3, 54, 4, 4, 54, 5, 29, 27, 162, 0, 39, 21, 5, 27, 29, 100, 184, 1, 31, 54, 6]
abbrev dktX1_keep_1 : List UInt8 := dkwX1_keep_1 ++ dktX1_keep_2
def dkwX1_keep_0 : List UInt8 := [27, 4, 17, 3, 231, 184, 0, 130, 184, 0, 93, 28, 2, 161, 0, 7, 4, 167, 0, 4, 3, 184, 0, 82]
abbrev dktX1_keep_0 : List UInt8 := dkwX1_keep_0 ++ dktX1_keep_1
theorem dksX1_keep_0 : cX1_keep.data.toList.drop 0 = dktX1_keep_0 := by decide +kernel
theorem dksX1_keep_1 : cX1_keep.data.toList.drop 24 = dktX1_keep_1 := dk_seg dksX1_keep_0 24 rfl rfl
theorem dksX1_keep_2 : cX1_keep.data.toList.drop 47 = dktX1_keep_2 := dk_seg dksX1_keep_1 23 rfl rfl
theorem dksX1_keep_3 : cX1_keep.data.toList.drop 70 = dktX1_keep_3 := dk_seg dksX1_keep_2 23 rfl rfl
theorem dX1_keep_0 : decode cX1_keep 0 = .ok (.iload_n 1, 1) := dk_27 (dk_at dksX1_keep_0 0 rfl rfl)
theorem dX1_keep_1 : decode cX1_keep 1 = .ok (.iconst 1, 1) := dk_4 (dk_at dksX1_keep_0 1 rfl rfl)
theorem dX1_keep_2 : decode cX1_keep 2 = .ok (.sipush 999, 3) := dk_17 3 231 (dk_at dksX1_keep_0 2 rfl rfl)
theorem dX1_keep_5 : decode cX1_keep 5 = .ok (.invokestatic 130, 3) := dk_184 0 130 (dk_at dksX1_keep_0 5 rfl rfl)
theorem dX1_keep_8 : decode cX1_keep 8 = .ok (.invokestatic 93, 3) := dk_184 0 93 (dk_at dksX1_keep_0 8 rfl rfl)
theorem dX1_keep_11 : decode cX1_keep 11 = .ok (.iload_n 2, 1) := dk_28 (dk_at dksX1_keep_0 11 rfl rfl)
theorem dX1_keep_12 : decode cX1_keep 12 = .ok (.iconst (-1), 1) := dk_2 (dk_at dksX1_keep_0 12 rfl rfl)
theorem dX1_keep_13 : decode cX1_keep 13 = .ok (.if_icmp .lt 7, 3) := dk_161 0 7 (dk_at dksX1_keep_0 13 rfl rfl)
theorem dX1_keep_16 : decode cX1_keep 16 = .ok (.iconst 1, 1) := dk_4 (dk_at dksX1_keep_0 16 rfl rfl)
theorem dX1_keep_17 : decode cX1_keep 17 = .ok (.goto 4, 3) := dk_167 0 4 (dk_at dksX1_keep_0 17 rfl rfl)
theorem dX1_keep_20 : decode cX1_keep 20 = .ok (.iconst 0, 1) := dk_3 (dk_at dksX1_keep_0 20 rfl rfl)
theorem dX1_keep_21 : decode cX1_keep 21 = .ok (.invokestatic 82, 3) := dk_184 0 82 (dk_at dksX1_keep_0 21 rfl rfl)
theorem dX1_keep_24 : decode cX1_keep 24 = .ok (.iconst 0, 1) := dk_3 (dk_at dksX1_keep_1 0 rfl rfl)
theorem dX1_keep_25 : decode cX1_keep 25 = .ok (.istore_n 3, 1) := dk_62 (dk_at dksX1_keep_1 1 rfl rfl)
theorem dX1_keep_26 : decode cX1_keep 26 = .ok (.iconst 0, 1) := dk_3 (dk_at dksX1_keep_1 2 rfl rfl)
theorem dX1_keep_27 : decode cX1_keep 27 = .ok (.istore 4, 2) := dk_54 4 (dk_at dksX1_keep_1 3 rfl rfl)
theorem dX1_keep_29 : decode cX1_keep 29 = .ok (.iconst 1, 1) := dk_4 (dk_at dksX1_keep_1 5 rfl rfl)
theorem dX1_keep_30 : decode cX1_keep 30 = .ok (.istore 5, 2) := dk_54 5 (dk_at dksX1_keep_1 6 rfl rfl)
theorem dX1_keep_32 : decode cX1_keep 32 = .ok (.iload_n 3, 1) := dk_29 (dk_at dksX1_keep_1 8 rfl rfl)
theorem dX1_keep_33 : decode cX1_keep 33 = .ok (.iload_n 1, 1) := dk_27 (dk_at dksX1_keep_1 9 rfl rfl)
theorem dX1_keep_34 : decode cX1_keep 34 = .ok (.if_icmp .ge 39, 3) := dk_162 0 39 (dk_at dksX1_keep_1 10 rfl rfl)
theorem dX1_keep_37 : decode cX1_keep 37 = .ok (.iload 5, 2) := dk_21 5 (dk_at dksX1_keep_1 13 rfl rfl)
theorem dX1_keep_39 : decode cX1_keep 39 = .ok (.iload_n 1, 1) := dk_27 (dk_at dksX1_keep_1 15 rfl rfl)
theorem dX1_keep_40 : decode cX1_keep 40 = .ok (.iload_n 3, 1) := dk_29 (dk_at dksX1_keep_1 16 rfl rfl)
theorem dX1_keep_41 : decode cX1_keep 41 = .ok (.isub, 1) := dk_100 (dk_at dksX1_keep_1 17 rfl rfl)
theorem dX1_keep_42 : decode cX1_keep 42 = .ok (.invokestatic 287, 3) := dk_184 1 31 (dk_at dksX1_keep_1 18 rfl rfl)
theorem dX1_keep_45 : decode cX1_keep 45 = .ok (.istore 6, 2) := dk_54 6 (dk_at dksX1_keep_1 21 rfl rfl)
theorem dX1_keep_47 : decode cX1_keep 47 = .ok (.iload 4, 2) := dk_21 4 (dk_at dksX1_keep_2 0 rfl rfl)
theorem dX1_keep_49 : decode cX1_keep 49 = .ok (.iload_n 2, 1) := dk_28 (dk_at dksX1_keep_2 2 rfl rfl)
theorem dX1_keep_50 : decode cX1_keep 50 = .ok (.if_icmp .ne 6, 3) := dk_160 0 6 (dk_at dksX1_keep_2 3 rfl rfl)
theorem dX1_keep_53 : decode cX1_keep 53 = .ok (.iload 6, 2) := dk_21 6 (dk_at dksX1_keep_2 6 rfl rfl)
theorem dX1_keep_55 : decode cX1_keep 55 = .ok (.ireturn, 1) := dk_172 (dk_at dksX1_keep_2 8 rfl rfl)
theorem dX1_keep_56 : decode cX1_keep 56 = .ok (.iload_n 3, 1) := dk_29 (dk_at dksX1_keep_2 9 rfl rfl)
theorem dX1_keep_57 : decode cX1_keep 57 = .ok (.iload 6, 2) := dk_21 6 (dk_at dksX1_keep_2 10 rfl rfl)
theorem dX1_keep_59 : decode cX1_keep 59 = .ok (.iadd, 1) := dk_96 (dk_at dksX1_keep_2 12 rfl rfl)
theorem dX1_keep_60 : decode cX1_keep 60 = .ok (.istore_n 3, 1) := dk_62 (dk_at dksX1_keep_2 13 rfl rfl)
theorem dX1_keep_61 : decode cX1_keep 61 = .ok (.iinc 4 1, 3) := dk_132 4 1 (dk_at dksX1_keep_2 14 rfl rfl)
theorem dX1_keep_64 : decode cX1_keep 64 = .ok (.iload 5, 2) := dk_21 5 (dk_at dksX1_keep_2 17 rfl rfl)
theorem dX1_keep_66 : decode cX1_keep 66 = .ok (.iconst 2, 1) := dk_5 (dk_at dksX1_keep_2 19 rfl rfl)
theorem dX1_keep_67 : decode cX1_keep 67 = .ok (.imul, 1) := dk_104 (dk_at dksX1_keep_2 20 rfl rfl)
theorem dX1_keep_68 : decode cX1_keep 68 = .ok (.istore 5, 2) := dk_54 5 (dk_at dksX1_keep_2 21 rfl rfl)
theorem dX1_keep_70 : decode cX1_keep 70 = .ok (.goto (-38), 3) := dk_167 255 218 (dk_at dksX1_keep_3 0 rfl rfl)
theorem dX1_keep_73 : decode cX1_keep 73 = .ok (.iload_n 2, 1) := dk_28 (dk_at dksX1_keep_3 3 rfl rfl)
theorem dX1_keep_74 : decode cX1_keep 74 = .ok (.iconst (-1), 1) := dk_2 (dk_at dksX1_keep_3 4 rfl rfl)
theorem dX1_keep_75 : decode cX1_keep 75 = .ok (.if_icmp .ne 7, 3) := dk_160 0 7 (dk_at dksX1_keep_3 5 rfl rfl)
theorem dX1_keep_78 : decode cX1_keep 78 = .ok (.iconst 1, 1) := dk_4 (dk_at dksX1_keep_3 8 rfl rfl)
theorem dX1_keep_79 : decode cX1_keep 79 = .ok (.goto 4, 3) := dk_167 0 4 (dk_at dksX1_keep_3 9 rfl rfl)
theorem dX1_keep_82 : decode cX1_keep 82 = .ok (.iconst 0, 1) := dk_3 (dk_at dksX1_keep_3 12 rfl rfl)
theorem dX1_keep_83 : decode cX1_keep 83 = .ok (.invokestatic 82, 3) := dk_184 0 82 (dk_at dksX1_keep_3 13 rfl rfl)
theorem dX1_keep_86 : decode cX1_keep 86 = .ok (.iload 4, 2) := dk_21 4 (dk_at dksX1_keep_3 16 rfl rfl)
theorem dX1_keep_88 : decode cX1_keep 88 = .ok (.ireturn, 1) := dk_172 (dk_at dksX1_keep_3 18 rfl rfl)
abbrev cX1_fewest : ByteArray := prog_1_method_41_code
def yX1_fewest : MethodName := ⟨RX1, "fewest", "(I)I"⟩
def dkwX1_fewest_4 : List UInt8 := [132, 3, 1, 167, 255, 173, 28, 172]
abbrev dktX1_fewest_4 : List UInt8 := dkwX1_fewest_4 ++ []
def dkwX1_fewest_3 : List UInt8 := [153, 0, 17, 42, 21, 5, 182, 1, 78, 54, 4, 132, 5, 1, 167, 255, 234, 21, 4, 153, 0, 5, 29, 61]
abbrev dktX1_fewest_3 : List UInt8 := dkwX1_fewest_3 ++ dktX1_fewest_4
def dkwX1_fewest_2 : List UInt8 := [180, 0, 19, 180, 0, 101, 29, 182, 1, 84, 4, 54, 4, 4, 54, 5, 21, 5, 27, 163, 0, 22, 21, 4]
abbrev dktX1_fewest_2 : List UInt8 := dkwX1_fewest_2 ++ dktX1_fewest_3
def dkwX1_fewest_1 : List UInt8 := [163, 0, 78, 28, 2, 159, 0, 17, 29, 184, 1, 90, 28, 184, 1, 90, 161, 0, 6, 167, 0, 53, 42, 42]
abbrev dktX1_fewest_1 : List UInt8 := dkwX1_fewest_1 ++ dktX1_fewest_2
def dkwX1_fewest_0 : List UInt8 := [27, 4, 17, 3, 231, 184, 0, 130, 184, 0, 93, 2, 61, 3, 62, 29, 42, 180, 0, 10, 182, 0, 194]
abbrev dktX1_fewest_0 : List UInt8 := dkwX1_fewest_0 ++ dktX1_fewest_1
theorem dksX1_fewest_0 : cX1_fewest.data.toList.drop 0 = dktX1_fewest_0 := by decide +kernel
theorem dksX1_fewest_1 : cX1_fewest.data.toList.drop 23 = dktX1_fewest_1 := dk_seg dksX1_fewest_0 23 rfl rfl
theorem dksX1_fewest_2 : cX1_fewest.data.toList.drop 47 = dktX1_fewest_2 := dk_seg dksX1_fewest_1 24 rfl rfl
theorem dksX1_fewest_3 : cX1_fewest.data.toList.drop 71 = dktX1_fewest_3 := dk_seg dksX1_fewest_2 24 rfl rfl
theorem dksX1_fewest_4 : cX1_fewest.data.toList.drop 95 = dktX1_fewest_4 := dk_seg dksX1_fewest_3 24 rfl rfl
theorem dX1_fewest_0 : decode cX1_fewest 0 = .ok (.iload_n 1, 1) := dk_27 (dk_at dksX1_fewest_0 0 rfl rfl)
theorem dX1_fewest_1 : decode cX1_fewest 1 = .ok (.iconst 1, 1) := dk_4 (dk_at dksX1_fewest_0 1 rfl rfl)
theorem dX1_fewest_2 : decode cX1_fewest 2 = .ok (.sipush 999, 3) := dk_17 3 231 (dk_at dksX1_fewest_0 2 rfl rfl)
theorem dX1_fewest_5 : decode cX1_fewest 5 = .ok (.invokestatic 130, 3) := dk_184 0 130 (dk_at dksX1_fewest_0 5 rfl rfl)
theorem dX1_fewest_8 : decode cX1_fewest 8 = .ok (.invokestatic 93, 3) := dk_184 0 93 (dk_at dksX1_fewest_0 8 rfl rfl)
theorem dX1_fewest_11 : decode cX1_fewest 11 = .ok (.iconst (-1), 1) := dk_2 (dk_at dksX1_fewest_0 11 rfl rfl)
theorem dX1_fewest_12 : decode cX1_fewest 12 = .ok (.istore_n 2, 1) := dk_61 (dk_at dksX1_fewest_0 12 rfl rfl)
theorem dX1_fewest_13 : decode cX1_fewest 13 = .ok (.iconst 0, 1) := dk_3 (dk_at dksX1_fewest_0 13 rfl rfl)
theorem dX1_fewest_14 : decode cX1_fewest 14 = .ok (.istore_n 3, 1) := dk_62 (dk_at dksX1_fewest_0 14 rfl rfl)
theorem dX1_fewest_15 : decode cX1_fewest 15 = .ok (.iload_n 3, 1) := dk_29 (dk_at dksX1_fewest_0 15 rfl rfl)
theorem dX1_fewest_16 : decode cX1_fewest 16 = .ok (.aload_n 0, 1) := dk_42 (dk_at dksX1_fewest_0 16 rfl rfl)
theorem dX1_fewest_17 : decode cX1_fewest 17 = .ok (.getfield 10, 3) := dk_180 0 10 (dk_at dksX1_fewest_0 17 rfl rfl)
theorem dX1_fewest_20 : decode cX1_fewest 20 = .ok (.invokevirtual 194, 3) := dk_182 0 194 (dk_at dksX1_fewest_0 20 rfl rfl)
theorem dX1_fewest_23 : decode cX1_fewest 23 = .ok (.if_icmp .gt 78, 3) := dk_163 0 78 (dk_at dksX1_fewest_1 0 rfl rfl)
theorem dX1_fewest_26 : decode cX1_fewest 26 = .ok (.iload_n 2, 1) := dk_28 (dk_at dksX1_fewest_1 3 rfl rfl)
theorem dX1_fewest_27 : decode cX1_fewest 27 = .ok (.iconst (-1), 1) := dk_2 (dk_at dksX1_fewest_1 4 rfl rfl)
theorem dX1_fewest_28 : decode cX1_fewest 28 = .ok (.if_icmp .eq 17, 3) := dk_159 0 17 (dk_at dksX1_fewest_1 5 rfl rfl)
theorem dX1_fewest_31 : decode cX1_fewest 31 = .ok (.iload_n 3, 1) := dk_29 (dk_at dksX1_fewest_1 8 rfl rfl)
theorem dX1_fewest_32 : decode cX1_fewest 32 = .ok (.invokestatic 346, 3) := dk_184 1 90 (dk_at dksX1_fewest_1 9 rfl rfl)
theorem dX1_fewest_35 : decode cX1_fewest 35 = .ok (.iload_n 2, 1) := dk_28 (dk_at dksX1_fewest_1 12 rfl rfl)
theorem dX1_fewest_36 : decode cX1_fewest 36 = .ok (.invokestatic 346, 3) := dk_184 1 90 (dk_at dksX1_fewest_1 13 rfl rfl)
theorem dX1_fewest_39 : decode cX1_fewest 39 = .ok (.if_icmp .lt 6, 3) := dk_161 0 6 (dk_at dksX1_fewest_1 16 rfl rfl)
theorem dX1_fewest_42 : decode cX1_fewest 42 = .ok (.goto 53, 3) := dk_167 0 53 (dk_at dksX1_fewest_1 19 rfl rfl)
theorem dX1_fewest_45 : decode cX1_fewest 45 = .ok (.aload_n 0, 1) := dk_42 (dk_at dksX1_fewest_1 22 rfl rfl)
theorem dX1_fewest_46 : decode cX1_fewest 46 = .ok (.aload_n 0, 1) := dk_42 (dk_at dksX1_fewest_1 23 rfl rfl)
theorem dX1_fewest_47 : decode cX1_fewest 47 = .ok (.getfield 19, 3) := dk_180 0 19 (dk_at dksX1_fewest_2 0 rfl rfl)
theorem dX1_fewest_50 : decode cX1_fewest 50 = .ok (.getfield 101, 3) := dk_180 0 101 (dk_at dksX1_fewest_2 3 rfl rfl)
theorem dX1_fewest_53 : decode cX1_fewest 53 = .ok (.iload_n 3, 1) := dk_29 (dk_at dksX1_fewest_2 6 rfl rfl)
theorem dX1_fewest_54 : decode cX1_fewest 54 = .ok (.invokevirtual 340, 3) := dk_182 1 84 (dk_at dksX1_fewest_2 7 rfl rfl)
theorem dX1_fewest_57 : decode cX1_fewest 57 = .ok (.iconst 1, 1) := dk_4 (dk_at dksX1_fewest_2 10 rfl rfl)
theorem dX1_fewest_58 : decode cX1_fewest 58 = .ok (.istore 4, 2) := dk_54 4 (dk_at dksX1_fewest_2 11 rfl rfl)
theorem dX1_fewest_60 : decode cX1_fewest 60 = .ok (.iconst 1, 1) := dk_4 (dk_at dksX1_fewest_2 13 rfl rfl)
theorem dX1_fewest_61 : decode cX1_fewest 61 = .ok (.istore 5, 2) := dk_54 5 (dk_at dksX1_fewest_2 14 rfl rfl)
theorem dX1_fewest_63 : decode cX1_fewest 63 = .ok (.iload 5, 2) := dk_21 5 (dk_at dksX1_fewest_2 16 rfl rfl)
theorem dX1_fewest_65 : decode cX1_fewest 65 = .ok (.iload_n 1, 1) := dk_27 (dk_at dksX1_fewest_2 18 rfl rfl)
theorem dX1_fewest_66 : decode cX1_fewest 66 = .ok (.if_icmp .gt 22, 3) := dk_163 0 22 (dk_at dksX1_fewest_2 19 rfl rfl)
theorem dX1_fewest_69 : decode cX1_fewest 69 = .ok (.iload 4, 2) := dk_21 4 (dk_at dksX1_fewest_2 22 rfl rfl)
theorem dX1_fewest_71 : decode cX1_fewest 71 = .ok (.ifCond .eq 17, 3) := dk_153 0 17 (dk_at dksX1_fewest_3 0 rfl rfl)
theorem dX1_fewest_74 : decode cX1_fewest 74 = .ok (.aload_n 0, 1) := dk_42 (dk_at dksX1_fewest_3 3 rfl rfl)
theorem dX1_fewest_75 : decode cX1_fewest 75 = .ok (.iload 5, 2) := dk_21 5 (dk_at dksX1_fewest_3 4 rfl rfl)
theorem dX1_fewest_77 : decode cX1_fewest 77 = .ok (.invokevirtual 334, 3) := dk_182 1 78 (dk_at dksX1_fewest_3 6 rfl rfl)
theorem dX1_fewest_80 : decode cX1_fewest 80 = .ok (.istore 4, 2) := dk_54 4 (dk_at dksX1_fewest_3 9 rfl rfl)
theorem dX1_fewest_82 : decode cX1_fewest 82 = .ok (.iinc 5 1, 3) := dk_132 5 1 (dk_at dksX1_fewest_3 11 rfl rfl)
theorem dX1_fewest_85 : decode cX1_fewest 85 = .ok (.goto (-22), 3) := dk_167 255 234 (dk_at dksX1_fewest_3 14 rfl rfl)
theorem dX1_fewest_88 : decode cX1_fewest 88 = .ok (.iload 4, 2) := dk_21 4 (dk_at dksX1_fewest_3 17 rfl rfl)
theorem dX1_fewest_90 : decode cX1_fewest 90 = .ok (.ifCond .eq 5, 3) := dk_153 0 5 (dk_at dksX1_fewest_3 19 rfl rfl)
theorem dX1_fewest_93 : decode cX1_fewest 93 = .ok (.iload_n 3, 1) := dk_29 (dk_at dksX1_fewest_3 22 rfl rfl)
theorem dX1_fewest_94 : decode cX1_fewest 94 = .ok (.istore_n 2, 1) := dk_61 (dk_at dksX1_fewest_3 23 rfl rfl)
theorem dX1_fewest_95 : decode cX1_fewest 95 = .ok (.iinc 3 1, 3) := dk_132 3 1 (dk_at dksX1_fewest_4 0 rfl rfl)
theorem dX1_fewest_98 : decode cX1_fewest 98 = .ok (.goto (-83), 3) := dk_167 255 173 (dk_at dksX1_fewest_4 3 rfl rfl)
theorem dX1_fewest_101 : decode cX1_fewest 101 = .ok (.iload_n 2, 1) := dk_28 (dk_at dksX1_fewest_4 6 rfl rfl)
theorem dX1_fewest_102 : decode cX1_fewest 102 = .ok (.ireturn, 1) := dk_172 (dk_at dksX1_fewest_4 7 rfl rfl)
abbrev cX1_answers : ByteArray := prog_1_method_42_code
def yX1_answers : MethodName := ⟨RX1, "answers", "(IIZ)I"⟩
def dkwX1_answers_4 : List UInt8 := [172]
abbrev dktX1_answers_4 : List UInt8 := dkwX1_answers_4 ++ []
def dkwX1_answers_3 : List UInt8 := [167, 0, 5, 21, 5, 21, 5, 182, 1, 87, 153, 0, 6, 132, 4, 1, 132, 5, 1, 167, 255, 211, 21, 4]
abbrev dktX1_answers_3 : List UInt8 := dkwX1_answers_3 ++ dktX1_answers_4
def dkwX1_answers_2 : List UInt8 := [163, 0, 45, 42, 29, 153, 0, 21, 21, 5, 42, 180, 0, 19, 180, 0, 101, 180, 0, 160, 27, 46, 100]
abbrev dktX1_answers_2 : List UInt8 := dkwX1_answers_2 ++ dktX1_answers_3
def dkwX1_answers_1 : List UInt8 := [42, 180, 0, 19, 180, 0, 101, 180, 0, 169, 27, 46, 182, 1, 84, 3, 54, 4, 4, 54, 5, 21, 5, 28]
abbrev dktX1_answers_1 : List UInt8 := dkwX1_answers_1 ++ dktX1_answers_2
def dkwX1_answers_0 : List UInt8 := [42, 27, 182, 0, 149, 28, 4, 17, 3, 231, 184, 0, 130, 184, 0, 93, 42, 42, 180, 0, 19, 180, 0, 101]
abbrev dktX1_answers_0 : List UInt8 := dkwX1_answers_0 ++ dktX1_answers_1
theorem dksX1_answers_0 : cX1_answers.data.toList.drop 0 = dktX1_answers_0 := by decide +kernel
theorem dksX1_answers_1 : cX1_answers.data.toList.drop 24 = dktX1_answers_1 := dk_seg dksX1_answers_0 24 rfl rfl
theorem dksX1_answers_2 : cX1_answers.data.toList.drop 48 = dktX1_answers_2 := dk_seg dksX1_answers_1 24 rfl rfl
theorem dksX1_answers_3 : cX1_answers.data.toList.drop 71 = dktX1_answers_3 := dk_seg dksX1_answers_2 23 rfl rfl
theorem dksX1_answers_4 : cX1_answers.data.toList.drop 95 = dktX1_answers_4 := dk_seg dksX1_answers_3 24 rfl rfl
theorem dX1_answers_0 : decode cX1_answers 0 = .ok (.aload_n 0, 1) := dk_42 (dk_at dksX1_answers_0 0 rfl rfl)
theorem dX1_answers_1 : decode cX1_answers 1 = .ok (.iload_n 1, 1) := dk_27 (dk_at dksX1_answers_0 1 rfl rfl)
theorem dX1_answers_2 : decode cX1_answers 2 = .ok (.invokevirtual 149, 3) := dk_182 0 149 (dk_at dksX1_answers_0 2 rfl rfl)
theorem dX1_answers_5 : decode cX1_answers 5 = .ok (.iload_n 2, 1) := dk_28 (dk_at dksX1_answers_0 5 rfl rfl)
theorem dX1_answers_6 : decode cX1_answers 6 = .ok (.iconst 1, 1) := dk_4 (dk_at dksX1_answers_0 6 rfl rfl)
theorem dX1_answers_7 : decode cX1_answers 7 = .ok (.sipush 999, 3) := dk_17 3 231 (dk_at dksX1_answers_0 7 rfl rfl)
theorem dX1_answers_10 : decode cX1_answers 10 = .ok (.invokestatic 130, 3) := dk_184 0 130 (dk_at dksX1_answers_0 10 rfl rfl)
theorem dX1_answers_13 : decode cX1_answers 13 = .ok (.invokestatic 93, 3) := dk_184 0 93 (dk_at dksX1_answers_0 13 rfl rfl)
theorem dX1_answers_16 : decode cX1_answers 16 = .ok (.aload_n 0, 1) := dk_42 (dk_at dksX1_answers_0 16 rfl rfl)
theorem dX1_answers_17 : decode cX1_answers 17 = .ok (.aload_n 0, 1) := dk_42 (dk_at dksX1_answers_0 17 rfl rfl)
theorem dX1_answers_18 : decode cX1_answers 18 = .ok (.getfield 19, 3) := dk_180 0 19 (dk_at dksX1_answers_0 18 rfl rfl)
theorem dX1_answers_21 : decode cX1_answers 21 = .ok (.getfield 101, 3) := dk_180 0 101 (dk_at dksX1_answers_0 21 rfl rfl)
theorem dX1_answers_24 : decode cX1_answers 24 = .ok (.aload_n 0, 1) := dk_42 (dk_at dksX1_answers_1 0 rfl rfl)
theorem dX1_answers_25 : decode cX1_answers 25 = .ok (.getfield 19, 3) := dk_180 0 19 (dk_at dksX1_answers_1 1 rfl rfl)
theorem dX1_answers_28 : decode cX1_answers 28 = .ok (.getfield 101, 3) := dk_180 0 101 (dk_at dksX1_answers_1 4 rfl rfl)
theorem dX1_answers_31 : decode cX1_answers 31 = .ok (.getfield 169, 3) := dk_180 0 169 (dk_at dksX1_answers_1 7 rfl rfl)
theorem dX1_answers_34 : decode cX1_answers 34 = .ok (.iload_n 1, 1) := dk_27 (dk_at dksX1_answers_1 10 rfl rfl)
theorem dX1_answers_35 : decode cX1_answers 35 = .ok (.iaload, 1) := dk_46 (dk_at dksX1_answers_1 11 rfl rfl)
theorem dX1_answers_36 : decode cX1_answers 36 = .ok (.invokevirtual 340, 3) := dk_182 1 84 (dk_at dksX1_answers_1 12 rfl rfl)
theorem dX1_answers_39 : decode cX1_answers 39 = .ok (.iconst 0, 1) := dk_3 (dk_at dksX1_answers_1 15 rfl rfl)
theorem dX1_answers_40 : decode cX1_answers 40 = .ok (.istore 4, 2) := dk_54 4 (dk_at dksX1_answers_1 16 rfl rfl)
theorem dX1_answers_42 : decode cX1_answers 42 = .ok (.iconst 1, 1) := dk_4 (dk_at dksX1_answers_1 18 rfl rfl)
theorem dX1_answers_43 : decode cX1_answers 43 = .ok (.istore 5, 2) := dk_54 5 (dk_at dksX1_answers_1 19 rfl rfl)
theorem dX1_answers_45 : decode cX1_answers 45 = .ok (.iload 5, 2) := dk_21 5 (dk_at dksX1_answers_1 21 rfl rfl)
theorem dX1_answers_47 : decode cX1_answers 47 = .ok (.iload_n 2, 1) := dk_28 (dk_at dksX1_answers_1 23 rfl rfl)
theorem dX1_answers_48 : decode cX1_answers 48 = .ok (.if_icmp .gt 45, 3) := dk_163 0 45 (dk_at dksX1_answers_2 0 rfl rfl)
theorem dX1_answers_51 : decode cX1_answers 51 = .ok (.aload_n 0, 1) := dk_42 (dk_at dksX1_answers_2 3 rfl rfl)
theorem dX1_answers_52 : decode cX1_answers 52 = .ok (.iload_n 3, 1) := dk_29 (dk_at dksX1_answers_2 4 rfl rfl)
theorem dX1_answers_53 : decode cX1_answers 53 = .ok (.ifCond .eq 21, 3) := dk_153 0 21 (dk_at dksX1_answers_2 5 rfl rfl)
theorem dX1_answers_56 : decode cX1_answers 56 = .ok (.iload 5, 2) := dk_21 5 (dk_at dksX1_answers_2 8 rfl rfl)
theorem dX1_answers_58 : decode cX1_answers 58 = .ok (.aload_n 0, 1) := dk_42 (dk_at dksX1_answers_2 10 rfl rfl)
theorem dX1_answers_59 : decode cX1_answers 59 = .ok (.getfield 19, 3) := dk_180 0 19 (dk_at dksX1_answers_2 11 rfl rfl)
theorem dX1_answers_62 : decode cX1_answers 62 = .ok (.getfield 101, 3) := dk_180 0 101 (dk_at dksX1_answers_2 14 rfl rfl)
theorem dX1_answers_65 : decode cX1_answers 65 = .ok (.getfield 160, 3) := dk_180 0 160 (dk_at dksX1_answers_2 17 rfl rfl)
theorem dX1_answers_68 : decode cX1_answers 68 = .ok (.iload_n 1, 1) := dk_27 (dk_at dksX1_answers_2 20 rfl rfl)
theorem dX1_answers_69 : decode cX1_answers 69 = .ok (.iaload, 1) := dk_46 (dk_at dksX1_answers_2 21 rfl rfl)
theorem dX1_answers_70 : decode cX1_answers 70 = .ok (.isub, 1) := dk_100 (dk_at dksX1_answers_2 22 rfl rfl)
theorem dX1_answers_71 : decode cX1_answers 71 = .ok (.goto 5, 3) := dk_167 0 5 (dk_at dksX1_answers_3 0 rfl rfl)
theorem dX1_answers_74 : decode cX1_answers 74 = .ok (.iload 5, 2) := dk_21 5 (dk_at dksX1_answers_3 3 rfl rfl)
theorem dX1_answers_76 : decode cX1_answers 76 = .ok (.iload 5, 2) := dk_21 5 (dk_at dksX1_answers_3 5 rfl rfl)
theorem dX1_answers_78 : decode cX1_answers 78 = .ok (.invokevirtual 343, 3) := dk_182 1 87 (dk_at dksX1_answers_3 7 rfl rfl)
theorem dX1_answers_81 : decode cX1_answers 81 = .ok (.ifCond .eq 6, 3) := dk_153 0 6 (dk_at dksX1_answers_3 10 rfl rfl)
theorem dX1_answers_84 : decode cX1_answers 84 = .ok (.iinc 4 1, 3) := dk_132 4 1 (dk_at dksX1_answers_3 13 rfl rfl)
theorem dX1_answers_87 : decode cX1_answers 87 = .ok (.iinc 5 1, 3) := dk_132 5 1 (dk_at dksX1_answers_3 16 rfl rfl)
theorem dX1_answers_90 : decode cX1_answers 90 = .ok (.goto (-45), 3) := dk_167 255 211 (dk_at dksX1_answers_3 19 rfl rfl)
theorem dX1_answers_93 : decode cX1_answers 93 = .ok (.iload 4, 2) := dk_21 4 (dk_at dksX1_answers_3 22 rfl rfl)
theorem dX1_answers_95 : decode cX1_answers 95 = .ok (.ireturn, 1) := dk_172 (dk_at dksX1_answers_4 0 rfl rfl)
abbrev cX1_round : ByteArray := prog_1_method_43_code
def yX1_round : MethodName := ⟨RX1, "round", "(II)I"⟩
def dkwX1_round_8 : List UInt8 := [184, 0, 172, 100, 172]
abbrev dktX1_round_8 : List UInt8 := dkwX1_round_8 ++ []
def dkwX1_round_7 : List UInt8 := [180, 0, 10, 184, 0, 172, 42, 180, 0, 19, 180, 0, 101, 180, 0, 169, 27, 46, 42, 180, 0, 10]
abbrev dktX1_round_7 : List UInt8 := dkwX1_round_7 ++ dktX1_round_8
def dkwX1_round_6 : List UInt8 := [167, 0, 48, 28, 4, 160, 0, 7, 29, 167, 0, 39, 42, 180, 0, 26, 180, 0, 169, 27, 46, 42]
abbrev dktX1_round_6 : List UInt8 := dkwX1_round_6 ++ dktX1_round_7
def dkwX1_round_5 : List UInt8 := [182, 1, 2, 21, 6, 182, 0, 220, 21, 6, 62, 132, 4, 1, 167, 255, 160, 28, 154, 0, 8, 21, 4]
abbrev dktX1_round_5 : List UInt8 := dkwX1_round_5 ++ dktX1_round_6
def dkwX1_round_4 : List UInt8 := [180, 0, 26, 29, 21, 5, 42, 42, 180, 0, 26, 29, 21, 5, 42, 180, 0, 26, 180, 0, 163, 29, 46]
abbrev dktX1_round_4 : List UInt8 := dkwX1_round_4 ++ dktX1_round_5
def dkwX1_round_3 : List UInt8 := [42, 42, 180, 0, 26, 29, 42, 180, 0, 26, 180, 0, 166, 29, 46, 182, 1, 27, 54, 6, 42, 42]
abbrev dktX1_round_3 : List UInt8 := dkwX1_round_3 ++ dktX1_round_4
def dkwX1_round_2 : List UInt8 := [27, 159, 0, 85, 42, 42, 180, 0, 26, 29, 182, 1, 23, 54, 5, 21, 5, 2, 160, 0, 6, 167, 0, 65]
abbrev dktX1_round_2 : List UInt8 := dkwX1_round_2 ++ dktX1_round_3
def dkwX1_round_1 : List UInt8 := [180, 0, 101, 182, 1, 43, 27, 62, 3, 54, 4, 21, 4, 16, 20, 162, 0, 95, 21, 4, 153, 0, 8, 29]
abbrev dktX1_round_1 : List UInt8 := dkwX1_round_1 ++ dktX1_round_2
def dkwX1_round_0 : List UInt8 := [42, 27, 182, 0, 149, 28, 3, 5, 184, 0, 130, 184, 0, 82, 42, 180, 0, 26, 42, 180, 0, 19]
abbrev dktX1_round_0 : List UInt8 := dkwX1_round_0 ++ dktX1_round_1
theorem dksX1_round_0 : cX1_round.data.toList.drop 0 = dktX1_round_0 := by decide +kernel
theorem dksX1_round_1 : cX1_round.data.toList.drop 22 = dktX1_round_1 := dk_seg dksX1_round_0 22 rfl rfl
theorem dksX1_round_2 : cX1_round.data.toList.drop 46 = dktX1_round_2 := dk_seg dksX1_round_1 24 rfl rfl
theorem dksX1_round_3 : cX1_round.data.toList.drop 70 = dktX1_round_3 := dk_seg dksX1_round_2 24 rfl rfl
theorem dksX1_round_4 : cX1_round.data.toList.drop 92 = dktX1_round_4 := dk_seg dksX1_round_3 22 rfl rfl
theorem dksX1_round_5 : cX1_round.data.toList.drop 115 = dktX1_round_5 := dk_seg dksX1_round_4 23 rfl rfl
theorem dksX1_round_6 : cX1_round.data.toList.drop 138 = dktX1_round_6 := dk_seg dksX1_round_5 23 rfl rfl
theorem dksX1_round_7 : cX1_round.data.toList.drop 160 = dktX1_round_7 := dk_seg dksX1_round_6 22 rfl rfl
theorem dksX1_round_8 : cX1_round.data.toList.drop 182 = dktX1_round_8 := dk_seg dksX1_round_7 22 rfl rfl
theorem dX1_round_0 : decode cX1_round 0 = .ok (.aload_n 0, 1) := dk_42 (dk_at dksX1_round_0 0 rfl rfl)
theorem dX1_round_1 : decode cX1_round 1 = .ok (.iload_n 1, 1) := dk_27 (dk_at dksX1_round_0 1 rfl rfl)
theorem dX1_round_2 : decode cX1_round 2 = .ok (.invokevirtual 149, 3) := dk_182 0 149 (dk_at dksX1_round_0 2 rfl rfl)
theorem dX1_round_5 : decode cX1_round 5 = .ok (.iload_n 2, 1) := dk_28 (dk_at dksX1_round_0 5 rfl rfl)
theorem dX1_round_6 : decode cX1_round 6 = .ok (.iconst 0, 1) := dk_3 (dk_at dksX1_round_0 6 rfl rfl)
theorem dX1_round_7 : decode cX1_round 7 = .ok (.iconst 2, 1) := dk_5 (dk_at dksX1_round_0 7 rfl rfl)
theorem dX1_round_8 : decode cX1_round 8 = .ok (.invokestatic 130, 3) := dk_184 0 130 (dk_at dksX1_round_0 8 rfl rfl)
theorem dX1_round_11 : decode cX1_round 11 = .ok (.invokestatic 82, 3) := dk_184 0 82 (dk_at dksX1_round_0 11 rfl rfl)
theorem dX1_round_14 : decode cX1_round 14 = .ok (.aload_n 0, 1) := dk_42 (dk_at dksX1_round_0 14 rfl rfl)
theorem dX1_round_15 : decode cX1_round 15 = .ok (.getfield 26, 3) := dk_180 0 26 (dk_at dksX1_round_0 15 rfl rfl)
theorem dX1_round_18 : decode cX1_round 18 = .ok (.aload_n 0, 1) := dk_42 (dk_at dksX1_round_0 18 rfl rfl)
theorem dX1_round_19 : decode cX1_round 19 = .ok (.getfield 19, 3) := dk_180 0 19 (dk_at dksX1_round_0 19 rfl rfl)
theorem dX1_round_22 : decode cX1_round 22 = .ok (.getfield 101, 3) := dk_180 0 101 (dk_at dksX1_round_1 0 rfl rfl)
theorem dX1_round_25 : decode cX1_round 25 = .ok (.invokevirtual 299, 3) := dk_182 1 43 (dk_at dksX1_round_1 3 rfl rfl)
theorem dX1_round_28 : decode cX1_round 28 = .ok (.iload_n 1, 1) := dk_27 (dk_at dksX1_round_1 6 rfl rfl)
theorem dX1_round_29 : decode cX1_round 29 = .ok (.istore_n 3, 1) := dk_62 (dk_at dksX1_round_1 7 rfl rfl)
theorem dX1_round_30 : decode cX1_round 30 = .ok (.iconst 0, 1) := dk_3 (dk_at dksX1_round_1 8 rfl rfl)
theorem dX1_round_31 : decode cX1_round 31 = .ok (.istore 4, 2) := dk_54 4 (dk_at dksX1_round_1 9 rfl rfl)
theorem dX1_round_33 : decode cX1_round 33 = .ok (.iload 4, 2) := dk_21 4 (dk_at dksX1_round_1 11 rfl rfl)
theorem dX1_round_35 : decode cX1_round 35 = .ok (.bipush 20, 2) := dk_16 20 (dk_at dksX1_round_1 13 rfl rfl)
theorem dX1_round_37 : decode cX1_round 37 = .ok (.if_icmp .ge 95, 3) := dk_162 0 95 (dk_at dksX1_round_1 15 rfl rfl)
theorem dX1_round_40 : decode cX1_round 40 = .ok (.iload 4, 2) := dk_21 4 (dk_at dksX1_round_1 18 rfl rfl)
theorem dX1_round_42 : decode cX1_round 42 = .ok (.ifCond .eq 8, 3) := dk_153 0 8 (dk_at dksX1_round_1 20 rfl rfl)
theorem dX1_round_45 : decode cX1_round 45 = .ok (.iload_n 3, 1) := dk_29 (dk_at dksX1_round_1 23 rfl rfl)
theorem dX1_round_46 : decode cX1_round 46 = .ok (.iload_n 1, 1) := dk_27 (dk_at dksX1_round_2 0 rfl rfl)
theorem dX1_round_47 : decode cX1_round 47 = .ok (.if_icmp .eq 85, 3) := dk_159 0 85 (dk_at dksX1_round_2 1 rfl rfl)
theorem dX1_round_50 : decode cX1_round 50 = .ok (.aload_n 0, 1) := dk_42 (dk_at dksX1_round_2 4 rfl rfl)
theorem dX1_round_51 : decode cX1_round 51 = .ok (.aload_n 0, 1) := dk_42 (dk_at dksX1_round_2 5 rfl rfl)
theorem dX1_round_52 : decode cX1_round 52 = .ok (.getfield 26, 3) := dk_180 0 26 (dk_at dksX1_round_2 6 rfl rfl)
theorem dX1_round_55 : decode cX1_round 55 = .ok (.iload_n 3, 1) := dk_29 (dk_at dksX1_round_2 9 rfl rfl)
theorem dX1_round_56 : decode cX1_round 56 = .ok (.invokevirtual 279, 3) := dk_182 1 23 (dk_at dksX1_round_2 10 rfl rfl)
theorem dX1_round_59 : decode cX1_round 59 = .ok (.istore 5, 2) := dk_54 5 (dk_at dksX1_round_2 13 rfl rfl)
theorem dX1_round_61 : decode cX1_round 61 = .ok (.iload 5, 2) := dk_21 5 (dk_at dksX1_round_2 15 rfl rfl)
theorem dX1_round_63 : decode cX1_round 63 = .ok (.iconst (-1), 1) := dk_2 (dk_at dksX1_round_2 17 rfl rfl)
theorem dX1_round_64 : decode cX1_round 64 = .ok (.if_icmp .ne 6, 3) := dk_160 0 6 (dk_at dksX1_round_2 18 rfl rfl)
theorem dX1_round_67 : decode cX1_round 67 = .ok (.goto 65, 3) := dk_167 0 65 (dk_at dksX1_round_2 21 rfl rfl)
theorem dX1_round_70 : decode cX1_round 70 = .ok (.aload_n 0, 1) := dk_42 (dk_at dksX1_round_3 0 rfl rfl)
theorem dX1_round_71 : decode cX1_round 71 = .ok (.aload_n 0, 1) := dk_42 (dk_at dksX1_round_3 1 rfl rfl)
theorem dX1_round_72 : decode cX1_round 72 = .ok (.getfield 26, 3) := dk_180 0 26 (dk_at dksX1_round_3 2 rfl rfl)
theorem dX1_round_75 : decode cX1_round 75 = .ok (.iload_n 3, 1) := dk_29 (dk_at dksX1_round_3 5 rfl rfl)
theorem dX1_round_76 : decode cX1_round 76 = .ok (.aload_n 0, 1) := dk_42 (dk_at dksX1_round_3 6 rfl rfl)
theorem dX1_round_77 : decode cX1_round 77 = .ok (.getfield 26, 3) := dk_180 0 26 (dk_at dksX1_round_3 7 rfl rfl)
theorem dX1_round_80 : decode cX1_round 80 = .ok (.getfield 166, 3) := dk_180 0 166 (dk_at dksX1_round_3 10 rfl rfl)
theorem dX1_round_83 : decode cX1_round 83 = .ok (.iload_n 3, 1) := dk_29 (dk_at dksX1_round_3 13 rfl rfl)
theorem dX1_round_84 : decode cX1_round 84 = .ok (.iaload, 1) := dk_46 (dk_at dksX1_round_3 14 rfl rfl)
theorem dX1_round_85 : decode cX1_round 85 = .ok (.invokevirtual 283, 3) := dk_182 1 27 (dk_at dksX1_round_3 15 rfl rfl)
theorem dX1_round_88 : decode cX1_round 88 = .ok (.istore 6, 2) := dk_54 6 (dk_at dksX1_round_3 18 rfl rfl)
theorem dX1_round_90 : decode cX1_round 90 = .ok (.aload_n 0, 1) := dk_42 (dk_at dksX1_round_3 20 rfl rfl)
theorem dX1_round_91 : decode cX1_round 91 = .ok (.aload_n 0, 1) := dk_42 (dk_at dksX1_round_3 21 rfl rfl)
theorem dX1_round_92 : decode cX1_round 92 = .ok (.getfield 26, 3) := dk_180 0 26 (dk_at dksX1_round_4 0 rfl rfl)
theorem dX1_round_95 : decode cX1_round 95 = .ok (.iload_n 3, 1) := dk_29 (dk_at dksX1_round_4 3 rfl rfl)
theorem dX1_round_96 : decode cX1_round 96 = .ok (.iload 5, 2) := dk_21 5 (dk_at dksX1_round_4 4 rfl rfl)
theorem dX1_round_98 : decode cX1_round 98 = .ok (.aload_n 0, 1) := dk_42 (dk_at dksX1_round_4 6 rfl rfl)
theorem dX1_round_99 : decode cX1_round 99 = .ok (.aload_n 0, 1) := dk_42 (dk_at dksX1_round_4 7 rfl rfl)
theorem dX1_round_100 : decode cX1_round 100 = .ok (.getfield 26, 3) := dk_180 0 26 (dk_at dksX1_round_4 8 rfl rfl)
theorem dX1_round_103 : decode cX1_round 103 = .ok (.iload_n 3, 1) := dk_29 (dk_at dksX1_round_4 11 rfl rfl)
theorem dX1_round_104 : decode cX1_round 104 = .ok (.iload 5, 2) := dk_21 5 (dk_at dksX1_round_4 12 rfl rfl)
theorem dX1_round_106 : decode cX1_round 106 = .ok (.aload_n 0, 1) := dk_42 (dk_at dksX1_round_4 14 rfl rfl)
theorem dX1_round_107 : decode cX1_round 107 = .ok (.getfield 26, 3) := dk_180 0 26 (dk_at dksX1_round_4 15 rfl rfl)
theorem dX1_round_110 : decode cX1_round 110 = .ok (.getfield 163, 3) := dk_180 0 163 (dk_at dksX1_round_4 18 rfl rfl)
theorem dX1_round_113 : decode cX1_round 113 = .ok (.iload_n 3, 1) := dk_29 (dk_at dksX1_round_4 21 rfl rfl)
theorem dX1_round_114 : decode cX1_round 114 = .ok (.iaload, 1) := dk_46 (dk_at dksX1_round_4 22 rfl rfl)
theorem dX1_round_115 : decode cX1_round 115 = .ok (.invokevirtual 258, 3) := dk_182 1 2 (dk_at dksX1_round_5 0 rfl rfl)
theorem dX1_round_118 : decode cX1_round 118 = .ok (.iload 6, 2) := dk_21 6 (dk_at dksX1_round_5 3 rfl rfl)
theorem dX1_round_120 : decode cX1_round 120 = .ok (.invokevirtual 220, 3) := dk_182 0 220 (dk_at dksX1_round_5 5 rfl rfl)
theorem dX1_round_123 : decode cX1_round 123 = .ok (.iload 6, 2) := dk_21 6 (dk_at dksX1_round_5 8 rfl rfl)
theorem dX1_round_125 : decode cX1_round 125 = .ok (.istore_n 3, 1) := dk_62 (dk_at dksX1_round_5 10 rfl rfl)
theorem dX1_round_126 : decode cX1_round 126 = .ok (.iinc 4 1, 3) := dk_132 4 1 (dk_at dksX1_round_5 11 rfl rfl)
theorem dX1_round_129 : decode cX1_round 129 = .ok (.goto (-96), 3) := dk_167 255 160 (dk_at dksX1_round_5 14 rfl rfl)
theorem dX1_round_132 : decode cX1_round 132 = .ok (.iload_n 2, 1) := dk_28 (dk_at dksX1_round_5 17 rfl rfl)
theorem dX1_round_133 : decode cX1_round 133 = .ok (.ifCond .ne 8, 3) := dk_154 0 8 (dk_at dksX1_round_5 18 rfl rfl)
theorem dX1_round_136 : decode cX1_round 136 = .ok (.iload 4, 2) := dk_21 4 (dk_at dksX1_round_5 21 rfl rfl)
theorem dX1_round_138 : decode cX1_round 138 = .ok (.goto 48, 3) := dk_167 0 48 (dk_at dksX1_round_6 0 rfl rfl)
theorem dX1_round_141 : decode cX1_round 141 = .ok (.iload_n 2, 1) := dk_28 (dk_at dksX1_round_6 3 rfl rfl)
theorem dX1_round_142 : decode cX1_round 142 = .ok (.iconst 1, 1) := dk_4 (dk_at dksX1_round_6 4 rfl rfl)
theorem dX1_round_143 : decode cX1_round 143 = .ok (.if_icmp .ne 7, 3) := dk_160 0 7 (dk_at dksX1_round_6 5 rfl rfl)
theorem dX1_round_146 : decode cX1_round 146 = .ok (.iload_n 3, 1) := dk_29 (dk_at dksX1_round_6 8 rfl rfl)
theorem dX1_round_147 : decode cX1_round 147 = .ok (.goto 39, 3) := dk_167 0 39 (dk_at dksX1_round_6 9 rfl rfl)
theorem dX1_round_150 : decode cX1_round 150 = .ok (.aload_n 0, 1) := dk_42 (dk_at dksX1_round_6 12 rfl rfl)
theorem dX1_round_151 : decode cX1_round 151 = .ok (.getfield 26, 3) := dk_180 0 26 (dk_at dksX1_round_6 13 rfl rfl)
theorem dX1_round_154 : decode cX1_round 154 = .ok (.getfield 169, 3) := dk_180 0 169 (dk_at dksX1_round_6 16 rfl rfl)
theorem dX1_round_157 : decode cX1_round 157 = .ok (.iload_n 1, 1) := dk_27 (dk_at dksX1_round_6 19 rfl rfl)
theorem dX1_round_158 : decode cX1_round 158 = .ok (.iaload, 1) := dk_46 (dk_at dksX1_round_6 20 rfl rfl)
theorem dX1_round_159 : decode cX1_round 159 = .ok (.aload_n 0, 1) := dk_42 (dk_at dksX1_round_6 21 rfl rfl)
theorem dX1_round_160 : decode cX1_round 160 = .ok (.getfield 10, 3) := dk_180 0 10 (dk_at dksX1_round_7 0 rfl rfl)
theorem dX1_round_163 : decode cX1_round 163 = .ok (.invokestatic 172, 3) := dk_184 0 172 (dk_at dksX1_round_7 3 rfl rfl)
theorem dX1_round_166 : decode cX1_round 166 = .ok (.aload_n 0, 1) := dk_42 (dk_at dksX1_round_7 6 rfl rfl)
theorem dX1_round_167 : decode cX1_round 167 = .ok (.getfield 19, 3) := dk_180 0 19 (dk_at dksX1_round_7 7 rfl rfl)
theorem dX1_round_170 : decode cX1_round 170 = .ok (.getfield 101, 3) := dk_180 0 101 (dk_at dksX1_round_7 10 rfl rfl)
theorem dX1_round_173 : decode cX1_round 173 = .ok (.getfield 169, 3) := dk_180 0 169 (dk_at dksX1_round_7 13 rfl rfl)
theorem dX1_round_176 : decode cX1_round 176 = .ok (.iload_n 1, 1) := dk_27 (dk_at dksX1_round_7 16 rfl rfl)
theorem dX1_round_177 : decode cX1_round 177 = .ok (.iaload, 1) := dk_46 (dk_at dksX1_round_7 17 rfl rfl)
theorem dX1_round_178 : decode cX1_round 178 = .ok (.aload_n 0, 1) := dk_42 (dk_at dksX1_round_7 18 rfl rfl)
theorem dX1_round_179 : decode cX1_round 179 = .ok (.getfield 10, 3) := dk_180 0 10 (dk_at dksX1_round_7 19 rfl rfl)
theorem dX1_round_182 : decode cX1_round 182 = .ok (.invokestatic 172, 3) := dk_184 0 172 (dk_at dksX1_round_8 0 rfl rfl)
theorem dX1_round_185 : decode cX1_round 185 = .ok (.isub, 1) := dk_100 (dk_at dksX1_round_8 3 rfl rfl)
theorem dX1_round_186 : decode cX1_round 186 = .ok (.ireturn, 1) := dk_172 (dk_at dksX1_round_8 4 rfl rfl)
abbrev cX1_days : ByteArray := prog_1_method_45_code
def yX1_days : MethodName := ⟨RX1, "days", "(I)I"⟩
def dkwX1_days_6 : List UInt8 := [167, 255, 139, 29, 172]
abbrev dktX1_days_6 : List UInt8 := dkwX1_days_6 ++ []
def dkwX1_days_5 : List UInt8 := [182, 1, 27, 182, 0, 223, 132, 3, 1, 132, 5, 1, 167, 255, 159, 42, 44, 182, 1, 95, 132, 4, 1]
abbrev dktX1_days_5 : List UInt8 := dkwX1_days_5 ++ dktX1_days_6
def dkwX1_days_4 : List UInt8 := [21, 6, 44, 180, 0, 163, 21, 5, 46, 182, 1, 2, 42, 44, 21, 5, 44, 180, 0, 166, 21, 5, 46]
abbrev dktX1_days_4 : List UInt8 := dkwX1_days_4 ++ dktX1_days_5
def dkwX1_days_3 : List UInt8 := [167, 0, 4, 2, 54, 6, 21, 6, 2, 160, 0, 6, 167, 0, 44, 42, 21, 5, 21, 6, 42, 44, 21, 5]
abbrev dktX1_days_3 : List UInt8 := dkwX1_days_3 ++ dktX1_days_4
def dkwX1_days_2 : List UInt8 := [42, 180, 0, 19, 180, 0, 146, 182, 0, 72, 17, 0, 200, 162, 0, 13, 42, 44, 21, 5, 182, 1, 23]
abbrev dktX1_days_2 : List UInt8 := dkwX1_days_2 ++ dktX1_days_3
def dkwX1_days_1 : List UInt8 := [21, 4, 27, 162, 0, 117, 3, 54, 5, 21, 5, 42, 180, 0, 10, 180, 0, 68, 182, 0, 72, 162, 0, 88]
abbrev dktX1_days_1 : List UInt8 := dkwX1_days_1 ++ dktX1_days_2
def dkwX1_days_0 : List UInt8 := [27, 3, 16, 60, 184, 0, 130, 184, 0, 93, 42, 180, 0, 19, 180, 0, 101, 77, 3, 62, 3, 54, 4]
abbrev dktX1_days_0 : List UInt8 := dkwX1_days_0 ++ dktX1_days_1
theorem dksX1_days_0 : cX1_days.data.toList.drop 0 = dktX1_days_0 := by decide +kernel
theorem dksX1_days_1 : cX1_days.data.toList.drop 23 = dktX1_days_1 := dk_seg dksX1_days_0 23 rfl rfl
theorem dksX1_days_2 : cX1_days.data.toList.drop 47 = dktX1_days_2 := dk_seg dksX1_days_1 24 rfl rfl
theorem dksX1_days_3 : cX1_days.data.toList.drop 70 = dktX1_days_3 := dk_seg dksX1_days_2 23 rfl rfl
theorem dksX1_days_4 : cX1_days.data.toList.drop 94 = dktX1_days_4 := dk_seg dksX1_days_3 24 rfl rfl
theorem dksX1_days_5 : cX1_days.data.toList.drop 117 = dktX1_days_5 := dk_seg dksX1_days_4 23 rfl rfl
theorem dksX1_days_6 : cX1_days.data.toList.drop 140 = dktX1_days_6 := dk_seg dksX1_days_5 23 rfl rfl
theorem dX1_days_0 : decode cX1_days 0 = .ok (.iload_n 1, 1) := dk_27 (dk_at dksX1_days_0 0 rfl rfl)
theorem dX1_days_1 : decode cX1_days 1 = .ok (.iconst 0, 1) := dk_3 (dk_at dksX1_days_0 1 rfl rfl)
theorem dX1_days_2 : decode cX1_days 2 = .ok (.bipush 60, 2) := dk_16 60 (dk_at dksX1_days_0 2 rfl rfl)
theorem dX1_days_4 : decode cX1_days 4 = .ok (.invokestatic 130, 3) := dk_184 0 130 (dk_at dksX1_days_0 4 rfl rfl)
theorem dX1_days_7 : decode cX1_days 7 = .ok (.invokestatic 93, 3) := dk_184 0 93 (dk_at dksX1_days_0 7 rfl rfl)
theorem dX1_days_10 : decode cX1_days 10 = .ok (.aload_n 0, 1) := dk_42 (dk_at dksX1_days_0 10 rfl rfl)
theorem dX1_days_11 : decode cX1_days 11 = .ok (.getfield 19, 3) := dk_180 0 19 (dk_at dksX1_days_0 11 rfl rfl)
theorem dX1_days_14 : decode cX1_days 14 = .ok (.getfield 101, 3) := dk_180 0 101 (dk_at dksX1_days_0 14 rfl rfl)
theorem dX1_days_17 : decode cX1_days 17 = .ok (.astore_n 2, 1) := dk_77 (dk_at dksX1_days_0 17 rfl rfl)
theorem dX1_days_18 : decode cX1_days 18 = .ok (.iconst 0, 1) := dk_3 (dk_at dksX1_days_0 18 rfl rfl)
theorem dX1_days_19 : decode cX1_days 19 = .ok (.istore_n 3, 1) := dk_62 (dk_at dksX1_days_0 19 rfl rfl)
theorem dX1_days_20 : decode cX1_days 20 = .ok (.iconst 0, 1) := dk_3 (dk_at dksX1_days_0 20 rfl rfl)
theorem dX1_days_21 : decode cX1_days 21 = .ok (.istore 4, 2) := dk_54 4 (dk_at dksX1_days_0 21 rfl rfl)
theorem dX1_days_23 : decode cX1_days 23 = .ok (.iload 4, 2) := dk_21 4 (dk_at dksX1_days_1 0 rfl rfl)
theorem dX1_days_25 : decode cX1_days 25 = .ok (.iload_n 1, 1) := dk_27 (dk_at dksX1_days_1 2 rfl rfl)
theorem dX1_days_26 : decode cX1_days 26 = .ok (.if_icmp .ge 117, 3) := dk_162 0 117 (dk_at dksX1_days_1 3 rfl rfl)
theorem dX1_days_29 : decode cX1_days 29 = .ok (.iconst 0, 1) := dk_3 (dk_at dksX1_days_1 6 rfl rfl)
theorem dX1_days_30 : decode cX1_days 30 = .ok (.istore 5, 2) := dk_54 5 (dk_at dksX1_days_1 7 rfl rfl)
theorem dX1_days_32 : decode cX1_days 32 = .ok (.iload 5, 2) := dk_21 5 (dk_at dksX1_days_1 9 rfl rfl)
theorem dX1_days_34 : decode cX1_days 34 = .ok (.aload_n 0, 1) := dk_42 (dk_at dksX1_days_1 11 rfl rfl)
theorem dX1_days_35 : decode cX1_days 35 = .ok (.getfield 10, 3) := dk_180 0 10 (dk_at dksX1_days_1 12 rfl rfl)
theorem dX1_days_38 : decode cX1_days 38 = .ok (.getfield 68, 3) := dk_180 0 68 (dk_at dksX1_days_1 15 rfl rfl)
theorem dX1_days_41 : decode cX1_days 41 = .ok (.invokevirtual 72, 3) := dk_182 0 72 (dk_at dksX1_days_1 18 rfl rfl)
theorem dX1_days_44 : decode cX1_days 44 = .ok (.if_icmp .ge 88, 3) := dk_162 0 88 (dk_at dksX1_days_1 21 rfl rfl)
theorem dX1_days_47 : decode cX1_days 47 = .ok (.aload_n 0, 1) := dk_42 (dk_at dksX1_days_2 0 rfl rfl)
theorem dX1_days_48 : decode cX1_days 48 = .ok (.getfield 19, 3) := dk_180 0 19 (dk_at dksX1_days_2 1 rfl rfl)
theorem dX1_days_51 : decode cX1_days 51 = .ok (.getfield 146, 3) := dk_180 0 146 (dk_at dksX1_days_2 4 rfl rfl)
theorem dX1_days_54 : decode cX1_days 54 = .ok (.invokevirtual 72, 3) := dk_182 0 72 (dk_at dksX1_days_2 7 rfl rfl)
theorem dX1_days_57 : decode cX1_days 57 = .ok (.sipush 200, 3) := dk_17 0 200 (dk_at dksX1_days_2 10 rfl rfl)
theorem dX1_days_60 : decode cX1_days 60 = .ok (.if_icmp .ge 13, 3) := dk_162 0 13 (dk_at dksX1_days_2 13 rfl rfl)
theorem dX1_days_63 : decode cX1_days 63 = .ok (.aload_n 0, 1) := dk_42 (dk_at dksX1_days_2 16 rfl rfl)
theorem dX1_days_64 : decode cX1_days 64 = .ok (.aload_n 2, 1) := dk_44 (dk_at dksX1_days_2 17 rfl rfl)
theorem dX1_days_65 : decode cX1_days 65 = .ok (.iload 5, 2) := dk_21 5 (dk_at dksX1_days_2 18 rfl rfl)
theorem dX1_days_67 : decode cX1_days 67 = .ok (.invokevirtual 279, 3) := dk_182 1 23 (dk_at dksX1_days_2 20 rfl rfl)
theorem dX1_days_70 : decode cX1_days 70 = .ok (.goto 4, 3) := dk_167 0 4 (dk_at dksX1_days_3 0 rfl rfl)
theorem dX1_days_73 : decode cX1_days 73 = .ok (.iconst (-1), 1) := dk_2 (dk_at dksX1_days_3 3 rfl rfl)
theorem dX1_days_74 : decode cX1_days 74 = .ok (.istore 6, 2) := dk_54 6 (dk_at dksX1_days_3 4 rfl rfl)
theorem dX1_days_76 : decode cX1_days 76 = .ok (.iload 6, 2) := dk_21 6 (dk_at dksX1_days_3 6 rfl rfl)
theorem dX1_days_78 : decode cX1_days 78 = .ok (.iconst (-1), 1) := dk_2 (dk_at dksX1_days_3 8 rfl rfl)
theorem dX1_days_79 : decode cX1_days 79 = .ok (.if_icmp .ne 6, 3) := dk_160 0 6 (dk_at dksX1_days_3 9 rfl rfl)
theorem dX1_days_82 : decode cX1_days 82 = .ok (.goto 44, 3) := dk_167 0 44 (dk_at dksX1_days_3 12 rfl rfl)
theorem dX1_days_85 : decode cX1_days 85 = .ok (.aload_n 0, 1) := dk_42 (dk_at dksX1_days_3 15 rfl rfl)
theorem dX1_days_86 : decode cX1_days 86 = .ok (.iload 5, 2) := dk_21 5 (dk_at dksX1_days_3 16 rfl rfl)
theorem dX1_days_88 : decode cX1_days 88 = .ok (.iload 6, 2) := dk_21 6 (dk_at dksX1_days_3 18 rfl rfl)
theorem dX1_days_90 : decode cX1_days 90 = .ok (.aload_n 0, 1) := dk_42 (dk_at dksX1_days_3 20 rfl rfl)
theorem dX1_days_91 : decode cX1_days 91 = .ok (.aload_n 2, 1) := dk_44 (dk_at dksX1_days_3 21 rfl rfl)
theorem dX1_days_92 : decode cX1_days 92 = .ok (.iload 5, 2) := dk_21 5 (dk_at dksX1_days_3 22 rfl rfl)
theorem dX1_days_94 : decode cX1_days 94 = .ok (.iload 6, 2) := dk_21 6 (dk_at dksX1_days_4 0 rfl rfl)
theorem dX1_days_96 : decode cX1_days 96 = .ok (.aload_n 2, 1) := dk_44 (dk_at dksX1_days_4 2 rfl rfl)
theorem dX1_days_97 : decode cX1_days 97 = .ok (.getfield 163, 3) := dk_180 0 163 (dk_at dksX1_days_4 3 rfl rfl)
theorem dX1_days_100 : decode cX1_days 100 = .ok (.iload 5, 2) := dk_21 5 (dk_at dksX1_days_4 6 rfl rfl)
theorem dX1_days_102 : decode cX1_days 102 = .ok (.iaload, 1) := dk_46 (dk_at dksX1_days_4 8 rfl rfl)
theorem dX1_days_103 : decode cX1_days 103 = .ok (.invokevirtual 258, 3) := dk_182 1 2 (dk_at dksX1_days_4 9 rfl rfl)
theorem dX1_days_106 : decode cX1_days 106 = .ok (.aload_n 0, 1) := dk_42 (dk_at dksX1_days_4 12 rfl rfl)
theorem dX1_days_107 : decode cX1_days 107 = .ok (.aload_n 2, 1) := dk_44 (dk_at dksX1_days_4 13 rfl rfl)
theorem dX1_days_108 : decode cX1_days 108 = .ok (.iload 5, 2) := dk_21 5 (dk_at dksX1_days_4 14 rfl rfl)
theorem dX1_days_110 : decode cX1_days 110 = .ok (.aload_n 2, 1) := dk_44 (dk_at dksX1_days_4 16 rfl rfl)
theorem dX1_days_111 : decode cX1_days 111 = .ok (.getfield 166, 3) := dk_180 0 166 (dk_at dksX1_days_4 17 rfl rfl)
theorem dX1_days_114 : decode cX1_days 114 = .ok (.iload 5, 2) := dk_21 5 (dk_at dksX1_days_4 20 rfl rfl)
theorem dX1_days_116 : decode cX1_days 116 = .ok (.iaload, 1) := dk_46 (dk_at dksX1_days_4 22 rfl rfl)
theorem dX1_days_117 : decode cX1_days 117 = .ok (.invokevirtual 283, 3) := dk_182 1 27 (dk_at dksX1_days_5 0 rfl rfl)
theorem dX1_days_120 : decode cX1_days 120 = .ok (.invokevirtual 223, 3) := dk_182 0 223 (dk_at dksX1_days_5 3 rfl rfl)
theorem dX1_days_123 : decode cX1_days 123 = .ok (.iinc 3 1, 3) := dk_132 3 1 (dk_at dksX1_days_5 6 rfl rfl)
theorem dX1_days_126 : decode cX1_days 126 = .ok (.iinc 5 1, 3) := dk_132 5 1 (dk_at dksX1_days_5 9 rfl rfl)
theorem dX1_days_129 : decode cX1_days 129 = .ok (.goto (-97), 3) := dk_167 255 159 (dk_at dksX1_days_5 12 rfl rfl)
theorem dX1_days_132 : decode cX1_days 132 = .ok (.aload_n 0, 1) := dk_42 (dk_at dksX1_days_5 15 rfl rfl)
theorem dX1_days_133 : decode cX1_days 133 = .ok (.aload_n 2, 1) := dk_44 (dk_at dksX1_days_5 16 rfl rfl)
theorem dX1_days_134 : decode cX1_days 134 = .ok (.invokevirtual 351, 3) := dk_182 1 95 (dk_at dksX1_days_5 17 rfl rfl)
theorem dX1_days_137 : decode cX1_days 137 = .ok (.iinc 4 1, 3) := dk_132 4 1 (dk_at dksX1_days_5 20 rfl rfl)
theorem dX1_days_140 : decode cX1_days 140 = .ok (.goto (-117), 3) := dk_167 255 139 (dk_at dksX1_days_6 0 rfl rfl)
theorem dX1_days_143 : decode cX1_days 143 = .ok (.iload_n 3, 1) := dk_29 (dk_at dksX1_days_6 3 rfl rfl)
theorem dX1_days_144 : decode cX1_days 144 = .ok (.ireturn, 1) := dk_172 (dk_at dksX1_days_6 4 rfl rfl)
theorem q76 : (Jvm.Cond.initialized "HeavyGifts") ∈ lw_all := lw_g (lw_at lw_m1 1 rfl) rfl
theorem q114 : (Jvm.Cond.instantiable "HeavyGifts" (19 : Nat)) ∈ lw_all := lw_g (lw_at lw_m1 39 rfl) rfl
theorem q116 : (Jvm.Cond.instanceMethod ({ cls := "HeavyGifts", name := "<init>", desc := "()V" } : Jvm.MethodName)) ∈ lw_all := lw_g (lw_at lw_m1 41 rfl) rfl
theorem q117 : (Jvm.Cond.code ({ cls := "HeavyGifts", name := "<init>", desc := "()V" } : Jvm.MethodName) prog_1_method_1_code (1 : Nat) (Option.none : Option Jvm.ClassFile.FieldType)) ∈ lw_all := lw_g (lw_at lw_m1 42 rfl) rfl
theorem q118 : (Jvm.Cond.methodLink "HeavyGifts" (1 : Nat) ({ cls := "java/lang/Object", name := "<init>", desc := "()V" } : Jvm.MethodName)) ∈ lw_all := lw_g (lw_at lw_m1 43 rfl) rfl
theorem q121 : (Jvm.Cond.classLink "HeavyGifts" (7 : Nat) "HeavyGifts$Town") ∈ lw_all := lw_g (lw_at lw_m1 46 rfl) rfl
theorem q123 : (Jvm.Cond.methodLinkNest "HeavyGifts" (9 : Nat) ({ cls := "HeavyGifts$Town", name := "<init>", desc := "()V" } : Jvm.MethodName) "HeavyGifts") ∈ lw_tbl := lw_at lw_m1 48 rfl
theorem q468 : (Jvm.Cond.fieldLinkNest "HeavyGifts" (68 : Nat) "HeavyGifts$Town" "people" "Ljava/util/ArrayList;" "HeavyGifts") ∈ lw_tbl := lw_at lw_m2 153 rfl
theorem q473 : (Jvm.Cond.fieldLinkNest "HeavyGifts" (185 : Nat) "HeavyGifts$Town" "worths" "[I" "HeavyGifts") ∈ lw_tbl := lw_at lw_m2 158 rfl
theorem q475 : (Jvm.Cond.fieldLinkNest "HeavyGifts" (134 : Nat) "HeavyGifts$Town" "things" "I" "HeavyGifts") ∈ lw_tbl := lw_at lw_m2 160 rfl
theorem q478 : (Jvm.Cond.fieldLinkNest "HeavyGifts" (191 : Nat) "HeavyGifts$Town" "wet" "I" "HeavyGifts") ∈ lw_tbl := lw_at lw_m2 163 rfl
theorem q479 : (Jvm.Cond.fieldLinkNest "HeavyGifts" (141 : Nat) "HeavyGifts$Town" "within" "I" "HeavyGifts") ∈ lw_tbl := lw_at lw_m2 164 rfl
theorem q481 : (Jvm.Cond.fieldLinkNest "HeavyGifts" (137 : Nat) "HeavyGifts$Town" "toAnyone" "Z" "HeavyGifts") ∈ lw_tbl := lw_at lw_m2 166 rfl
theorem q497 : (Jvm.Cond.classLink "HeavyGifts" (16 : Nat) "HeavyGifts$Book") ∈ lw_all := lw_g (lw_at lw_m2 182 rfl) rfl
theorem q499 : (Jvm.Cond.methodLinkNest "HeavyGifts" (18 : Nat) ({ cls := "HeavyGifts$Book", name := "<init>", desc := "()V" } : Jvm.MethodName) "HeavyGifts") ∈ lw_tbl := lw_at lw_m2 184 rfl
theorem q510 : (Jvm.Cond.fieldLinkNest "HeavyGifts" (169 : Nat) "HeavyGifts$State" "has" "[I" "HeavyGifts") ∈ lw_tbl := lw_at lw_m2 195 rfl
theorem q514 : (Jvm.Cond.fieldLinkNest "HeavyGifts" (160 : Nat) "HeavyGifts$State" "sand" "[I" "HeavyGifts") ∈ lw_tbl := lw_at lw_m2 199 rfl
theorem q518 : (Jvm.Cond.fieldLinkNest "HeavyGifts" (163 : Nat) "HeavyGifts$State" "owes" "[I" "HeavyGifts") ∈ lw_tbl := lw_at lw_m2 203 rfl
theorem q522 : (Jvm.Cond.fieldLinkNest "HeavyGifts" (166 : Nat) "HeavyGifts$State" "to" "[I" "HeavyGifts") ∈ lw_tbl := lw_at lw_m2 207 rfl
theorem q525 : (Jvm.Cond.fieldLinkNest "HeavyGifts" (182 : Nat) "HeavyGifts$State" "weights" "[I" "HeavyGifts") ∈ lw_tbl := lw_at lw_m2 210 rfl
theorem q527 : (Jvm.Cond.fieldLinkNest "HeavyGifts" (143 : Nat) "HeavyGifts$State" "day" "I" "HeavyGifts") ∈ lw_tbl := lw_at lw_m2 212 rfl
theorem q544 : (Jvm.Cond.fieldLinkNest "HeavyGifts" (101 : Nat) "HeavyGifts$Book" "state" "LHeavyGifts$State;" "HeavyGifts") ∈ lw_tbl := lw_at lw_m2 229 rfl
theorem q546 : (Jvm.Cond.fieldLinkNest "HeavyGifts" (146 : Nat) "HeavyGifts$Book" "gifts" "Ljava/util/ArrayList;" "HeavyGifts") ∈ lw_tbl := lw_at lw_m2 231 rfl
theorem q548 : (Jvm.Cond.fieldLinkNest "HeavyGifts" (112 : Nat) "HeavyGifts$Book" "refused" "[I" "HeavyGifts") ∈ lw_tbl := lw_at lw_m2 233 rfl
theorem q556 : (Jvm.Cond.classLink "HeavyGifts" (23 : Nat) "HeavyGifts$State") ∈ lw_all := lw_g (lw_at lw_m3 1 rfl) rfl
theorem q557 : (Jvm.Cond.methodLinkNest "HeavyGifts" (25 : Nat) ({ cls := "HeavyGifts$State", name := "<init>", desc := "()V" } : Jvm.MethodName) "HeavyGifts") ∈ lw_tbl := lw_at lw_m3 2 rfl
theorem q559 : (Jvm.Cond.fieldLink "HeavyGifts" (10 : Nat) "HeavyGifts" "town" "LHeavyGifts$Town;") ∈ lw_all := lw_g (lw_at lw_m3 4 rfl) rfl
theorem q560 : (Jvm.Cond.fieldLink "HeavyGifts" (19 : Nat) "HeavyGifts" "book" "LHeavyGifts$Book;") ∈ lw_all := lw_g (lw_at lw_m3 5 rfl) rfl
theorem q561 : (Jvm.Cond.fieldLink "HeavyGifts" (26 : Nat) "HeavyGifts" "apart" "LHeavyGifts$State;") ∈ lw_all := lw_g (lw_at lw_m3 6 rfl) rfl
theorem q562 : (Jvm.Cond.fieldLink "HeavyGifts" (30 : Nat) "HeavyGifts" "tape" "[B") ∈ lw_all := lw_g (lw_at lw_m3 7 rfl) rfl
theorem q563 : (Jvm.Cond.fieldLink "HeavyGifts" (86 : Nat) "HeavyGifts" "taped" "I") ∈ lw_all := lw_g (lw_at lw_m3 8 rfl) rfl
theorem q564 : (Jvm.Cond.fieldLink "HeavyGifts" (34 : Nat) "HeavyGifts" "faultPlace" "I") ∈ lw_all := lw_g (lw_at lw_m3 9 rfl) rfl
theorem q565 : (Jvm.Cond.fieldLink "HeavyGifts" (38 : Nat) "HeavyGifts" "below" "[LHeavyGifts$State;") ∈ lw_all := lw_g (lw_at lw_m3 10 rfl) rfl
theorem q566 : (Jvm.Cond.fieldLink "HeavyGifts" (42 : Nat) "HeavyGifts" "order" "[I") ∈ lw_all := lw_g (lw_at lw_m3 11 rfl) rfl
theorem q567 : (Jvm.Cond.fieldLink "HeavyGifts" (46 : Nat) "HeavyGifts" "tried" "[I") ∈ lw_all := lw_g (lw_at lw_m3 12 rfl) rfl
theorem q568 : (Jvm.Cond.fieldLink "HeavyGifts" (124 : Nat) "HeavyGifts" "ordered" "I") ∈ lw_all := lw_g (lw_at lw_m3 13 rfl) rfl
theorem q569 : (Jvm.Cond.fieldLink "HeavyGifts" (296 : Nat) "HeavyGifts" "tries" "I") ∈ lw_all := lw_g (lw_at lw_m3 14 rfl) rfl
theorem q570 : (Jvm.Cond.fieldLink "HeavyGifts" (293 : Nat) "HeavyGifts" "most" "I") ∈ lw_all := lw_g (lw_at lw_m3 15 rfl) rfl
theorem q571 : (Jvm.Cond.fieldLink "HeavyGifts" (49 : Nat) "HeavyGifts" "states" "[LHeavyGifts$State;") ∈ lw_all := lw_g (lw_at lw_m3 16 rfl) rfl
theorem q572 : (Jvm.Cond.fieldLink "HeavyGifts" (52 : Nat) "HeavyGifts" "far" "[I") ∈ lw_all := lw_g (lw_at lw_m3 17 rfl) rfl
theorem q573 : (Jvm.Cond.fieldLink "HeavyGifts" (55 : Nat) "HeavyGifts" "table" "[I") ∈ lw_all := lw_g (lw_at lw_m3 18 rfl) rfl
theorem q574 : (Jvm.Cond.fieldLink "HeavyGifts" (314 : Nat) "HeavyGifts" "many" "I") ∈ lw_all := lw_g (lw_at lw_m3 19 rfl) rfl
theorem q575 : (Jvm.Cond.fieldLink "HeavyGifts" (317 : Nat) "HeavyGifts" "isSpent" "Z") ∈ lw_all := lw_g (lw_at lw_m3 20 rfl) rfl
theorem q576 : (Jvm.Cond.fieldLink "HeavyGifts" (58 : Nat) "HeavyGifts" "made" "[J") ∈ lw_all := lw_g (lw_at lw_m3 21 rfl) rfl
theorem q577 : (Jvm.Cond.fieldLink "HeavyGifts" (127 : Nat) "HeavyGifts" "image" "LHeavyGifts$Book;") ∈ lw_all := lw_g (lw_at lw_m3 22 rfl) rfl
theorem q578 : (Jvm.Cond.lays "HeavyGifts" "HeavyGifts" "town" "LHeavyGifts$Town;") ∈ lw_all := lw_g (lw_at lw_m3 23 rfl) rfl
theorem q579 : (Jvm.Cond.soleField "HeavyGifts" "town") ∈ lw_all := lw_g (lw_at lw_m3 24 rfl) rfl
theorem q580 : (Jvm.Cond.lays "HeavyGifts" "HeavyGifts" "book" "LHeavyGifts$Book;") ∈ lw_all := lw_g (lw_at lw_m3 25 rfl) rfl
theorem q581 : (Jvm.Cond.soleField "HeavyGifts" "book") ∈ lw_all := lw_g (lw_at lw_m3 26 rfl) rfl
theorem q582 : (Jvm.Cond.laysFinal "HeavyGifts" "HeavyGifts" "apart" "LHeavyGifts$State;") ∈ lw_all := lw_g (lw_at lw_m3 27 rfl) rfl
theorem q583 : (Jvm.Cond.soleField "HeavyGifts" "apart") ∈ lw_all := lw_g (lw_at lw_m3 28 rfl) rfl
theorem q584 : (Jvm.Cond.laysFinal "HeavyGifts" "HeavyGifts" "tape" "[B") ∈ lw_all := lw_g (lw_at lw_m3 29 rfl) rfl
theorem q585 : (Jvm.Cond.soleField "HeavyGifts" "tape") ∈ lw_all := lw_g (lw_at lw_m3 30 rfl) rfl
theorem q586 : (Jvm.Cond.lays "HeavyGifts" "HeavyGifts" "taped" "I") ∈ lw_all := lw_g (lw_at lw_m3 31 rfl) rfl
theorem q587 : (Jvm.Cond.soleField "HeavyGifts" "taped") ∈ lw_all := lw_g (lw_at lw_m3 32 rfl) rfl
theorem q588 : (Jvm.Cond.lays "HeavyGifts" "HeavyGifts" "faultPlace" "I") ∈ lw_all := lw_g (lw_at lw_m3 33 rfl) rfl
theorem q589 : (Jvm.Cond.soleField "HeavyGifts" "faultPlace") ∈ lw_all := lw_g (lw_at lw_m3 34 rfl) rfl
theorem q590 : (Jvm.Cond.laysFinal "HeavyGifts" "HeavyGifts" "below" "[LHeavyGifts$State;") ∈ lw_all := lw_g (lw_at lw_m3 35 rfl) rfl
theorem q591 : (Jvm.Cond.soleField "HeavyGifts" "below") ∈ lw_all := lw_g (lw_at lw_m3 36 rfl) rfl
theorem q592 : (Jvm.Cond.laysFinal "HeavyGifts" "HeavyGifts" "order" "[I") ∈ lw_all := lw_g (lw_at lw_m3 37 rfl) rfl
theorem q593 : (Jvm.Cond.soleField "HeavyGifts" "order") ∈ lw_all := lw_g (lw_at lw_m3 38 rfl) rfl
theorem q594 : (Jvm.Cond.laysFinal "HeavyGifts" "HeavyGifts" "tried" "[I") ∈ lw_all := lw_g (lw_at lw_m3 39 rfl) rfl
theorem q595 : (Jvm.Cond.soleField "HeavyGifts" "tried") ∈ lw_all := lw_g (lw_at lw_m3 40 rfl) rfl
theorem q596 : (Jvm.Cond.lays "HeavyGifts" "HeavyGifts" "ordered" "I") ∈ lw_all := lw_g (lw_at lw_m3 41 rfl) rfl
theorem q597 : (Jvm.Cond.soleField "HeavyGifts" "ordered") ∈ lw_all := lw_g (lw_at lw_m3 42 rfl) rfl
theorem q598 : (Jvm.Cond.lays "HeavyGifts" "HeavyGifts" "tries" "I") ∈ lw_all := lw_g (lw_at lw_m3 43 rfl) rfl
theorem q599 : (Jvm.Cond.soleField "HeavyGifts" "tries") ∈ lw_all := lw_g (lw_at lw_m3 44 rfl) rfl
theorem q600 : (Jvm.Cond.lays "HeavyGifts" "HeavyGifts" "most" "I") ∈ lw_all := lw_g (lw_at lw_m3 45 rfl) rfl
theorem q601 : (Jvm.Cond.soleField "HeavyGifts" "most") ∈ lw_all := lw_g (lw_at lw_m3 46 rfl) rfl
theorem q602 : (Jvm.Cond.laysFinal "HeavyGifts" "HeavyGifts" "states" "[LHeavyGifts$State;") ∈ lw_all := lw_g (lw_at lw_m3 47 rfl) rfl
theorem q603 : (Jvm.Cond.soleField "HeavyGifts" "states") ∈ lw_all := lw_g (lw_at lw_m3 48 rfl) rfl
theorem q604 : (Jvm.Cond.laysFinal "HeavyGifts" "HeavyGifts" "far" "[I") ∈ lw_all := lw_g (lw_at lw_m3 49 rfl) rfl
theorem q605 : (Jvm.Cond.soleField "HeavyGifts" "far") ∈ lw_all := lw_g (lw_at lw_m3 50 rfl) rfl
theorem q606 : (Jvm.Cond.laysFinal "HeavyGifts" "HeavyGifts" "table" "[I") ∈ lw_all := lw_g (lw_at lw_m3 51 rfl) rfl
theorem q607 : (Jvm.Cond.soleField "HeavyGifts" "table") ∈ lw_all := lw_g (lw_at lw_m3 52 rfl) rfl
theorem q608 : (Jvm.Cond.lays "HeavyGifts" "HeavyGifts" "many" "I") ∈ lw_all := lw_g (lw_at lw_m3 53 rfl) rfl
theorem q609 : (Jvm.Cond.soleField "HeavyGifts" "many") ∈ lw_all := lw_g (lw_at lw_m3 54 rfl) rfl
theorem q610 : (Jvm.Cond.lays "HeavyGifts" "HeavyGifts" "isSpent" "Z") ∈ lw_all := lw_g (lw_at lw_m3 55 rfl) rfl
theorem q611 : (Jvm.Cond.soleField "HeavyGifts" "isSpent") ∈ lw_all := lw_g (lw_at lw_m3 56 rfl) rfl
theorem q612 : (Jvm.Cond.laysFinal "HeavyGifts" "HeavyGifts" "made" "[J") ∈ lw_all := lw_g (lw_at lw_m3 57 rfl) rfl
theorem q613 : (Jvm.Cond.soleField "HeavyGifts" "made") ∈ lw_all := lw_g (lw_at lw_m3 58 rfl) rfl
theorem q614 : (Jvm.Cond.lays "HeavyGifts" "HeavyGifts" "image" "LHeavyGifts$Book;") ∈ lw_all := lw_g (lw_at lw_m3 59 rfl) rfl
theorem q615 : (Jvm.Cond.soleField "HeavyGifts" "image") ∈ lw_all := lw_g (lw_at lw_m3 60 rfl) rfl
theorem q616 : (Jvm.Cond.superclass "HeavyGifts" "java/lang/Object") ∈ lw_all := lw_g (lw_at lw_m3 61 rfl) rfl
theorem q619 : (Jvm.Cond.instanceMethod ({ cls := "HeavyGifts", name := "feed", desc := "(IIIII)I" } : Jvm.MethodName)) ∈ lw_all := lw_g (lw_at lw_m3 64 rfl) rfl
theorem q620 : (Jvm.Cond.selects "HeavyGifts" ({ cls := "HeavyGifts", name := "feed", desc := "(IIIII)I" } : Jvm.MethodName) ({ cls := "HeavyGifts", name := "feed", desc := "(IIIII)I" } : Jvm.MethodName)) ∈ lw_all := lw_g (lw_at lw_m3 65 rfl) rfl
theorem q621 : (Jvm.Cond.code ({ cls := "HeavyGifts", name := "feed", desc := "(IIIII)I" } : Jvm.MethodName) prog_1_method_7_code (6 : Nat) (Option.some Jvm.ClassFile.FieldType.int)) ∈ lw_all := lw_g (lw_at lw_m3 66 rfl) rfl
theorem q622 : (Jvm.Cond.methodLink "HeavyGifts" (89 : Nat) ({ cls := "HeavyGifts", name := "lay", desc := "(I)V" } : Jvm.MethodName)) ∈ lw_all := lw_g (lw_at lw_m3 67 rfl) rfl
theorem q623 : (Jvm.Cond.privateMethod ({ cls := "HeavyGifts", name := "lay", desc := "(I)V" } : Jvm.MethodName)) ∈ lw_tbl := lw_at lw_m3 68 rfl
theorem q624 : (Jvm.Cond.instanceMethod ({ cls := "HeavyGifts", name := "lay", desc := "(I)V" } : Jvm.MethodName)) ∈ lw_all := lw_g (lw_at lw_m3 69 rfl) rfl
theorem q625 : (Jvm.Cond.code ({ cls := "HeavyGifts", name := "lay", desc := "(I)V" } : Jvm.MethodName) prog_1_method_8_code (3 : Nat) (Option.none : Option Jvm.ClassFile.FieldType)) ∈ lw_all := lw_g (lw_at lw_m3 70 rfl) rfl
theorem q627 : (Jvm.Cond.instanceMethod ({ cls := "HeavyGifts", name := "fault", desc := "()I" } : Jvm.MethodName)) ∈ lw_all := lw_g (lw_at lw_m3 72 rfl) rfl
theorem q628 : (Jvm.Cond.selects "HeavyGifts" ({ cls := "HeavyGifts", name := "fault", desc := "()I" } : Jvm.MethodName) ({ cls := "HeavyGifts", name := "fault", desc := "()I" } : Jvm.MethodName)) ∈ lw_all := lw_g (lw_at lw_m3 73 rfl) rfl
theorem q629 : (Jvm.Cond.code ({ cls := "HeavyGifts", name := "fault", desc := "()I" } : Jvm.MethodName) prog_1_method_10_code (1 : Nat) (Option.some Jvm.ClassFile.FieldType.int)) ∈ lw_all := lw_g (lw_at lw_m3 74 rfl) rfl
theorem q631 : (Jvm.Cond.instanceMethod ({ cls := "HeavyGifts", name := "judge", desc := "(IIII)I" } : Jvm.MethodName)) ∈ lw_all := lw_g (lw_at lw_m3 76 rfl) rfl
theorem q632 : (Jvm.Cond.selects "HeavyGifts" ({ cls := "HeavyGifts", name := "judge", desc := "(IIII)I" } : Jvm.MethodName) ({ cls := "HeavyGifts", name := "judge", desc := "(IIII)I" } : Jvm.MethodName)) ∈ lw_all := lw_g (lw_at lw_m3 77 rfl) rfl
theorem q633 : (Jvm.Cond.code ({ cls := "HeavyGifts", name := "judge", desc := "(IIII)I" } : Jvm.MethodName) prog_1_method_15_code (5 : Nat) (Option.some Jvm.ClassFile.FieldType.int)) ∈ lw_all := lw_g (lw_at lw_m3 78 rfl) rfl
theorem q634 : (Jvm.Cond.methodLink "HeavyGifts" (203 : Nat) ({ cls := "HeavyGifts", name := "trouble", desc := "(IIII)I" } : Jvm.MethodName)) ∈ lw_all := lw_g (lw_at lw_m3 79 rfl) rfl
theorem q635 : (Jvm.Cond.privateMethod ({ cls := "HeavyGifts", name := "trouble", desc := "(IIII)I" } : Jvm.MethodName)) ∈ lw_tbl := lw_at lw_m3 80 rfl
theorem q636 : (Jvm.Cond.instanceMethod ({ cls := "HeavyGifts", name := "trouble", desc := "(IIII)I" } : Jvm.MethodName)) ∈ lw_all := lw_g (lw_at lw_m3 81 rfl) rfl
theorem q637 : (Jvm.Cond.code ({ cls := "HeavyGifts", name := "trouble", desc := "(IIII)I" } : Jvm.MethodName) prog_1_method_14_code (7 : Nat) (Option.some Jvm.ClassFile.FieldType.int)) ∈ lw_all := lw_g (lw_at lw_m3 82 rfl) rfl
theorem q638 : (Jvm.Cond.methodLink "HeavyGifts" (78 : Nat) ({ cls := "HeavyGifts", name := "isPerson", desc := "(I)Z" } : Jvm.MethodName)) ∈ lw_all := lw_g (lw_at lw_m3 83 rfl) rfl
theorem q639 : (Jvm.Cond.privateMethod ({ cls := "HeavyGifts", name := "isPerson", desc := "(I)Z" } : Jvm.MethodName)) ∈ lw_tbl := lw_at lw_m3 84 rfl
theorem q640 : (Jvm.Cond.instanceMethod ({ cls := "HeavyGifts", name := "isPerson", desc := "(I)Z" } : Jvm.MethodName)) ∈ lw_all := lw_g (lw_at lw_m3 85 rfl) rfl
theorem q641 : (Jvm.Cond.code ({ cls := "HeavyGifts", name := "isPerson", desc := "(I)Z" } : Jvm.MethodName) prog_1_method_5_code (2 : Nat) (Option.some Jvm.ClassFile.FieldType.boolean)) ∈ lw_all := lw_g (lw_at lw_m3 86 rfl) rfl
theorem q642 : (Jvm.Cond.methodLink "HeavyGifts" (72 : Nat) ({ cls := "java/util/ArrayList", name := "size", desc := "()I" } : Jvm.MethodName)) ∈ lw_all := lw_g (lw_at lw_m3 87 rfl) rfl
theorem q646 : (Jvm.Cond.methodLink "HeavyGifts" (194 : Nat) ({ cls := "HeavyGifts$Town", name := "all", desc := "()I" } : Jvm.MethodName)) ∈ lw_all := lw_g (lw_at lw_m3 91 rfl) rfl
theorem q650 : (Jvm.Cond.methodLink "HeavyGifts" (178 : Nat) ({ cls := "HeavyGifts$State", name := "weight", desc := "(I)I" } : Jvm.MethodName)) ∈ lw_all := lw_g (lw_at lw_m3 95 rfl) rfl
theorem q654 : (Jvm.Cond.methodLink "HeavyGifts" (197 : Nat) ({ cls := "java/lang/Math", name := "max", desc := "(II)I" } : Jvm.MethodName)) ∈ lw_all := lw_g (lw_at lw_m3 99 rfl) rfl
theorem q656 : (Jvm.Cond.instanceMethod ({ cls := "HeavyGifts", name := "give", desc := "(IIII)I" } : Jvm.MethodName)) ∈ lw_all := lw_g (lw_at lw_m3 101 rfl) rfl
theorem q657 : (Jvm.Cond.selects "HeavyGifts" ({ cls := "HeavyGifts", name := "give", desc := "(IIII)I" } : Jvm.MethodName) ({ cls := "HeavyGifts", name := "give", desc := "(IIII)I" } : Jvm.MethodName)) ∈ lw_all := lw_g (lw_at lw_m3 102 rfl) rfl
theorem q658 : (Jvm.Cond.code ({ cls := "HeavyGifts", name := "give", desc := "(IIII)I" } : Jvm.MethodName) prog_1_method_18_code (6 : Nat) (Option.some Jvm.ClassFile.FieldType.int)) ∈ lw_all := lw_g (lw_at lw_m3 103 rfl) rfl
theorem q659 : (Jvm.Cond.methodLink "HeavyGifts" (223 : Nat) ({ cls := "HeavyGifts", name := "does", desc := "(IIII)V" } : Jvm.MethodName)) ∈ lw_all := lw_g (lw_at lw_m3 104 rfl) rfl
theorem q660 : (Jvm.Cond.privateMethod ({ cls := "HeavyGifts", name := "does", desc := "(IIII)V" } : Jvm.MethodName)) ∈ lw_tbl := lw_at lw_m3 105 rfl
theorem q661 : (Jvm.Cond.instanceMethod ({ cls := "HeavyGifts", name := "does", desc := "(IIII)V" } : Jvm.MethodName)) ∈ lw_all := lw_g (lw_at lw_m3 106 rfl) rfl
theorem q662 : (Jvm.Cond.code ({ cls := "HeavyGifts", name := "does", desc := "(IIII)V" } : Jvm.MethodName) prog_1_method_17_code (5 : Nat) (Option.none : Option Jvm.ClassFile.FieldType)) ∈ lw_all := lw_g (lw_at lw_m3 107 rfl) rfl
theorem q663 : (Jvm.Cond.classLink "HeavyGifts" (211 : Nat) "HeavyGifts$Gift") ∈ lw_all := lw_g (lw_at lw_m3 108 rfl) rfl
theorem q665 : (Jvm.Cond.methodLink "HeavyGifts" (213 : Nat) ({ cls := "HeavyGifts$Gift", name := "<init>", desc := "(LHeavyGifts$State;IIII)V" } : Jvm.MethodName)) ∈ lw_all := lw_g (lw_at lw_m3 110 rfl) rfl
theorem q671 : (Jvm.Cond.fieldLinkNest "HeavyGifts" (241 : Nat) "HeavyGifts$Gift" "by" "I" "HeavyGifts") ∈ lw_tbl := lw_at lw_m3 116 rfl
theorem q673 : (Jvm.Cond.fieldLinkNest "HeavyGifts" (236 : Nat) "HeavyGifts$Gift" "set" "I" "HeavyGifts") ∈ lw_tbl := lw_at lw_m3 118 rfl
theorem q675 : (Jvm.Cond.fieldLinkNest "HeavyGifts" (239 : Nat) "HeavyGifts$Gift" "sand" "I" "HeavyGifts") ∈ lw_tbl := lw_at lw_m3 120 rfl
theorem q677 : (Jvm.Cond.fieldLinkNest "HeavyGifts" (233 : Nat) "HeavyGifts$Gift" "other" "I" "HeavyGifts") ∈ lw_tbl := lw_at lw_m3 122 rfl
theorem q679 : (Jvm.Cond.fieldLinkNest "HeavyGifts" (256 : Nat) "HeavyGifts$Gift" "weight" "I" "HeavyGifts") ∈ lw_tbl := lw_at lw_m3 124 rfl
theorem q681 : (Jvm.Cond.fieldLinkNest "HeavyGifts" (244 : Nat) "HeavyGifts$Gift" "owed" "I" "HeavyGifts") ∈ lw_tbl := lw_at lw_m3 126 rfl
theorem q683 : (Jvm.Cond.fieldLinkNest "HeavyGifts" (247 : Nat) "HeavyGifts$Gift" "owedTo" "I" "HeavyGifts") ∈ lw_tbl := lw_at lw_m3 128 rfl
theorem q685 : (Jvm.Cond.fieldLinkNest "HeavyGifts" (250 : Nat) "HeavyGifts$Gift" "otherOwed" "I" "HeavyGifts") ∈ lw_tbl := lw_at lw_m3 130 rfl
theorem q687 : (Jvm.Cond.fieldLinkNest "HeavyGifts" (253 : Nat) "HeavyGifts$Gift" "otherTo" "I" "HeavyGifts") ∈ lw_tbl := lw_at lw_m3 132 rfl
theorem q707 : (Jvm.Cond.methodLink "HeavyGifts" (216 : Nat) ({ cls := "java/util/ArrayList", name := "add", desc := "(Ljava/lang/Object;)Z" } : Jvm.MethodName)) ∈ lw_all := lw_g (lw_at lw_m3 152 rfl) rfl
theorem q732 : (Jvm.Cond.selects "HeavyGifts" ({ cls := "java/lang/Object", name := "getClass", desc := "()Ljava/lang/Class;" } : Jvm.MethodName) ({ cls := "java/lang/Object", name := "getClass", desc := "()Ljava/lang/Class;" } : Jvm.MethodName)) ∈ lw_all := lw_g (lw_at lw_m3 177 rfl) rfl
theorem q758 : (Jvm.Cond.methodLink "HeavyGifts" (220 : Nat) ({ cls := "HeavyGifts", name := "gives", desc := "(LHeavyGifts$State;IIII)V" } : Jvm.MethodName)) ∈ lw_all := lw_g (lw_at lw_m3 203 rfl) rfl
theorem q759 : (Jvm.Cond.privateMethod ({ cls := "HeavyGifts", name := "gives", desc := "(LHeavyGifts$State;IIII)V" } : Jvm.MethodName)) ∈ lw_tbl := lw_at lw_m3 204 rfl
theorem q760 : (Jvm.Cond.instanceMethod ({ cls := "HeavyGifts", name := "gives", desc := "(LHeavyGifts$State;IIII)V" } : Jvm.MethodName)) ∈ lw_all := lw_g (lw_at lw_m3 205 rfl) rfl
theorem q761 : (Jvm.Cond.code ({ cls := "HeavyGifts", name := "gives", desc := "(LHeavyGifts$State;IIII)V" } : Jvm.MethodName) prog_1_method_16_code (7 : Nat) (Option.none : Option Jvm.ClassFile.FieldType)) ∈ lw_all := lw_g (lw_at lw_m3 206 rfl) rfl
theorem q762 : (Jvm.Cond.methodLink "HeavyGifts" (207 : Nat) ({ cls := "HeavyGifts$State", name := "moves", desc := "(IIII)V" } : Jvm.MethodName)) ∈ lw_all := lw_g (lw_at lw_m3 207 rfl) rfl
theorem q767 : (Jvm.Cond.instanceMethod ({ cls := "HeavyGifts", name := "undo", desc := "()I" } : Jvm.MethodName)) ∈ lw_all := lw_g (lw_at lw_m3 212 rfl) rfl
theorem q768 : (Jvm.Cond.selects "HeavyGifts" ({ cls := "HeavyGifts", name := "undo", desc := "()I" } : Jvm.MethodName) ({ cls := "HeavyGifts", name := "undo", desc := "()I" } : Jvm.MethodName)) ∈ lw_all := lw_g (lw_at lw_m3 213 rfl) rfl
theorem q769 : (Jvm.Cond.code ({ cls := "HeavyGifts", name := "undo", desc := "()I" } : Jvm.MethodName) prog_1_method_19_code (3 : Nat) (Option.some Jvm.ClassFile.FieldType.int)) ∈ lw_all := lw_g (lw_at lw_m3 214 rfl) rfl
theorem q770 : (Jvm.Cond.methodLink "HeavyGifts" (226 : Nat) ({ cls := "java/util/ArrayList", name := "isEmpty", desc := "()Z" } : Jvm.MethodName)) ∈ lw_all := lw_g (lw_at lw_m3 215 rfl) rfl
theorem q774 : (Jvm.Cond.methodLink "HeavyGifts" (230 : Nat) ({ cls := "java/util/ArrayList", name := "remove", desc := "(I)Ljava/lang/Object;" } : Jvm.MethodName)) ∈ lw_all := lw_g (lw_at lw_m3 219 rfl) rfl
theorem q790 : (Jvm.Cond.instanceMethod ({ cls := "HeavyGifts", name := "still", desc := "()I" } : Jvm.MethodName)) ∈ lw_all := lw_g (lw_at lw_m3 235 rfl) rfl
theorem q791 : (Jvm.Cond.selects "HeavyGifts" ({ cls := "HeavyGifts", name := "still", desc := "()I" } : Jvm.MethodName) ({ cls := "HeavyGifts", name := "still", desc := "()I" } : Jvm.MethodName)) ∈ lw_all := lw_g (lw_at lw_m3 236 rfl) rfl
theorem q792 : (Jvm.Cond.code ({ cls := "HeavyGifts", name := "still", desc := "()I" } : Jvm.MethodName) prog_1_method_47_code (5 : Nat) (Option.some Jvm.ClassFile.FieldType.int)) ∈ lw_all := lw_g (lw_at lw_m3 237 rfl) rfl
theorem q793 : (Jvm.Cond.methodLink "HeavyGifts" (299 : Nat) ({ cls := "HeavyGifts$State", name := "like", desc := "(LHeavyGifts$State;)V" } : Jvm.MethodName)) ∈ lw_all := lw_g (lw_at lw_m3 238 rfl) rfl
theorem q798 : (Jvm.Cond.methodLink "HeavyGifts" (279 : Nat) ({ cls := "HeavyGifts", name := "chosen", desc := "(LHeavyGifts$State;I)I" } : Jvm.MethodName)) ∈ lw_all := lw_g (lw_at lw_m4 3 rfl) rfl
theorem q799 : (Jvm.Cond.privateMethod ({ cls := "HeavyGifts", name := "chosen", desc := "(LHeavyGifts$State;I)I" } : Jvm.MethodName)) ∈ lw_tbl := lw_at lw_m4 4 rfl
theorem q800 : (Jvm.Cond.instanceMethod ({ cls := "HeavyGifts", name := "chosen", desc := "(LHeavyGifts$State;I)I" } : Jvm.MethodName)) ∈ lw_all := lw_g (lw_at lw_m4 5 rfl) rfl
theorem q801 : (Jvm.Cond.code ({ cls := "HeavyGifts", name := "chosen", desc := "(LHeavyGifts$State;I)I" } : Jvm.MethodName) prog_1_method_24_code (6 : Nat) (Option.some Jvm.ClassFile.FieldType.int)) ∈ lw_all := lw_g (lw_at lw_m4 6 rfl) rfl
theorem q802 : (Jvm.Cond.methodLink "HeavyGifts" (152 : Nat) ({ cls := "java/util/ArrayList", name := "get", desc := "(I)Ljava/lang/Object;" } : Jvm.MethodName)) ∈ lw_all := lw_g (lw_at lw_m4 7 rfl) rfl
theorem q810 : (Jvm.Cond.classLink "HeavyGifts" (156 : Nat) "HeavyGifts$Giver") ∈ lw_all := lw_g (lw_at lw_m4 15 rfl) rfl
theorem q811 : (Jvm.Cond.methodLink "HeavyGifts" (265 : Nat) ({ cls := "HeavyGifts$Giver", name := "isReady", desc := "(I)Z" } : Jvm.MethodName)) ∈ lw_all := lw_g (lw_at lw_m4 16 rfl) rfl
theorem q827 : (Jvm.Cond.methodLink "HeavyGifts" (268 : Nat) ({ cls := "HeavyGifts$Giver", name := "mayTake", desc := "(I)Z" } : Jvm.MethodName)) ∈ lw_all := lw_g (lw_at lw_m4 32 rfl) rfl
theorem q842 : (Jvm.Cond.methodLink "HeavyGifts" (258 : Nat) ({ cls := "HeavyGifts", name := "sandFor", desc := "(LHeavyGifts$State;III)I" } : Jvm.MethodName)) ∈ lw_all := lw_g (lw_at lw_m4 47 rfl) rfl
theorem q843 : (Jvm.Cond.privateMethod ({ cls := "HeavyGifts", name := "sandFor", desc := "(LHeavyGifts$State;III)I" } : Jvm.MethodName)) ∈ lw_tbl := lw_at lw_m4 48 rfl
theorem q844 : (Jvm.Cond.instanceMethod ({ cls := "HeavyGifts", name := "sandFor", desc := "(LHeavyGifts$State;III)I" } : Jvm.MethodName)) ∈ lw_all := lw_g (lw_at lw_m4 49 rfl) rfl
theorem q845 : (Jvm.Cond.code ({ cls := "HeavyGifts", name := "sandFor", desc := "(LHeavyGifts$State;III)I" } : Jvm.MethodName) prog_1_method_21_code (7 : Nat) (Option.some Jvm.ClassFile.FieldType.int)) ∈ lw_all := lw_g (lw_at lw_m4 50 rfl) rfl
theorem q846 : (Jvm.Cond.methodLink "HeavyGifts" (271 : Nat) ({ cls := "HeavyGifts$Giver", name := "isBetter", desc := "(IILHeavyGifts$Town;)Z" } : Jvm.MethodName)) ∈ lw_all := lw_g (lw_at lw_m4 51 rfl) rfl
theorem q868 : (Jvm.Cond.methodLink "HeavyGifts" (262 : Nat) ({ cls := "HeavyGifts", name := "next", desc := "(II)I" } : Jvm.MethodName)) ∈ lw_all := lw_g (lw_at lw_m4 73 rfl) rfl
theorem q869 : (Jvm.Cond.static ({ cls := "HeavyGifts", name := "next", desc := "(II)I" } : Jvm.MethodName)) ∈ lw_all := lw_g (lw_at lw_m4 74 rfl) rfl
theorem q870 : (Jvm.Cond.code ({ cls := "HeavyGifts", name := "next", desc := "(II)I" } : Jvm.MethodName) prog_1_method_22_code (2 : Nat) (Option.some Jvm.ClassFile.FieldType.int)) ∈ lw_all := lw_g (lw_at lw_m4 75 rfl) rfl
theorem q871 : (Jvm.Cond.methodLink "HeavyGifts" (283 : Nat) ({ cls := "HeavyGifts", name := "toWhom", desc := "(LHeavyGifts$State;II)I" } : Jvm.MethodName)) ∈ lw_all := lw_g (lw_at lw_m4 76 rfl) rfl
theorem q872 : (Jvm.Cond.privateMethod ({ cls := "HeavyGifts", name := "toWhom", desc := "(LHeavyGifts$State;II)I" } : Jvm.MethodName)) ∈ lw_tbl := lw_at lw_m4 77 rfl
theorem q873 : (Jvm.Cond.instanceMethod ({ cls := "HeavyGifts", name := "toWhom", desc := "(LHeavyGifts$State;II)I" } : Jvm.MethodName)) ∈ lw_all := lw_g (lw_at lw_m4 78 rfl) rfl
theorem q874 : (Jvm.Cond.code ({ cls := "HeavyGifts", name := "toWhom", desc := "(LHeavyGifts$State;II)I" } : Jvm.MethodName) prog_1_method_25_code (5 : Nat) (Option.some Jvm.ClassFile.FieldType.int)) ∈ lw_all := lw_g (lw_at lw_m4 79 rfl) rfl
theorem q875 : (Jvm.Cond.methodLink "HeavyGifts" (275 : Nat) ({ cls := "HeavyGifts$Giver", name := "likes", desc := "(LHeavyGifts$State;)I" } : Jvm.MethodName)) ∈ lw_all := lw_g (lw_at lw_m4 80 rfl) rfl
theorem q890 : (Jvm.Cond.methodLink "HeavyGifts" (354 : Nat) ({ cls := "HeavyGifts", name := "mayChange", desc := "(LHeavyGifts$State;)Z" } : Jvm.MethodName)) ∈ lw_all := lw_g (lw_at lw_m4 95 rfl) rfl
theorem q891 : (Jvm.Cond.privateMethod ({ cls := "HeavyGifts", name := "mayChange", desc := "(LHeavyGifts$State;)Z" } : Jvm.MethodName)) ∈ lw_tbl := lw_at lw_m4 96 rfl
theorem q892 : (Jvm.Cond.instanceMethod ({ cls := "HeavyGifts", name := "mayChange", desc := "(LHeavyGifts$State;)Z" } : Jvm.MethodName)) ∈ lw_all := lw_g (lw_at lw_m4 97 rfl) rfl
theorem q893 : (Jvm.Cond.code ({ cls := "HeavyGifts", name := "mayChange", desc := "(LHeavyGifts$State;)Z" } : Jvm.MethodName) prog_1_method_46_code (3 : Nat) (Option.some Jvm.ClassFile.FieldType.boolean)) ∈ lw_all := lw_g (lw_at lw_m4 98 rfl) rfl
theorem q894 : (Jvm.Cond.methodLink "HeavyGifts" (351 : Nat) ({ cls := "HeavyGifts", name := "dries", desc := "(LHeavyGifts$State;)V" } : Jvm.MethodName)) ∈ lw_all := lw_g (lw_at lw_m4 99 rfl) rfl
theorem q895 : (Jvm.Cond.privateMethod ({ cls := "HeavyGifts", name := "dries", desc := "(LHeavyGifts$State;)V" } : Jvm.MethodName)) ∈ lw_tbl := lw_at lw_m4 100 rfl
theorem q896 : (Jvm.Cond.instanceMethod ({ cls := "HeavyGifts", name := "dries", desc := "(LHeavyGifts$State;)V" } : Jvm.MethodName)) ∈ lw_all := lw_g (lw_at lw_m4 101 rfl) rfl
theorem q897 : (Jvm.Cond.code ({ cls := "HeavyGifts", name := "dries", desc := "(LHeavyGifts$State;)V" } : Jvm.MethodName) prog_1_method_44_code (3 : Nat) (Option.none : Option Jvm.ClassFile.FieldType)) ∈ lw_all := lw_g (lw_at lw_m4 102 rfl) rfl
theorem q899 : (Jvm.Cond.instanceMethod ({ cls := "HeavyGifts", name := "image", desc := "()V" } : Jvm.MethodName)) ∈ lw_all := lw_g (lw_at lw_m4 104 rfl) rfl
theorem q900 : (Jvm.Cond.selects "HeavyGifts" ({ cls := "HeavyGifts", name := "image", desc := "()V" } : Jvm.MethodName) ({ cls := "HeavyGifts", name := "image", desc := "()V" } : Jvm.MethodName)) ∈ lw_all := lw_g (lw_at lw_m4 105 rfl) rfl
theorem q901 : (Jvm.Cond.code ({ cls := "HeavyGifts", name := "image", desc := "()V" } : Jvm.MethodName) prog_1_method_48_code (1 : Nat) (Option.none : Option Jvm.ClassFile.FieldType)) ∈ lw_all := lw_g (lw_at lw_m4 106 rfl) rfl
theorem q902 : (Jvm.Cond.methodLink "HeavyGifts" (357 : Nat) ({ cls := "HeavyGifts$Book", name := "copy", desc := "()LHeavyGifts$Book;" } : Jvm.MethodName)) ∈ lw_all := lw_g (lw_at lw_m4 107 rfl) rfl
theorem q915 : (Jvm.Cond.instanceMethod ({ cls := "HeavyGifts", name := "restore", desc := "()Z" } : Jvm.MethodName)) ∈ lw_all := lw_g (lw_at lw_m4 120 rfl) rfl
theorem q916 : (Jvm.Cond.selects "HeavyGifts" ({ cls := "HeavyGifts", name := "restore", desc := "()Z" } : Jvm.MethodName) ({ cls := "HeavyGifts", name := "restore", desc := "()Z" } : Jvm.MethodName)) ∈ lw_all := lw_g (lw_at lw_m4 121 rfl) rfl
theorem q917 : (Jvm.Cond.code ({ cls := "HeavyGifts", name := "restore", desc := "()Z" } : Jvm.MethodName) prog_1_method_49_code (1 : Nat) (Option.some Jvm.ClassFile.FieldType.boolean)) ∈ lw_all := lw_g (lw_at lw_m4 122 rfl) rfl
theorem q923 : (Jvm.Cond.instanceMethod ({ cls := "HeavyGifts", name := "town", desc := "(I)I" } : Jvm.MethodName)) ∈ lw_all := lw_g (lw_at lw_m4 128 rfl) rfl
theorem q924 : (Jvm.Cond.selects "HeavyGifts" ({ cls := "HeavyGifts", name := "town", desc := "(I)I" } : Jvm.MethodName) ({ cls := "HeavyGifts", name := "town", desc := "(I)I" } : Jvm.MethodName)) ∈ lw_all := lw_g (lw_at lw_m4 129 rfl) rfl
theorem q925 : (Jvm.Cond.codeWith ({ cls := "HeavyGifts", name := "town", desc := "(I)I" } : Jvm.MethodName) prog_1_method_9_code (4 : Nat) (Option.some Jvm.ClassFile.FieldType.int) [((38 : Nat), (61 : Nat), (64 : Nat), (107 : Nat))]) ∈ lw_all := lw_g (lw_at lw_m4 130 rfl) rfl
theorem q926 : (Jvm.Cond.classLink "HeavyGifts" (107 : Nat) "HeavyGifts$Fault") ∈ lw_all := lw_g (lw_at lw_m4 131 rfl) rfl
theorem q927 : (Jvm.Cond.methodLink "HeavyGifts" (93 : Nat) ({ cls := "HeavyGifts", name := "right", desc := "(Z)V" } : Jvm.MethodName)) ∈ lw_all := lw_g (lw_at lw_m4 132 rfl) rfl
theorem q928 : (Jvm.Cond.static ({ cls := "HeavyGifts", name := "right", desc := "(Z)V" } : Jvm.MethodName)) ∈ lw_all := lw_g (lw_at lw_m4 133 rfl) rfl
theorem q929 : (Jvm.Cond.code ({ cls := "HeavyGifts", name := "right", desc := "(Z)V" } : Jvm.MethodName) prog_1_method_2_code (1 : Nat) (Option.none : Option Jvm.ClassFile.FieldType)) ∈ lw_all := lw_g (lw_at lw_m4 134 rfl) rfl
theorem q930 : (Jvm.Cond.classLink "HeavyGifts" (62 : Nat) "java/lang/IllegalArgumentException") ∈ lw_all := lw_g (lw_at lw_m4 135 rfl) rfl
theorem q931 : (Jvm.Cond.methodLink "HeavyGifts" (64 : Nat) ({ cls := "java/lang/IllegalArgumentException", name := "<init>", desc := "()V" } : Jvm.MethodName)) ∈ lw_all := lw_g (lw_at lw_m4 136 rfl) rfl
theorem q941 : (Jvm.Cond.classLink "HeavyGifts" (96 : Nat) "HeavyGifts$Reader") ∈ lw_all := lw_g (lw_at lw_m4 146 rfl) rfl
theorem q943 : (Jvm.Cond.methodLink "HeavyGifts" (98 : Nat) ({ cls := "HeavyGifts$Reader", name := "<init>", desc := "([BI)V" } : Jvm.MethodName)) ∈ lw_all := lw_g (lw_at lw_m4 148 rfl) rfl
theorem q1024 : (Jvm.Cond.methodLink "HeavyGifts" (104 : Nat) ({ cls := "HeavyGifts$Reader", name := "town", desc := "(LHeavyGifts$State;)LHeavyGifts$Town;" } : Jvm.MethodName)) ∈ lw_all := lw_g (lw_at lw_m4 229 rfl) rfl
theorem q1062 : (Jvm.Cond.fieldLinkNest "HeavyGifts" (115 : Nat) "HeavyGifts$Fault" "kind" "I" "HeavyGifts") ∈ lw_tbl := lw_at lw_m5 27 rfl
theorem q1064 : (Jvm.Cond.fieldLinkNest "HeavyGifts" (109 : Nat) "HeavyGifts$Fault" "place" "I" "HeavyGifts") ∈ lw_tbl := lw_at lw_m5 29 rfl
theorem q1147 : (Jvm.Cond.methodLink "HeavyGifts" (118 : Nat) ({ cls := "java/lang/System", name := "arraycopy", desc := "(Ljava/lang/Object;ILjava/lang/Object;II)V" } : Jvm.MethodName)) ∈ lw_all := lw_g (lw_at lw_m5 112 rfl) rfl
theorem q1153 : (Jvm.Cond.instanceMethod ({ cls := "HeavyGifts", name := "count", desc := "(I)I" } : Jvm.MethodName)) ∈ lw_all := lw_g (lw_at lw_m5 118 rfl) rfl
theorem q1154 : (Jvm.Cond.selects "HeavyGifts" ({ cls := "HeavyGifts", name := "count", desc := "(I)I" } : Jvm.MethodName) ({ cls := "HeavyGifts", name := "count", desc := "(I)I" } : Jvm.MethodName)) ∈ lw_all := lw_g (lw_at lw_m5 119 rfl) rfl
theorem q1155 : (Jvm.Cond.code ({ cls := "HeavyGifts", name := "count", desc := "(I)I" } : Jvm.MethodName) prog_1_method_11_code (2 : Nat) (Option.some Jvm.ClassFile.FieldType.int)) ∈ lw_all := lw_g (lw_at lw_m5 120 rfl) rfl
theorem q1156 : (Jvm.Cond.methodLink "HeavyGifts" (130 : Nat) ({ cls := "HeavyGifts", name := "within", desc := "(III)Z" } : Jvm.MethodName)) ∈ lw_all := lw_g (lw_at lw_m5 121 rfl) rfl
theorem q1157 : (Jvm.Cond.static ({ cls := "HeavyGifts", name := "within", desc := "(III)Z" } : Jvm.MethodName)) ∈ lw_all := lw_g (lw_at lw_m5 122 rfl) rfl
theorem q1158 : (Jvm.Cond.code ({ cls := "HeavyGifts", name := "within", desc := "(III)Z" } : Jvm.MethodName) prog_1_method_4_code (3 : Nat) (Option.some Jvm.ClassFile.FieldType.boolean)) ∈ lw_all := lw_g (lw_at lw_m5 123 rfl) rfl
theorem q1159 : (Jvm.Cond.methodLink "HeavyGifts" (82 : Nat) ({ cls := "HeavyGifts", name := "there", desc := "(Z)V" } : Jvm.MethodName)) ∈ lw_all := lw_g (lw_at lw_m5 124 rfl) rfl
theorem q1160 : (Jvm.Cond.static ({ cls := "HeavyGifts", name := "there", desc := "(Z)V" } : Jvm.MethodName)) ∈ lw_all := lw_g (lw_at lw_m5 125 rfl) rfl
theorem q1161 : (Jvm.Cond.code ({ cls := "HeavyGifts", name := "there", desc := "(Z)V" } : Jvm.MethodName) prog_1_method_3_code (1 : Nat) (Option.none : Option Jvm.ClassFile.FieldType)) ∈ lw_all := lw_g (lw_at lw_m5 126 rfl) rfl
theorem q1162 : (Jvm.Cond.classLink "HeavyGifts" (65 : Nat) "java/util/NoSuchElementException") ∈ lw_all := lw_g (lw_at lw_m5 127 rfl) rfl
theorem q1171 : (Jvm.Cond.methodLink "HeavyGifts" (67 : Nat) ({ cls := "java/util/NoSuchElementException", name := "<init>", desc := "()V" } : Jvm.MethodName)) ∈ lw_all := lw_g (lw_at lw_m5 136 rfl) rfl
theorem q1181 : (Jvm.Cond.instanceMethod ({ cls := "HeavyGifts", name := "person", desc := "(II)I" } : Jvm.MethodName)) ∈ lw_all := lw_g (lw_at lw_m5 146 rfl) rfl
theorem q1182 : (Jvm.Cond.selects "HeavyGifts" ({ cls := "HeavyGifts", name := "person", desc := "(II)I" } : Jvm.MethodName) ({ cls := "HeavyGifts", name := "person", desc := "(II)I" } : Jvm.MethodName)) ∈ lw_all := lw_g (lw_at lw_m5 147 rfl) rfl
theorem q1183 : (Jvm.Cond.code ({ cls := "HeavyGifts", name := "person", desc := "(II)I" } : Jvm.MethodName) prog_1_method_12_code (4 : Nat) (Option.some Jvm.ClassFile.FieldType.int)) ∈ lw_all := lw_g (lw_at lw_m5 148 rfl) rfl
theorem q1184 : (Jvm.Cond.methodLink "HeavyGifts" (149 : Nat) ({ cls := "HeavyGifts", name := "person", desc := "(I)V" } : Jvm.MethodName)) ∈ lw_all := lw_g (lw_at lw_m5 149 rfl) rfl
theorem q1185 : (Jvm.Cond.privateMethod ({ cls := "HeavyGifts", name := "person", desc := "(I)V" } : Jvm.MethodName)) ∈ lw_tbl := lw_at lw_m5 150 rfl
theorem q1186 : (Jvm.Cond.instanceMethod ({ cls := "HeavyGifts", name := "person", desc := "(I)V" } : Jvm.MethodName)) ∈ lw_all := lw_g (lw_at lw_m5 151 rfl) rfl
theorem q1187 : (Jvm.Cond.code ({ cls := "HeavyGifts", name := "person", desc := "(I)V" } : Jvm.MethodName) prog_1_method_6_code (2 : Nat) (Option.none : Option Jvm.ClassFile.FieldType)) ∈ lw_all := lw_g (lw_at lw_m5 152 rfl) rfl
theorem q1188 : (Jvm.Cond.methodLink "HeavyGifts" (158 : Nat) ({ cls := "HeavyGifts$Giver", name := "kind", desc := "()I" } : Jvm.MethodName)) ∈ lw_all := lw_g (lw_at lw_m5 153 rfl) rfl
theorem q1206 : (Jvm.Cond.methodLinkNest "HeavyGifts" (172 : Nat) ({ cls := "HeavyGifts$Least", name := "worth", desc := "(ILHeavyGifts$Town;)I" } : Jvm.MethodName) "HeavyGifts") ∈ lw_tbl := lw_at lw_m5 171 rfl
theorem q1211 : (Jvm.Cond.instanceMethod ({ cls := "HeavyGifts", name := "thing", desc := "(II)I" } : Jvm.MethodName)) ∈ lw_all := lw_g (lw_at lw_m5 176 rfl) rfl
theorem q1212 : (Jvm.Cond.selects "HeavyGifts" ({ cls := "HeavyGifts", name := "thing", desc := "(II)I" } : Jvm.MethodName) ({ cls := "HeavyGifts", name := "thing", desc := "(II)I" } : Jvm.MethodName)) ∈ lw_all := lw_g (lw_at lw_m5 177 rfl) rfl
theorem q1213 : (Jvm.Cond.code ({ cls := "HeavyGifts", name := "thing", desc := "(II)I" } : Jvm.MethodName) prog_1_method_13_code (3 : Nat) (Option.some Jvm.ClassFile.FieldType.int)) ∈ lw_all := lw_g (lw_at lw_m5 178 rfl) rfl
theorem q1214 : (Jvm.Cond.methodLink "HeavyGifts" (188 : Nat) ({ cls := "HeavyGifts$State", name := "owner", desc := "(I)I" } : Jvm.MethodName)) ∈ lw_all := lw_g (lw_at lw_m5 179 rfl) rfl
theorem q1219 : (Jvm.Cond.instanceMethod ({ cls := "HeavyGifts", name := "gift", desc := "(II)I" } : Jvm.MethodName)) ∈ lw_all := lw_g (lw_at lw_m5 184 rfl) rfl
theorem q1220 : (Jvm.Cond.selects "HeavyGifts" ({ cls := "HeavyGifts", name := "gift", desc := "(II)I" } : Jvm.MethodName) ({ cls := "HeavyGifts", name := "gift", desc := "(II)I" } : Jvm.MethodName)) ∈ lw_all := lw_g (lw_at lw_m5 185 rfl) rfl
theorem q1221 : (Jvm.Cond.code ({ cls := "HeavyGifts", name := "gift", desc := "(II)I" } : Jvm.MethodName) prog_1_method_20_code (4 : Nat) (Option.some Jvm.ClassFile.FieldType.int)) ∈ lw_all := lw_g (lw_at lw_m5 186 rfl) rfl
theorem q1226 : (Jvm.Cond.instanceMethod ({ cls := "HeavyGifts", name := "sets", desc := "(I)I" } : Jvm.MethodName)) ∈ lw_all := lw_g (lw_at lw_m5 191 rfl) rfl
theorem q1227 : (Jvm.Cond.selects "HeavyGifts" ({ cls := "HeavyGifts", name := "sets", desc := "(I)I" } : Jvm.MethodName) ({ cls := "HeavyGifts", name := "sets", desc := "(I)I" } : Jvm.MethodName)) ∈ lw_all := lw_g (lw_at lw_m5 192 rfl) rfl
theorem q1228 : (Jvm.Cond.code ({ cls := "HeavyGifts", name := "sets", desc := "(I)I" } : Jvm.MethodName) prog_1_method_23_code (5 : Nat) (Option.some Jvm.ClassFile.FieldType.int)) ∈ lw_all := lw_g (lw_at lw_m5 193 rfl) rfl
theorem q1233 : (Jvm.Cond.instanceMethod ({ cls := "HeavyGifts", name := "choice", desc := "(II)I" } : Jvm.MethodName)) ∈ lw_all := lw_g (lw_at lw_m5 198 rfl) rfl
theorem q1234 : (Jvm.Cond.selects "HeavyGifts" ({ cls := "HeavyGifts", name := "choice", desc := "(II)I" } : Jvm.MethodName) ({ cls := "HeavyGifts", name := "choice", desc := "(II)I" } : Jvm.MethodName)) ∈ lw_all := lw_g (lw_at lw_m5 199 rfl) rfl
theorem q1235 : (Jvm.Cond.code ({ cls := "HeavyGifts", name := "choice", desc := "(II)I" } : Jvm.MethodName) prog_1_method_26_code (5 : Nat) (Option.some Jvm.ClassFile.FieldType.int)) ∈ lw_all := lw_g (lw_at lw_m5 200 rfl) rfl
theorem q1240 : (Jvm.Cond.instanceMethod ({ cls := "HeavyGifts", name := "gap", desc := "(I)I" } : Jvm.MethodName)) ∈ lw_all := lw_g (lw_at lw_m5 205 rfl) rfl
theorem q1241 : (Jvm.Cond.selects "HeavyGifts" ({ cls := "HeavyGifts", name := "gap", desc := "(I)I" } : Jvm.MethodName) ({ cls := "HeavyGifts", name := "gap", desc := "(I)I" } : Jvm.MethodName)) ∈ lw_all := lw_g (lw_at lw_m5 206 rfl) rfl
theorem q1242 : (Jvm.Cond.code ({ cls := "HeavyGifts", name := "gap", desc := "(I)I" } : Jvm.MethodName) prog_1_method_27_code (8 : Nat) (Option.some Jvm.ClassFile.FieldType.int)) ∈ lw_all := lw_g (lw_at lw_m5 207 rfl) rfl
theorem q1243 : (Jvm.Cond.methodLink "HeavyGifts" (287 : Nat) ({ cls := "java/lang/Math", name := "min", desc := "(II)I" } : Jvm.MethodName)) ∈ lw_all := lw_g (lw_at lw_m5 208 rfl) rfl
theorem q1244 : (Jvm.Cond.methodLink "HeavyGifts" (290 : Nat) ({ cls := "java/lang/Math", name := "abs", desc := "(I)I" } : Jvm.MethodName)) ∈ lw_all := lw_g (lw_at lw_m5 209 rfl) rfl
theorem q1251 : (Jvm.Cond.instanceMethod ({ cls := "HeavyGifts", name := "week", desc := "(I)I" } : Jvm.MethodName)) ∈ lw_all := lw_g (lw_at lw_m5 216 rfl) rfl
theorem q1252 : (Jvm.Cond.selects "HeavyGifts" ({ cls := "HeavyGifts", name := "week", desc := "(I)I" } : Jvm.MethodName) ({ cls := "HeavyGifts", name := "week", desc := "(I)I" } : Jvm.MethodName)) ∈ lw_all := lw_g (lw_at lw_m5 217 rfl) rfl
theorem q1253 : (Jvm.Cond.code ({ cls := "HeavyGifts", name := "week", desc := "(I)I" } : Jvm.MethodName) prog_1_method_29_code (4 : Nat) (Option.some Jvm.ClassFile.FieldType.int)) ∈ lw_all := lw_g (lw_at lw_m5 218 rfl) rfl
theorem q1254 : (Jvm.Cond.methodLink "HeavyGifts" (303 : Nat) ({ cls := "HeavyGifts", name := "answer", desc := "(II)Z" } : Jvm.MethodName)) ∈ lw_all := lw_g (lw_at lw_m5 219 rfl) rfl
theorem q1255 : (Jvm.Cond.privateMethod ({ cls := "HeavyGifts", name := "answer", desc := "(II)Z" } : Jvm.MethodName)) ∈ lw_tbl := lw_at lw_m5 220 rfl
theorem q1256 : (Jvm.Cond.instanceMethod ({ cls := "HeavyGifts", name := "answer", desc := "(II)Z" } : Jvm.MethodName)) ∈ lw_all := lw_g (lw_at lw_m5 221 rfl) rfl
theorem q1257 : (Jvm.Cond.code ({ cls := "HeavyGifts", name := "answer", desc := "(II)Z" } : Jvm.MethodName) prog_1_method_28_code (8 : Nat) (Option.some Jvm.ClassFile.FieldType.boolean)) ∈ lw_all := lw_g (lw_at lw_m5 222 rfl) rfl
theorem q1262 : (Jvm.Cond.instanceMethod ({ cls := "HeavyGifts", name := "order", desc := "(I)I" } : Jvm.MethodName)) ∈ lw_all := lw_g (lw_at lw_m5 227 rfl) rfl
theorem q1263 : (Jvm.Cond.selects "HeavyGifts" ({ cls := "HeavyGifts", name := "order", desc := "(I)I" } : Jvm.MethodName) ({ cls := "HeavyGifts", name := "order", desc := "(I)I" } : Jvm.MethodName)) ∈ lw_all := lw_g (lw_at lw_m5 228 rfl) rfl
theorem q1264 : (Jvm.Cond.code ({ cls := "HeavyGifts", name := "order", desc := "(I)I" } : Jvm.MethodName) prog_1_method_30_code (2 : Nat) (Option.some Jvm.ClassFile.FieldType.int)) ∈ lw_all := lw_g (lw_at lw_m5 229 rfl) rfl
theorem q1269 : (Jvm.Cond.instanceMethod ({ cls := "HeavyGifts", name := "get", desc := "(II)I" } : Jvm.MethodName)) ∈ lw_all := lw_g (lw_at lw_m5 234 rfl) rfl
theorem q1270 : (Jvm.Cond.selects "HeavyGifts" ({ cls := "HeavyGifts", name := "get", desc := "(II)I" } : Jvm.MethodName) ({ cls := "HeavyGifts", name := "get", desc := "(II)I" } : Jvm.MethodName)) ∈ lw_all := lw_g (lw_at lw_m5 235 rfl) rfl
theorem q1271 : (Jvm.Cond.code ({ cls := "HeavyGifts", name := "get", desc := "(II)I" } : Jvm.MethodName) prog_1_method_34_code (8 : Nat) (Option.some Jvm.ClassFile.FieldType.int)) ∈ lw_all := lw_g (lw_at lw_m5 236 rfl) rfl
theorem q1272 : (Jvm.Cond.methodLink "HeavyGifts" (320 : Nat) ({ cls := "HeavyGifts", name := "comes", desc := "(LHeavyGifts$State;I)V" } : Jvm.MethodName)) ∈ lw_all := lw_g (lw_at lw_m5 237 rfl) rfl
theorem q1273 : (Jvm.Cond.privateMethod ({ cls := "HeavyGifts", name := "comes", desc := "(LHeavyGifts$State;I)V" } : Jvm.MethodName)) ∈ lw_tbl := lw_at lw_m5 238 rfl
theorem q1274 : (Jvm.Cond.instanceMethod ({ cls := "HeavyGifts", name := "comes", desc := "(LHeavyGifts$State;I)V" } : Jvm.MethodName)) ∈ lw_all := lw_g (lw_at lw_m5 239 rfl) rfl
theorem q1275 : (Jvm.Cond.code ({ cls := "HeavyGifts", name := "comes", desc := "(LHeavyGifts$State;I)V" } : Jvm.MethodName) prog_1_method_31_code (4 : Nat) (Option.none : Option Jvm.ClassFile.FieldType)) ∈ lw_all := lw_g (lw_at lw_m6 0 rfl) rfl
theorem q1276 : (Jvm.Cond.methodLink "HeavyGifts" (307 : Nat) ({ cls := "HeavyGifts$State", name := "spot", desc := "()I" } : Jvm.MethodName)) ∈ lw_all := lw_g (lw_at lw_m6 1 rfl) rfl
theorem q1280 : (Jvm.Cond.methodLink "HeavyGifts" (310 : Nat) ({ cls := "HeavyGifts$State", name := "isLike", desc := "(LHeavyGifts$State;)Z" } : Jvm.MethodName)) ∈ lw_all := lw_g (lw_at lw_m6 5 rfl) rfl
theorem q1284 : (Jvm.Cond.methodLink "HeavyGifts" (327 : Nat) ({ cls := "HeavyGifts", name := "seeks", desc := "(LHeavyGifts$State;II)V" } : Jvm.MethodName)) ∈ lw_all := lw_g (lw_at lw_m6 9 rfl) rfl
theorem q1285 : (Jvm.Cond.privateMethod ({ cls := "HeavyGifts", name := "seeks", desc := "(LHeavyGifts$State;II)V" } : Jvm.MethodName)) ∈ lw_tbl := lw_at lw_m6 10 rfl
theorem q1286 : (Jvm.Cond.instanceMethod ({ cls := "HeavyGifts", name := "seeks", desc := "(LHeavyGifts$State;II)V" } : Jvm.MethodName)) ∈ lw_all := lw_g (lw_at lw_m6 11 rfl) rfl
theorem q1287 : (Jvm.Cond.code ({ cls := "HeavyGifts", name := "seeks", desc := "(LHeavyGifts$State;II)V" } : Jvm.MethodName) prog_1_method_33_code (6 : Nat) (Option.none : Option Jvm.ClassFile.FieldType)) ∈ lw_all := lw_g (lw_at lw_m6 12 rfl) rfl
theorem q1288 : (Jvm.Cond.methodLink "HeavyGifts" (324 : Nat) ({ cls := "HeavyGifts", name := "goes", desc := "(LHeavyGifts$State;IIII)V" } : Jvm.MethodName)) ∈ lw_all := lw_g (lw_at lw_m6 13 rfl) rfl
theorem q1289 : (Jvm.Cond.privateMethod ({ cls := "HeavyGifts", name := "goes", desc := "(LHeavyGifts$State;IIII)V" } : Jvm.MethodName)) ∈ lw_tbl := lw_at lw_m6 14 rfl
theorem q1290 : (Jvm.Cond.instanceMethod ({ cls := "HeavyGifts", name := "goes", desc := "(LHeavyGifts$State;IIII)V" } : Jvm.MethodName)) ∈ lw_all := lw_g (lw_at lw_m6 15 rfl) rfl
theorem q1291 : (Jvm.Cond.code ({ cls := "HeavyGifts", name := "goes", desc := "(LHeavyGifts$State;IIII)V" } : Jvm.MethodName) prog_1_method_32_code (6 : Nat) (Option.none : Option Jvm.ClassFile.FieldType)) ∈ lw_all := lw_g (lw_at lw_m6 16 rfl) rfl
theorem q1296 : (Jvm.Cond.instanceMethod ({ cls := "HeavyGifts", name := "cut", desc := "(II)I" } : Jvm.MethodName)) ∈ lw_all := lw_g (lw_at lw_m6 21 rfl) rfl
theorem q1297 : (Jvm.Cond.selects "HeavyGifts" ({ cls := "HeavyGifts", name := "cut", desc := "(II)I" } : Jvm.MethodName) ({ cls := "HeavyGifts", name := "cut", desc := "(II)I" } : Jvm.MethodName)) ∈ lw_all := lw_g (lw_at lw_m6 22 rfl) rfl
theorem q1298 : (Jvm.Cond.code ({ cls := "HeavyGifts", name := "cut", desc := "(II)I" } : Jvm.MethodName) prog_1_method_39_code (11 : Nat) (Option.some Jvm.ClassFile.FieldType.int)) ∈ lw_all := lw_g (lw_at lw_m6 23 rfl) rfl
theorem q1299 : (Jvm.Cond.methodLink "HeavyGifts" (337 : Nat) ({ cls := "HeavyGifts", name := "sets", desc := "(I)I" } : Jvm.MethodName)) ∈ lw_all := lw_g (lw_at lw_m6 24 rfl) rfl
theorem q1300 : (Jvm.Cond.methodLink "HeavyGifts" (340 : Nat) ({ cls := "HeavyGifts", name := "makes", desc := "(LHeavyGifts$State;I)V" } : Jvm.MethodName)) ∈ lw_all := lw_g (lw_at lw_m6 25 rfl) rfl
theorem q1301 : (Jvm.Cond.privateMethod ({ cls := "HeavyGifts", name := "makes", desc := "(LHeavyGifts$State;I)V" } : Jvm.MethodName)) ∈ lw_tbl := lw_at lw_m6 26 rfl
theorem q1302 : (Jvm.Cond.instanceMethod ({ cls := "HeavyGifts", name := "makes", desc := "(LHeavyGifts$State;I)V" } : Jvm.MethodName)) ∈ lw_all := lw_g (lw_at lw_m6 27 rfl) rfl
theorem q1303 : (Jvm.Cond.code ({ cls := "HeavyGifts", name := "makes", desc := "(LHeavyGifts$State;I)V" } : Jvm.MethodName) prog_1_method_35_code (4 : Nat) (Option.none : Option Jvm.ClassFile.FieldType)) ∈ lw_all := lw_g (lw_at lw_m6 28 rfl) rfl
theorem q1304 : (Jvm.Cond.methodLink "HeavyGifts" (331 : Nat) ({ cls := "HeavyGifts", name := "shifts", desc := "(I)V" } : Jvm.MethodName)) ∈ lw_all := lw_g (lw_at lw_m6 29 rfl) rfl
theorem q1305 : (Jvm.Cond.privateMethod ({ cls := "HeavyGifts", name := "shifts", desc := "(I)V" } : Jvm.MethodName)) ∈ lw_tbl := lw_at lw_m6 30 rfl
theorem q1306 : (Jvm.Cond.instanceMethod ({ cls := "HeavyGifts", name := "shifts", desc := "(I)V" } : Jvm.MethodName)) ∈ lw_all := lw_g (lw_at lw_m6 31 rfl) rfl
theorem q1307 : (Jvm.Cond.code ({ cls := "HeavyGifts", name := "shifts", desc := "(I)V" } : Jvm.MethodName) prog_1_method_36_code (7 : Nat) (Option.none : Option Jvm.ClassFile.FieldType)) ∈ lw_all := lw_g (lw_at lw_m6 32 rfl) rfl
theorem q1308 : (Jvm.Cond.methodLink "HeavyGifts" (343 : Nat) ({ cls := "HeavyGifts", name := "isMadeBetween", desc := "(II)Z" } : Jvm.MethodName)) ∈ lw_all := lw_g (lw_at lw_m6 33 rfl) rfl
theorem q1309 : (Jvm.Cond.privateMethod ({ cls := "HeavyGifts", name := "isMadeBetween", desc := "(II)Z" } : Jvm.MethodName)) ∈ lw_tbl := lw_at lw_m6 34 rfl
theorem q1310 : (Jvm.Cond.instanceMethod ({ cls := "HeavyGifts", name := "isMadeBetween", desc := "(II)Z" } : Jvm.MethodName)) ∈ lw_all := lw_g (lw_at lw_m6 35 rfl) rfl
theorem q1311 : (Jvm.Cond.code ({ cls := "HeavyGifts", name := "isMadeBetween", desc := "(II)Z" } : Jvm.MethodName) prog_1_method_38_code (4 : Nat) (Option.some Jvm.ClassFile.FieldType.boolean)) ∈ lw_all := lw_g (lw_at lw_m6 36 rfl) rfl
theorem q1312 : (Jvm.Cond.methodLink "HeavyGifts" (334 : Nat) ({ cls := "HeavyGifts", name := "isMade", desc := "(I)Z" } : Jvm.MethodName)) ∈ lw_all := lw_g (lw_at lw_m6 37 rfl) rfl
theorem q1313 : (Jvm.Cond.privateMethod ({ cls := "HeavyGifts", name := "isMade", desc := "(I)Z" } : Jvm.MethodName)) ∈ lw_tbl := lw_at lw_m6 38 rfl
theorem q1314 : (Jvm.Cond.instanceMethod ({ cls := "HeavyGifts", name := "isMade", desc := "(I)Z" } : Jvm.MethodName)) ∈ lw_all := lw_g (lw_at lw_m6 39 rfl) rfl
theorem q1315 : (Jvm.Cond.code ({ cls := "HeavyGifts", name := "isMade", desc := "(I)Z" } : Jvm.MethodName) prog_1_method_37_code (2 : Nat) (Option.some Jvm.ClassFile.FieldType.boolean)) ∈ lw_all := lw_g (lw_at lw_m6 40 rfl) rfl
theorem q1320 : (Jvm.Cond.instanceMethod ({ cls := "HeavyGifts", name := "keep", desc := "(II)I" } : Jvm.MethodName)) ∈ lw_all := lw_g (lw_at lw_m6 45 rfl) rfl
theorem q1321 : (Jvm.Cond.selects "HeavyGifts" ({ cls := "HeavyGifts", name := "keep", desc := "(II)I" } : Jvm.MethodName) ({ cls := "HeavyGifts", name := "keep", desc := "(II)I" } : Jvm.MethodName)) ∈ lw_all := lw_g (lw_at lw_m6 46 rfl) rfl
theorem q1322 : (Jvm.Cond.code ({ cls := "HeavyGifts", name := "keep", desc := "(II)I" } : Jvm.MethodName) prog_1_method_40_code (7 : Nat) (Option.some Jvm.ClassFile.FieldType.int)) ∈ lw_all := lw_g (lw_at lw_m6 47 rfl) rfl
theorem q1327 : (Jvm.Cond.instanceMethod ({ cls := "HeavyGifts", name := "fewest", desc := "(I)I" } : Jvm.MethodName)) ∈ lw_all := lw_g (lw_at lw_m6 52 rfl) rfl
theorem q1328 : (Jvm.Cond.selects "HeavyGifts" ({ cls := "HeavyGifts", name := "fewest", desc := "(I)I" } : Jvm.MethodName) ({ cls := "HeavyGifts", name := "fewest", desc := "(I)I" } : Jvm.MethodName)) ∈ lw_all := lw_g (lw_at lw_m6 53 rfl) rfl
theorem q1329 : (Jvm.Cond.code ({ cls := "HeavyGifts", name := "fewest", desc := "(I)I" } : Jvm.MethodName) prog_1_method_41_code (6 : Nat) (Option.some Jvm.ClassFile.FieldType.int)) ∈ lw_all := lw_g (lw_at lw_m6 54 rfl) rfl
theorem q1330 : (Jvm.Cond.methodLink "HeavyGifts" (346 : Nat) ({ cls := "java/lang/Integer", name := "bitCount", desc := "(I)I" } : Jvm.MethodName)) ∈ lw_all := lw_g (lw_at lw_m6 55 rfl) rfl
theorem q1335 : (Jvm.Cond.instanceMethod ({ cls := "HeavyGifts", name := "answers", desc := "(IIZ)I" } : Jvm.MethodName)) ∈ lw_all := lw_g (lw_at lw_m6 60 rfl) rfl
theorem q1336 : (Jvm.Cond.selects "HeavyGifts" ({ cls := "HeavyGifts", name := "answers", desc := "(IIZ)I" } : Jvm.MethodName) ({ cls := "HeavyGifts", name := "answers", desc := "(IIZ)I" } : Jvm.MethodName)) ∈ lw_all := lw_g (lw_at lw_m6 61 rfl) rfl
theorem q1337 : (Jvm.Cond.code ({ cls := "HeavyGifts", name := "answers", desc := "(IIZ)I" } : Jvm.MethodName) prog_1_method_42_code (6 : Nat) (Option.some Jvm.ClassFile.FieldType.int)) ∈ lw_all := lw_g (lw_at lw_m6 62 rfl) rfl
theorem q1342 : (Jvm.Cond.instanceMethod ({ cls := "HeavyGifts", name := "round", desc := "(II)I" } : Jvm.MethodName)) ∈ lw_all := lw_g (lw_at lw_m6 67 rfl) rfl
theorem q1343 : (Jvm.Cond.selects "HeavyGifts" ({ cls := "HeavyGifts", name := "round", desc := "(II)I" } : Jvm.MethodName) ({ cls := "HeavyGifts", name := "round", desc := "(II)I" } : Jvm.MethodName)) ∈ lw_all := lw_g (lw_at lw_m6 68 rfl) rfl
theorem q1344 : (Jvm.Cond.code ({ cls := "HeavyGifts", name := "round", desc := "(II)I" } : Jvm.MethodName) prog_1_method_43_code (7 : Nat) (Option.some Jvm.ClassFile.FieldType.int)) ∈ lw_all := lw_g (lw_at lw_m6 69 rfl) rfl
theorem q1349 : (Jvm.Cond.instanceMethod ({ cls := "HeavyGifts", name := "days", desc := "(I)I" } : Jvm.MethodName)) ∈ lw_all := lw_g (lw_at lw_m6 74 rfl) rfl
theorem q1350 : (Jvm.Cond.selects "HeavyGifts" ({ cls := "HeavyGifts", name := "days", desc := "(I)I" } : Jvm.MethodName) ({ cls := "HeavyGifts", name := "days", desc := "(I)I" } : Jvm.MethodName)) ∈ lw_all := lw_g (lw_at lw_m6 75 rfl) rfl
theorem q1351 : (Jvm.Cond.code ({ cls := "HeavyGifts", name := "days", desc := "(I)I" } : Jvm.MethodName) prog_1_method_45_code (7 : Nat) (Option.some Jvm.ClassFile.FieldType.int)) ∈ lw_all := lw_g (lw_at lw_m6 76 rfl) rfl
theorem q1874 : (Jvm.Cond.castable "HeavyGifts" "java/lang/Object") ∈ lw_tbl := lw_at lw_m8 119 rfl
theorem in_X1 : ∀ w ∈ wsX10, w ∈ lw_all := lw_in wsX10 [578, 580, 582, 584, 586, 588, 590, 592, 594, 596, 598, 600, 602, 604, 606, 608, 610, 612, 614] (by decide +kernel) (by decide +kernel)
