/-! HeavyGiftsModel -/
set_option maxRecDepth 100000
def RX5 : String := "HeavyGiftsModel"
def TX5 : u_T := fun k => match k with
  | 0 => ("HeavyGiftsModel", "kinds", "[Ljava/lang/String;", true)
  | 1 => ("HeavyGiftsModel", "code", "I", false)
  | 2 => ("HeavyGiftsModel", "told", "[I", true)
  | 3 => ("HeavyGiftsModel", "kind", "[I", true)
  | 4 => ("HeavyGiftsModel", "kindBy", "[I", true)
  | 5 => ("HeavyGiftsModel", "worth", "[I", true)
  | 6 => ("HeavyGiftsModel", "status", "[I", true)
  | 7 => ("HeavyGiftsModel", "now", "[I", true)
  | 8 => ("HeavyGiftsModel", "read", "[I", true)
  | 9 => ("HeavyGiftsModel", "weight", "[I", true)
  | 10 => ("HeavyGiftsModel", "readWeight", "[I", true)
  | 11 => ("HeavyGiftsModel", "isWet", "[Z", true)
  | 12 => ("HeavyGiftsModel", "day", "I", false)
  | 13 => ("HeavyGiftsModel", "tape", "[I", true)
  | 14 => ("HeavyGiftsModel", "taped", "I", false)
  | 15 => ("HeavyGiftsModel", "at", "I", false)
  | 16 => ("HeavyGiftsModel", "size", "I", false)
  | 17 => ("HeavyGiftsModel", "token", "I", false)
  | 18 => ("HeavyGiftsModel", "number", "I", false)
  | 19 => ("HeavyGiftsModel", "begins", "I", false)
  | 20 => ("HeavyGiftsModel", "ends", "I", false)
  | 21 => ("HeavyGiftsModel", "bad", "I", false)
  | 22 => ("HeavyGiftsModel", "badPlace", "I", false)
  | 23 => ("HeavyGiftsModel", "faultPlace", "I", false)
  | 24 => ("HeavyGiftsModel", "gifts", "I", false)
  | 25 => ("HeavyGiftsModel", "book", "[I", true)
  | 26 => ("HeavyGiftsModel", "weekRows", "[I", true)
  | 27 => ("HeavyGiftsModel", "weekRow", "[I", true)
  | 28 => ("HeavyGiftsModel", "weekOwes", "[I", true)
  | 29 => ("HeavyGiftsModel", "weekTo", "[I", true)
  | 30 => ("HeavyGiftsModel", "orderTry", "[I", true)
  | 31 => ("HeavyGiftsModel", "order", "[I", true)
  | 32 => ("HeavyGiftsModel", "orderMany", "I", false)
  | 33 => ("HeavyGiftsModel", "weekMany", "I", false)
  | 34 => ("HeavyGiftsModel", "tries", "I", false)
  | 35 => ("HeavyGiftsModel", "mostAnswered", "I", false)
  | 36 => ("HeavyGiftsModel", "isSpent", "Z", false)
  | 37 => ("HeavyGiftsModel", "isAll", "Z", false)
  | 38 => ("HeavyGiftsModel", "states", "[I", true)
  | 39 => ("HeavyGiftsModel", "steps", "[I", true)
  | 40 => ("HeavyGiftsModel", "next", "[I", true)
  | 41 => ("HeavyGiftsModel", "heads", "[I", true)
  | 42 => ("HeavyGiftsModel", "row", "[I", true)
  | 43 => ("HeavyGiftsModel", "then", "[I", true)
  | 44 => ("HeavyGiftsModel", "stateMany", "I", false)
  | 45 => ("HeavyGiftsModel", "isTooMany", "Z", false)
  | 46 => ("HeavyGiftsModel", "canMake", "[Z", true)
  | 47 => ("HeavyGiftsModel", "weightNow", "[I", true)
  | 48 => ("HeavyGiftsModel", "hasImage", "Z", false)
  | 49 => ("HeavyGiftsModel", "giftsThen", "I", false)
  | 50 => ("HeavyGiftsModel", "dayThen", "I", false)
  | 51 => ("HeavyGiftsModel", "nowThen", "[I", true)
  | 52 => ("HeavyGiftsModel", "weightThen", "[I", true)
  | 53 => ("HeavyGiftsModel", "bookThen", "[I", true)
  | _ => ("HeavyGiftsModel", "statusThen", "[I", true)
def tyX5 : Nat → FieldType := fun k => match k with
  | 0 => .array (.object "java/lang/String")
  | 1 => .int
  | 2 => .array .int
  | 3 => .array .int
  | 4 => .array .int
  | 5 => .array .int
  | 6 => .array .int
  | 7 => .array .int
  | 8 => .array .int
  | 9 => .array .int
  | 10 => .array .int
  | 11 => .array .boolean
  | 12 => .int
  | 13 => .array .int
  | 14 => .int
  | 15 => .int
  | 16 => .int
  | 17 => .int
  | 18 => .int
  | 19 => .int
  | 20 => .int
  | 21 => .int
  | 22 => .int
  | 23 => .int
  | 24 => .int
  | 25 => .array .int
  | 26 => .array .int
  | 27 => .array .int
  | 28 => .array .int
  | 29 => .array .int
  | 30 => .array .int
  | 31 => .array .int
  | 32 => .int
  | 33 => .int
  | 34 => .int
  | 35 => .int
  | 36 => .boolean
  | 37 => .boolean
  | 38 => .array .int
  | 39 => .array .int
  | 40 => .array .int
  | 41 => .array .int
  | 42 => .array .int
  | 43 => .array .int
  | 44 => .int
  | 45 => .boolean
  | 46 => .array .boolean
  | 47 => .array .int
  | 48 => .boolean
  | 49 => .int
  | 50 => .int
  | 51 => .array .int
  | 52 => .array .int
  | 53 => .array .int
  | _ => .array .int
abbrev wsX50 : List Cond := u_ws RX5 TX5 55
set_option maxRecDepth 100000 in
theorem nmX5 : ∀ a, a < 55 → ∀ b, b < 55 → a ≠ b → (TX5 a).2.1 ≠ (TX5 b).2.1 := by decide +kernel
set_option maxRecDepth 100000 in
theorem tyX5_ok : ∀ k, k < 55 → parseFieldDescriptor (TX5 k).2.2.1 = some (tyX5 k) := by decide +kernel
abbrev cX5_init : ByteArray := prog_16_method_1_code
def yX5_init : MethodName := ⟨RX5, "<init>", "()V"⟩
def dkwX5_init_12 : List UInt8 := [17, 7, 8, 188, 10, 181, 0, 118, 42, 5, 188, 10, 181, 0, 121, 42, 180, 0, 41, 184, 0, 124, 177]
abbrev dktX5_init_12 : List UInt8 := dkwX5_init_12 ++ []
def dkwX5_init_11 : List UInt8 := [188, 10, 181, 0, 109, 42, 16, 30, 188, 10, 181, 0, 112, 42, 16, 12, 188, 10, 181, 0, 115, 42]
abbrev dktX5_init_11 : List UInt8 := dkwX5_init_11 ++ dktX5_init_12
def dkwX5_init_10 : List UInt8 := [181, 0, 100, 42, 16, 30, 188, 10, 181, 0, 103, 42, 17, 15, 160, 188, 4, 181, 0, 106, 42, 16, 12]
abbrev dktX5_init_10 : List UInt8 := dkwX5_init_10 ++ dktX5_init_11
def dkwX5_init_9 : List UInt8 := [17, 3, 232, 188, 10, 181, 0, 94, 42, 17, 16, 0, 188, 10, 181, 0, 97, 42, 16, 30, 188, 10]
abbrev dktX5_init_9 : List UInt8 := dkwX5_init_9 ++ dktX5_init_10
def dkwX5_init_8 : List UInt8 := [42, 2, 181, 0, 85, 42, 17, 117, 48, 188, 10, 181, 0, 88, 42, 17, 3, 232, 188, 10, 181, 0, 91, 42]
abbrev dktX5_init_8 : List UInt8 := dkwX5_init_8 ++ dktX5_init_9
def dkwX5_init_7 : List UInt8 := [42, 16, 6, 188, 10, 181, 0, 76, 42, 16, 6, 188, 10, 181, 0, 79, 42, 16, 6, 188, 10, 181, 0, 82]
abbrev dktX5_init_7 : List UInt8 := dkwX5_init_7 ++ dktX5_init_8
def dkwX5_init_6 : List UInt8 := [17, 0, 210, 188, 10, 181, 0, 67, 42, 16, 30, 188, 10, 181, 0, 70, 42, 16, 6, 188, 10, 181, 0, 73]
abbrev dktX5_init_6 : List UInt8 := dkwX5_init_6 ++ dktX5_init_7
def dkwX5_init_5 : List UInt8 := [17, 2, 188, 188, 10, 181, 0, 57, 42, 2, 181, 0, 60, 42, 17, 7, 8, 188, 10, 181, 0, 64, 42]
abbrev dktX5_init_5 : List UInt8 := dkwX5_init_5 ++ dktX5_init_6
def dkwX5_init_4 : List UInt8 := [188, 10, 181, 0, 47, 42, 16, 12, 188, 10, 181, 0, 50, 42, 16, 24, 188, 4, 181, 0, 53, 42]
abbrev dktX5_init_4 : List UInt8 := dkwX5_init_4 ++ dktX5_init_5
def dkwX5_init_3 : List UInt8 := [188, 10, 181, 0, 38, 42, 16, 30, 188, 10, 181, 0, 41, 42, 16, 30, 188, 10, 181, 0, 44, 42, 16, 12]
abbrev dktX5_init_3 : List UInt8 := dkwX5_init_3 ++ dktX5_init_4
def dkwX5_init_2 : List UInt8 := [188, 10, 181, 0, 29, 42, 16, 12, 188, 10, 181, 0, 32, 42, 16, 24, 188, 10, 181, 0, 35, 42, 5]
abbrev dktX5_init_2 : List UInt8 := dkwX5_init_2 ++ dktX5_init_3
def dkwX5_init_1 : List UInt8 := [89, 6, 18, 15, 83, 89, 7, 18, 17, 83, 181, 0, 19, 42, 16, 8, 188, 10, 181, 0, 25, 42, 16, 12]
abbrev dktX5_init_1 : List UInt8 := dkwX5_init_1 ++ dktX5_init_2
def dkwX5_init_0 : List UInt8 := [42, 183, 0, 1, 42, 8, 189, 0, 7, 89, 3, 18, 9, 83, 89, 4, 18, 11, 83, 89, 5, 18, 13, 83]
abbrev dktX5_init_0 : List UInt8 := dkwX5_init_0 ++ dktX5_init_1
theorem dksX5_init_0 : cX5_init.data.toList.drop 0 = dktX5_init_0 := by decide +kernel
theorem dksX5_init_1 : cX5_init.data.toList.drop 24 = dktX5_init_1 := dk_seg dksX5_init_0 24 rfl rfl
theorem dksX5_init_2 : cX5_init.data.toList.drop 48 = dktX5_init_2 := dk_seg dksX5_init_1 24 rfl rfl
theorem dksX5_init_3 : cX5_init.data.toList.drop 71 = dktX5_init_3 := dk_seg dksX5_init_2 23 rfl rfl
theorem dksX5_init_4 : cX5_init.data.toList.drop 95 = dktX5_init_4 := dk_seg dksX5_init_3 24 rfl rfl
theorem dksX5_init_5 : cX5_init.data.toList.drop 117 = dktX5_init_5 := dk_seg dksX5_init_4 22 rfl rfl
theorem dksX5_init_6 : cX5_init.data.toList.drop 140 = dktX5_init_6 := dk_seg dksX5_init_5 23 rfl rfl
theorem dksX5_init_7 : cX5_init.data.toList.drop 164 = dktX5_init_7 := dk_seg dksX5_init_6 24 rfl rfl
theorem dksX5_init_8 : cX5_init.data.toList.drop 188 = dktX5_init_8 := dk_seg dksX5_init_7 24 rfl rfl
theorem dksX5_init_9 : cX5_init.data.toList.drop 212 = dktX5_init_9 := dk_seg dksX5_init_8 24 rfl rfl
theorem dksX5_init_10 : cX5_init.data.toList.drop 234 = dktX5_init_10 := dk_seg dksX5_init_9 22 rfl rfl
theorem dksX5_init_11 : cX5_init.data.toList.drop 257 = dktX5_init_11 := dk_seg dksX5_init_10 23 rfl rfl
theorem dksX5_init_12 : cX5_init.data.toList.drop 279 = dktX5_init_12 := dk_seg dksX5_init_11 22 rfl rfl
theorem dX5_init_0 : decode cX5_init 0 = .ok (.aload_n 0, 1) := dk_42 (dk_at dksX5_init_0 0 rfl rfl)
theorem dX5_init_1 : decode cX5_init 1 = .ok (.invokespecial 1, 3) := dk_183 0 1 (dk_at dksX5_init_0 1 rfl rfl)
theorem dX5_init_4 : decode cX5_init 4 = .ok (.aload_n 0, 1) := dk_42 (dk_at dksX5_init_0 4 rfl rfl)
theorem dX5_init_5 : decode cX5_init 5 = .ok (.iconst 5, 1) := dk_8 (dk_at dksX5_init_0 5 rfl rfl)
theorem dX5_init_6 : decode cX5_init 6 = .ok (.anewarray 7, 3) := dk_189 0 7 (dk_at dksX5_init_0 6 rfl rfl)
theorem dX5_init_9 : decode cX5_init 9 = .ok (.dup, 1) := dk_89 (dk_at dksX5_init_0 9 rfl rfl)
theorem dX5_init_10 : decode cX5_init 10 = .ok (.iconst 0, 1) := dk_3 (dk_at dksX5_init_0 10 rfl rfl)
theorem dX5_init_11 : decode cX5_init 11 = .ok (.ldc 9, 2) := dk_18 9 (dk_at dksX5_init_0 11 rfl rfl)
theorem dX5_init_13 : decode cX5_init 13 = .ok (.aastore, 1) := dk_83 (dk_at dksX5_init_0 13 rfl rfl)
theorem dX5_init_14 : decode cX5_init 14 = .ok (.dup, 1) := dk_89 (dk_at dksX5_init_0 14 rfl rfl)
theorem dX5_init_15 : decode cX5_init 15 = .ok (.iconst 1, 1) := dk_4 (dk_at dksX5_init_0 15 rfl rfl)
theorem dX5_init_16 : decode cX5_init 16 = .ok (.ldc 11, 2) := dk_18 11 (dk_at dksX5_init_0 16 rfl rfl)
theorem dX5_init_18 : decode cX5_init 18 = .ok (.aastore, 1) := dk_83 (dk_at dksX5_init_0 18 rfl rfl)
theorem dX5_init_19 : decode cX5_init 19 = .ok (.dup, 1) := dk_89 (dk_at dksX5_init_0 19 rfl rfl)
theorem dX5_init_20 : decode cX5_init 20 = .ok (.iconst 2, 1) := dk_5 (dk_at dksX5_init_0 20 rfl rfl)
theorem dX5_init_21 : decode cX5_init 21 = .ok (.ldc 13, 2) := dk_18 13 (dk_at dksX5_init_0 21 rfl rfl)
theorem dX5_init_23 : decode cX5_init 23 = .ok (.aastore, 1) := dk_83 (dk_at dksX5_init_0 23 rfl rfl)
theorem dX5_init_24 : decode cX5_init 24 = .ok (.dup, 1) := dk_89 (dk_at dksX5_init_1 0 rfl rfl)
theorem dX5_init_25 : decode cX5_init 25 = .ok (.iconst 3, 1) := dk_6 (dk_at dksX5_init_1 1 rfl rfl)
theorem dX5_init_26 : decode cX5_init 26 = .ok (.ldc 15, 2) := dk_18 15 (dk_at dksX5_init_1 2 rfl rfl)
theorem dX5_init_28 : decode cX5_init 28 = .ok (.aastore, 1) := dk_83 (dk_at dksX5_init_1 4 rfl rfl)
theorem dX5_init_29 : decode cX5_init 29 = .ok (.dup, 1) := dk_89 (dk_at dksX5_init_1 5 rfl rfl)
theorem dX5_init_30 : decode cX5_init 30 = .ok (.iconst 4, 1) := dk_7 (dk_at dksX5_init_1 6 rfl rfl)
theorem dX5_init_31 : decode cX5_init 31 = .ok (.ldc 17, 2) := dk_18 17 (dk_at dksX5_init_1 7 rfl rfl)
theorem dX5_init_33 : decode cX5_init 33 = .ok (.aastore, 1) := dk_83 (dk_at dksX5_init_1 9 rfl rfl)
theorem dX5_init_34 : decode cX5_init 34 = .ok (.putfield 19, 3) := dk_181 0 19 (dk_at dksX5_init_1 10 rfl rfl)
theorem dX5_init_37 : decode cX5_init 37 = .ok (.aload_n 0, 1) := dk_42 (dk_at dksX5_init_1 13 rfl rfl)
theorem dX5_init_38 : decode cX5_init 38 = .ok (.bipush 8, 2) := dk_16 8 (dk_at dksX5_init_1 14 rfl rfl)
theorem dX5_init_40 : decode cX5_init 40 = .ok (.newarray .int, 2) := dk_188_10 (dk_at dksX5_init_1 16 rfl rfl)
theorem dX5_init_42 : decode cX5_init 42 = .ok (.putfield 25, 3) := dk_181 0 25 (dk_at dksX5_init_1 18 rfl rfl)
theorem dX5_init_45 : decode cX5_init 45 = .ok (.aload_n 0, 1) := dk_42 (dk_at dksX5_init_1 21 rfl rfl)
theorem dX5_init_46 : decode cX5_init 46 = .ok (.bipush 12, 2) := dk_16 12 (dk_at dksX5_init_1 22 rfl rfl)
theorem dX5_init_48 : decode cX5_init 48 = .ok (.newarray .int, 2) := dk_188_10 (dk_at dksX5_init_2 0 rfl rfl)
theorem dX5_init_50 : decode cX5_init 50 = .ok (.putfield 29, 3) := dk_181 0 29 (dk_at dksX5_init_2 2 rfl rfl)
theorem dX5_init_53 : decode cX5_init 53 = .ok (.aload_n 0, 1) := dk_42 (dk_at dksX5_init_2 5 rfl rfl)
theorem dX5_init_54 : decode cX5_init 54 = .ok (.bipush 12, 2) := dk_16 12 (dk_at dksX5_init_2 6 rfl rfl)
theorem dX5_init_56 : decode cX5_init 56 = .ok (.newarray .int, 2) := dk_188_10 (dk_at dksX5_init_2 8 rfl rfl)
theorem dX5_init_58 : decode cX5_init 58 = .ok (.putfield 32, 3) := dk_181 0 32 (dk_at dksX5_init_2 10 rfl rfl)
theorem dX5_init_61 : decode cX5_init 61 = .ok (.aload_n 0, 1) := dk_42 (dk_at dksX5_init_2 13 rfl rfl)
theorem dX5_init_62 : decode cX5_init 62 = .ok (.bipush 24, 2) := dk_16 24 (dk_at dksX5_init_2 14 rfl rfl)
theorem dX5_init_64 : decode cX5_init 64 = .ok (.newarray .int, 2) := dk_188_10 (dk_at dksX5_init_2 16 rfl rfl)
theorem dX5_init_66 : decode cX5_init 66 = .ok (.putfield 35, 3) := dk_181 0 35 (dk_at dksX5_init_2 18 rfl rfl)
theorem dX5_init_69 : decode cX5_init 69 = .ok (.aload_n 0, 1) := dk_42 (dk_at dksX5_init_2 21 rfl rfl)
theorem dX5_init_70 : decode cX5_init 70 = .ok (.iconst 2, 1) := dk_5 (dk_at dksX5_init_2 22 rfl rfl)
theorem dX5_init_71 : decode cX5_init 71 = .ok (.newarray .int, 2) := dk_188_10 (dk_at dksX5_init_3 0 rfl rfl)
theorem dX5_init_73 : decode cX5_init 73 = .ok (.putfield 38, 3) := dk_181 0 38 (dk_at dksX5_init_3 2 rfl rfl)
theorem dX5_init_76 : decode cX5_init 76 = .ok (.aload_n 0, 1) := dk_42 (dk_at dksX5_init_3 5 rfl rfl)
theorem dX5_init_77 : decode cX5_init 77 = .ok (.bipush 30, 2) := dk_16 30 (dk_at dksX5_init_3 6 rfl rfl)
theorem dX5_init_79 : decode cX5_init 79 = .ok (.newarray .int, 2) := dk_188_10 (dk_at dksX5_init_3 8 rfl rfl)
theorem dX5_init_81 : decode cX5_init 81 = .ok (.putfield 41, 3) := dk_181 0 41 (dk_at dksX5_init_3 10 rfl rfl)
theorem dX5_init_84 : decode cX5_init 84 = .ok (.aload_n 0, 1) := dk_42 (dk_at dksX5_init_3 13 rfl rfl)
theorem dX5_init_85 : decode cX5_init 85 = .ok (.bipush 30, 2) := dk_16 30 (dk_at dksX5_init_3 14 rfl rfl)
theorem dX5_init_87 : decode cX5_init 87 = .ok (.newarray .int, 2) := dk_188_10 (dk_at dksX5_init_3 16 rfl rfl)
theorem dX5_init_89 : decode cX5_init 89 = .ok (.putfield 44, 3) := dk_181 0 44 (dk_at dksX5_init_3 18 rfl rfl)
theorem dX5_init_92 : decode cX5_init 92 = .ok (.aload_n 0, 1) := dk_42 (dk_at dksX5_init_3 21 rfl rfl)
theorem dX5_init_93 : decode cX5_init 93 = .ok (.bipush 12, 2) := dk_16 12 (dk_at dksX5_init_3 22 rfl rfl)
theorem dX5_init_95 : decode cX5_init 95 = .ok (.newarray .int, 2) := dk_188_10 (dk_at dksX5_init_4 0 rfl rfl)
theorem dX5_init_97 : decode cX5_init 97 = .ok (.putfield 47, 3) := dk_181 0 47 (dk_at dksX5_init_4 2 rfl rfl)
theorem dX5_init_100 : decode cX5_init 100 = .ok (.aload_n 0, 1) := dk_42 (dk_at dksX5_init_4 5 rfl rfl)
theorem dX5_init_101 : decode cX5_init 101 = .ok (.bipush 12, 2) := dk_16 12 (dk_at dksX5_init_4 6 rfl rfl)
theorem dX5_init_103 : decode cX5_init 103 = .ok (.newarray .int, 2) := dk_188_10 (dk_at dksX5_init_4 8 rfl rfl)
theorem dX5_init_105 : decode cX5_init 105 = .ok (.putfield 50, 3) := dk_181 0 50 (dk_at dksX5_init_4 10 rfl rfl)
theorem dX5_init_108 : decode cX5_init 108 = .ok (.aload_n 0, 1) := dk_42 (dk_at dksX5_init_4 13 rfl rfl)
theorem dX5_init_109 : decode cX5_init 109 = .ok (.bipush 24, 2) := dk_16 24 (dk_at dksX5_init_4 14 rfl rfl)
theorem dX5_init_111 : decode cX5_init 111 = .ok (.newarray .boolean, 2) := dk_188_4 (dk_at dksX5_init_4 16 rfl rfl)
theorem dX5_init_113 : decode cX5_init 113 = .ok (.putfield 53, 3) := dk_181 0 53 (dk_at dksX5_init_4 18 rfl rfl)
theorem dX5_init_116 : decode cX5_init 116 = .ok (.aload_n 0, 1) := dk_42 (dk_at dksX5_init_4 21 rfl rfl)
theorem dX5_init_117 : decode cX5_init 117 = .ok (.sipush 700, 3) := dk_17 2 188 (dk_at dksX5_init_5 0 rfl rfl)
theorem dX5_init_120 : decode cX5_init 120 = .ok (.newarray .int, 2) := dk_188_10 (dk_at dksX5_init_5 3 rfl rfl)
theorem dX5_init_122 : decode cX5_init 122 = .ok (.putfield 57, 3) := dk_181 0 57 (dk_at dksX5_init_5 5 rfl rfl)
theorem dX5_init_125 : decode cX5_init 125 = .ok (.aload_n 0, 1) := dk_42 (dk_at dksX5_init_5 8 rfl rfl)
theorem dX5_init_126 : decode cX5_init 126 = .ok (.iconst (-1), 1) := dk_2 (dk_at dksX5_init_5 9 rfl rfl)
theorem dX5_init_127 : decode cX5_init 127 = .ok (.putfield 60, 3) := dk_181 0 60 (dk_at dksX5_init_5 10 rfl rfl)
theorem dX5_init_130 : decode cX5_init 130 = .ok (.aload_n 0, 1) := dk_42 (dk_at dksX5_init_5 13 rfl rfl)
theorem dX5_init_131 : decode cX5_init 131 = .ok (.sipush 1800, 3) := dk_17 7 8 (dk_at dksX5_init_5 14 rfl rfl)
theorem dX5_init_134 : decode cX5_init 134 = .ok (.newarray .int, 2) := dk_188_10 (dk_at dksX5_init_5 17 rfl rfl)
theorem dX5_init_136 : decode cX5_init 136 = .ok (.putfield 64, 3) := dk_181 0 64 (dk_at dksX5_init_5 19 rfl rfl)
theorem dX5_init_139 : decode cX5_init 139 = .ok (.aload_n 0, 1) := dk_42 (dk_at dksX5_init_5 22 rfl rfl)
theorem dX5_init_140 : decode cX5_init 140 = .ok (.sipush 210, 3) := dk_17 0 210 (dk_at dksX5_init_6 0 rfl rfl)
theorem dX5_init_143 : decode cX5_init 143 = .ok (.newarray .int, 2) := dk_188_10 (dk_at dksX5_init_6 3 rfl rfl)
theorem dX5_init_145 : decode cX5_init 145 = .ok (.putfield 67, 3) := dk_181 0 67 (dk_at dksX5_init_6 5 rfl rfl)
theorem dX5_init_148 : decode cX5_init 148 = .ok (.aload_n 0, 1) := dk_42 (dk_at dksX5_init_6 8 rfl rfl)
theorem dX5_init_149 : decode cX5_init 149 = .ok (.bipush 30, 2) := dk_16 30 (dk_at dksX5_init_6 9 rfl rfl)
theorem dX5_init_151 : decode cX5_init 151 = .ok (.newarray .int, 2) := dk_188_10 (dk_at dksX5_init_6 11 rfl rfl)
theorem dX5_init_153 : decode cX5_init 153 = .ok (.putfield 70, 3) := dk_181 0 70 (dk_at dksX5_init_6 13 rfl rfl)
theorem dX5_init_156 : decode cX5_init 156 = .ok (.aload_n 0, 1) := dk_42 (dk_at dksX5_init_6 16 rfl rfl)
theorem dX5_init_157 : decode cX5_init 157 = .ok (.bipush 6, 2) := dk_16 6 (dk_at dksX5_init_6 17 rfl rfl)
theorem dX5_init_159 : decode cX5_init 159 = .ok (.newarray .int, 2) := dk_188_10 (dk_at dksX5_init_6 19 rfl rfl)
theorem dX5_init_161 : decode cX5_init 161 = .ok (.putfield 73, 3) := dk_181 0 73 (dk_at dksX5_init_6 21 rfl rfl)
theorem dX5_init_164 : decode cX5_init 164 = .ok (.aload_n 0, 1) := dk_42 (dk_at dksX5_init_7 0 rfl rfl)
theorem dX5_init_165 : decode cX5_init 165 = .ok (.bipush 6, 2) := dk_16 6 (dk_at dksX5_init_7 1 rfl rfl)
theorem dX5_init_167 : decode cX5_init 167 = .ok (.newarray .int, 2) := dk_188_10 (dk_at dksX5_init_7 3 rfl rfl)
theorem dX5_init_169 : decode cX5_init 169 = .ok (.putfield 76, 3) := dk_181 0 76 (dk_at dksX5_init_7 5 rfl rfl)
theorem dX5_init_172 : decode cX5_init 172 = .ok (.aload_n 0, 1) := dk_42 (dk_at dksX5_init_7 8 rfl rfl)
theorem dX5_init_173 : decode cX5_init 173 = .ok (.bipush 6, 2) := dk_16 6 (dk_at dksX5_init_7 9 rfl rfl)
theorem dX5_init_175 : decode cX5_init 175 = .ok (.newarray .int, 2) := dk_188_10 (dk_at dksX5_init_7 11 rfl rfl)
theorem dX5_init_177 : decode cX5_init 177 = .ok (.putfield 79, 3) := dk_181 0 79 (dk_at dksX5_init_7 13 rfl rfl)
theorem dX5_init_180 : decode cX5_init 180 = .ok (.aload_n 0, 1) := dk_42 (dk_at dksX5_init_7 16 rfl rfl)
theorem dX5_init_181 : decode cX5_init 181 = .ok (.bipush 6, 2) := dk_16 6 (dk_at dksX5_init_7 17 rfl rfl)
theorem dX5_init_183 : decode cX5_init 183 = .ok (.newarray .int, 2) := dk_188_10 (dk_at dksX5_init_7 19 rfl rfl)
theorem dX5_init_185 : decode cX5_init 185 = .ok (.putfield 82, 3) := dk_181 0 82 (dk_at dksX5_init_7 21 rfl rfl)
theorem dX5_init_188 : decode cX5_init 188 = .ok (.aload_n 0, 1) := dk_42 (dk_at dksX5_init_8 0 rfl rfl)
theorem dX5_init_189 : decode cX5_init 189 = .ok (.iconst (-1), 1) := dk_2 (dk_at dksX5_init_8 1 rfl rfl)
theorem dX5_init_190 : decode cX5_init 190 = .ok (.putfield 85, 3) := dk_181 0 85 (dk_at dksX5_init_8 2 rfl rfl)
theorem dX5_init_193 : decode cX5_init 193 = .ok (.aload_n 0, 1) := dk_42 (dk_at dksX5_init_8 5 rfl rfl)
theorem dX5_init_194 : decode cX5_init 194 = .ok (.sipush 30000, 3) := dk_17 117 48 (dk_at dksX5_init_8 6 rfl rfl)
theorem dX5_init_197 : decode cX5_init 197 = .ok (.newarray .int, 2) := dk_188_10 (dk_at dksX5_init_8 9 rfl rfl)
theorem dX5_init_199 : decode cX5_init 199 = .ok (.putfield 88, 3) := dk_181 0 88 (dk_at dksX5_init_8 11 rfl rfl)
theorem dX5_init_202 : decode cX5_init 202 = .ok (.aload_n 0, 1) := dk_42 (dk_at dksX5_init_8 14 rfl rfl)
theorem dX5_init_203 : decode cX5_init 203 = .ok (.sipush 1000, 3) := dk_17 3 232 (dk_at dksX5_init_8 15 rfl rfl)
theorem dX5_init_206 : decode cX5_init 206 = .ok (.newarray .int, 2) := dk_188_10 (dk_at dksX5_init_8 18 rfl rfl)
theorem dX5_init_208 : decode cX5_init 208 = .ok (.putfield 91, 3) := dk_181 0 91 (dk_at dksX5_init_8 20 rfl rfl)
theorem dX5_init_211 : decode cX5_init 211 = .ok (.aload_n 0, 1) := dk_42 (dk_at dksX5_init_8 23 rfl rfl)
theorem dX5_init_212 : decode cX5_init 212 = .ok (.sipush 1000, 3) := dk_17 3 232 (dk_at dksX5_init_9 0 rfl rfl)
theorem dX5_init_215 : decode cX5_init 215 = .ok (.newarray .int, 2) := dk_188_10 (dk_at dksX5_init_9 3 rfl rfl)
theorem dX5_init_217 : decode cX5_init 217 = .ok (.putfield 94, 3) := dk_181 0 94 (dk_at dksX5_init_9 5 rfl rfl)
theorem dX5_init_220 : decode cX5_init 220 = .ok (.aload_n 0, 1) := dk_42 (dk_at dksX5_init_9 8 rfl rfl)
theorem dX5_init_221 : decode cX5_init 221 = .ok (.sipush 4096, 3) := dk_17 16 0 (dk_at dksX5_init_9 9 rfl rfl)
theorem dX5_init_224 : decode cX5_init 224 = .ok (.newarray .int, 2) := dk_188_10 (dk_at dksX5_init_9 12 rfl rfl)
theorem dX5_init_226 : decode cX5_init 226 = .ok (.putfield 97, 3) := dk_181 0 97 (dk_at dksX5_init_9 14 rfl rfl)
theorem dX5_init_229 : decode cX5_init 229 = .ok (.aload_n 0, 1) := dk_42 (dk_at dksX5_init_9 17 rfl rfl)
theorem dX5_init_230 : decode cX5_init 230 = .ok (.bipush 30, 2) := dk_16 30 (dk_at dksX5_init_9 18 rfl rfl)
theorem dX5_init_232 : decode cX5_init 232 = .ok (.newarray .int, 2) := dk_188_10 (dk_at dksX5_init_9 20 rfl rfl)
theorem dX5_init_234 : decode cX5_init 234 = .ok (.putfield 100, 3) := dk_181 0 100 (dk_at dksX5_init_10 0 rfl rfl)
theorem dX5_init_237 : decode cX5_init 237 = .ok (.aload_n 0, 1) := dk_42 (dk_at dksX5_init_10 3 rfl rfl)
theorem dX5_init_238 : decode cX5_init 238 = .ok (.bipush 30, 2) := dk_16 30 (dk_at dksX5_init_10 4 rfl rfl)
theorem dX5_init_240 : decode cX5_init 240 = .ok (.newarray .int, 2) := dk_188_10 (dk_at dksX5_init_10 6 rfl rfl)
theorem dX5_init_242 : decode cX5_init 242 = .ok (.putfield 103, 3) := dk_181 0 103 (dk_at dksX5_init_10 8 rfl rfl)
theorem dX5_init_245 : decode cX5_init 245 = .ok (.aload_n 0, 1) := dk_42 (dk_at dksX5_init_10 11 rfl rfl)
theorem dX5_init_246 : decode cX5_init 246 = .ok (.sipush 4000, 3) := dk_17 15 160 (dk_at dksX5_init_10 12 rfl rfl)
theorem dX5_init_249 : decode cX5_init 249 = .ok (.newarray .boolean, 2) := dk_188_4 (dk_at dksX5_init_10 15 rfl rfl)
theorem dX5_init_251 : decode cX5_init 251 = .ok (.putfield 106, 3) := dk_181 0 106 (dk_at dksX5_init_10 17 rfl rfl)
theorem dX5_init_254 : decode cX5_init 254 = .ok (.aload_n 0, 1) := dk_42 (dk_at dksX5_init_10 20 rfl rfl)
theorem dX5_init_255 : decode cX5_init 255 = .ok (.bipush 12, 2) := dk_16 12 (dk_at dksX5_init_10 21 rfl rfl)
theorem dX5_init_257 : decode cX5_init 257 = .ok (.newarray .int, 2) := dk_188_10 (dk_at dksX5_init_11 0 rfl rfl)
theorem dX5_init_259 : decode cX5_init 259 = .ok (.putfield 109, 3) := dk_181 0 109 (dk_at dksX5_init_11 2 rfl rfl)
theorem dX5_init_262 : decode cX5_init 262 = .ok (.aload_n 0, 1) := dk_42 (dk_at dksX5_init_11 5 rfl rfl)
theorem dX5_init_263 : decode cX5_init 263 = .ok (.bipush 30, 2) := dk_16 30 (dk_at dksX5_init_11 6 rfl rfl)
theorem dX5_init_265 : decode cX5_init 265 = .ok (.newarray .int, 2) := dk_188_10 (dk_at dksX5_init_11 8 rfl rfl)
theorem dX5_init_267 : decode cX5_init 267 = .ok (.putfield 112, 3) := dk_181 0 112 (dk_at dksX5_init_11 10 rfl rfl)
theorem dX5_init_270 : decode cX5_init 270 = .ok (.aload_n 0, 1) := dk_42 (dk_at dksX5_init_11 13 rfl rfl)
theorem dX5_init_271 : decode cX5_init 271 = .ok (.bipush 12, 2) := dk_16 12 (dk_at dksX5_init_11 14 rfl rfl)
theorem dX5_init_273 : decode cX5_init 273 = .ok (.newarray .int, 2) := dk_188_10 (dk_at dksX5_init_11 16 rfl rfl)
theorem dX5_init_275 : decode cX5_init 275 = .ok (.putfield 115, 3) := dk_181 0 115 (dk_at dksX5_init_11 18 rfl rfl)
theorem dX5_init_278 : decode cX5_init 278 = .ok (.aload_n 0, 1) := dk_42 (dk_at dksX5_init_11 21 rfl rfl)
theorem dX5_init_279 : decode cX5_init 279 = .ok (.sipush 1800, 3) := dk_17 7 8 (dk_at dksX5_init_12 0 rfl rfl)
theorem dX5_init_282 : decode cX5_init 282 = .ok (.newarray .int, 2) := dk_188_10 (dk_at dksX5_init_12 3 rfl rfl)
theorem dX5_init_284 : decode cX5_init 284 = .ok (.putfield 118, 3) := dk_181 0 118 (dk_at dksX5_init_12 5 rfl rfl)
theorem dX5_init_287 : decode cX5_init 287 = .ok (.aload_n 0, 1) := dk_42 (dk_at dksX5_init_12 8 rfl rfl)
theorem dX5_init_288 : decode cX5_init 288 = .ok (.iconst 2, 1) := dk_5 (dk_at dksX5_init_12 9 rfl rfl)
theorem dX5_init_289 : decode cX5_init 289 = .ok (.newarray .int, 2) := dk_188_10 (dk_at dksX5_init_12 10 rfl rfl)
theorem dX5_init_291 : decode cX5_init 291 = .ok (.putfield 121, 3) := dk_181 0 121 (dk_at dksX5_init_12 12 rfl rfl)
theorem dX5_init_294 : decode cX5_init 294 = .ok (.aload_n 0, 1) := dk_42 (dk_at dksX5_init_12 15 rfl rfl)
theorem dX5_init_295 : decode cX5_init 295 = .ok (.getfield 41, 3) := dk_180 0 41 (dk_at dksX5_init_12 16 rfl rfl)
theorem dX5_init_298 : decode cX5_init 298 = .ok (.invokestatic 124, 3) := dk_184 0 124 (dk_at dksX5_init_12 19 rfl rfl)
theorem dX5_init_301 : decode cX5_init 301 = .ok (.return_, 1) := dk_177 (dk_at dksX5_init_12 22 rfl rfl)
abbrev cX5_begin : ByteArray := prog_16_method_5_code
def yX5_begin : MethodName := ⟨RX5, "begin", "([I)V"⟩
def dkwX5_begin_1 : List UInt8 := [167, 0, 4, 3, 79, 132, 1, 1, 167, 255, 227, 177]
abbrev dktX5_begin_1 : List UInt8 := dkwX5_begin_1 ++ []
def dkwX5_begin_0 : List UInt8 := [3, 60, 27, 16, 30, 162, 0, 29, 42, 27, 27, 16, 12, 161, 0, 9, 27, 16, 24, 161, 0, 7, 2]
abbrev dktX5_begin_0 : List UInt8 := dkwX5_begin_0 ++ dktX5_begin_1
theorem dksX5_begin_0 : cX5_begin.data.toList.drop 0 = dktX5_begin_0 := by decide +kernel
theorem dksX5_begin_1 : cX5_begin.data.toList.drop 23 = dktX5_begin_1 := dk_seg dksX5_begin_0 23 rfl rfl
theorem dX5_begin_0 : decode cX5_begin 0 = .ok (.iconst 0, 1) := dk_3 (dk_at dksX5_begin_0 0 rfl rfl)
theorem dX5_begin_1 : decode cX5_begin 1 = .ok (.istore_n 1, 1) := dk_60 (dk_at dksX5_begin_0 1 rfl rfl)
theorem dX5_begin_2 : decode cX5_begin 2 = .ok (.iload_n 1, 1) := dk_27 (dk_at dksX5_begin_0 2 rfl rfl)
theorem dX5_begin_3 : decode cX5_begin 3 = .ok (.bipush 30, 2) := dk_16 30 (dk_at dksX5_begin_0 3 rfl rfl)
theorem dX5_begin_5 : decode cX5_begin 5 = .ok (.if_icmp .ge 29, 3) := dk_162 0 29 (dk_at dksX5_begin_0 5 rfl rfl)
theorem dX5_begin_8 : decode cX5_begin 8 = .ok (.aload_n 0, 1) := dk_42 (dk_at dksX5_begin_0 8 rfl rfl)
theorem dX5_begin_9 : decode cX5_begin 9 = .ok (.iload_n 1, 1) := dk_27 (dk_at dksX5_begin_0 9 rfl rfl)
theorem dX5_begin_10 : decode cX5_begin 10 = .ok (.iload_n 1, 1) := dk_27 (dk_at dksX5_begin_0 10 rfl rfl)
theorem dX5_begin_11 : decode cX5_begin 11 = .ok (.bipush 12, 2) := dk_16 12 (dk_at dksX5_begin_0 11 rfl rfl)
theorem dX5_begin_13 : decode cX5_begin 13 = .ok (.if_icmp .lt 9, 3) := dk_161 0 9 (dk_at dksX5_begin_0 13 rfl rfl)
theorem dX5_begin_16 : decode cX5_begin 16 = .ok (.iload_n 1, 1) := dk_27 (dk_at dksX5_begin_0 16 rfl rfl)
theorem dX5_begin_17 : decode cX5_begin 17 = .ok (.bipush 24, 2) := dk_16 24 (dk_at dksX5_begin_0 17 rfl rfl)
theorem dX5_begin_19 : decode cX5_begin 19 = .ok (.if_icmp .lt 7, 3) := dk_161 0 7 (dk_at dksX5_begin_0 19 rfl rfl)
theorem dX5_begin_22 : decode cX5_begin 22 = .ok (.iconst (-1), 1) := dk_2 (dk_at dksX5_begin_0 22 rfl rfl)
theorem dX5_begin_23 : decode cX5_begin 23 = .ok (.goto 4, 3) := dk_167 0 4 (dk_at dksX5_begin_1 0 rfl rfl)
theorem dX5_begin_26 : decode cX5_begin 26 = .ok (.iconst 0, 1) := dk_3 (dk_at dksX5_begin_1 3 rfl rfl)
theorem dX5_begin_27 : decode cX5_begin 27 = .ok (.iastore, 1) := dk_79 (dk_at dksX5_begin_1 4 rfl rfl)
theorem dX5_begin_28 : decode cX5_begin 28 = .ok (.iinc 1 1, 3) := dk_132 1 1 (dk_at dksX5_begin_1 5 rfl rfl)
theorem dX5_begin_31 : decode cX5_begin 31 = .ok (.goto (-29), 3) := dk_167 255 227 (dk_at dksX5_begin_1 8 rfl rfl)
theorem dX5_begin_34 : decode cX5_begin 34 = .ok (.return_, 1) := dk_177 (dk_at dksX5_begin_1 11 rfl rfl)
abbrev cX5_thrown : ByteArray := prog_16_method_2_code
def yX5_thrown : MethodName := ⟨RX5, "thrown", "()I"⟩
theorem dX5_thrown_0 : decode cX5_thrown 0 = .ok (.aload_n 0, 1) := by decide +kernel
theorem dX5_thrown_1 : decode cX5_thrown 1 = .ok (.getfield 128, 3) := by decide +kernel
theorem dX5_thrown_4 : decode cX5_thrown 4 = .ok (.ireturn, 1) := by decide +kernel
abbrev cX5_feed : ByteArray := prog_16_method_8_code
def yX5_feed : MethodName := ⟨RX5, "feed", "(IIIII)I"⟩
def dkwX5_feed_5 : List UInt8 := [167, 255, 162, 42, 180, 0, 135, 172]
abbrev dktX5_feed_5 : List UInt8 := dkwX5_feed_5 ++ []
def dkwX5_feed_4 : List UInt8 := [112, 104, 100, 122, 17, 0, 255, 126, 79, 42, 89, 180, 0, 135, 4, 96, 181, 0, 135, 132, 6, 1]
abbrev dktX5_feed_4 : List UInt8 := dkwX5_feed_4 ++ dktX5_feed_5
def dkwX5_feed_3 : List UInt8 := [167, 0, 5, 21, 5, 54, 7, 42, 180, 0, 57, 42, 180, 0, 135, 21, 7, 16, 24, 16, 8, 21, 6, 7]
abbrev dktX5_feed_3 : List UInt8 := dkwX5_feed_3 ++ dktX5_feed_4
def dkwX5_feed_2 : List UInt8 := [28, 167, 0, 28, 21, 6, 16, 12, 162, 0, 7, 29, 167, 0, 17, 21, 6, 16, 16, 162, 0, 8, 21, 4]
abbrev dktX5_feed_2 : List UInt8 := dkwX5_feed_2 ++ dktX5_feed_3
def dkwX5_feed_1 : List UInt8 := [21, 6, 16, 20, 162, 0, 93, 21, 6, 7, 162, 0, 7, 27, 167, 0, 39, 21, 6, 16, 8, 162, 0, 7]
abbrev dktX5_feed_1 : List UInt8 := dkwX5_feed_1 ++ dktX5_feed_2
def dkwX5_feed_0 : List UInt8 := [42, 3, 181, 0, 128, 42, 180, 0, 135, 16, 20, 96, 17, 2, 188, 164, 0, 5, 2, 172, 3, 54, 6]
abbrev dktX5_feed_0 : List UInt8 := dkwX5_feed_0 ++ dktX5_feed_1
theorem dksX5_feed_0 : cX5_feed.data.toList.drop 0 = dktX5_feed_0 := by decide +kernel
theorem dksX5_feed_1 : cX5_feed.data.toList.drop 23 = dktX5_feed_1 := dk_seg dksX5_feed_0 23 rfl rfl
theorem dksX5_feed_2 : cX5_feed.data.toList.drop 47 = dktX5_feed_2 := dk_seg dksX5_feed_1 24 rfl rfl
theorem dksX5_feed_3 : cX5_feed.data.toList.drop 71 = dktX5_feed_3 := dk_seg dksX5_feed_2 24 rfl rfl
theorem dksX5_feed_4 : cX5_feed.data.toList.drop 95 = dktX5_feed_4 := dk_seg dksX5_feed_3 24 rfl rfl
theorem dksX5_feed_5 : cX5_feed.data.toList.drop 117 = dktX5_feed_5 := dk_seg dksX5_feed_4 22 rfl rfl
theorem dX5_feed_0 : decode cX5_feed 0 = .ok (.aload_n 0, 1) := dk_42 (dk_at dksX5_feed_0 0 rfl rfl)
theorem dX5_feed_1 : decode cX5_feed 1 = .ok (.iconst 0, 1) := dk_3 (dk_at dksX5_feed_0 1 rfl rfl)
theorem dX5_feed_2 : decode cX5_feed 2 = .ok (.putfield 128, 3) := dk_181 0 128 (dk_at dksX5_feed_0 2 rfl rfl)
theorem dX5_feed_5 : decode cX5_feed 5 = .ok (.aload_n 0, 1) := dk_42 (dk_at dksX5_feed_0 5 rfl rfl)
theorem dX5_feed_6 : decode cX5_feed 6 = .ok (.getfield 135, 3) := dk_180 0 135 (dk_at dksX5_feed_0 6 rfl rfl)
theorem dX5_feed_9 : decode cX5_feed 9 = .ok (.bipush 20, 2) := dk_16 20 (dk_at dksX5_feed_0 9 rfl rfl)
theorem dX5_feed_11 : decode cX5_feed 11 = .ok (.iadd, 1) := dk_96 (dk_at dksX5_feed_0 11 rfl rfl)
theorem dX5_feed_12 : decode cX5_feed 12 = .ok (.sipush 700, 3) := dk_17 2 188 (dk_at dksX5_feed_0 12 rfl rfl)
theorem dX5_feed_15 : decode cX5_feed 15 = .ok (.if_icmp .le 5, 3) := dk_164 0 5 (dk_at dksX5_feed_0 15 rfl rfl)
theorem dX5_feed_18 : decode cX5_feed 18 = .ok (.iconst (-1), 1) := dk_2 (dk_at dksX5_feed_0 18 rfl rfl)
theorem dX5_feed_19 : decode cX5_feed 19 = .ok (.ireturn, 1) := dk_172 (dk_at dksX5_feed_0 19 rfl rfl)
theorem dX5_feed_20 : decode cX5_feed 20 = .ok (.iconst 0, 1) := dk_3 (dk_at dksX5_feed_0 20 rfl rfl)
theorem dX5_feed_21 : decode cX5_feed 21 = .ok (.istore 6, 2) := dk_54 6 (dk_at dksX5_feed_0 21 rfl rfl)
theorem dX5_feed_23 : decode cX5_feed 23 = .ok (.iload 6, 2) := dk_21 6 (dk_at dksX5_feed_1 0 rfl rfl)
theorem dX5_feed_25 : decode cX5_feed 25 = .ok (.bipush 20, 2) := dk_16 20 (dk_at dksX5_feed_1 2 rfl rfl)
theorem dX5_feed_27 : decode cX5_feed 27 = .ok (.if_icmp .ge 93, 3) := dk_162 0 93 (dk_at dksX5_feed_1 4 rfl rfl)
theorem dX5_feed_30 : decode cX5_feed 30 = .ok (.iload 6, 2) := dk_21 6 (dk_at dksX5_feed_1 7 rfl rfl)
theorem dX5_feed_32 : decode cX5_feed 32 = .ok (.iconst 4, 1) := dk_7 (dk_at dksX5_feed_1 9 rfl rfl)
theorem dX5_feed_33 : decode cX5_feed 33 = .ok (.if_icmp .ge 7, 3) := dk_162 0 7 (dk_at dksX5_feed_1 10 rfl rfl)
theorem dX5_feed_36 : decode cX5_feed 36 = .ok (.iload_n 1, 1) := dk_27 (dk_at dksX5_feed_1 13 rfl rfl)
theorem dX5_feed_37 : decode cX5_feed 37 = .ok (.goto 39, 3) := dk_167 0 39 (dk_at dksX5_feed_1 14 rfl rfl)
theorem dX5_feed_40 : decode cX5_feed 40 = .ok (.iload 6, 2) := dk_21 6 (dk_at dksX5_feed_1 17 rfl rfl)
theorem dX5_feed_42 : decode cX5_feed 42 = .ok (.bipush 8, 2) := dk_16 8 (dk_at dksX5_feed_1 19 rfl rfl)
theorem dX5_feed_44 : decode cX5_feed 44 = .ok (.if_icmp .ge 7, 3) := dk_162 0 7 (dk_at dksX5_feed_1 21 rfl rfl)
theorem dX5_feed_47 : decode cX5_feed 47 = .ok (.iload_n 2, 1) := dk_28 (dk_at dksX5_feed_2 0 rfl rfl)
theorem dX5_feed_48 : decode cX5_feed 48 = .ok (.goto 28, 3) := dk_167 0 28 (dk_at dksX5_feed_2 1 rfl rfl)
theorem dX5_feed_51 : decode cX5_feed 51 = .ok (.iload 6, 2) := dk_21 6 (dk_at dksX5_feed_2 4 rfl rfl)
theorem dX5_feed_53 : decode cX5_feed 53 = .ok (.bipush 12, 2) := dk_16 12 (dk_at dksX5_feed_2 6 rfl rfl)
theorem dX5_feed_55 : decode cX5_feed 55 = .ok (.if_icmp .ge 7, 3) := dk_162 0 7 (dk_at dksX5_feed_2 8 rfl rfl)
theorem dX5_feed_58 : decode cX5_feed 58 = .ok (.iload_n 3, 1) := dk_29 (dk_at dksX5_feed_2 11 rfl rfl)
theorem dX5_feed_59 : decode cX5_feed 59 = .ok (.goto 17, 3) := dk_167 0 17 (dk_at dksX5_feed_2 12 rfl rfl)
theorem dX5_feed_62 : decode cX5_feed 62 = .ok (.iload 6, 2) := dk_21 6 (dk_at dksX5_feed_2 15 rfl rfl)
theorem dX5_feed_64 : decode cX5_feed 64 = .ok (.bipush 16, 2) := dk_16 16 (dk_at dksX5_feed_2 17 rfl rfl)
theorem dX5_feed_66 : decode cX5_feed 66 = .ok (.if_icmp .ge 8, 3) := dk_162 0 8 (dk_at dksX5_feed_2 19 rfl rfl)
theorem dX5_feed_69 : decode cX5_feed 69 = .ok (.iload 4, 2) := dk_21 4 (dk_at dksX5_feed_2 22 rfl rfl)
theorem dX5_feed_71 : decode cX5_feed 71 = .ok (.goto 5, 3) := dk_167 0 5 (dk_at dksX5_feed_3 0 rfl rfl)
theorem dX5_feed_74 : decode cX5_feed 74 = .ok (.iload 5, 2) := dk_21 5 (dk_at dksX5_feed_3 3 rfl rfl)
theorem dX5_feed_76 : decode cX5_feed 76 = .ok (.istore 7, 2) := dk_54 7 (dk_at dksX5_feed_3 5 rfl rfl)
theorem dX5_feed_78 : decode cX5_feed 78 = .ok (.aload_n 0, 1) := dk_42 (dk_at dksX5_feed_3 7 rfl rfl)
theorem dX5_feed_79 : decode cX5_feed 79 = .ok (.getfield 57, 3) := dk_180 0 57 (dk_at dksX5_feed_3 8 rfl rfl)
theorem dX5_feed_82 : decode cX5_feed 82 = .ok (.aload_n 0, 1) := dk_42 (dk_at dksX5_feed_3 11 rfl rfl)
theorem dX5_feed_83 : decode cX5_feed 83 = .ok (.getfield 135, 3) := dk_180 0 135 (dk_at dksX5_feed_3 12 rfl rfl)
theorem dX5_feed_86 : decode cX5_feed 86 = .ok (.iload 7, 2) := dk_21 7 (dk_at dksX5_feed_3 15 rfl rfl)
theorem dX5_feed_88 : decode cX5_feed 88 = .ok (.bipush 24, 2) := dk_16 24 (dk_at dksX5_feed_3 17 rfl rfl)
theorem dX5_feed_90 : decode cX5_feed 90 = .ok (.bipush 8, 2) := dk_16 8 (dk_at dksX5_feed_3 19 rfl rfl)
theorem dX5_feed_92 : decode cX5_feed 92 = .ok (.iload 6, 2) := dk_21 6 (dk_at dksX5_feed_3 21 rfl rfl)
theorem dX5_feed_94 : decode cX5_feed 94 = .ok (.iconst 4, 1) := dk_7 (dk_at dksX5_feed_3 23 rfl rfl)
theorem dX5_feed_95 : decode cX5_feed 95 = .ok (.irem, 1) := dk_112 (dk_at dksX5_feed_4 0 rfl rfl)
theorem dX5_feed_96 : decode cX5_feed 96 = .ok (.imul, 1) := dk_104 (dk_at dksX5_feed_4 1 rfl rfl)
theorem dX5_feed_97 : decode cX5_feed 97 = .ok (.isub, 1) := dk_100 (dk_at dksX5_feed_4 2 rfl rfl)
theorem dX5_feed_98 : decode cX5_feed 98 = .ok (.ishr, 1) := dk_122 (dk_at dksX5_feed_4 3 rfl rfl)
theorem dX5_feed_99 : decode cX5_feed 99 = .ok (.sipush 255, 3) := dk_17 0 255 (dk_at dksX5_feed_4 4 rfl rfl)
theorem dX5_feed_102 : decode cX5_feed 102 = .ok (.iand, 1) := dk_126 (dk_at dksX5_feed_4 7 rfl rfl)
theorem dX5_feed_103 : decode cX5_feed 103 = .ok (.iastore, 1) := dk_79 (dk_at dksX5_feed_4 8 rfl rfl)
theorem dX5_feed_104 : decode cX5_feed 104 = .ok (.aload_n 0, 1) := dk_42 (dk_at dksX5_feed_4 9 rfl rfl)
theorem dX5_feed_105 : decode cX5_feed 105 = .ok (.dup, 1) := dk_89 (dk_at dksX5_feed_4 10 rfl rfl)
theorem dX5_feed_106 : decode cX5_feed 106 = .ok (.getfield 135, 3) := dk_180 0 135 (dk_at dksX5_feed_4 11 rfl rfl)
theorem dX5_feed_109 : decode cX5_feed 109 = .ok (.iconst 1, 1) := dk_4 (dk_at dksX5_feed_4 14 rfl rfl)
theorem dX5_feed_110 : decode cX5_feed 110 = .ok (.iadd, 1) := dk_96 (dk_at dksX5_feed_4 15 rfl rfl)
theorem dX5_feed_111 : decode cX5_feed 111 = .ok (.putfield 135, 3) := dk_181 0 135 (dk_at dksX5_feed_4 16 rfl rfl)
theorem dX5_feed_114 : decode cX5_feed 114 = .ok (.iinc 6 1, 3) := dk_132 6 1 (dk_at dksX5_feed_4 19 rfl rfl)
theorem dX5_feed_117 : decode cX5_feed 117 = .ok (.goto (-94), 3) := dk_167 255 162 (dk_at dksX5_feed_5 0 rfl rfl)
theorem dX5_feed_120 : decode cX5_feed 120 = .ok (.aload_n 0, 1) := dk_42 (dk_at dksX5_feed_5 3 rfl rfl)
theorem dX5_feed_121 : decode cX5_feed 121 = .ok (.getfield 135, 3) := dk_180 0 135 (dk_at dksX5_feed_5 4 rfl rfl)
theorem dX5_feed_124 : decode cX5_feed 124 = .ok (.ireturn, 1) := dk_172 (dk_at dksX5_feed_5 7 rfl rfl)
abbrev cX5_town : ByteArray := prog_16_method_24_code
def yX5_town : MethodName := ⟨RX5, "town", "(I)I"⟩
def dkwX5_town_12 : List UInt8 := [181, 1, 0, 42, 2, 181, 0, 85, 42, 3, 181, 1, 3, 3, 172]
abbrev dktX5_town_12 : List UInt8 := dkwX5_town_12 ++ []
def dkwX5_town_11 : List UInt8 := [132, 3, 1, 167, 255, 205, 42, 180, 0, 44, 42, 180, 0, 41, 184, 0, 249, 42, 3, 181, 0, 253, 42, 3]
abbrev dktX5_town_11 : List UInt8 := dkwX5_town_11 ++ dktX5_town_12
def dkwX5_town_10 : List UInt8 := [29, 42, 180, 0, 50, 29, 46, 79, 42, 180, 0, 53, 29, 42, 180, 0, 53, 16, 12, 29, 96, 51, 84]
abbrev dktX5_town_10 : List UInt8 := dkwX5_town_10 ++ dktX5_town_11
def dkwX5_town_9 : List UInt8 := [16, 12, 162, 0, 51, 42, 180, 0, 35, 29, 42, 180, 0, 35, 16, 12, 29, 96, 46, 79, 42, 180, 0, 47]
abbrev dktX5_town_9 : List UInt8 := dkwX5_town_9 ++ dktX5_town_10
def dkwX5_town_8 : List UInt8 := [180, 0, 32, 29, 42, 180, 0, 32, 16, 6, 29, 96, 46, 79, 132, 3, 1, 167, 255, 217, 3, 62, 29]
abbrev dktX5_town_8 : List UInt8 := dkwX5_town_8 ++ dktX5_town_9
def dkwX5_town_7 : List UInt8 := [62, 29, 16, 6, 162, 0, 39, 42, 180, 0, 29, 29, 42, 180, 0, 29, 16, 6, 29, 96, 46, 79, 42]
abbrev dktX5_town_7 : List UInt8 := dkwX5_town_7 ++ dktX5_town_8
def dkwX5_town_6 : List UInt8 := [162, 0, 23, 42, 180, 0, 25, 29, 42, 180, 0, 25, 7, 29, 96, 46, 79, 132, 3, 1, 167, 255, 234, 3]
abbrev dktX5_town_6 : List UInt8 := dkwX5_town_6 ++ dktX5_town_7
def dkwX5_town_5 : List UInt8 := [181, 0, 60, 42, 180, 0, 38, 3, 92, 46, 4, 96, 79, 42, 180, 0, 174, 172, 3, 62, 29, 7]
abbrev dktX5_town_5 : List UInt8 := dkwX5_town_5 ++ dktX5_town_6
def dkwX5_town_4 : List UInt8 := [153, 0, 12, 42, 28, 182, 0, 246, 61, 167, 255, 236, 42, 180, 0, 174, 153, 0, 26, 42, 42, 180, 0, 177]
abbrev dktX5_town_4 : List UInt8 := dkwX5_town_4 ++ dktX5_town_5
def dkwX5_town_3 : List UInt8 := [180, 0, 44, 184, 0, 124, 42, 182, 0, 192, 3, 61, 42, 180, 0, 174, 154, 0, 19, 42, 180, 0, 151]
abbrev dktX5_town_3 : List UInt8 := dkwX5_town_3 ++ dktX5_town_4
def dkwX5_town_2 : List UInt8 := [7, 61, 28, 16, 8, 162, 0, 16, 42, 180, 0, 25, 28, 3, 79, 132, 2, 1, 167, 255, 240, 42]
abbrev dktX5_town_2 : List UInt8 := dkwX5_town_2 ++ dktX5_town_3
def dkwX5_town_1 : List UInt8 := [3, 181, 0, 135, 42, 27, 181, 0, 138, 42, 3, 181, 0, 141, 42, 3, 181, 0, 174, 42, 2, 181, 0, 60]
abbrev dktX5_town_1 : List UInt8 := dkwX5_town_1 ++ dktX5_town_2
def dkwX5_town_0 : List UInt8 := [42, 3, 181, 0, 128, 27, 155, 0, 11, 27, 42, 180, 0, 135, 164, 0, 9, 42, 4, 182, 0, 243, 172, 42]
abbrev dktX5_town_0 : List UInt8 := dkwX5_town_0 ++ dktX5_town_1
theorem dksX5_town_0 : cX5_town.data.toList.drop 0 = dktX5_town_0 := by decide +kernel
theorem dksX5_town_1 : cX5_town.data.toList.drop 24 = dktX5_town_1 := dk_seg dksX5_town_0 24 rfl rfl
theorem dksX5_town_2 : cX5_town.data.toList.drop 48 = dktX5_town_2 := dk_seg dksX5_town_1 24 rfl rfl
theorem dksX5_town_3 : cX5_town.data.toList.drop 70 = dktX5_town_3 := dk_seg dksX5_town_2 22 rfl rfl
theorem dksX5_town_4 : cX5_town.data.toList.drop 93 = dktX5_town_4 := dk_seg dksX5_town_3 23 rfl rfl
theorem dksX5_town_5 : cX5_town.data.toList.drop 117 = dktX5_town_5 := dk_seg dksX5_town_4 24 rfl rfl
theorem dksX5_town_6 : cX5_town.data.toList.drop 139 = dktX5_town_6 := dk_seg dksX5_town_5 22 rfl rfl
theorem dksX5_town_7 : cX5_town.data.toList.drop 163 = dktX5_town_7 := dk_seg dksX5_town_6 24 rfl rfl
theorem dksX5_town_8 : cX5_town.data.toList.drop 186 = dktX5_town_8 := dk_seg dksX5_town_7 23 rfl rfl
theorem dksX5_town_9 : cX5_town.data.toList.drop 209 = dktX5_town_9 := dk_seg dksX5_town_8 23 rfl rfl
theorem dksX5_town_10 : cX5_town.data.toList.drop 233 = dktX5_town_10 := dk_seg dksX5_town_9 24 rfl rfl
theorem dksX5_town_11 : cX5_town.data.toList.drop 256 = dktX5_town_11 := dk_seg dksX5_town_10 23 rfl rfl
theorem dksX5_town_12 : cX5_town.data.toList.drop 280 = dktX5_town_12 := dk_seg dksX5_town_11 24 rfl rfl
theorem dX5_town_0 : decode cX5_town 0 = .ok (.aload_n 0, 1) := dk_42 (dk_at dksX5_town_0 0 rfl rfl)
theorem dX5_town_1 : decode cX5_town 1 = .ok (.iconst 0, 1) := dk_3 (dk_at dksX5_town_0 1 rfl rfl)
theorem dX5_town_2 : decode cX5_town 2 = .ok (.putfield 128, 3) := dk_181 0 128 (dk_at dksX5_town_0 2 rfl rfl)
theorem dX5_town_5 : decode cX5_town 5 = .ok (.iload_n 1, 1) := dk_27 (dk_at dksX5_town_0 5 rfl rfl)
theorem dX5_town_6 : decode cX5_town 6 = .ok (.ifCond .lt 11, 3) := dk_155 0 11 (dk_at dksX5_town_0 6 rfl rfl)
theorem dX5_town_9 : decode cX5_town 9 = .ok (.iload_n 1, 1) := dk_27 (dk_at dksX5_town_0 9 rfl rfl)
theorem dX5_town_10 : decode cX5_town 10 = .ok (.aload_n 0, 1) := dk_42 (dk_at dksX5_town_0 10 rfl rfl)
theorem dX5_town_11 : decode cX5_town 11 = .ok (.getfield 135, 3) := dk_180 0 135 (dk_at dksX5_town_0 11 rfl rfl)
theorem dX5_town_14 : decode cX5_town 14 = .ok (.if_icmp .le 9, 3) := dk_164 0 9 (dk_at dksX5_town_0 14 rfl rfl)
theorem dX5_town_17 : decode cX5_town 17 = .ok (.aload_n 0, 1) := dk_42 (dk_at dksX5_town_0 17 rfl rfl)
theorem dX5_town_18 : decode cX5_town 18 = .ok (.iconst 1, 1) := dk_4 (dk_at dksX5_town_0 18 rfl rfl)
theorem dX5_town_19 : decode cX5_town 19 = .ok (.invokevirtual 243, 3) := dk_182 0 243 (dk_at dksX5_town_0 19 rfl rfl)
theorem dX5_town_22 : decode cX5_town 22 = .ok (.ireturn, 1) := dk_172 (dk_at dksX5_town_0 22 rfl rfl)
theorem dX5_town_23 : decode cX5_town 23 = .ok (.aload_n 0, 1) := dk_42 (dk_at dksX5_town_0 23 rfl rfl)
theorem dX5_town_24 : decode cX5_town 24 = .ok (.iconst 0, 1) := dk_3 (dk_at dksX5_town_1 0 rfl rfl)
theorem dX5_town_25 : decode cX5_town 25 = .ok (.putfield 135, 3) := dk_181 0 135 (dk_at dksX5_town_1 1 rfl rfl)
theorem dX5_town_28 : decode cX5_town 28 = .ok (.aload_n 0, 1) := dk_42 (dk_at dksX5_town_1 4 rfl rfl)
theorem dX5_town_29 : decode cX5_town 29 = .ok (.iload_n 1, 1) := dk_27 (dk_at dksX5_town_1 5 rfl rfl)
theorem dX5_town_30 : decode cX5_town 30 = .ok (.putfield 138, 3) := dk_181 0 138 (dk_at dksX5_town_1 6 rfl rfl)
theorem dX5_town_33 : decode cX5_town 33 = .ok (.aload_n 0, 1) := dk_42 (dk_at dksX5_town_1 9 rfl rfl)
theorem dX5_town_34 : decode cX5_town 34 = .ok (.iconst 0, 1) := dk_3 (dk_at dksX5_town_1 10 rfl rfl)
theorem dX5_town_35 : decode cX5_town 35 = .ok (.putfield 141, 3) := dk_181 0 141 (dk_at dksX5_town_1 11 rfl rfl)
theorem dX5_town_38 : decode cX5_town 38 = .ok (.aload_n 0, 1) := dk_42 (dk_at dksX5_town_1 14 rfl rfl)
theorem dX5_town_39 : decode cX5_town 39 = .ok (.iconst 0, 1) := dk_3 (dk_at dksX5_town_1 15 rfl rfl)
theorem dX5_town_40 : decode cX5_town 40 = .ok (.putfield 174, 3) := dk_181 0 174 (dk_at dksX5_town_1 16 rfl rfl)
theorem dX5_town_43 : decode cX5_town 43 = .ok (.aload_n 0, 1) := dk_42 (dk_at dksX5_town_1 19 rfl rfl)
theorem dX5_town_44 : decode cX5_town 44 = .ok (.iconst (-1), 1) := dk_2 (dk_at dksX5_town_1 20 rfl rfl)
theorem dX5_town_45 : decode cX5_town 45 = .ok (.putfield 60, 3) := dk_181 0 60 (dk_at dksX5_town_1 21 rfl rfl)
theorem dX5_town_48 : decode cX5_town 48 = .ok (.iconst 4, 1) := dk_7 (dk_at dksX5_town_2 0 rfl rfl)
theorem dX5_town_49 : decode cX5_town 49 = .ok (.istore_n 2, 1) := dk_61 (dk_at dksX5_town_2 1 rfl rfl)
theorem dX5_town_50 : decode cX5_town 50 = .ok (.iload_n 2, 1) := dk_28 (dk_at dksX5_town_2 2 rfl rfl)
theorem dX5_town_51 : decode cX5_town 51 = .ok (.bipush 8, 2) := dk_16 8 (dk_at dksX5_town_2 3 rfl rfl)
theorem dX5_town_53 : decode cX5_town 53 = .ok (.if_icmp .ge 16, 3) := dk_162 0 16 (dk_at dksX5_town_2 5 rfl rfl)
theorem dX5_town_56 : decode cX5_town 56 = .ok (.aload_n 0, 1) := dk_42 (dk_at dksX5_town_2 8 rfl rfl)
theorem dX5_town_57 : decode cX5_town 57 = .ok (.getfield 25, 3) := dk_180 0 25 (dk_at dksX5_town_2 9 rfl rfl)
theorem dX5_town_60 : decode cX5_town 60 = .ok (.iload_n 2, 1) := dk_28 (dk_at dksX5_town_2 12 rfl rfl)
theorem dX5_town_61 : decode cX5_town 61 = .ok (.iconst 0, 1) := dk_3 (dk_at dksX5_town_2 13 rfl rfl)
theorem dX5_town_62 : decode cX5_town 62 = .ok (.iastore, 1) := dk_79 (dk_at dksX5_town_2 14 rfl rfl)
theorem dX5_town_63 : decode cX5_town 63 = .ok (.iinc 2 1, 3) := dk_132 2 1 (dk_at dksX5_town_2 15 rfl rfl)
theorem dX5_town_66 : decode cX5_town 66 = .ok (.goto (-16), 3) := dk_167 255 240 (dk_at dksX5_town_2 18 rfl rfl)
theorem dX5_town_69 : decode cX5_town 69 = .ok (.aload_n 0, 1) := dk_42 (dk_at dksX5_town_2 21 rfl rfl)
theorem dX5_town_70 : decode cX5_town 70 = .ok (.getfield 44, 3) := dk_180 0 44 (dk_at dksX5_town_3 0 rfl rfl)
theorem dX5_town_73 : decode cX5_town 73 = .ok (.invokestatic 124, 3) := dk_184 0 124 (dk_at dksX5_town_3 3 rfl rfl)
theorem dX5_town_76 : decode cX5_town 76 = .ok (.aload_n 0, 1) := dk_42 (dk_at dksX5_town_3 6 rfl rfl)
theorem dX5_town_77 : decode cX5_town 77 = .ok (.invokevirtual 192, 3) := dk_182 0 192 (dk_at dksX5_town_3 7 rfl rfl)
theorem dX5_town_80 : decode cX5_town 80 = .ok (.iconst 0, 1) := dk_3 (dk_at dksX5_town_3 10 rfl rfl)
theorem dX5_town_81 : decode cX5_town 81 = .ok (.istore_n 2, 1) := dk_61 (dk_at dksX5_town_3 11 rfl rfl)
theorem dX5_town_82 : decode cX5_town 82 = .ok (.aload_n 0, 1) := dk_42 (dk_at dksX5_town_3 12 rfl rfl)
theorem dX5_town_83 : decode cX5_town 83 = .ok (.getfield 174, 3) := dk_180 0 174 (dk_at dksX5_town_3 13 rfl rfl)
theorem dX5_town_86 : decode cX5_town 86 = .ok (.ifCond .ne 19, 3) := dk_154 0 19 (dk_at dksX5_town_3 16 rfl rfl)
theorem dX5_town_89 : decode cX5_town 89 = .ok (.aload_n 0, 1) := dk_42 (dk_at dksX5_town_3 19 rfl rfl)
theorem dX5_town_90 : decode cX5_town 90 = .ok (.getfield 151, 3) := dk_180 0 151 (dk_at dksX5_town_3 20 rfl rfl)
theorem dX5_town_93 : decode cX5_town 93 = .ok (.ifCond .eq 12, 3) := dk_153 0 12 (dk_at dksX5_town_4 0 rfl rfl)
theorem dX5_town_96 : decode cX5_town 96 = .ok (.aload_n 0, 1) := dk_42 (dk_at dksX5_town_4 3 rfl rfl)
theorem dX5_town_97 : decode cX5_town 97 = .ok (.iload_n 2, 1) := dk_28 (dk_at dksX5_town_4 4 rfl rfl)
theorem dX5_town_98 : decode cX5_town 98 = .ok (.invokevirtual 246, 3) := dk_182 0 246 (dk_at dksX5_town_4 5 rfl rfl)
theorem dX5_town_101 : decode cX5_town 101 = .ok (.istore_n 2, 1) := dk_61 (dk_at dksX5_town_4 8 rfl rfl)
theorem dX5_town_102 : decode cX5_town 102 = .ok (.goto (-20), 3) := dk_167 255 236 (dk_at dksX5_town_4 9 rfl rfl)
theorem dX5_town_105 : decode cX5_town 105 = .ok (.aload_n 0, 1) := dk_42 (dk_at dksX5_town_4 12 rfl rfl)
theorem dX5_town_106 : decode cX5_town 106 = .ok (.getfield 174, 3) := dk_180 0 174 (dk_at dksX5_town_4 13 rfl rfl)
theorem dX5_town_109 : decode cX5_town 109 = .ok (.ifCond .eq 26, 3) := dk_153 0 26 (dk_at dksX5_town_4 16 rfl rfl)
theorem dX5_town_112 : decode cX5_town 112 = .ok (.aload_n 0, 1) := dk_42 (dk_at dksX5_town_4 19 rfl rfl)
theorem dX5_town_113 : decode cX5_town 113 = .ok (.aload_n 0, 1) := dk_42 (dk_at dksX5_town_4 20 rfl rfl)
theorem dX5_town_114 : decode cX5_town 114 = .ok (.getfield 177, 3) := dk_180 0 177 (dk_at dksX5_town_4 21 rfl rfl)
theorem dX5_town_117 : decode cX5_town 117 = .ok (.putfield 60, 3) := dk_181 0 60 (dk_at dksX5_town_5 0 rfl rfl)
theorem dX5_town_120 : decode cX5_town 120 = .ok (.aload_n 0, 1) := dk_42 (dk_at dksX5_town_5 3 rfl rfl)
theorem dX5_town_121 : decode cX5_town 121 = .ok (.getfield 38, 3) := dk_180 0 38 (dk_at dksX5_town_5 4 rfl rfl)
theorem dX5_town_124 : decode cX5_town 124 = .ok (.iconst 0, 1) := dk_3 (dk_at dksX5_town_5 7 rfl rfl)
theorem dX5_town_125 : decode cX5_town 125 = .ok (.dup2, 1) := dk_92 (dk_at dksX5_town_5 8 rfl rfl)
theorem dX5_town_126 : decode cX5_town 126 = .ok (.iaload, 1) := dk_46 (dk_at dksX5_town_5 9 rfl rfl)
theorem dX5_town_127 : decode cX5_town 127 = .ok (.iconst 1, 1) := dk_4 (dk_at dksX5_town_5 10 rfl rfl)
theorem dX5_town_128 : decode cX5_town 128 = .ok (.iadd, 1) := dk_96 (dk_at dksX5_town_5 11 rfl rfl)
theorem dX5_town_129 : decode cX5_town 129 = .ok (.iastore, 1) := dk_79 (dk_at dksX5_town_5 12 rfl rfl)
theorem dX5_town_130 : decode cX5_town 130 = .ok (.aload_n 0, 1) := dk_42 (dk_at dksX5_town_5 13 rfl rfl)
theorem dX5_town_131 : decode cX5_town 131 = .ok (.getfield 174, 3) := dk_180 0 174 (dk_at dksX5_town_5 14 rfl rfl)
theorem dX5_town_134 : decode cX5_town 134 = .ok (.ireturn, 1) := dk_172 (dk_at dksX5_town_5 17 rfl rfl)
theorem dX5_town_135 : decode cX5_town 135 = .ok (.iconst 0, 1) := dk_3 (dk_at dksX5_town_5 18 rfl rfl)
theorem dX5_town_136 : decode cX5_town 136 = .ok (.istore_n 3, 1) := dk_62 (dk_at dksX5_town_5 19 rfl rfl)
theorem dX5_town_137 : decode cX5_town 137 = .ok (.iload_n 3, 1) := dk_29 (dk_at dksX5_town_5 20 rfl rfl)
theorem dX5_town_138 : decode cX5_town 138 = .ok (.iconst 4, 1) := dk_7 (dk_at dksX5_town_5 21 rfl rfl)
theorem dX5_town_139 : decode cX5_town 139 = .ok (.if_icmp .ge 23, 3) := dk_162 0 23 (dk_at dksX5_town_6 0 rfl rfl)
theorem dX5_town_142 : decode cX5_town 142 = .ok (.aload_n 0, 1) := dk_42 (dk_at dksX5_town_6 3 rfl rfl)
theorem dX5_town_143 : decode cX5_town 143 = .ok (.getfield 25, 3) := dk_180 0 25 (dk_at dksX5_town_6 4 rfl rfl)
theorem dX5_town_146 : decode cX5_town 146 = .ok (.iload_n 3, 1) := dk_29 (dk_at dksX5_town_6 7 rfl rfl)
theorem dX5_town_147 : decode cX5_town 147 = .ok (.aload_n 0, 1) := dk_42 (dk_at dksX5_town_6 8 rfl rfl)
theorem dX5_town_148 : decode cX5_town 148 = .ok (.getfield 25, 3) := dk_180 0 25 (dk_at dksX5_town_6 9 rfl rfl)
theorem dX5_town_151 : decode cX5_town 151 = .ok (.iconst 4, 1) := dk_7 (dk_at dksX5_town_6 12 rfl rfl)
theorem dX5_town_152 : decode cX5_town 152 = .ok (.iload_n 3, 1) := dk_29 (dk_at dksX5_town_6 13 rfl rfl)
theorem dX5_town_153 : decode cX5_town 153 = .ok (.iadd, 1) := dk_96 (dk_at dksX5_town_6 14 rfl rfl)
theorem dX5_town_154 : decode cX5_town 154 = .ok (.iaload, 1) := dk_46 (dk_at dksX5_town_6 15 rfl rfl)
theorem dX5_town_155 : decode cX5_town 155 = .ok (.iastore, 1) := dk_79 (dk_at dksX5_town_6 16 rfl rfl)
theorem dX5_town_156 : decode cX5_town 156 = .ok (.iinc 3 1, 3) := dk_132 3 1 (dk_at dksX5_town_6 17 rfl rfl)
theorem dX5_town_159 : decode cX5_town 159 = .ok (.goto (-22), 3) := dk_167 255 234 (dk_at dksX5_town_6 20 rfl rfl)
theorem dX5_town_162 : decode cX5_town 162 = .ok (.iconst 0, 1) := dk_3 (dk_at dksX5_town_6 23 rfl rfl)
theorem dX5_town_163 : decode cX5_town 163 = .ok (.istore_n 3, 1) := dk_62 (dk_at dksX5_town_7 0 rfl rfl)
theorem dX5_town_164 : decode cX5_town 164 = .ok (.iload_n 3, 1) := dk_29 (dk_at dksX5_town_7 1 rfl rfl)
theorem dX5_town_165 : decode cX5_town 165 = .ok (.bipush 6, 2) := dk_16 6 (dk_at dksX5_town_7 2 rfl rfl)
theorem dX5_town_167 : decode cX5_town 167 = .ok (.if_icmp .ge 39, 3) := dk_162 0 39 (dk_at dksX5_town_7 4 rfl rfl)
theorem dX5_town_170 : decode cX5_town 170 = .ok (.aload_n 0, 1) := dk_42 (dk_at dksX5_town_7 7 rfl rfl)
theorem dX5_town_171 : decode cX5_town 171 = .ok (.getfield 29, 3) := dk_180 0 29 (dk_at dksX5_town_7 8 rfl rfl)
theorem dX5_town_174 : decode cX5_town 174 = .ok (.iload_n 3, 1) := dk_29 (dk_at dksX5_town_7 11 rfl rfl)
theorem dX5_town_175 : decode cX5_town 175 = .ok (.aload_n 0, 1) := dk_42 (dk_at dksX5_town_7 12 rfl rfl)
theorem dX5_town_176 : decode cX5_town 176 = .ok (.getfield 29, 3) := dk_180 0 29 (dk_at dksX5_town_7 13 rfl rfl)
theorem dX5_town_179 : decode cX5_town 179 = .ok (.bipush 6, 2) := dk_16 6 (dk_at dksX5_town_7 16 rfl rfl)
theorem dX5_town_181 : decode cX5_town 181 = .ok (.iload_n 3, 1) := dk_29 (dk_at dksX5_town_7 18 rfl rfl)
theorem dX5_town_182 : decode cX5_town 182 = .ok (.iadd, 1) := dk_96 (dk_at dksX5_town_7 19 rfl rfl)
theorem dX5_town_183 : decode cX5_town 183 = .ok (.iaload, 1) := dk_46 (dk_at dksX5_town_7 20 rfl rfl)
theorem dX5_town_184 : decode cX5_town 184 = .ok (.iastore, 1) := dk_79 (dk_at dksX5_town_7 21 rfl rfl)
theorem dX5_town_185 : decode cX5_town 185 = .ok (.aload_n 0, 1) := dk_42 (dk_at dksX5_town_7 22 rfl rfl)
theorem dX5_town_186 : decode cX5_town 186 = .ok (.getfield 32, 3) := dk_180 0 32 (dk_at dksX5_town_8 0 rfl rfl)
theorem dX5_town_189 : decode cX5_town 189 = .ok (.iload_n 3, 1) := dk_29 (dk_at dksX5_town_8 3 rfl rfl)
theorem dX5_town_190 : decode cX5_town 190 = .ok (.aload_n 0, 1) := dk_42 (dk_at dksX5_town_8 4 rfl rfl)
theorem dX5_town_191 : decode cX5_town 191 = .ok (.getfield 32, 3) := dk_180 0 32 (dk_at dksX5_town_8 5 rfl rfl)
theorem dX5_town_194 : decode cX5_town 194 = .ok (.bipush 6, 2) := dk_16 6 (dk_at dksX5_town_8 8 rfl rfl)
theorem dX5_town_196 : decode cX5_town 196 = .ok (.iload_n 3, 1) := dk_29 (dk_at dksX5_town_8 10 rfl rfl)
theorem dX5_town_197 : decode cX5_town 197 = .ok (.iadd, 1) := dk_96 (dk_at dksX5_town_8 11 rfl rfl)
theorem dX5_town_198 : decode cX5_town 198 = .ok (.iaload, 1) := dk_46 (dk_at dksX5_town_8 12 rfl rfl)
theorem dX5_town_199 : decode cX5_town 199 = .ok (.iastore, 1) := dk_79 (dk_at dksX5_town_8 13 rfl rfl)
theorem dX5_town_200 : decode cX5_town 200 = .ok (.iinc 3 1, 3) := dk_132 3 1 (dk_at dksX5_town_8 14 rfl rfl)
theorem dX5_town_203 : decode cX5_town 203 = .ok (.goto (-39), 3) := dk_167 255 217 (dk_at dksX5_town_8 17 rfl rfl)
theorem dX5_town_206 : decode cX5_town 206 = .ok (.iconst 0, 1) := dk_3 (dk_at dksX5_town_8 20 rfl rfl)
theorem dX5_town_207 : decode cX5_town 207 = .ok (.istore_n 3, 1) := dk_62 (dk_at dksX5_town_8 21 rfl rfl)
theorem dX5_town_208 : decode cX5_town 208 = .ok (.iload_n 3, 1) := dk_29 (dk_at dksX5_town_8 22 rfl rfl)
theorem dX5_town_209 : decode cX5_town 209 = .ok (.bipush 12, 2) := dk_16 12 (dk_at dksX5_town_9 0 rfl rfl)
theorem dX5_town_211 : decode cX5_town 211 = .ok (.if_icmp .ge 51, 3) := dk_162 0 51 (dk_at dksX5_town_9 2 rfl rfl)
theorem dX5_town_214 : decode cX5_town 214 = .ok (.aload_n 0, 1) := dk_42 (dk_at dksX5_town_9 5 rfl rfl)
theorem dX5_town_215 : decode cX5_town 215 = .ok (.getfield 35, 3) := dk_180 0 35 (dk_at dksX5_town_9 6 rfl rfl)
theorem dX5_town_218 : decode cX5_town 218 = .ok (.iload_n 3, 1) := dk_29 (dk_at dksX5_town_9 9 rfl rfl)
theorem dX5_town_219 : decode cX5_town 219 = .ok (.aload_n 0, 1) := dk_42 (dk_at dksX5_town_9 10 rfl rfl)
theorem dX5_town_220 : decode cX5_town 220 = .ok (.getfield 35, 3) := dk_180 0 35 (dk_at dksX5_town_9 11 rfl rfl)
theorem dX5_town_223 : decode cX5_town 223 = .ok (.bipush 12, 2) := dk_16 12 (dk_at dksX5_town_9 14 rfl rfl)
theorem dX5_town_225 : decode cX5_town 225 = .ok (.iload_n 3, 1) := dk_29 (dk_at dksX5_town_9 16 rfl rfl)
theorem dX5_town_226 : decode cX5_town 226 = .ok (.iadd, 1) := dk_96 (dk_at dksX5_town_9 17 rfl rfl)
theorem dX5_town_227 : decode cX5_town 227 = .ok (.iaload, 1) := dk_46 (dk_at dksX5_town_9 18 rfl rfl)
theorem dX5_town_228 : decode cX5_town 228 = .ok (.iastore, 1) := dk_79 (dk_at dksX5_town_9 19 rfl rfl)
theorem dX5_town_229 : decode cX5_town 229 = .ok (.aload_n 0, 1) := dk_42 (dk_at dksX5_town_9 20 rfl rfl)
theorem dX5_town_230 : decode cX5_town 230 = .ok (.getfield 47, 3) := dk_180 0 47 (dk_at dksX5_town_9 21 rfl rfl)
theorem dX5_town_233 : decode cX5_town 233 = .ok (.iload_n 3, 1) := dk_29 (dk_at dksX5_town_10 0 rfl rfl)
theorem dX5_town_234 : decode cX5_town 234 = .ok (.aload_n 0, 1) := dk_42 (dk_at dksX5_town_10 1 rfl rfl)
theorem dX5_town_235 : decode cX5_town 235 = .ok (.getfield 50, 3) := dk_180 0 50 (dk_at dksX5_town_10 2 rfl rfl)
theorem dX5_town_238 : decode cX5_town 238 = .ok (.iload_n 3, 1) := dk_29 (dk_at dksX5_town_10 5 rfl rfl)
theorem dX5_town_239 : decode cX5_town 239 = .ok (.iaload, 1) := dk_46 (dk_at dksX5_town_10 6 rfl rfl)
theorem dX5_town_240 : decode cX5_town 240 = .ok (.iastore, 1) := dk_79 (dk_at dksX5_town_10 7 rfl rfl)
theorem dX5_town_241 : decode cX5_town 241 = .ok (.aload_n 0, 1) := dk_42 (dk_at dksX5_town_10 8 rfl rfl)
theorem dX5_town_242 : decode cX5_town 242 = .ok (.getfield 53, 3) := dk_180 0 53 (dk_at dksX5_town_10 9 rfl rfl)
theorem dX5_town_245 : decode cX5_town 245 = .ok (.iload_n 3, 1) := dk_29 (dk_at dksX5_town_10 12 rfl rfl)
theorem dX5_town_246 : decode cX5_town 246 = .ok (.aload_n 0, 1) := dk_42 (dk_at dksX5_town_10 13 rfl rfl)
theorem dX5_town_247 : decode cX5_town 247 = .ok (.getfield 53, 3) := dk_180 0 53 (dk_at dksX5_town_10 14 rfl rfl)
theorem dX5_town_250 : decode cX5_town 250 = .ok (.bipush 12, 2) := dk_16 12 (dk_at dksX5_town_10 17 rfl rfl)
theorem dX5_town_252 : decode cX5_town 252 = .ok (.iload_n 3, 1) := dk_29 (dk_at dksX5_town_10 19 rfl rfl)
theorem dX5_town_253 : decode cX5_town 253 = .ok (.iadd, 1) := dk_96 (dk_at dksX5_town_10 20 rfl rfl)
theorem dX5_town_254 : decode cX5_town 254 = .ok (.baload, 1) := dk_51 (dk_at dksX5_town_10 21 rfl rfl)
theorem dX5_town_255 : decode cX5_town 255 = .ok (.bastore, 1) := dk_84 (dk_at dksX5_town_10 22 rfl rfl)
theorem dX5_town_256 : decode cX5_town 256 = .ok (.iinc 3 1, 3) := dk_132 3 1 (dk_at dksX5_town_11 0 rfl rfl)
theorem dX5_town_259 : decode cX5_town 259 = .ok (.goto (-51), 3) := dk_167 255 205 (dk_at dksX5_town_11 3 rfl rfl)
theorem dX5_town_262 : decode cX5_town 262 = .ok (.aload_n 0, 1) := dk_42 (dk_at dksX5_town_11 6 rfl rfl)
theorem dX5_town_263 : decode cX5_town 263 = .ok (.getfield 44, 3) := dk_180 0 44 (dk_at dksX5_town_11 7 rfl rfl)
theorem dX5_town_266 : decode cX5_town 266 = .ok (.aload_n 0, 1) := dk_42 (dk_at dksX5_town_11 10 rfl rfl)
theorem dX5_town_267 : decode cX5_town 267 = .ok (.getfield 41, 3) := dk_180 0 41 (dk_at dksX5_town_11 11 rfl rfl)
theorem dX5_town_270 : decode cX5_town 270 = .ok (.invokestatic 249, 3) := dk_184 0 249 (dk_at dksX5_town_11 14 rfl rfl)
theorem dX5_town_273 : decode cX5_town 273 = .ok (.aload_n 0, 1) := dk_42 (dk_at dksX5_town_11 17 rfl rfl)
theorem dX5_town_274 : decode cX5_town 274 = .ok (.iconst 0, 1) := dk_3 (dk_at dksX5_town_11 18 rfl rfl)
theorem dX5_town_275 : decode cX5_town 275 = .ok (.putfield 253, 3) := dk_181 0 253 (dk_at dksX5_town_11 19 rfl rfl)
theorem dX5_town_278 : decode cX5_town 278 = .ok (.aload_n 0, 1) := dk_42 (dk_at dksX5_town_11 22 rfl rfl)
theorem dX5_town_279 : decode cX5_town 279 = .ok (.iconst 0, 1) := dk_3 (dk_at dksX5_town_11 23 rfl rfl)
theorem dX5_town_280 : decode cX5_town 280 = .ok (.putfield 256, 3) := dk_181 1 0 (dk_at dksX5_town_12 0 rfl rfl)
theorem dX5_town_283 : decode cX5_town 283 = .ok (.aload_n 0, 1) := dk_42 (dk_at dksX5_town_12 3 rfl rfl)
theorem dX5_town_284 : decode cX5_town 284 = .ok (.iconst (-1), 1) := dk_2 (dk_at dksX5_town_12 4 rfl rfl)
theorem dX5_town_285 : decode cX5_town 285 = .ok (.putfield 85, 3) := dk_181 0 85 (dk_at dksX5_town_12 5 rfl rfl)
theorem dX5_town_288 : decode cX5_town 288 = .ok (.aload_n 0, 1) := dk_42 (dk_at dksX5_town_12 8 rfl rfl)
theorem dX5_town_289 : decode cX5_town 289 = .ok (.iconst 0, 1) := dk_3 (dk_at dksX5_town_12 9 rfl rfl)
theorem dX5_town_290 : decode cX5_town 290 = .ok (.putfield 259, 3) := dk_181 1 3 (dk_at dksX5_town_12 10 rfl rfl)
theorem dX5_town_293 : decode cX5_town 293 = .ok (.iconst 0, 1) := dk_3 (dk_at dksX5_town_12 13 rfl rfl)
theorem dX5_town_294 : decode cX5_town 294 = .ok (.ireturn, 1) := dk_172 (dk_at dksX5_town_12 14 rfl rfl)
abbrev cX5_fail : ByteArray := prog_16_method_3_code
def yX5_fail : MethodName := ⟨RX5, "fail", "(I)I"⟩
def dkwX5_fail_0 : List UInt8 := [42, 27, 181, 0, 128, 3, 172]
abbrev dktX5_fail_0 : List UInt8 := dkwX5_fail_0 ++ []
theorem dksX5_fail_0 : cX5_fail.data.toList.drop 0 = dktX5_fail_0 := by decide +kernel
theorem dX5_fail_0 : decode cX5_fail 0 = .ok (.aload_n 0, 1) := dk_42 (dk_at dksX5_fail_0 0 rfl rfl)
theorem dX5_fail_1 : decode cX5_fail 1 = .ok (.iload_n 1, 1) := dk_27 (dk_at dksX5_fail_0 1 rfl rfl)
theorem dX5_fail_2 : decode cX5_fail 2 = .ok (.putfield 128, 3) := dk_181 0 128 (dk_at dksX5_fail_0 2 rfl rfl)
theorem dX5_fail_5 : decode cX5_fail 5 = .ok (.iconst 0, 1) := dk_3 (dk_at dksX5_fail_0 5 rfl rfl)
theorem dX5_fail_6 : decode cX5_fail 6 = .ok (.ireturn, 1) := dk_172 (dk_at dksX5_fail_0 6 rfl rfl)
abbrev cX5_stepOn : ByteArray := prog_16_method_12_code
def yX5_stepOn : MethodName := ⟨RX5, "stepOn", "()V"⟩
def dkwX5_stepOn_9 : List UInt8 := [181, 0, 151, 42, 42, 180, 0, 141, 181, 0, 171, 177]
abbrev dktX5_stepOn_9 : List UInt8 := dkwX5_stepOn_9 ++ []
def dkwX5_stepOn_8 : List UInt8 := [42, 89, 180, 0, 141, 4, 96, 181, 0, 141, 42, 27, 16, 59, 160, 0, 7, 6, 167, 0, 4, 7]
abbrev dktX5_stepOn_8 : List UInt8 := dkwX5_stepOn_8 ++ dktX5_stepOn_9
def dkwX5_stepOn_7 : List UInt8 := [181, 0, 161, 42, 89, 180, 0, 141, 4, 96, 181, 0, 141, 167, 255, 204, 42, 5, 181, 0, 151, 167, 0, 28]
abbrev dktX5_stepOn_7 : List UInt8 := dkwX5_stepOn_7 ++ dktX5_stepOn_8
def dkwX5_stepOn_6 : List UInt8 := [18, 164, 16, 10, 42, 180, 0, 161, 104, 42, 42, 180, 0, 141, 182, 0, 144, 96, 16, 48, 100, 184, 0, 165]
abbrev dktX5_stepOn_6 : List UInt8 := dkwX5_stepOn_6 ++ dktX5_stepOn_7
def dkwX5_stepOn_5 : List UInt8 := [153, 0, 71, 42, 3, 181, 0, 161, 42, 42, 180, 0, 141, 182, 0, 144, 184, 0, 158, 153, 0, 44, 42]
abbrev dktX5_stepOn_5 : List UInt8 := dkwX5_stepOn_5 ++ dktX5_stepOn_6
def dkwX5_stepOn_4 : List UInt8 := [180, 0, 141, 4, 96, 181, 0, 141, 167, 255, 232, 42, 4, 181, 0, 151, 167, 0, 103, 27, 184, 0, 158]
abbrev dktX5_stepOn_4 : List UInt8 := dkwX5_stepOn_4 ++ dktX5_stepOn_5
def dkwX5_stepOn_3 : List UInt8 := [184, 0, 154, 153, 0, 38, 42, 42, 180, 0, 141, 182, 0, 144, 184, 0, 154, 153, 0, 16, 42, 89]
abbrev dktX5_stepOn_3 : List UInt8 := dkwX5_stepOn_3 ++ dktX5_stepOn_4
def dkwX5_stepOn_2 : List UInt8 := [42, 42, 180, 0, 141, 182, 0, 144, 60, 27, 2, 160, 0, 11, 42, 3, 181, 0, 151, 167, 0, 145, 27]
abbrev dktX5_stepOn_2 : List UInt8 := dkwX5_stepOn_2 ++ dktX5_stepOn_3
def dkwX5_stepOn_1 : List UInt8 := [160, 0, 16, 42, 89, 180, 0, 141, 4, 96, 181, 0, 141, 167, 255, 220, 42, 42, 180, 0, 141, 181, 0, 148]
abbrev dktX5_stepOn_1 : List UInt8 := dkwX5_stepOn_1 ++ dktX5_stepOn_2
def dkwX5_stepOn_0 : List UInt8 := [42, 42, 180, 0, 141, 182, 0, 144, 16, 32, 159, 0, 16, 42, 42, 180, 0, 141, 182, 0, 144, 16, 10]
abbrev dktX5_stepOn_0 : List UInt8 := dkwX5_stepOn_0 ++ dktX5_stepOn_1
theorem dksX5_stepOn_0 : cX5_stepOn.data.toList.drop 0 = dktX5_stepOn_0 := by decide +kernel
theorem dksX5_stepOn_1 : cX5_stepOn.data.toList.drop 23 = dktX5_stepOn_1 := dk_seg dksX5_stepOn_0 23 rfl rfl
theorem dksX5_stepOn_2 : cX5_stepOn.data.toList.drop 47 = dktX5_stepOn_2 := dk_seg dksX5_stepOn_1 24 rfl rfl
theorem dksX5_stepOn_3 : cX5_stepOn.data.toList.drop 70 = dktX5_stepOn_3 := dk_seg dksX5_stepOn_2 23 rfl rfl
theorem dksX5_stepOn_4 : cX5_stepOn.data.toList.drop 92 = dktX5_stepOn_4 := dk_seg dksX5_stepOn_3 22 rfl rfl
theorem dksX5_stepOn_5 : cX5_stepOn.data.toList.drop 115 = dktX5_stepOn_5 := dk_seg dksX5_stepOn_4 23 rfl rfl
theorem dksX5_stepOn_6 : cX5_stepOn.data.toList.drop 138 = dktX5_stepOn_6 := dk_seg dksX5_stepOn_5 23 rfl rfl
theorem dksX5_stepOn_7 : cX5_stepOn.data.toList.drop 162 = dktX5_stepOn_7 := dk_seg dksX5_stepOn_6 24 rfl rfl
theorem dksX5_stepOn_8 : cX5_stepOn.data.toList.drop 186 = dktX5_stepOn_8 := dk_seg dksX5_stepOn_7 24 rfl rfl
theorem dksX5_stepOn_9 : cX5_stepOn.data.toList.drop 208 = dktX5_stepOn_9 := dk_seg dksX5_stepOn_8 22 rfl rfl
theorem dX5_stepOn_0 : decode cX5_stepOn 0 = .ok (.aload_n 0, 1) := dk_42 (dk_at dksX5_stepOn_0 0 rfl rfl)
theorem dX5_stepOn_1 : decode cX5_stepOn 1 = .ok (.aload_n 0, 1) := dk_42 (dk_at dksX5_stepOn_0 1 rfl rfl)
theorem dX5_stepOn_2 : decode cX5_stepOn 2 = .ok (.getfield 141, 3) := dk_180 0 141 (dk_at dksX5_stepOn_0 2 rfl rfl)
theorem dX5_stepOn_5 : decode cX5_stepOn 5 = .ok (.invokevirtual 144, 3) := dk_182 0 144 (dk_at dksX5_stepOn_0 5 rfl rfl)
theorem dX5_stepOn_8 : decode cX5_stepOn 8 = .ok (.bipush 32, 2) := dk_16 32 (dk_at dksX5_stepOn_0 8 rfl rfl)
theorem dX5_stepOn_10 : decode cX5_stepOn 10 = .ok (.if_icmp .eq 16, 3) := dk_159 0 16 (dk_at dksX5_stepOn_0 10 rfl rfl)
theorem dX5_stepOn_13 : decode cX5_stepOn 13 = .ok (.aload_n 0, 1) := dk_42 (dk_at dksX5_stepOn_0 13 rfl rfl)
theorem dX5_stepOn_14 : decode cX5_stepOn 14 = .ok (.aload_n 0, 1) := dk_42 (dk_at dksX5_stepOn_0 14 rfl rfl)
theorem dX5_stepOn_15 : decode cX5_stepOn 15 = .ok (.getfield 141, 3) := dk_180 0 141 (dk_at dksX5_stepOn_0 15 rfl rfl)
theorem dX5_stepOn_18 : decode cX5_stepOn 18 = .ok (.invokevirtual 144, 3) := dk_182 0 144 (dk_at dksX5_stepOn_0 18 rfl rfl)
theorem dX5_stepOn_21 : decode cX5_stepOn 21 = .ok (.bipush 10, 2) := dk_16 10 (dk_at dksX5_stepOn_0 21 rfl rfl)
theorem dX5_stepOn_23 : decode cX5_stepOn 23 = .ok (.if_icmp .ne 16, 3) := dk_160 0 16 (dk_at dksX5_stepOn_1 0 rfl rfl)
theorem dX5_stepOn_26 : decode cX5_stepOn 26 = .ok (.aload_n 0, 1) := dk_42 (dk_at dksX5_stepOn_1 3 rfl rfl)
theorem dX5_stepOn_27 : decode cX5_stepOn 27 = .ok (.dup, 1) := dk_89 (dk_at dksX5_stepOn_1 4 rfl rfl)
theorem dX5_stepOn_28 : decode cX5_stepOn 28 = .ok (.getfield 141, 3) := dk_180 0 141 (dk_at dksX5_stepOn_1 5 rfl rfl)
theorem dX5_stepOn_31 : decode cX5_stepOn 31 = .ok (.iconst 1, 1) := dk_4 (dk_at dksX5_stepOn_1 8 rfl rfl)
theorem dX5_stepOn_32 : decode cX5_stepOn 32 = .ok (.iadd, 1) := dk_96 (dk_at dksX5_stepOn_1 9 rfl rfl)
theorem dX5_stepOn_33 : decode cX5_stepOn 33 = .ok (.putfield 141, 3) := dk_181 0 141 (dk_at dksX5_stepOn_1 10 rfl rfl)
theorem dX5_stepOn_36 : decode cX5_stepOn 36 = .ok (.goto (-36), 3) := dk_167 255 220 (dk_at dksX5_stepOn_1 13 rfl rfl)
theorem dX5_stepOn_39 : decode cX5_stepOn 39 = .ok (.aload_n 0, 1) := dk_42 (dk_at dksX5_stepOn_1 16 rfl rfl)
theorem dX5_stepOn_40 : decode cX5_stepOn 40 = .ok (.aload_n 0, 1) := dk_42 (dk_at dksX5_stepOn_1 17 rfl rfl)
theorem dX5_stepOn_41 : decode cX5_stepOn 41 = .ok (.getfield 141, 3) := dk_180 0 141 (dk_at dksX5_stepOn_1 18 rfl rfl)
theorem dX5_stepOn_44 : decode cX5_stepOn 44 = .ok (.putfield 148, 3) := dk_181 0 148 (dk_at dksX5_stepOn_1 21 rfl rfl)
theorem dX5_stepOn_47 : decode cX5_stepOn 47 = .ok (.aload_n 0, 1) := dk_42 (dk_at dksX5_stepOn_2 0 rfl rfl)
theorem dX5_stepOn_48 : decode cX5_stepOn 48 = .ok (.aload_n 0, 1) := dk_42 (dk_at dksX5_stepOn_2 1 rfl rfl)
theorem dX5_stepOn_49 : decode cX5_stepOn 49 = .ok (.getfield 141, 3) := dk_180 0 141 (dk_at dksX5_stepOn_2 2 rfl rfl)
theorem dX5_stepOn_52 : decode cX5_stepOn 52 = .ok (.invokevirtual 144, 3) := dk_182 0 144 (dk_at dksX5_stepOn_2 5 rfl rfl)
theorem dX5_stepOn_55 : decode cX5_stepOn 55 = .ok (.istore_n 1, 1) := dk_60 (dk_at dksX5_stepOn_2 8 rfl rfl)
theorem dX5_stepOn_56 : decode cX5_stepOn 56 = .ok (.iload_n 1, 1) := dk_27 (dk_at dksX5_stepOn_2 9 rfl rfl)
theorem dX5_stepOn_57 : decode cX5_stepOn 57 = .ok (.iconst (-1), 1) := dk_2 (dk_at dksX5_stepOn_2 10 rfl rfl)
theorem dX5_stepOn_58 : decode cX5_stepOn 58 = .ok (.if_icmp .ne 11, 3) := dk_160 0 11 (dk_at dksX5_stepOn_2 11 rfl rfl)
theorem dX5_stepOn_61 : decode cX5_stepOn 61 = .ok (.aload_n 0, 1) := dk_42 (dk_at dksX5_stepOn_2 14 rfl rfl)
theorem dX5_stepOn_62 : decode cX5_stepOn 62 = .ok (.iconst 0, 1) := dk_3 (dk_at dksX5_stepOn_2 15 rfl rfl)
theorem dX5_stepOn_63 : decode cX5_stepOn 63 = .ok (.putfield 151, 3) := dk_181 0 151 (dk_at dksX5_stepOn_2 16 rfl rfl)
theorem dX5_stepOn_66 : decode cX5_stepOn 66 = .ok (.goto 145, 3) := dk_167 0 145 (dk_at dksX5_stepOn_2 19 rfl rfl)
theorem dX5_stepOn_69 : decode cX5_stepOn 69 = .ok (.iload_n 1, 1) := dk_27 (dk_at dksX5_stepOn_2 22 rfl rfl)
theorem dX5_stepOn_70 : decode cX5_stepOn 70 = .ok (.invokestatic 154, 3) := dk_184 0 154 (dk_at dksX5_stepOn_3 0 rfl rfl)
theorem dX5_stepOn_73 : decode cX5_stepOn 73 = .ok (.ifCond .eq 38, 3) := dk_153 0 38 (dk_at dksX5_stepOn_3 3 rfl rfl)
theorem dX5_stepOn_76 : decode cX5_stepOn 76 = .ok (.aload_n 0, 1) := dk_42 (dk_at dksX5_stepOn_3 6 rfl rfl)
theorem dX5_stepOn_77 : decode cX5_stepOn 77 = .ok (.aload_n 0, 1) := dk_42 (dk_at dksX5_stepOn_3 7 rfl rfl)
theorem dX5_stepOn_78 : decode cX5_stepOn 78 = .ok (.getfield 141, 3) := dk_180 0 141 (dk_at dksX5_stepOn_3 8 rfl rfl)
theorem dX5_stepOn_81 : decode cX5_stepOn 81 = .ok (.invokevirtual 144, 3) := dk_182 0 144 (dk_at dksX5_stepOn_3 11 rfl rfl)
theorem dX5_stepOn_84 : decode cX5_stepOn 84 = .ok (.invokestatic 154, 3) := dk_184 0 154 (dk_at dksX5_stepOn_3 14 rfl rfl)
theorem dX5_stepOn_87 : decode cX5_stepOn 87 = .ok (.ifCond .eq 16, 3) := dk_153 0 16 (dk_at dksX5_stepOn_3 17 rfl rfl)
theorem dX5_stepOn_90 : decode cX5_stepOn 90 = .ok (.aload_n 0, 1) := dk_42 (dk_at dksX5_stepOn_3 20 rfl rfl)
theorem dX5_stepOn_91 : decode cX5_stepOn 91 = .ok (.dup, 1) := dk_89 (dk_at dksX5_stepOn_3 21 rfl rfl)
theorem dX5_stepOn_92 : decode cX5_stepOn 92 = .ok (.getfield 141, 3) := dk_180 0 141 (dk_at dksX5_stepOn_4 0 rfl rfl)
theorem dX5_stepOn_95 : decode cX5_stepOn 95 = .ok (.iconst 1, 1) := dk_4 (dk_at dksX5_stepOn_4 3 rfl rfl)
theorem dX5_stepOn_96 : decode cX5_stepOn 96 = .ok (.iadd, 1) := dk_96 (dk_at dksX5_stepOn_4 4 rfl rfl)
theorem dX5_stepOn_97 : decode cX5_stepOn 97 = .ok (.putfield 141, 3) := dk_181 0 141 (dk_at dksX5_stepOn_4 5 rfl rfl)
theorem dX5_stepOn_100 : decode cX5_stepOn 100 = .ok (.goto (-24), 3) := dk_167 255 232 (dk_at dksX5_stepOn_4 8 rfl rfl)
theorem dX5_stepOn_103 : decode cX5_stepOn 103 = .ok (.aload_n 0, 1) := dk_42 (dk_at dksX5_stepOn_4 11 rfl rfl)
theorem dX5_stepOn_104 : decode cX5_stepOn 104 = .ok (.iconst 1, 1) := dk_4 (dk_at dksX5_stepOn_4 12 rfl rfl)
theorem dX5_stepOn_105 : decode cX5_stepOn 105 = .ok (.putfield 151, 3) := dk_181 0 151 (dk_at dksX5_stepOn_4 13 rfl rfl)
theorem dX5_stepOn_108 : decode cX5_stepOn 108 = .ok (.goto 103, 3) := dk_167 0 103 (dk_at dksX5_stepOn_4 16 rfl rfl)
theorem dX5_stepOn_111 : decode cX5_stepOn 111 = .ok (.iload_n 1, 1) := dk_27 (dk_at dksX5_stepOn_4 19 rfl rfl)
theorem dX5_stepOn_112 : decode cX5_stepOn 112 = .ok (.invokestatic 158, 3) := dk_184 0 158 (dk_at dksX5_stepOn_4 20 rfl rfl)
theorem dX5_stepOn_115 : decode cX5_stepOn 115 = .ok (.ifCond .eq 71, 3) := dk_153 0 71 (dk_at dksX5_stepOn_5 0 rfl rfl)
theorem dX5_stepOn_118 : decode cX5_stepOn 118 = .ok (.aload_n 0, 1) := dk_42 (dk_at dksX5_stepOn_5 3 rfl rfl)
theorem dX5_stepOn_119 : decode cX5_stepOn 119 = .ok (.iconst 0, 1) := dk_3 (dk_at dksX5_stepOn_5 4 rfl rfl)
theorem dX5_stepOn_120 : decode cX5_stepOn 120 = .ok (.putfield 161, 3) := dk_181 0 161 (dk_at dksX5_stepOn_5 5 rfl rfl)
theorem dX5_stepOn_123 : decode cX5_stepOn 123 = .ok (.aload_n 0, 1) := dk_42 (dk_at dksX5_stepOn_5 8 rfl rfl)
theorem dX5_stepOn_124 : decode cX5_stepOn 124 = .ok (.aload_n 0, 1) := dk_42 (dk_at dksX5_stepOn_5 9 rfl rfl)
theorem dX5_stepOn_125 : decode cX5_stepOn 125 = .ok (.getfield 141, 3) := dk_180 0 141 (dk_at dksX5_stepOn_5 10 rfl rfl)
theorem dX5_stepOn_128 : decode cX5_stepOn 128 = .ok (.invokevirtual 144, 3) := dk_182 0 144 (dk_at dksX5_stepOn_5 13 rfl rfl)
theorem dX5_stepOn_131 : decode cX5_stepOn 131 = .ok (.invokestatic 158, 3) := dk_184 0 158 (dk_at dksX5_stepOn_5 16 rfl rfl)
theorem dX5_stepOn_134 : decode cX5_stepOn 134 = .ok (.ifCond .eq 44, 3) := dk_153 0 44 (dk_at dksX5_stepOn_5 19 rfl rfl)
theorem dX5_stepOn_137 : decode cX5_stepOn 137 = .ok (.aload_n 0, 1) := dk_42 (dk_at dksX5_stepOn_5 22 rfl rfl)
theorem dX5_stepOn_138 : decode cX5_stepOn 138 = .ok (.ldc 164, 2) := dk_18 164 (dk_at dksX5_stepOn_6 0 rfl rfl)
theorem dX5_stepOn_140 : decode cX5_stepOn 140 = .ok (.bipush 10, 2) := dk_16 10 (dk_at dksX5_stepOn_6 2 rfl rfl)
theorem dX5_stepOn_142 : decode cX5_stepOn 142 = .ok (.aload_n 0, 1) := dk_42 (dk_at dksX5_stepOn_6 4 rfl rfl)
theorem dX5_stepOn_143 : decode cX5_stepOn 143 = .ok (.getfield 161, 3) := dk_180 0 161 (dk_at dksX5_stepOn_6 5 rfl rfl)
theorem dX5_stepOn_146 : decode cX5_stepOn 146 = .ok (.imul, 1) := dk_104 (dk_at dksX5_stepOn_6 8 rfl rfl)
theorem dX5_stepOn_147 : decode cX5_stepOn 147 = .ok (.aload_n 0, 1) := dk_42 (dk_at dksX5_stepOn_6 9 rfl rfl)
theorem dX5_stepOn_148 : decode cX5_stepOn 148 = .ok (.aload_n 0, 1) := dk_42 (dk_at dksX5_stepOn_6 10 rfl rfl)
theorem dX5_stepOn_149 : decode cX5_stepOn 149 = .ok (.getfield 141, 3) := dk_180 0 141 (dk_at dksX5_stepOn_6 11 rfl rfl)
theorem dX5_stepOn_152 : decode cX5_stepOn 152 = .ok (.invokevirtual 144, 3) := dk_182 0 144 (dk_at dksX5_stepOn_6 14 rfl rfl)
theorem dX5_stepOn_155 : decode cX5_stepOn 155 = .ok (.iadd, 1) := dk_96 (dk_at dksX5_stepOn_6 17 rfl rfl)
theorem dX5_stepOn_156 : decode cX5_stepOn 156 = .ok (.bipush 48, 2) := dk_16 48 (dk_at dksX5_stepOn_6 18 rfl rfl)
theorem dX5_stepOn_158 : decode cX5_stepOn 158 = .ok (.isub, 1) := dk_100 (dk_at dksX5_stepOn_6 20 rfl rfl)
theorem dX5_stepOn_159 : decode cX5_stepOn 159 = .ok (.invokestatic 165, 3) := dk_184 0 165 (dk_at dksX5_stepOn_6 21 rfl rfl)
theorem dX5_stepOn_162 : decode cX5_stepOn 162 = .ok (.putfield 161, 3) := dk_181 0 161 (dk_at dksX5_stepOn_7 0 rfl rfl)
theorem dX5_stepOn_165 : decode cX5_stepOn 165 = .ok (.aload_n 0, 1) := dk_42 (dk_at dksX5_stepOn_7 3 rfl rfl)
theorem dX5_stepOn_166 : decode cX5_stepOn 166 = .ok (.dup, 1) := dk_89 (dk_at dksX5_stepOn_7 4 rfl rfl)
theorem dX5_stepOn_167 : decode cX5_stepOn 167 = .ok (.getfield 141, 3) := dk_180 0 141 (dk_at dksX5_stepOn_7 5 rfl rfl)
theorem dX5_stepOn_170 : decode cX5_stepOn 170 = .ok (.iconst 1, 1) := dk_4 (dk_at dksX5_stepOn_7 8 rfl rfl)
theorem dX5_stepOn_171 : decode cX5_stepOn 171 = .ok (.iadd, 1) := dk_96 (dk_at dksX5_stepOn_7 9 rfl rfl)
theorem dX5_stepOn_172 : decode cX5_stepOn 172 = .ok (.putfield 141, 3) := dk_181 0 141 (dk_at dksX5_stepOn_7 10 rfl rfl)
theorem dX5_stepOn_175 : decode cX5_stepOn 175 = .ok (.goto (-52), 3) := dk_167 255 204 (dk_at dksX5_stepOn_7 13 rfl rfl)
theorem dX5_stepOn_178 : decode cX5_stepOn 178 = .ok (.aload_n 0, 1) := dk_42 (dk_at dksX5_stepOn_7 16 rfl rfl)
theorem dX5_stepOn_179 : decode cX5_stepOn 179 = .ok (.iconst 2, 1) := dk_5 (dk_at dksX5_stepOn_7 17 rfl rfl)
theorem dX5_stepOn_180 : decode cX5_stepOn 180 = .ok (.putfield 151, 3) := dk_181 0 151 (dk_at dksX5_stepOn_7 18 rfl rfl)
theorem dX5_stepOn_183 : decode cX5_stepOn 183 = .ok (.goto 28, 3) := dk_167 0 28 (dk_at dksX5_stepOn_7 21 rfl rfl)
theorem dX5_stepOn_186 : decode cX5_stepOn 186 = .ok (.aload_n 0, 1) := dk_42 (dk_at dksX5_stepOn_8 0 rfl rfl)
theorem dX5_stepOn_187 : decode cX5_stepOn 187 = .ok (.dup, 1) := dk_89 (dk_at dksX5_stepOn_8 1 rfl rfl)
theorem dX5_stepOn_188 : decode cX5_stepOn 188 = .ok (.getfield 141, 3) := dk_180 0 141 (dk_at dksX5_stepOn_8 2 rfl rfl)
theorem dX5_stepOn_191 : decode cX5_stepOn 191 = .ok (.iconst 1, 1) := dk_4 (dk_at dksX5_stepOn_8 5 rfl rfl)
theorem dX5_stepOn_192 : decode cX5_stepOn 192 = .ok (.iadd, 1) := dk_96 (dk_at dksX5_stepOn_8 6 rfl rfl)
theorem dX5_stepOn_193 : decode cX5_stepOn 193 = .ok (.putfield 141, 3) := dk_181 0 141 (dk_at dksX5_stepOn_8 7 rfl rfl)
theorem dX5_stepOn_196 : decode cX5_stepOn 196 = .ok (.aload_n 0, 1) := dk_42 (dk_at dksX5_stepOn_8 10 rfl rfl)
theorem dX5_stepOn_197 : decode cX5_stepOn 197 = .ok (.iload_n 1, 1) := dk_27 (dk_at dksX5_stepOn_8 11 rfl rfl)
theorem dX5_stepOn_198 : decode cX5_stepOn 198 = .ok (.bipush 59, 2) := dk_16 59 (dk_at dksX5_stepOn_8 12 rfl rfl)
theorem dX5_stepOn_200 : decode cX5_stepOn 200 = .ok (.if_icmp .ne 7, 3) := dk_160 0 7 (dk_at dksX5_stepOn_8 14 rfl rfl)
theorem dX5_stepOn_203 : decode cX5_stepOn 203 = .ok (.iconst 3, 1) := dk_6 (dk_at dksX5_stepOn_8 17 rfl rfl)
theorem dX5_stepOn_204 : decode cX5_stepOn 204 = .ok (.goto 4, 3) := dk_167 0 4 (dk_at dksX5_stepOn_8 18 rfl rfl)
theorem dX5_stepOn_207 : decode cX5_stepOn 207 = .ok (.iconst 4, 1) := dk_7 (dk_at dksX5_stepOn_8 21 rfl rfl)
theorem dX5_stepOn_208 : decode cX5_stepOn 208 = .ok (.putfield 151, 3) := dk_181 0 151 (dk_at dksX5_stepOn_9 0 rfl rfl)
theorem dX5_stepOn_211 : decode cX5_stepOn 211 = .ok (.aload_n 0, 1) := dk_42 (dk_at dksX5_stepOn_9 3 rfl rfl)
theorem dX5_stepOn_212 : decode cX5_stepOn 212 = .ok (.aload_n 0, 1) := dk_42 (dk_at dksX5_stepOn_9 4 rfl rfl)
theorem dX5_stepOn_213 : decode cX5_stepOn 213 = .ok (.getfield 141, 3) := dk_180 0 141 (dk_at dksX5_stepOn_9 5 rfl rfl)
theorem dX5_stepOn_216 : decode cX5_stepOn 216 = .ok (.putfield 171, 3) := dk_181 0 171 (dk_at dksX5_stepOn_9 8 rfl rfl)
theorem dX5_stepOn_219 : decode cX5_stepOn 219 = .ok (.return_, 1) := dk_177 (dk_at dksX5_stepOn_9 11 rfl rfl)
abbrev cX5_byteAt : ByteArray := prog_16_method_9_code
def yX5_byteAt : MethodName := ⟨RX5, "byteAt", "(I)I"⟩
def dkwX5_byteAt_0 : List UInt8 := [27, 42, 180, 0, 138, 162, 0, 12, 42, 180, 0, 57, 27, 46, 167, 0, 4, 2, 172]
abbrev dktX5_byteAt_0 : List UInt8 := dkwX5_byteAt_0 ++ []
theorem dksX5_byteAt_0 : cX5_byteAt.data.toList.drop 0 = dktX5_byteAt_0 := by decide +kernel
theorem dX5_byteAt_0 : decode cX5_byteAt 0 = .ok (.iload_n 1, 1) := dk_27 (dk_at dksX5_byteAt_0 0 rfl rfl)
theorem dX5_byteAt_1 : decode cX5_byteAt 1 = .ok (.aload_n 0, 1) := dk_42 (dk_at dksX5_byteAt_0 1 rfl rfl)
theorem dX5_byteAt_2 : decode cX5_byteAt 2 = .ok (.getfield 138, 3) := dk_180 0 138 (dk_at dksX5_byteAt_0 2 rfl rfl)
theorem dX5_byteAt_5 : decode cX5_byteAt 5 = .ok (.if_icmp .ge 12, 3) := dk_162 0 12 (dk_at dksX5_byteAt_0 5 rfl rfl)
theorem dX5_byteAt_8 : decode cX5_byteAt 8 = .ok (.aload_n 0, 1) := dk_42 (dk_at dksX5_byteAt_0 8 rfl rfl)
theorem dX5_byteAt_9 : decode cX5_byteAt 9 = .ok (.getfield 57, 3) := dk_180 0 57 (dk_at dksX5_byteAt_0 9 rfl rfl)
theorem dX5_byteAt_12 : decode cX5_byteAt 12 = .ok (.iload_n 1, 1) := dk_27 (dk_at dksX5_byteAt_0 12 rfl rfl)
theorem dX5_byteAt_13 : decode cX5_byteAt 13 = .ok (.iaload, 1) := dk_46 (dk_at dksX5_byteAt_0 13 rfl rfl)
theorem dX5_byteAt_14 : decode cX5_byteAt 14 = .ok (.goto 4, 3) := dk_167 0 4 (dk_at dksX5_byteAt_0 14 rfl rfl)
theorem dX5_byteAt_17 : decode cX5_byteAt 17 = .ok (.iconst (-1), 1) := dk_2 (dk_at dksX5_byteAt_0 17 rfl rfl)
theorem dX5_byteAt_18 : decode cX5_byteAt 18 = .ok (.ireturn, 1) := dk_172 (dk_at dksX5_byteAt_0 18 rfl rfl)
abbrev cX5_isLetter : ByteArray := prog_16_method_10_code
def yX5_isLetter : MethodName := ⟨RX5, "isLetter", "(I)Z"⟩
def dkwX5_isLetter_0 : List UInt8 := [26, 16, 97, 161, 0, 13, 26, 16, 122, 163, 0, 7, 4, 167, 0, 4, 3, 172]
abbrev dktX5_isLetter_0 : List UInt8 := dkwX5_isLetter_0 ++ []
theorem dksX5_isLetter_0 : cX5_isLetter.data.toList.drop 0 = dktX5_isLetter_0 := by decide +kernel
theorem dX5_isLetter_0 : decode cX5_isLetter 0 = .ok (.iload_n 0, 1) := dk_26 (dk_at dksX5_isLetter_0 0 rfl rfl)
theorem dX5_isLetter_1 : decode cX5_isLetter 1 = .ok (.bipush 97, 2) := dk_16 97 (dk_at dksX5_isLetter_0 1 rfl rfl)
theorem dX5_isLetter_3 : decode cX5_isLetter 3 = .ok (.if_icmp .lt 13, 3) := dk_161 0 13 (dk_at dksX5_isLetter_0 3 rfl rfl)
theorem dX5_isLetter_6 : decode cX5_isLetter 6 = .ok (.iload_n 0, 1) := dk_26 (dk_at dksX5_isLetter_0 6 rfl rfl)
theorem dX5_isLetter_7 : decode cX5_isLetter 7 = .ok (.bipush 122, 2) := dk_16 122 (dk_at dksX5_isLetter_0 7 rfl rfl)
theorem dX5_isLetter_9 : decode cX5_isLetter 9 = .ok (.if_icmp .gt 7, 3) := dk_163 0 7 (dk_at dksX5_isLetter_0 9 rfl rfl)
theorem dX5_isLetter_12 : decode cX5_isLetter 12 = .ok (.iconst 1, 1) := dk_4 (dk_at dksX5_isLetter_0 12 rfl rfl)
theorem dX5_isLetter_13 : decode cX5_isLetter 13 = .ok (.goto 4, 3) := dk_167 0 4 (dk_at dksX5_isLetter_0 13 rfl rfl)
theorem dX5_isLetter_16 : decode cX5_isLetter 16 = .ok (.iconst 0, 1) := dk_3 (dk_at dksX5_isLetter_0 16 rfl rfl)
theorem dX5_isLetter_17 : decode cX5_isLetter 17 = .ok (.ireturn, 1) := dk_172 (dk_at dksX5_isLetter_0 17 rfl rfl)
abbrev cX5_isDigit : ByteArray := prog_16_method_11_code
def yX5_isDigit : MethodName := ⟨RX5, "isDigit", "(I)Z"⟩
def dkwX5_isDigit_0 : List UInt8 := [26, 16, 48, 161, 0, 13, 26, 16, 57, 163, 0, 7, 4, 167, 0, 4, 3, 172]
abbrev dktX5_isDigit_0 : List UInt8 := dkwX5_isDigit_0 ++ []
theorem dksX5_isDigit_0 : cX5_isDigit.data.toList.drop 0 = dktX5_isDigit_0 := by decide +kernel
theorem dX5_isDigit_0 : decode cX5_isDigit 0 = .ok (.iload_n 0, 1) := dk_26 (dk_at dksX5_isDigit_0 0 rfl rfl)
theorem dX5_isDigit_1 : decode cX5_isDigit 1 = .ok (.bipush 48, 2) := dk_16 48 (dk_at dksX5_isDigit_0 1 rfl rfl)
theorem dX5_isDigit_3 : decode cX5_isDigit 3 = .ok (.if_icmp .lt 13, 3) := dk_161 0 13 (dk_at dksX5_isDigit_0 3 rfl rfl)
theorem dX5_isDigit_6 : decode cX5_isDigit 6 = .ok (.iload_n 0, 1) := dk_26 (dk_at dksX5_isDigit_0 6 rfl rfl)
theorem dX5_isDigit_7 : decode cX5_isDigit 7 = .ok (.bipush 57, 2) := dk_16 57 (dk_at dksX5_isDigit_0 7 rfl rfl)
theorem dX5_isDigit_9 : decode cX5_isDigit 9 = .ok (.if_icmp .gt 7, 3) := dk_163 0 7 (dk_at dksX5_isDigit_0 9 rfl rfl)
theorem dX5_isDigit_12 : decode cX5_isDigit 12 = .ok (.iconst 1, 1) := dk_4 (dk_at dksX5_isDigit_0 12 rfl rfl)
theorem dX5_isDigit_13 : decode cX5_isDigit 13 = .ok (.goto 4, 3) := dk_167 0 4 (dk_at dksX5_isDigit_0 13 rfl rfl)
theorem dX5_isDigit_16 : decode cX5_isDigit 16 = .ok (.iconst 0, 1) := dk_3 (dk_at dksX5_isDigit_0 16 rfl rfl)
theorem dX5_isDigit_17 : decode cX5_isDigit 17 = .ok (.ireturn, 1) := dk_172 (dk_at dksX5_isDigit_0 17 rfl rfl)
abbrev cX5_readLine : ByteArray := prog_16_method_23_code
def yX5_readLine : MethodName := ⟨RX5, "readLine", "(I)I"⟩
def dkwX5_readLine_7 : List UInt8 := [4, 182, 0, 195, 42, 180, 0, 174, 154, 0, 7, 42, 182, 0, 192, 27, 28, 128, 172]
abbrev dktX5_readLine_7 : List UInt8 := dkwX5_readLine_7 ++ []
def dkwX5_readLine_6 : List UInt8 := [167, 0, 8, 42, 4, 182, 0, 195, 42, 180, 0, 174, 154, 0, 16, 42, 180, 0, 151, 6, 159, 0, 8, 42]
abbrev dktX5_readLine_6 : List UInt8 := dkwX5_readLine_6 ++ dktX5_readLine_7
def dkwX5_readLine_5 : List UInt8 := [180, 0, 174, 154, 0, 7, 42, 182, 0, 192, 42, 180, 0, 25, 16, 7, 42, 3, 16, 9, 182, 0, 207, 79]
abbrev dktX5_readLine_5 : List UInt8 := dkwX5_readLine_5 ++ dktX5_readLine_6
def dkwX5_readLine_4 : List UInt8 := [42, 180, 0, 174, 154, 0, 7, 42, 182, 0, 192, 42, 182, 0, 240, 167, 0, 41, 28, 5, 160, 0, 31, 42]
abbrev dktX5_readLine_4 : List UInt8 := dkwX5_readLine_4 ++ dktX5_readLine_5
def dkwX5_readLine_3 : List UInt8 := [167, 0, 80, 42, 18, 235, 182, 0, 204, 153, 0, 10, 42, 182, 0, 237, 167, 0, 64, 28, 4, 160, 0, 21]
abbrev dktX5_readLine_3 : List UInt8 := dkwX5_readLine_3 ++ dktX5_readLine_4
def dkwX5_readLine_2 : List UInt8 := [153, 0, 10, 42, 182, 0, 227, 167, 0, 96, 42, 18, 230, 182, 0, 188, 153, 0, 10, 42, 182, 0, 232]
abbrev dktX5_readLine_2 : List UInt8 := dkwX5_readLine_2 ++ dktX5_readLine_3
def dkwX5_readLine_1 : List UInt8 := [167, 0, 4, 3, 61, 27, 28, 126, 153, 0, 8, 42, 8, 182, 0, 195, 42, 18, 225, 182, 0, 188]
abbrev dktX5_readLine_1 : List UInt8 := dkwX5_readLine_1 ++ dktX5_readLine_2
def dkwX5_readLine_0 : List UInt8 := [42, 18, 221, 182, 0, 188, 153, 0, 7, 4, 167, 0, 17, 42, 18, 223, 182, 0, 188, 153, 0, 7, 5]
abbrev dktX5_readLine_0 : List UInt8 := dkwX5_readLine_0 ++ dktX5_readLine_1
theorem dksX5_readLine_0 : cX5_readLine.data.toList.drop 0 = dktX5_readLine_0 := by decide +kernel
theorem dksX5_readLine_1 : cX5_readLine.data.toList.drop 23 = dktX5_readLine_1 := dk_seg dksX5_readLine_0 23 rfl rfl
theorem dksX5_readLine_2 : cX5_readLine.data.toList.drop 45 = dktX5_readLine_2 := dk_seg dksX5_readLine_1 22 rfl rfl
theorem dksX5_readLine_3 : cX5_readLine.data.toList.drop 68 = dktX5_readLine_3 := dk_seg dksX5_readLine_2 23 rfl rfl
theorem dksX5_readLine_4 : cX5_readLine.data.toList.drop 92 = dktX5_readLine_4 := dk_seg dksX5_readLine_3 24 rfl rfl
theorem dksX5_readLine_5 : cX5_readLine.data.toList.drop 116 = dktX5_readLine_5 := dk_seg dksX5_readLine_4 24 rfl rfl
theorem dksX5_readLine_6 : cX5_readLine.data.toList.drop 140 = dktX5_readLine_6 := dk_seg dksX5_readLine_5 24 rfl rfl
theorem dksX5_readLine_7 : cX5_readLine.data.toList.drop 164 = dktX5_readLine_7 := dk_seg dksX5_readLine_6 24 rfl rfl
theorem dX5_readLine_0 : decode cX5_readLine 0 = .ok (.aload_n 0, 1) := dk_42 (dk_at dksX5_readLine_0 0 rfl rfl)
theorem dX5_readLine_1 : decode cX5_readLine 1 = .ok (.ldc 221, 2) := dk_18 221 (dk_at dksX5_readLine_0 1 rfl rfl)
theorem dX5_readLine_3 : decode cX5_readLine 3 = .ok (.invokevirtual 188, 3) := dk_182 0 188 (dk_at dksX5_readLine_0 3 rfl rfl)
theorem dX5_readLine_6 : decode cX5_readLine 6 = .ok (.ifCond .eq 7, 3) := dk_153 0 7 (dk_at dksX5_readLine_0 6 rfl rfl)
theorem dX5_readLine_9 : decode cX5_readLine 9 = .ok (.iconst 1, 1) := dk_4 (dk_at dksX5_readLine_0 9 rfl rfl)
theorem dX5_readLine_10 : decode cX5_readLine 10 = .ok (.goto 17, 3) := dk_167 0 17 (dk_at dksX5_readLine_0 10 rfl rfl)
theorem dX5_readLine_13 : decode cX5_readLine 13 = .ok (.aload_n 0, 1) := dk_42 (dk_at dksX5_readLine_0 13 rfl rfl)
theorem dX5_readLine_14 : decode cX5_readLine 14 = .ok (.ldc 223, 2) := dk_18 223 (dk_at dksX5_readLine_0 14 rfl rfl)
theorem dX5_readLine_16 : decode cX5_readLine 16 = .ok (.invokevirtual 188, 3) := dk_182 0 188 (dk_at dksX5_readLine_0 16 rfl rfl)
theorem dX5_readLine_19 : decode cX5_readLine 19 = .ok (.ifCond .eq 7, 3) := dk_153 0 7 (dk_at dksX5_readLine_0 19 rfl rfl)
theorem dX5_readLine_22 : decode cX5_readLine 22 = .ok (.iconst 2, 1) := dk_5 (dk_at dksX5_readLine_0 22 rfl rfl)
theorem dX5_readLine_23 : decode cX5_readLine 23 = .ok (.goto 4, 3) := dk_167 0 4 (dk_at dksX5_readLine_1 0 rfl rfl)
theorem dX5_readLine_26 : decode cX5_readLine 26 = .ok (.iconst 0, 1) := dk_3 (dk_at dksX5_readLine_1 3 rfl rfl)
theorem dX5_readLine_27 : decode cX5_readLine 27 = .ok (.istore_n 2, 1) := dk_61 (dk_at dksX5_readLine_1 4 rfl rfl)
theorem dX5_readLine_28 : decode cX5_readLine 28 = .ok (.iload_n 1, 1) := dk_27 (dk_at dksX5_readLine_1 5 rfl rfl)
theorem dX5_readLine_29 : decode cX5_readLine 29 = .ok (.iload_n 2, 1) := dk_28 (dk_at dksX5_readLine_1 6 rfl rfl)
theorem dX5_readLine_30 : decode cX5_readLine 30 = .ok (.iand, 1) := dk_126 (dk_at dksX5_readLine_1 7 rfl rfl)
theorem dX5_readLine_31 : decode cX5_readLine 31 = .ok (.ifCond .eq 8, 3) := dk_153 0 8 (dk_at dksX5_readLine_1 8 rfl rfl)
theorem dX5_readLine_34 : decode cX5_readLine 34 = .ok (.aload_n 0, 1) := dk_42 (dk_at dksX5_readLine_1 11 rfl rfl)
theorem dX5_readLine_35 : decode cX5_readLine 35 = .ok (.iconst 5, 1) := dk_8 (dk_at dksX5_readLine_1 12 rfl rfl)
theorem dX5_readLine_36 : decode cX5_readLine 36 = .ok (.invokevirtual 195, 3) := dk_182 0 195 (dk_at dksX5_readLine_1 13 rfl rfl)
theorem dX5_readLine_39 : decode cX5_readLine 39 = .ok (.aload_n 0, 1) := dk_42 (dk_at dksX5_readLine_1 16 rfl rfl)
theorem dX5_readLine_40 : decode cX5_readLine 40 = .ok (.ldc 225, 2) := dk_18 225 (dk_at dksX5_readLine_1 17 rfl rfl)
theorem dX5_readLine_42 : decode cX5_readLine 42 = .ok (.invokevirtual 188, 3) := dk_182 0 188 (dk_at dksX5_readLine_1 19 rfl rfl)
theorem dX5_readLine_45 : decode cX5_readLine 45 = .ok (.ifCond .eq 10, 3) := dk_153 0 10 (dk_at dksX5_readLine_2 0 rfl rfl)
theorem dX5_readLine_48 : decode cX5_readLine 48 = .ok (.aload_n 0, 1) := dk_42 (dk_at dksX5_readLine_2 3 rfl rfl)
theorem dX5_readLine_49 : decode cX5_readLine 49 = .ok (.invokevirtual 227, 3) := dk_182 0 227 (dk_at dksX5_readLine_2 4 rfl rfl)
theorem dX5_readLine_52 : decode cX5_readLine 52 = .ok (.goto 96, 3) := dk_167 0 96 (dk_at dksX5_readLine_2 7 rfl rfl)
theorem dX5_readLine_55 : decode cX5_readLine 55 = .ok (.aload_n 0, 1) := dk_42 (dk_at dksX5_readLine_2 10 rfl rfl)
theorem dX5_readLine_56 : decode cX5_readLine 56 = .ok (.ldc 230, 2) := dk_18 230 (dk_at dksX5_readLine_2 11 rfl rfl)
theorem dX5_readLine_58 : decode cX5_readLine 58 = .ok (.invokevirtual 188, 3) := dk_182 0 188 (dk_at dksX5_readLine_2 13 rfl rfl)
theorem dX5_readLine_61 : decode cX5_readLine 61 = .ok (.ifCond .eq 10, 3) := dk_153 0 10 (dk_at dksX5_readLine_2 16 rfl rfl)
theorem dX5_readLine_64 : decode cX5_readLine 64 = .ok (.aload_n 0, 1) := dk_42 (dk_at dksX5_readLine_2 19 rfl rfl)
theorem dX5_readLine_65 : decode cX5_readLine 65 = .ok (.invokevirtual 232, 3) := dk_182 0 232 (dk_at dksX5_readLine_2 20 rfl rfl)
theorem dX5_readLine_68 : decode cX5_readLine 68 = .ok (.goto 80, 3) := dk_167 0 80 (dk_at dksX5_readLine_3 0 rfl rfl)
theorem dX5_readLine_71 : decode cX5_readLine 71 = .ok (.aload_n 0, 1) := dk_42 (dk_at dksX5_readLine_3 3 rfl rfl)
theorem dX5_readLine_72 : decode cX5_readLine 72 = .ok (.ldc 235, 2) := dk_18 235 (dk_at dksX5_readLine_3 4 rfl rfl)
theorem dX5_readLine_74 : decode cX5_readLine 74 = .ok (.invokevirtual 204, 3) := dk_182 0 204 (dk_at dksX5_readLine_3 6 rfl rfl)
theorem dX5_readLine_77 : decode cX5_readLine 77 = .ok (.ifCond .eq 10, 3) := dk_153 0 10 (dk_at dksX5_readLine_3 9 rfl rfl)
theorem dX5_readLine_80 : decode cX5_readLine 80 = .ok (.aload_n 0, 1) := dk_42 (dk_at dksX5_readLine_3 12 rfl rfl)
theorem dX5_readLine_81 : decode cX5_readLine 81 = .ok (.invokevirtual 237, 3) := dk_182 0 237 (dk_at dksX5_readLine_3 13 rfl rfl)
theorem dX5_readLine_84 : decode cX5_readLine 84 = .ok (.goto 64, 3) := dk_167 0 64 (dk_at dksX5_readLine_3 16 rfl rfl)
theorem dX5_readLine_87 : decode cX5_readLine 87 = .ok (.iload_n 2, 1) := dk_28 (dk_at dksX5_readLine_3 19 rfl rfl)
theorem dX5_readLine_88 : decode cX5_readLine 88 = .ok (.iconst 1, 1) := dk_4 (dk_at dksX5_readLine_3 20 rfl rfl)
theorem dX5_readLine_89 : decode cX5_readLine 89 = .ok (.if_icmp .ne 21, 3) := dk_160 0 21 (dk_at dksX5_readLine_3 21 rfl rfl)
theorem dX5_readLine_92 : decode cX5_readLine 92 = .ok (.aload_n 0, 1) := dk_42 (dk_at dksX5_readLine_4 0 rfl rfl)
theorem dX5_readLine_93 : decode cX5_readLine 93 = .ok (.getfield 174, 3) := dk_180 0 174 (dk_at dksX5_readLine_4 1 rfl rfl)
theorem dX5_readLine_96 : decode cX5_readLine 96 = .ok (.ifCond .ne 7, 3) := dk_154 0 7 (dk_at dksX5_readLine_4 4 rfl rfl)
theorem dX5_readLine_99 : decode cX5_readLine 99 = .ok (.aload_n 0, 1) := dk_42 (dk_at dksX5_readLine_4 7 rfl rfl)
theorem dX5_readLine_100 : decode cX5_readLine 100 = .ok (.invokevirtual 192, 3) := dk_182 0 192 (dk_at dksX5_readLine_4 8 rfl rfl)
theorem dX5_readLine_103 : decode cX5_readLine 103 = .ok (.aload_n 0, 1) := dk_42 (dk_at dksX5_readLine_4 11 rfl rfl)
theorem dX5_readLine_104 : decode cX5_readLine 104 = .ok (.invokevirtual 240, 3) := dk_182 0 240 (dk_at dksX5_readLine_4 12 rfl rfl)
theorem dX5_readLine_107 : decode cX5_readLine 107 = .ok (.goto 41, 3) := dk_167 0 41 (dk_at dksX5_readLine_4 15 rfl rfl)
theorem dX5_readLine_110 : decode cX5_readLine 110 = .ok (.iload_n 2, 1) := dk_28 (dk_at dksX5_readLine_4 18 rfl rfl)
theorem dX5_readLine_111 : decode cX5_readLine 111 = .ok (.iconst 2, 1) := dk_5 (dk_at dksX5_readLine_4 19 rfl rfl)
theorem dX5_readLine_112 : decode cX5_readLine 112 = .ok (.if_icmp .ne 31, 3) := dk_160 0 31 (dk_at dksX5_readLine_4 20 rfl rfl)
theorem dX5_readLine_115 : decode cX5_readLine 115 = .ok (.aload_n 0, 1) := dk_42 (dk_at dksX5_readLine_4 23 rfl rfl)
theorem dX5_readLine_116 : decode cX5_readLine 116 = .ok (.getfield 174, 3) := dk_180 0 174 (dk_at dksX5_readLine_5 0 rfl rfl)
theorem dX5_readLine_119 : decode cX5_readLine 119 = .ok (.ifCond .ne 7, 3) := dk_154 0 7 (dk_at dksX5_readLine_5 3 rfl rfl)
theorem dX5_readLine_122 : decode cX5_readLine 122 = .ok (.aload_n 0, 1) := dk_42 (dk_at dksX5_readLine_5 6 rfl rfl)
theorem dX5_readLine_123 : decode cX5_readLine 123 = .ok (.invokevirtual 192, 3) := dk_182 0 192 (dk_at dksX5_readLine_5 7 rfl rfl)
theorem dX5_readLine_126 : decode cX5_readLine 126 = .ok (.aload_n 0, 1) := dk_42 (dk_at dksX5_readLine_5 10 rfl rfl)
theorem dX5_readLine_127 : decode cX5_readLine 127 = .ok (.getfield 25, 3) := dk_180 0 25 (dk_at dksX5_readLine_5 11 rfl rfl)
theorem dX5_readLine_130 : decode cX5_readLine 130 = .ok (.bipush 7, 2) := dk_16 7 (dk_at dksX5_readLine_5 14 rfl rfl)
theorem dX5_readLine_132 : decode cX5_readLine 132 = .ok (.aload_n 0, 1) := dk_42 (dk_at dksX5_readLine_5 16 rfl rfl)
theorem dX5_readLine_133 : decode cX5_readLine 133 = .ok (.iconst 0, 1) := dk_3 (dk_at dksX5_readLine_5 17 rfl rfl)
theorem dX5_readLine_134 : decode cX5_readLine 134 = .ok (.bipush 9, 2) := dk_16 9 (dk_at dksX5_readLine_5 18 rfl rfl)
theorem dX5_readLine_136 : decode cX5_readLine 136 = .ok (.invokevirtual 207, 3) := dk_182 0 207 (dk_at dksX5_readLine_5 20 rfl rfl)
theorem dX5_readLine_139 : decode cX5_readLine 139 = .ok (.iastore, 1) := dk_79 (dk_at dksX5_readLine_5 23 rfl rfl)
theorem dX5_readLine_140 : decode cX5_readLine 140 = .ok (.goto 8, 3) := dk_167 0 8 (dk_at dksX5_readLine_6 0 rfl rfl)
theorem dX5_readLine_143 : decode cX5_readLine 143 = .ok (.aload_n 0, 1) := dk_42 (dk_at dksX5_readLine_6 3 rfl rfl)
theorem dX5_readLine_144 : decode cX5_readLine 144 = .ok (.iconst 1, 1) := dk_4 (dk_at dksX5_readLine_6 4 rfl rfl)
theorem dX5_readLine_145 : decode cX5_readLine 145 = .ok (.invokevirtual 195, 3) := dk_182 0 195 (dk_at dksX5_readLine_6 5 rfl rfl)
theorem dX5_readLine_148 : decode cX5_readLine 148 = .ok (.aload_n 0, 1) := dk_42 (dk_at dksX5_readLine_6 8 rfl rfl)
theorem dX5_readLine_149 : decode cX5_readLine 149 = .ok (.getfield 174, 3) := dk_180 0 174 (dk_at dksX5_readLine_6 9 rfl rfl)
theorem dX5_readLine_152 : decode cX5_readLine 152 = .ok (.ifCond .ne 16, 3) := dk_154 0 16 (dk_at dksX5_readLine_6 12 rfl rfl)
theorem dX5_readLine_155 : decode cX5_readLine 155 = .ok (.aload_n 0, 1) := dk_42 (dk_at dksX5_readLine_6 15 rfl rfl)
theorem dX5_readLine_156 : decode cX5_readLine 156 = .ok (.getfield 151, 3) := dk_180 0 151 (dk_at dksX5_readLine_6 16 rfl rfl)
theorem dX5_readLine_159 : decode cX5_readLine 159 = .ok (.iconst 3, 1) := dk_6 (dk_at dksX5_readLine_6 19 rfl rfl)
theorem dX5_readLine_160 : decode cX5_readLine 160 = .ok (.if_icmp .eq 8, 3) := dk_159 0 8 (dk_at dksX5_readLine_6 20 rfl rfl)
theorem dX5_readLine_163 : decode cX5_readLine 163 = .ok (.aload_n 0, 1) := dk_42 (dk_at dksX5_readLine_6 23 rfl rfl)
theorem dX5_readLine_164 : decode cX5_readLine 164 = .ok (.iconst 1, 1) := dk_4 (dk_at dksX5_readLine_7 0 rfl rfl)
theorem dX5_readLine_165 : decode cX5_readLine 165 = .ok (.invokevirtual 195, 3) := dk_182 0 195 (dk_at dksX5_readLine_7 1 rfl rfl)
theorem dX5_readLine_168 : decode cX5_readLine 168 = .ok (.aload_n 0, 1) := dk_42 (dk_at dksX5_readLine_7 4 rfl rfl)
theorem dX5_readLine_169 : decode cX5_readLine 169 = .ok (.getfield 174, 3) := dk_180 0 174 (dk_at dksX5_readLine_7 5 rfl rfl)
theorem dX5_readLine_172 : decode cX5_readLine 172 = .ok (.ifCond .ne 7, 3) := dk_154 0 7 (dk_at dksX5_readLine_7 8 rfl rfl)
theorem dX5_readLine_175 : decode cX5_readLine 175 = .ok (.aload_n 0, 1) := dk_42 (dk_at dksX5_readLine_7 11 rfl rfl)
theorem dX5_readLine_176 : decode cX5_readLine 176 = .ok (.invokevirtual 192, 3) := dk_182 0 192 (dk_at dksX5_readLine_7 12 rfl rfl)
theorem dX5_readLine_179 : decode cX5_readLine 179 = .ok (.iload_n 1, 1) := dk_27 (dk_at dksX5_readLine_7 15 rfl rfl)
theorem dX5_readLine_180 : decode cX5_readLine 180 = .ok (.iload_n 2, 1) := dk_28 (dk_at dksX5_readLine_7 16 rfl rfl)
theorem dX5_readLine_181 : decode cX5_readLine 181 = .ok (.ior, 1) := dk_128 (dk_at dksX5_readLine_7 17 rfl rfl)
theorem dX5_readLine_182 : decode cX5_readLine 182 = .ok (.ireturn, 1) := dk_172 (dk_at dksX5_readLine_7 18 rfl rfl)
abbrev cX5_is : ByteArray := prog_16_method_14_code
def yX5_is : MethodName := ⟨RX5, "is", "(Ljava/lang/String;)Z"⟩
def dkwX5_is_3 : List UInt8 := [167, 0, 4, 3, 61, 132, 3, 1, 167, 255, 216, 28, 172]
abbrev dktX5_is_3 : List UInt8 := dkwX5_is_3 ++ []
def dkwX5_is_2 : List UInt8 := [162, 0, 34, 43, 29, 182, 0, 184, 42, 180, 0, 57, 42, 180, 0, 148, 29, 96, 46, 160, 0, 7, 4]
abbrev dktX5_is_2 : List UInt8 := dkwX5_is_2 ++ dktX5_is_3
def dkwX5_is_1 : List UInt8 := [180, 0, 148, 100, 160, 0, 7, 4, 167, 0, 4, 3, 61, 3, 62, 28, 153, 0, 42, 29, 43, 182, 0, 180]
abbrev dktX5_is_1 : List UInt8 := dkwX5_is_1 ++ dktX5_is_2
def dkwX5_is_0 : List UInt8 := [42, 180, 0, 174, 154, 0, 31, 42, 180, 0, 151, 4, 160, 0, 23, 43, 182, 0, 180, 42, 180, 0, 171, 42]
abbrev dktX5_is_0 : List UInt8 := dkwX5_is_0 ++ dktX5_is_1
theorem dksX5_is_0 : cX5_is.data.toList.drop 0 = dktX5_is_0 := by decide +kernel
theorem dksX5_is_1 : cX5_is.data.toList.drop 24 = dktX5_is_1 := dk_seg dksX5_is_0 24 rfl rfl
theorem dksX5_is_2 : cX5_is.data.toList.drop 48 = dktX5_is_2 := dk_seg dksX5_is_1 24 rfl rfl
theorem dksX5_is_3 : cX5_is.data.toList.drop 71 = dktX5_is_3 := dk_seg dksX5_is_2 23 rfl rfl
theorem dX5_is_0 : decode cX5_is 0 = .ok (.aload_n 0, 1) := dk_42 (dk_at dksX5_is_0 0 rfl rfl)
theorem dX5_is_1 : decode cX5_is 1 = .ok (.getfield 174, 3) := dk_180 0 174 (dk_at dksX5_is_0 1 rfl rfl)
theorem dX5_is_4 : decode cX5_is 4 = .ok (.ifCond .ne 31, 3) := dk_154 0 31 (dk_at dksX5_is_0 4 rfl rfl)
theorem dX5_is_7 : decode cX5_is 7 = .ok (.aload_n 0, 1) := dk_42 (dk_at dksX5_is_0 7 rfl rfl)
theorem dX5_is_8 : decode cX5_is 8 = .ok (.getfield 151, 3) := dk_180 0 151 (dk_at dksX5_is_0 8 rfl rfl)
theorem dX5_is_11 : decode cX5_is 11 = .ok (.iconst 1, 1) := dk_4 (dk_at dksX5_is_0 11 rfl rfl)
theorem dX5_is_12 : decode cX5_is 12 = .ok (.if_icmp .ne 23, 3) := dk_160 0 23 (dk_at dksX5_is_0 12 rfl rfl)
theorem dX5_is_15 : decode cX5_is 15 = .ok (.aload_n 1, 1) := dk_43 (dk_at dksX5_is_0 15 rfl rfl)
theorem dX5_is_16 : decode cX5_is 16 = .ok (.invokevirtual 180, 3) := dk_182 0 180 (dk_at dksX5_is_0 16 rfl rfl)
theorem dX5_is_19 : decode cX5_is 19 = .ok (.aload_n 0, 1) := dk_42 (dk_at dksX5_is_0 19 rfl rfl)
theorem dX5_is_20 : decode cX5_is 20 = .ok (.getfield 171, 3) := dk_180 0 171 (dk_at dksX5_is_0 20 rfl rfl)
theorem dX5_is_23 : decode cX5_is 23 = .ok (.aload_n 0, 1) := dk_42 (dk_at dksX5_is_0 23 rfl rfl)
theorem dX5_is_24 : decode cX5_is 24 = .ok (.getfield 148, 3) := dk_180 0 148 (dk_at dksX5_is_1 0 rfl rfl)
theorem dX5_is_27 : decode cX5_is 27 = .ok (.isub, 1) := dk_100 (dk_at dksX5_is_1 3 rfl rfl)
theorem dX5_is_28 : decode cX5_is 28 = .ok (.if_icmp .ne 7, 3) := dk_160 0 7 (dk_at dksX5_is_1 4 rfl rfl)
theorem dX5_is_31 : decode cX5_is 31 = .ok (.iconst 1, 1) := dk_4 (dk_at dksX5_is_1 7 rfl rfl)
theorem dX5_is_32 : decode cX5_is 32 = .ok (.goto 4, 3) := dk_167 0 4 (dk_at dksX5_is_1 8 rfl rfl)
theorem dX5_is_35 : decode cX5_is 35 = .ok (.iconst 0, 1) := dk_3 (dk_at dksX5_is_1 11 rfl rfl)
theorem dX5_is_36 : decode cX5_is 36 = .ok (.istore_n 2, 1) := dk_61 (dk_at dksX5_is_1 12 rfl rfl)
theorem dX5_is_37 : decode cX5_is 37 = .ok (.iconst 0, 1) := dk_3 (dk_at dksX5_is_1 13 rfl rfl)
theorem dX5_is_38 : decode cX5_is 38 = .ok (.istore_n 3, 1) := dk_62 (dk_at dksX5_is_1 14 rfl rfl)
theorem dX5_is_39 : decode cX5_is 39 = .ok (.iload_n 2, 1) := dk_28 (dk_at dksX5_is_1 15 rfl rfl)
theorem dX5_is_40 : decode cX5_is 40 = .ok (.ifCond .eq 42, 3) := dk_153 0 42 (dk_at dksX5_is_1 16 rfl rfl)
theorem dX5_is_43 : decode cX5_is 43 = .ok (.iload_n 3, 1) := dk_29 (dk_at dksX5_is_1 19 rfl rfl)
theorem dX5_is_44 : decode cX5_is 44 = .ok (.aload_n 1, 1) := dk_43 (dk_at dksX5_is_1 20 rfl rfl)
theorem dX5_is_45 : decode cX5_is 45 = .ok (.invokevirtual 180, 3) := dk_182 0 180 (dk_at dksX5_is_1 21 rfl rfl)
theorem dX5_is_48 : decode cX5_is 48 = .ok (.if_icmp .ge 34, 3) := dk_162 0 34 (dk_at dksX5_is_2 0 rfl rfl)
theorem dX5_is_51 : decode cX5_is 51 = .ok (.aload_n 1, 1) := dk_43 (dk_at dksX5_is_2 3 rfl rfl)
theorem dX5_is_52 : decode cX5_is 52 = .ok (.iload_n 3, 1) := dk_29 (dk_at dksX5_is_2 4 rfl rfl)
theorem dX5_is_53 : decode cX5_is 53 = .ok (.invokevirtual 184, 3) := dk_182 0 184 (dk_at dksX5_is_2 5 rfl rfl)
theorem dX5_is_56 : decode cX5_is 56 = .ok (.aload_n 0, 1) := dk_42 (dk_at dksX5_is_2 8 rfl rfl)
theorem dX5_is_57 : decode cX5_is 57 = .ok (.getfield 57, 3) := dk_180 0 57 (dk_at dksX5_is_2 9 rfl rfl)
theorem dX5_is_60 : decode cX5_is 60 = .ok (.aload_n 0, 1) := dk_42 (dk_at dksX5_is_2 12 rfl rfl)
theorem dX5_is_61 : decode cX5_is 61 = .ok (.getfield 148, 3) := dk_180 0 148 (dk_at dksX5_is_2 13 rfl rfl)
theorem dX5_is_64 : decode cX5_is 64 = .ok (.iload_n 3, 1) := dk_29 (dk_at dksX5_is_2 16 rfl rfl)
theorem dX5_is_65 : decode cX5_is 65 = .ok (.iadd, 1) := dk_96 (dk_at dksX5_is_2 17 rfl rfl)
theorem dX5_is_66 : decode cX5_is 66 = .ok (.iaload, 1) := dk_46 (dk_at dksX5_is_2 18 rfl rfl)
theorem dX5_is_67 : decode cX5_is 67 = .ok (.if_icmp .ne 7, 3) := dk_160 0 7 (dk_at dksX5_is_2 19 rfl rfl)
theorem dX5_is_70 : decode cX5_is 70 = .ok (.iconst 1, 1) := dk_4 (dk_at dksX5_is_2 22 rfl rfl)
theorem dX5_is_71 : decode cX5_is 71 = .ok (.goto 4, 3) := dk_167 0 4 (dk_at dksX5_is_3 0 rfl rfl)
theorem dX5_is_74 : decode cX5_is 74 = .ok (.iconst 0, 1) := dk_3 (dk_at dksX5_is_3 3 rfl rfl)
theorem dX5_is_75 : decode cX5_is 75 = .ok (.istore_n 2, 1) := dk_61 (dk_at dksX5_is_3 4 rfl rfl)
theorem dX5_is_76 : decode cX5_is 76 = .ok (.iinc 3 1, 3) := dk_132 3 1 (dk_at dksX5_is_3 5 rfl rfl)
theorem dX5_is_79 : decode cX5_is 79 = .ok (.goto (-40), 3) := dk_167 255 216 (dk_at dksX5_is_3 8 rfl rfl)
theorem dX5_is_82 : decode cX5_is 82 = .ok (.iload_n 2, 1) := dk_28 (dk_at dksX5_is_3 11 rfl rfl)
theorem dX5_is_83 : decode cX5_is 83 = .ok (.ireturn, 1) := dk_172 (dk_at dksX5_is_3 12 rfl rfl)
abbrev cX5_wrong : ByteArray := prog_16_method_13_code
def yX5_wrong : MethodName := ⟨RX5, "wrong", "(I)V"⟩
def dkwX5_wrong_0 : List UInt8 := [42, 180, 0, 174, 153, 0, 4, 177, 42, 27, 181, 0, 174, 42, 42, 180, 0, 148, 181, 0, 177, 177]
abbrev dktX5_wrong_0 : List UInt8 := dkwX5_wrong_0 ++ []
theorem dksX5_wrong_0 : cX5_wrong.data.toList.drop 0 = dktX5_wrong_0 := by decide +kernel
theorem dX5_wrong_0 : decode cX5_wrong 0 = .ok (.aload_n 0, 1) := dk_42 (dk_at dksX5_wrong_0 0 rfl rfl)
theorem dX5_wrong_1 : decode cX5_wrong 1 = .ok (.getfield 174, 3) := dk_180 0 174 (dk_at dksX5_wrong_0 1 rfl rfl)
theorem dX5_wrong_4 : decode cX5_wrong 4 = .ok (.ifCond .eq 4, 3) := dk_153 0 4 (dk_at dksX5_wrong_0 4 rfl rfl)
theorem dX5_wrong_7 : decode cX5_wrong 7 = .ok (.return_, 1) := dk_177 (dk_at dksX5_wrong_0 7 rfl rfl)
theorem dX5_wrong_8 : decode cX5_wrong 8 = .ok (.aload_n 0, 1) := dk_42 (dk_at dksX5_wrong_0 8 rfl rfl)
theorem dX5_wrong_9 : decode cX5_wrong 9 = .ok (.iload_n 1, 1) := dk_27 (dk_at dksX5_wrong_0 9 rfl rfl)
theorem dX5_wrong_10 : decode cX5_wrong 10 = .ok (.putfield 174, 3) := dk_181 0 174 (dk_at dksX5_wrong_0 10 rfl rfl)
theorem dX5_wrong_13 : decode cX5_wrong 13 = .ok (.aload_n 0, 1) := dk_42 (dk_at dksX5_wrong_0 13 rfl rfl)
theorem dX5_wrong_14 : decode cX5_wrong 14 = .ok (.aload_n 0, 1) := dk_42 (dk_at dksX5_wrong_0 14 rfl rfl)
theorem dX5_wrong_15 : decode cX5_wrong 15 = .ok (.getfield 148, 3) := dk_180 0 148 (dk_at dksX5_wrong_0 15 rfl rfl)
theorem dX5_wrong_18 : decode cX5_wrong 18 = .ok (.putfield 177, 3) := dk_181 0 177 (dk_at dksX5_wrong_0 18 rfl rfl)
theorem dX5_wrong_21 : decode cX5_wrong 21 = .ok (.return_, 1) := dk_177 (dk_at dksX5_wrong_0 21 rfl rfl)
abbrev cX5_readOne : ByteArray := prog_16_method_19_code
def yX5_readOne : MethodName := ⟨RX5, "readOne", "()V"⟩
def dkwX5_readOne_7 : List UInt8 := [182, 0, 207, 167, 0, 4, 3, 79, 42, 180, 0, 25, 7, 92, 46, 4, 96, 79, 177]
abbrev dktX5_readOne_7 : List UInt8 := dkwX5_readOne_7 ++ []
def dkwX5_readOne_6 : List UInt8 := [160, 0, 13, 42, 3, 16, 11, 182, 0, 207, 167, 0, 19, 28, 7, 160, 0, 13, 42, 3, 16, 99]
abbrev dktX5_readOne_6 : List UInt8 := dkwX5_readOne_6 ++ dktX5_readOne_7
def dkwX5_readOne_5 : List UInt8 := [42, 182, 0, 192, 42, 180, 0, 29, 16, 6, 27, 96, 28, 79, 42, 180, 0, 32, 16, 6, 27, 96, 28, 6]
abbrev dktX5_readOne_5 : List UInt8 := dkwX5_readOne_5 ++ dktX5_readOne_6
def dkwX5_readOne_4 : List UInt8 := [132, 3, 1, 167, 255, 229, 28, 2, 160, 0, 8, 42, 4, 182, 0, 195, 42, 180, 0, 174, 153, 0, 4, 177]
abbrev dktX5_readOne_4 : List UInt8 := dkwX5_readOne_4 ++ dktX5_readOne_5
def dkwX5_readOne_3 : List UInt8 := [180, 0, 19, 190, 162, 0, 24, 42, 42, 180, 0, 19, 29, 50, 182, 0, 188, 153, 0, 5, 29, 61]
abbrev dktX5_readOne_3 : List UInt8 := dkwX5_readOne_3 ++ dktX5_readOne_4
def dkwX5_readOne_2 : List UInt8 := [182, 0, 204, 153, 0, 13, 42, 3, 16, 99, 182, 0, 207, 167, 0, 4, 3, 79, 2, 61, 3, 62, 29, 42]
abbrev dktX5_readOne_2 : List UInt8 := dkwX5_readOne_2 ++ dktX5_readOne_3
def dkwX5_readOne_1 : List UInt8 := [42, 182, 0, 192, 42, 180, 0, 25, 7, 46, 60, 42, 180, 0, 44, 16, 12, 27, 96, 42, 18, 202]
abbrev dktX5_readOne_1 : List UInt8 := dkwX5_readOne_1 ++ dktX5_readOne_2
def dkwX5_readOne_0 : List UInt8 := [42, 180, 0, 25, 7, 46, 16, 6, 160, 0, 8, 42, 5, 182, 0, 195, 42, 180, 0, 174, 153, 0, 4, 177]
abbrev dktX5_readOne_0 : List UInt8 := dkwX5_readOne_0 ++ dktX5_readOne_1
theorem dksX5_readOne_0 : cX5_readOne.data.toList.drop 0 = dktX5_readOne_0 := by decide +kernel
theorem dksX5_readOne_1 : cX5_readOne.data.toList.drop 24 = dktX5_readOne_1 := dk_seg dksX5_readOne_0 24 rfl rfl
theorem dksX5_readOne_2 : cX5_readOne.data.toList.drop 46 = dktX5_readOne_2 := dk_seg dksX5_readOne_1 22 rfl rfl
theorem dksX5_readOne_3 : cX5_readOne.data.toList.drop 70 = dktX5_readOne_3 := dk_seg dksX5_readOne_2 24 rfl rfl
theorem dksX5_readOne_4 : cX5_readOne.data.toList.drop 92 = dktX5_readOne_4 := dk_seg dksX5_readOne_3 22 rfl rfl
theorem dksX5_readOne_5 : cX5_readOne.data.toList.drop 116 = dktX5_readOne_5 := dk_seg dksX5_readOne_4 24 rfl rfl
theorem dksX5_readOne_6 : cX5_readOne.data.toList.drop 140 = dktX5_readOne_6 := dk_seg dksX5_readOne_5 24 rfl rfl
theorem dksX5_readOne_7 : cX5_readOne.data.toList.drop 162 = dktX5_readOne_7 := dk_seg dksX5_readOne_6 22 rfl rfl
theorem dX5_readOne_0 : decode cX5_readOne 0 = .ok (.aload_n 0, 1) := dk_42 (dk_at dksX5_readOne_0 0 rfl rfl)
theorem dX5_readOne_1 : decode cX5_readOne 1 = .ok (.getfield 25, 3) := dk_180 0 25 (dk_at dksX5_readOne_0 1 rfl rfl)
theorem dX5_readOne_4 : decode cX5_readOne 4 = .ok (.iconst 4, 1) := dk_7 (dk_at dksX5_readOne_0 4 rfl rfl)
theorem dX5_readOne_5 : decode cX5_readOne 5 = .ok (.iaload, 1) := dk_46 (dk_at dksX5_readOne_0 5 rfl rfl)
theorem dX5_readOne_6 : decode cX5_readOne 6 = .ok (.bipush 6, 2) := dk_16 6 (dk_at dksX5_readOne_0 6 rfl rfl)
theorem dX5_readOne_8 : decode cX5_readOne 8 = .ok (.if_icmp .ne 8, 3) := dk_160 0 8 (dk_at dksX5_readOne_0 8 rfl rfl)
theorem dX5_readOne_11 : decode cX5_readOne 11 = .ok (.aload_n 0, 1) := dk_42 (dk_at dksX5_readOne_0 11 rfl rfl)
theorem dX5_readOne_12 : decode cX5_readOne 12 = .ok (.iconst 2, 1) := dk_5 (dk_at dksX5_readOne_0 12 rfl rfl)
theorem dX5_readOne_13 : decode cX5_readOne 13 = .ok (.invokevirtual 195, 3) := dk_182 0 195 (dk_at dksX5_readOne_0 13 rfl rfl)
theorem dX5_readOne_16 : decode cX5_readOne 16 = .ok (.aload_n 0, 1) := dk_42 (dk_at dksX5_readOne_0 16 rfl rfl)
theorem dX5_readOne_17 : decode cX5_readOne 17 = .ok (.getfield 174, 3) := dk_180 0 174 (dk_at dksX5_readOne_0 17 rfl rfl)
theorem dX5_readOne_20 : decode cX5_readOne 20 = .ok (.ifCond .eq 4, 3) := dk_153 0 4 (dk_at dksX5_readOne_0 20 rfl rfl)
theorem dX5_readOne_23 : decode cX5_readOne 23 = .ok (.return_, 1) := dk_177 (dk_at dksX5_readOne_0 23 rfl rfl)
theorem dX5_readOne_24 : decode cX5_readOne 24 = .ok (.aload_n 0, 1) := dk_42 (dk_at dksX5_readOne_1 0 rfl rfl)
theorem dX5_readOne_25 : decode cX5_readOne 25 = .ok (.invokevirtual 192, 3) := dk_182 0 192 (dk_at dksX5_readOne_1 1 rfl rfl)
theorem dX5_readOne_28 : decode cX5_readOne 28 = .ok (.aload_n 0, 1) := dk_42 (dk_at dksX5_readOne_1 4 rfl rfl)
theorem dX5_readOne_29 : decode cX5_readOne 29 = .ok (.getfield 25, 3) := dk_180 0 25 (dk_at dksX5_readOne_1 5 rfl rfl)
theorem dX5_readOne_32 : decode cX5_readOne 32 = .ok (.iconst 4, 1) := dk_7 (dk_at dksX5_readOne_1 8 rfl rfl)
theorem dX5_readOne_33 : decode cX5_readOne 33 = .ok (.iaload, 1) := dk_46 (dk_at dksX5_readOne_1 9 rfl rfl)
theorem dX5_readOne_34 : decode cX5_readOne 34 = .ok (.istore_n 1, 1) := dk_60 (dk_at dksX5_readOne_1 10 rfl rfl)
theorem dX5_readOne_35 : decode cX5_readOne 35 = .ok (.aload_n 0, 1) := dk_42 (dk_at dksX5_readOne_1 11 rfl rfl)
theorem dX5_readOne_36 : decode cX5_readOne 36 = .ok (.getfield 44, 3) := dk_180 0 44 (dk_at dksX5_readOne_1 12 rfl rfl)
theorem dX5_readOne_39 : decode cX5_readOne 39 = .ok (.bipush 12, 2) := dk_16 12 (dk_at dksX5_readOne_1 15 rfl rfl)
theorem dX5_readOne_41 : decode cX5_readOne 41 = .ok (.iload_n 1, 1) := dk_27 (dk_at dksX5_readOne_1 17 rfl rfl)
theorem dX5_readOne_42 : decode cX5_readOne 42 = .ok (.iadd, 1) := dk_96 (dk_at dksX5_readOne_1 18 rfl rfl)
theorem dX5_readOne_43 : decode cX5_readOne 43 = .ok (.aload_n 0, 1) := dk_42 (dk_at dksX5_readOne_1 19 rfl rfl)
theorem dX5_readOne_44 : decode cX5_readOne 44 = .ok (.ldc 202, 2) := dk_18 202 (dk_at dksX5_readOne_1 20 rfl rfl)
theorem dX5_readOne_46 : decode cX5_readOne 46 = .ok (.invokevirtual 204, 3) := dk_182 0 204 (dk_at dksX5_readOne_2 0 rfl rfl)
theorem dX5_readOne_49 : decode cX5_readOne 49 = .ok (.ifCond .eq 13, 3) := dk_153 0 13 (dk_at dksX5_readOne_2 3 rfl rfl)
theorem dX5_readOne_52 : decode cX5_readOne 52 = .ok (.aload_n 0, 1) := dk_42 (dk_at dksX5_readOne_2 6 rfl rfl)
theorem dX5_readOne_53 : decode cX5_readOne 53 = .ok (.iconst 0, 1) := dk_3 (dk_at dksX5_readOne_2 7 rfl rfl)
theorem dX5_readOne_54 : decode cX5_readOne 54 = .ok (.bipush 99, 2) := dk_16 99 (dk_at dksX5_readOne_2 8 rfl rfl)
theorem dX5_readOne_56 : decode cX5_readOne 56 = .ok (.invokevirtual 207, 3) := dk_182 0 207 (dk_at dksX5_readOne_2 10 rfl rfl)
theorem dX5_readOne_59 : decode cX5_readOne 59 = .ok (.goto 4, 3) := dk_167 0 4 (dk_at dksX5_readOne_2 13 rfl rfl)
theorem dX5_readOne_62 : decode cX5_readOne 62 = .ok (.iconst 0, 1) := dk_3 (dk_at dksX5_readOne_2 16 rfl rfl)
theorem dX5_readOne_63 : decode cX5_readOne 63 = .ok (.iastore, 1) := dk_79 (dk_at dksX5_readOne_2 17 rfl rfl)
theorem dX5_readOne_64 : decode cX5_readOne 64 = .ok (.iconst (-1), 1) := dk_2 (dk_at dksX5_readOne_2 18 rfl rfl)
theorem dX5_readOne_65 : decode cX5_readOne 65 = .ok (.istore_n 2, 1) := dk_61 (dk_at dksX5_readOne_2 19 rfl rfl)
theorem dX5_readOne_66 : decode cX5_readOne 66 = .ok (.iconst 0, 1) := dk_3 (dk_at dksX5_readOne_2 20 rfl rfl)
theorem dX5_readOne_67 : decode cX5_readOne 67 = .ok (.istore_n 3, 1) := dk_62 (dk_at dksX5_readOne_2 21 rfl rfl)
theorem dX5_readOne_68 : decode cX5_readOne 68 = .ok (.iload_n 3, 1) := dk_29 (dk_at dksX5_readOne_2 22 rfl rfl)
theorem dX5_readOne_69 : decode cX5_readOne 69 = .ok (.aload_n 0, 1) := dk_42 (dk_at dksX5_readOne_2 23 rfl rfl)
theorem dX5_readOne_70 : decode cX5_readOne 70 = .ok (.getfield 19, 3) := dk_180 0 19 (dk_at dksX5_readOne_3 0 rfl rfl)
theorem dX5_readOne_73 : decode cX5_readOne 73 = .ok (.arraylength, 1) := dk_190 (dk_at dksX5_readOne_3 3 rfl rfl)
theorem dX5_readOne_74 : decode cX5_readOne 74 = .ok (.if_icmp .ge 24, 3) := dk_162 0 24 (dk_at dksX5_readOne_3 4 rfl rfl)
theorem dX5_readOne_77 : decode cX5_readOne 77 = .ok (.aload_n 0, 1) := dk_42 (dk_at dksX5_readOne_3 7 rfl rfl)
theorem dX5_readOne_78 : decode cX5_readOne 78 = .ok (.aload_n 0, 1) := dk_42 (dk_at dksX5_readOne_3 8 rfl rfl)
theorem dX5_readOne_79 : decode cX5_readOne 79 = .ok (.getfield 19, 3) := dk_180 0 19 (dk_at dksX5_readOne_3 9 rfl rfl)
theorem dX5_readOne_82 : decode cX5_readOne 82 = .ok (.iload_n 3, 1) := dk_29 (dk_at dksX5_readOne_3 12 rfl rfl)
theorem dX5_readOne_83 : decode cX5_readOne 83 = .ok (.aaload, 1) := dk_50 (dk_at dksX5_readOne_3 13 rfl rfl)
theorem dX5_readOne_84 : decode cX5_readOne 84 = .ok (.invokevirtual 188, 3) := dk_182 0 188 (dk_at dksX5_readOne_3 14 rfl rfl)
theorem dX5_readOne_87 : decode cX5_readOne 87 = .ok (.ifCond .eq 5, 3) := dk_153 0 5 (dk_at dksX5_readOne_3 17 rfl rfl)
theorem dX5_readOne_90 : decode cX5_readOne 90 = .ok (.iload_n 3, 1) := dk_29 (dk_at dksX5_readOne_3 20 rfl rfl)
theorem dX5_readOne_91 : decode cX5_readOne 91 = .ok (.istore_n 2, 1) := dk_61 (dk_at dksX5_readOne_3 21 rfl rfl)
theorem dX5_readOne_92 : decode cX5_readOne 92 = .ok (.iinc 3 1, 3) := dk_132 3 1 (dk_at dksX5_readOne_4 0 rfl rfl)
theorem dX5_readOne_95 : decode cX5_readOne 95 = .ok (.goto (-27), 3) := dk_167 255 229 (dk_at dksX5_readOne_4 3 rfl rfl)
theorem dX5_readOne_98 : decode cX5_readOne 98 = .ok (.iload_n 2, 1) := dk_28 (dk_at dksX5_readOne_4 6 rfl rfl)
theorem dX5_readOne_99 : decode cX5_readOne 99 = .ok (.iconst (-1), 1) := dk_2 (dk_at dksX5_readOne_4 7 rfl rfl)
theorem dX5_readOne_100 : decode cX5_readOne 100 = .ok (.if_icmp .ne 8, 3) := dk_160 0 8 (dk_at dksX5_readOne_4 8 rfl rfl)
theorem dX5_readOne_103 : decode cX5_readOne 103 = .ok (.aload_n 0, 1) := dk_42 (dk_at dksX5_readOne_4 11 rfl rfl)
theorem dX5_readOne_104 : decode cX5_readOne 104 = .ok (.iconst 1, 1) := dk_4 (dk_at dksX5_readOne_4 12 rfl rfl)
theorem dX5_readOne_105 : decode cX5_readOne 105 = .ok (.invokevirtual 195, 3) := dk_182 0 195 (dk_at dksX5_readOne_4 13 rfl rfl)
theorem dX5_readOne_108 : decode cX5_readOne 108 = .ok (.aload_n 0, 1) := dk_42 (dk_at dksX5_readOne_4 16 rfl rfl)
theorem dX5_readOne_109 : decode cX5_readOne 109 = .ok (.getfield 174, 3) := dk_180 0 174 (dk_at dksX5_readOne_4 17 rfl rfl)
theorem dX5_readOne_112 : decode cX5_readOne 112 = .ok (.ifCond .eq 4, 3) := dk_153 0 4 (dk_at dksX5_readOne_4 20 rfl rfl)
theorem dX5_readOne_115 : decode cX5_readOne 115 = .ok (.return_, 1) := dk_177 (dk_at dksX5_readOne_4 23 rfl rfl)
theorem dX5_readOne_116 : decode cX5_readOne 116 = .ok (.aload_n 0, 1) := dk_42 (dk_at dksX5_readOne_5 0 rfl rfl)
theorem dX5_readOne_117 : decode cX5_readOne 117 = .ok (.invokevirtual 192, 3) := dk_182 0 192 (dk_at dksX5_readOne_5 1 rfl rfl)
theorem dX5_readOne_120 : decode cX5_readOne 120 = .ok (.aload_n 0, 1) := dk_42 (dk_at dksX5_readOne_5 4 rfl rfl)
theorem dX5_readOne_121 : decode cX5_readOne 121 = .ok (.getfield 29, 3) := dk_180 0 29 (dk_at dksX5_readOne_5 5 rfl rfl)
theorem dX5_readOne_124 : decode cX5_readOne 124 = .ok (.bipush 6, 2) := dk_16 6 (dk_at dksX5_readOne_5 8 rfl rfl)
theorem dX5_readOne_126 : decode cX5_readOne 126 = .ok (.iload_n 1, 1) := dk_27 (dk_at dksX5_readOne_5 10 rfl rfl)
theorem dX5_readOne_127 : decode cX5_readOne 127 = .ok (.iadd, 1) := dk_96 (dk_at dksX5_readOne_5 11 rfl rfl)
theorem dX5_readOne_128 : decode cX5_readOne 128 = .ok (.iload_n 2, 1) := dk_28 (dk_at dksX5_readOne_5 12 rfl rfl)
theorem dX5_readOne_129 : decode cX5_readOne 129 = .ok (.iastore, 1) := dk_79 (dk_at dksX5_readOne_5 13 rfl rfl)
theorem dX5_readOne_130 : decode cX5_readOne 130 = .ok (.aload_n 0, 1) := dk_42 (dk_at dksX5_readOne_5 14 rfl rfl)
theorem dX5_readOne_131 : decode cX5_readOne 131 = .ok (.getfield 32, 3) := dk_180 0 32 (dk_at dksX5_readOne_5 15 rfl rfl)
theorem dX5_readOne_134 : decode cX5_readOne 134 = .ok (.bipush 6, 2) := dk_16 6 (dk_at dksX5_readOne_5 18 rfl rfl)
theorem dX5_readOne_136 : decode cX5_readOne 136 = .ok (.iload_n 1, 1) := dk_27 (dk_at dksX5_readOne_5 20 rfl rfl)
theorem dX5_readOne_137 : decode cX5_readOne 137 = .ok (.iadd, 1) := dk_96 (dk_at dksX5_readOne_5 21 rfl rfl)
theorem dX5_readOne_138 : decode cX5_readOne 138 = .ok (.iload_n 2, 1) := dk_28 (dk_at dksX5_readOne_5 22 rfl rfl)
theorem dX5_readOne_139 : decode cX5_readOne 139 = .ok (.iconst 3, 1) := dk_6 (dk_at dksX5_readOne_5 23 rfl rfl)
theorem dX5_readOne_140 : decode cX5_readOne 140 = .ok (.if_icmp .ne 13, 3) := dk_160 0 13 (dk_at dksX5_readOne_6 0 rfl rfl)
theorem dX5_readOne_143 : decode cX5_readOne 143 = .ok (.aload_n 0, 1) := dk_42 (dk_at dksX5_readOne_6 3 rfl rfl)
theorem dX5_readOne_144 : decode cX5_readOne 144 = .ok (.iconst 0, 1) := dk_3 (dk_at dksX5_readOne_6 4 rfl rfl)
theorem dX5_readOne_145 : decode cX5_readOne 145 = .ok (.bipush 11, 2) := dk_16 11 (dk_at dksX5_readOne_6 5 rfl rfl)
theorem dX5_readOne_147 : decode cX5_readOne 147 = .ok (.invokevirtual 207, 3) := dk_182 0 207 (dk_at dksX5_readOne_6 7 rfl rfl)
theorem dX5_readOne_150 : decode cX5_readOne 150 = .ok (.goto 19, 3) := dk_167 0 19 (dk_at dksX5_readOne_6 10 rfl rfl)
theorem dX5_readOne_153 : decode cX5_readOne 153 = .ok (.iload_n 2, 1) := dk_28 (dk_at dksX5_readOne_6 13 rfl rfl)
theorem dX5_readOne_154 : decode cX5_readOne 154 = .ok (.iconst 4, 1) := dk_7 (dk_at dksX5_readOne_6 14 rfl rfl)
theorem dX5_readOne_155 : decode cX5_readOne 155 = .ok (.if_icmp .ne 13, 3) := dk_160 0 13 (dk_at dksX5_readOne_6 15 rfl rfl)
theorem dX5_readOne_158 : decode cX5_readOne 158 = .ok (.aload_n 0, 1) := dk_42 (dk_at dksX5_readOne_6 18 rfl rfl)
theorem dX5_readOne_159 : decode cX5_readOne 159 = .ok (.iconst 0, 1) := dk_3 (dk_at dksX5_readOne_6 19 rfl rfl)
theorem dX5_readOne_160 : decode cX5_readOne 160 = .ok (.bipush 99, 2) := dk_16 99 (dk_at dksX5_readOne_6 20 rfl rfl)
theorem dX5_readOne_162 : decode cX5_readOne 162 = .ok (.invokevirtual 207, 3) := dk_182 0 207 (dk_at dksX5_readOne_7 0 rfl rfl)
theorem dX5_readOne_165 : decode cX5_readOne 165 = .ok (.goto 4, 3) := dk_167 0 4 (dk_at dksX5_readOne_7 3 rfl rfl)
theorem dX5_readOne_168 : decode cX5_readOne 168 = .ok (.iconst 0, 1) := dk_3 (dk_at dksX5_readOne_7 6 rfl rfl)
theorem dX5_readOne_169 : decode cX5_readOne 169 = .ok (.iastore, 1) := dk_79 (dk_at dksX5_readOne_7 7 rfl rfl)
theorem dX5_readOne_170 : decode cX5_readOne 170 = .ok (.aload_n 0, 1) := dk_42 (dk_at dksX5_readOne_7 8 rfl rfl)
theorem dX5_readOne_171 : decode cX5_readOne 171 = .ok (.getfield 25, 3) := dk_180 0 25 (dk_at dksX5_readOne_7 9 rfl rfl)
theorem dX5_readOne_174 : decode cX5_readOne 174 = .ok (.iconst 4, 1) := dk_7 (dk_at dksX5_readOne_7 12 rfl rfl)
theorem dX5_readOne_175 : decode cX5_readOne 175 = .ok (.dup2, 1) := dk_92 (dk_at dksX5_readOne_7 13 rfl rfl)
theorem dX5_readOne_176 : decode cX5_readOne 176 = .ok (.iaload, 1) := dk_46 (dk_at dksX5_readOne_7 14 rfl rfl)
theorem dX5_readOne_177 : decode cX5_readOne 177 = .ok (.iconst 1, 1) := dk_4 (dk_at dksX5_readOne_7 15 rfl rfl)
theorem dX5_readOne_178 : decode cX5_readOne 178 = .ok (.iadd, 1) := dk_96 (dk_at dksX5_readOne_7 16 rfl rfl)
theorem dX5_readOne_179 : decode cX5_readOne 179 = .ok (.iastore, 1) := dk_79 (dk_at dksX5_readOne_7 17 rfl rfl)
theorem dX5_readOne_180 : decode cX5_readOne 180 = .ok (.return_, 1) := dk_177 (dk_at dksX5_readOne_7 18 rfl rfl)
abbrev cX5_passes : ByteArray := prog_16_method_15_code
def yX5_passes : MethodName := ⟨RX5, "passes", "(Ljava/lang/String;)Z"⟩
def dkwX5_passes_0 : List UInt8 := [42, 43, 182, 0, 188, 61, 28, 153, 0, 7, 42, 182, 0, 192, 28, 172]
abbrev dktX5_passes_0 : List UInt8 := dkwX5_passes_0 ++ []
theorem dksX5_passes_0 : cX5_passes.data.toList.drop 0 = dktX5_passes_0 := by decide +kernel
theorem dX5_passes_0 : decode cX5_passes 0 = .ok (.aload_n 0, 1) := dk_42 (dk_at dksX5_passes_0 0 rfl rfl)
theorem dX5_passes_1 : decode cX5_passes 1 = .ok (.aload_n 1, 1) := dk_43 (dk_at dksX5_passes_0 1 rfl rfl)
theorem dX5_passes_2 : decode cX5_passes 2 = .ok (.invokevirtual 188, 3) := dk_182 0 188 (dk_at dksX5_passes_0 2 rfl rfl)
theorem dX5_passes_5 : decode cX5_passes 5 = .ok (.istore_n 2, 1) := dk_61 (dk_at dksX5_passes_0 5 rfl rfl)
theorem dX5_passes_6 : decode cX5_passes 6 = .ok (.iload_n 2, 1) := dk_28 (dk_at dksX5_passes_0 6 rfl rfl)
theorem dX5_passes_7 : decode cX5_passes 7 = .ok (.ifCond .eq 7, 3) := dk_153 0 7 (dk_at dksX5_passes_0 7 rfl rfl)
theorem dX5_passes_10 : decode cX5_passes 10 = .ok (.aload_n 0, 1) := dk_42 (dk_at dksX5_passes_0 10 rfl rfl)
theorem dX5_passes_11 : decode cX5_passes 11 = .ok (.invokevirtual 192, 3) := dk_182 0 192 (dk_at dksX5_passes_0 11 rfl rfl)
theorem dX5_passes_14 : decode cX5_passes 14 = .ok (.iload_n 2, 1) := dk_28 (dk_at dksX5_passes_0 14 rfl rfl)
theorem dX5_passes_15 : decode cX5_passes 15 = .ok (.ireturn, 1) := dk_172 (dk_at dksX5_passes_0 15 rfl rfl)
abbrev cX5_readNumber : ByteArray := prog_16_method_16_code
def yX5_readNumber : MethodName := ⟨RX5, "readNumber", "(II)I"⟩
def dkwX5_readNumber_3 : List UInt8 := [154, 0, 7, 42, 182, 0, 192, 29, 172]
abbrev dktX5_readNumber_3 : List UInt8 := dkwX5_readNumber_3 ++ []
def dkwX5_readNumber_2 : List UInt8 := [42, 180, 0, 161, 28, 164, 0, 8, 42, 5, 182, 0, 195, 42, 180, 0, 161, 62, 42, 180, 0, 174]
abbrev dktX5_readNumber_2 : List UInt8 := dkwX5_readNumber_2 ++ dktX5_readNumber_3
def dkwX5_readNumber_1 : List UInt8 := [167, 0, 37, 42, 180, 0, 171, 42, 180, 0, 148, 100, 7, 163, 0, 19, 42, 180, 0, 161, 27, 161, 0, 11]
abbrev dktX5_readNumber_1 : List UInt8 := dkwX5_readNumber_1 ++ dktX5_readNumber_2
def dkwX5_readNumber_0 : List UInt8 := [42, 180, 0, 174, 153, 0, 5, 3, 172, 42, 180, 0, 151, 5, 159, 0, 11, 42, 4, 182, 0, 195]
abbrev dktX5_readNumber_0 : List UInt8 := dkwX5_readNumber_0 ++ dktX5_readNumber_1
theorem dksX5_readNumber_0 : cX5_readNumber.data.toList.drop 0 = dktX5_readNumber_0 := by decide +kernel
theorem dksX5_readNumber_1 : cX5_readNumber.data.toList.drop 22 = dktX5_readNumber_1 := dk_seg dksX5_readNumber_0 22 rfl rfl
theorem dksX5_readNumber_2 : cX5_readNumber.data.toList.drop 46 = dktX5_readNumber_2 := dk_seg dksX5_readNumber_1 24 rfl rfl
theorem dksX5_readNumber_3 : cX5_readNumber.data.toList.drop 68 = dktX5_readNumber_3 := dk_seg dksX5_readNumber_2 22 rfl rfl
theorem dX5_readNumber_0 : decode cX5_readNumber 0 = .ok (.aload_n 0, 1) := dk_42 (dk_at dksX5_readNumber_0 0 rfl rfl)
theorem dX5_readNumber_1 : decode cX5_readNumber 1 = .ok (.getfield 174, 3) := dk_180 0 174 (dk_at dksX5_readNumber_0 1 rfl rfl)
theorem dX5_readNumber_4 : decode cX5_readNumber 4 = .ok (.ifCond .eq 5, 3) := dk_153 0 5 (dk_at dksX5_readNumber_0 4 rfl rfl)
theorem dX5_readNumber_7 : decode cX5_readNumber 7 = .ok (.iconst 0, 1) := dk_3 (dk_at dksX5_readNumber_0 7 rfl rfl)
theorem dX5_readNumber_8 : decode cX5_readNumber 8 = .ok (.ireturn, 1) := dk_172 (dk_at dksX5_readNumber_0 8 rfl rfl)
theorem dX5_readNumber_9 : decode cX5_readNumber 9 = .ok (.aload_n 0, 1) := dk_42 (dk_at dksX5_readNumber_0 9 rfl rfl)
theorem dX5_readNumber_10 : decode cX5_readNumber 10 = .ok (.getfield 151, 3) := dk_180 0 151 (dk_at dksX5_readNumber_0 10 rfl rfl)
theorem dX5_readNumber_13 : decode cX5_readNumber 13 = .ok (.iconst 2, 1) := dk_5 (dk_at dksX5_readNumber_0 13 rfl rfl)
theorem dX5_readNumber_14 : decode cX5_readNumber 14 = .ok (.if_icmp .eq 11, 3) := dk_159 0 11 (dk_at dksX5_readNumber_0 14 rfl rfl)
theorem dX5_readNumber_17 : decode cX5_readNumber 17 = .ok (.aload_n 0, 1) := dk_42 (dk_at dksX5_readNumber_0 17 rfl rfl)
theorem dX5_readNumber_18 : decode cX5_readNumber 18 = .ok (.iconst 1, 1) := dk_4 (dk_at dksX5_readNumber_0 18 rfl rfl)
theorem dX5_readNumber_19 : decode cX5_readNumber 19 = .ok (.invokevirtual 195, 3) := dk_182 0 195 (dk_at dksX5_readNumber_0 19 rfl rfl)
theorem dX5_readNumber_22 : decode cX5_readNumber 22 = .ok (.goto 37, 3) := dk_167 0 37 (dk_at dksX5_readNumber_1 0 rfl rfl)
theorem dX5_readNumber_25 : decode cX5_readNumber 25 = .ok (.aload_n 0, 1) := dk_42 (dk_at dksX5_readNumber_1 3 rfl rfl)
theorem dX5_readNumber_26 : decode cX5_readNumber 26 = .ok (.getfield 171, 3) := dk_180 0 171 (dk_at dksX5_readNumber_1 4 rfl rfl)
theorem dX5_readNumber_29 : decode cX5_readNumber 29 = .ok (.aload_n 0, 1) := dk_42 (dk_at dksX5_readNumber_1 7 rfl rfl)
theorem dX5_readNumber_30 : decode cX5_readNumber 30 = .ok (.getfield 148, 3) := dk_180 0 148 (dk_at dksX5_readNumber_1 8 rfl rfl)
theorem dX5_readNumber_33 : decode cX5_readNumber 33 = .ok (.isub, 1) := dk_100 (dk_at dksX5_readNumber_1 11 rfl rfl)
theorem dX5_readNumber_34 : decode cX5_readNumber 34 = .ok (.iconst 4, 1) := dk_7 (dk_at dksX5_readNumber_1 12 rfl rfl)
theorem dX5_readNumber_35 : decode cX5_readNumber 35 = .ok (.if_icmp .gt 19, 3) := dk_163 0 19 (dk_at dksX5_readNumber_1 13 rfl rfl)
theorem dX5_readNumber_38 : decode cX5_readNumber 38 = .ok (.aload_n 0, 1) := dk_42 (dk_at dksX5_readNumber_1 16 rfl rfl)
theorem dX5_readNumber_39 : decode cX5_readNumber 39 = .ok (.getfield 161, 3) := dk_180 0 161 (dk_at dksX5_readNumber_1 17 rfl rfl)
theorem dX5_readNumber_42 : decode cX5_readNumber 42 = .ok (.iload_n 1, 1) := dk_27 (dk_at dksX5_readNumber_1 20 rfl rfl)
theorem dX5_readNumber_43 : decode cX5_readNumber 43 = .ok (.if_icmp .lt 11, 3) := dk_161 0 11 (dk_at dksX5_readNumber_1 21 rfl rfl)
theorem dX5_readNumber_46 : decode cX5_readNumber 46 = .ok (.aload_n 0, 1) := dk_42 (dk_at dksX5_readNumber_2 0 rfl rfl)
theorem dX5_readNumber_47 : decode cX5_readNumber 47 = .ok (.getfield 161, 3) := dk_180 0 161 (dk_at dksX5_readNumber_2 1 rfl rfl)
theorem dX5_readNumber_50 : decode cX5_readNumber 50 = .ok (.iload_n 2, 1) := dk_28 (dk_at dksX5_readNumber_2 4 rfl rfl)
theorem dX5_readNumber_51 : decode cX5_readNumber 51 = .ok (.if_icmp .le 8, 3) := dk_164 0 8 (dk_at dksX5_readNumber_2 5 rfl rfl)
theorem dX5_readNumber_54 : decode cX5_readNumber 54 = .ok (.aload_n 0, 1) := dk_42 (dk_at dksX5_readNumber_2 8 rfl rfl)
theorem dX5_readNumber_55 : decode cX5_readNumber 55 = .ok (.iconst 2, 1) := dk_5 (dk_at dksX5_readNumber_2 9 rfl rfl)
theorem dX5_readNumber_56 : decode cX5_readNumber 56 = .ok (.invokevirtual 195, 3) := dk_182 0 195 (dk_at dksX5_readNumber_2 10 rfl rfl)
theorem dX5_readNumber_59 : decode cX5_readNumber 59 = .ok (.aload_n 0, 1) := dk_42 (dk_at dksX5_readNumber_2 13 rfl rfl)
theorem dX5_readNumber_60 : decode cX5_readNumber 60 = .ok (.getfield 161, 3) := dk_180 0 161 (dk_at dksX5_readNumber_2 14 rfl rfl)
theorem dX5_readNumber_63 : decode cX5_readNumber 63 = .ok (.istore_n 3, 1) := dk_62 (dk_at dksX5_readNumber_2 17 rfl rfl)
theorem dX5_readNumber_64 : decode cX5_readNumber 64 = .ok (.aload_n 0, 1) := dk_42 (dk_at dksX5_readNumber_2 18 rfl rfl)
theorem dX5_readNumber_65 : decode cX5_readNumber 65 = .ok (.getfield 174, 3) := dk_180 0 174 (dk_at dksX5_readNumber_2 19 rfl rfl)
theorem dX5_readNumber_68 : decode cX5_readNumber 68 = .ok (.ifCond .ne 7, 3) := dk_154 0 7 (dk_at dksX5_readNumber_3 0 rfl rfl)
theorem dX5_readNumber_71 : decode cX5_readNumber 71 = .ok (.aload_n 0, 1) := dk_42 (dk_at dksX5_readNumber_3 3 rfl rfl)
theorem dX5_readNumber_72 : decode cX5_readNumber 72 = .ok (.invokevirtual 192, 3) := dk_182 0 192 (dk_at dksX5_readNumber_3 4 rfl rfl)
theorem dX5_readNumber_75 : decode cX5_readNumber 75 = .ok (.iload_n 3, 1) := dk_29 (dk_at dksX5_readNumber_3 7 rfl rfl)
theorem dX5_readNumber_76 : decode cX5_readNumber 76 = .ok (.ireturn, 1) := dk_172 (dk_at dksX5_readNumber_3 8 rfl rfl)
abbrev cX5_readThing : ByteArray := prog_16_method_20_code
def yX5_readThing : MethodName := ⟨RX5, "readThing", "()V"⟩
def dkwX5_readThing_4 : List UInt8 := [92, 46, 4, 96, 79, 177]
abbrev dktX5_readThing_4 : List UInt8 := dkwX5_readThing_4 ++ []
def dkwX5_readThing_3 : List UInt8 := [182, 0, 210, 79, 42, 180, 0, 53, 16, 12, 27, 96, 42, 18, 213, 182, 0, 204, 84, 42, 180, 0, 25, 8]
abbrev dktX5_readThing_3 : List UInt8 := dkwX5_readThing_3 ++ dktX5_readThing_4
def dkwX5_readThing_2 : List UInt8 := [42, 180, 0, 35, 16, 12, 27, 96, 42, 3, 17, 3, 231, 182, 0, 207, 79, 42, 180, 0, 44, 27, 42]
abbrev dktX5_readThing_2 : List UInt8 := dkwX5_readThing_2 ++ dktX5_readThing_3
def dkwX5_readThing_1 : List UInt8 := [42, 182, 0, 192, 42, 180, 0, 25, 8, 46, 60, 42, 180, 0, 50, 27, 42, 4, 16, 99, 182, 0, 207, 79]
abbrev dktX5_readThing_1 : List UInt8 := dkwX5_readThing_1 ++ dktX5_readThing_2
def dkwX5_readThing_0 : List UInt8 := [42, 180, 0, 25, 8, 46, 16, 12, 160, 0, 8, 42, 5, 182, 0, 195, 42, 180, 0, 174, 153, 0, 4, 177]
abbrev dktX5_readThing_0 : List UInt8 := dkwX5_readThing_0 ++ dktX5_readThing_1
theorem dksX5_readThing_0 : cX5_readThing.data.toList.drop 0 = dktX5_readThing_0 := by decide +kernel
theorem dksX5_readThing_1 : cX5_readThing.data.toList.drop 24 = dktX5_readThing_1 := dk_seg dksX5_readThing_0 24 rfl rfl
theorem dksX5_readThing_2 : cX5_readThing.data.toList.drop 48 = dktX5_readThing_2 := dk_seg dksX5_readThing_1 24 rfl rfl
theorem dksX5_readThing_3 : cX5_readThing.data.toList.drop 71 = dktX5_readThing_3 := dk_seg dksX5_readThing_2 23 rfl rfl
theorem dksX5_readThing_4 : cX5_readThing.data.toList.drop 95 = dktX5_readThing_4 := dk_seg dksX5_readThing_3 24 rfl rfl
theorem dX5_readThing_0 : decode cX5_readThing 0 = .ok (.aload_n 0, 1) := dk_42 (dk_at dksX5_readThing_0 0 rfl rfl)
theorem dX5_readThing_1 : decode cX5_readThing 1 = .ok (.getfield 25, 3) := dk_180 0 25 (dk_at dksX5_readThing_0 1 rfl rfl)
theorem dX5_readThing_4 : decode cX5_readThing 4 = .ok (.iconst 5, 1) := dk_8 (dk_at dksX5_readThing_0 4 rfl rfl)
theorem dX5_readThing_5 : decode cX5_readThing 5 = .ok (.iaload, 1) := dk_46 (dk_at dksX5_readThing_0 5 rfl rfl)
theorem dX5_readThing_6 : decode cX5_readThing 6 = .ok (.bipush 12, 2) := dk_16 12 (dk_at dksX5_readThing_0 6 rfl rfl)
theorem dX5_readThing_8 : decode cX5_readThing 8 = .ok (.if_icmp .ne 8, 3) := dk_160 0 8 (dk_at dksX5_readThing_0 8 rfl rfl)
theorem dX5_readThing_11 : decode cX5_readThing 11 = .ok (.aload_n 0, 1) := dk_42 (dk_at dksX5_readThing_0 11 rfl rfl)
theorem dX5_readThing_12 : decode cX5_readThing 12 = .ok (.iconst 2, 1) := dk_5 (dk_at dksX5_readThing_0 12 rfl rfl)
theorem dX5_readThing_13 : decode cX5_readThing 13 = .ok (.invokevirtual 195, 3) := dk_182 0 195 (dk_at dksX5_readThing_0 13 rfl rfl)
theorem dX5_readThing_16 : decode cX5_readThing 16 = .ok (.aload_n 0, 1) := dk_42 (dk_at dksX5_readThing_0 16 rfl rfl)
theorem dX5_readThing_17 : decode cX5_readThing 17 = .ok (.getfield 174, 3) := dk_180 0 174 (dk_at dksX5_readThing_0 17 rfl rfl)
theorem dX5_readThing_20 : decode cX5_readThing 20 = .ok (.ifCond .eq 4, 3) := dk_153 0 4 (dk_at dksX5_readThing_0 20 rfl rfl)
theorem dX5_readThing_23 : decode cX5_readThing 23 = .ok (.return_, 1) := dk_177 (dk_at dksX5_readThing_0 23 rfl rfl)
theorem dX5_readThing_24 : decode cX5_readThing 24 = .ok (.aload_n 0, 1) := dk_42 (dk_at dksX5_readThing_1 0 rfl rfl)
theorem dX5_readThing_25 : decode cX5_readThing 25 = .ok (.invokevirtual 192, 3) := dk_182 0 192 (dk_at dksX5_readThing_1 1 rfl rfl)
theorem dX5_readThing_28 : decode cX5_readThing 28 = .ok (.aload_n 0, 1) := dk_42 (dk_at dksX5_readThing_1 4 rfl rfl)
theorem dX5_readThing_29 : decode cX5_readThing 29 = .ok (.getfield 25, 3) := dk_180 0 25 (dk_at dksX5_readThing_1 5 rfl rfl)
theorem dX5_readThing_32 : decode cX5_readThing 32 = .ok (.iconst 5, 1) := dk_8 (dk_at dksX5_readThing_1 8 rfl rfl)
theorem dX5_readThing_33 : decode cX5_readThing 33 = .ok (.iaload, 1) := dk_46 (dk_at dksX5_readThing_1 9 rfl rfl)
theorem dX5_readThing_34 : decode cX5_readThing 34 = .ok (.istore_n 1, 1) := dk_60 (dk_at dksX5_readThing_1 10 rfl rfl)
theorem dX5_readThing_35 : decode cX5_readThing 35 = .ok (.aload_n 0, 1) := dk_42 (dk_at dksX5_readThing_1 11 rfl rfl)
theorem dX5_readThing_36 : decode cX5_readThing 36 = .ok (.getfield 50, 3) := dk_180 0 50 (dk_at dksX5_readThing_1 12 rfl rfl)
theorem dX5_readThing_39 : decode cX5_readThing 39 = .ok (.iload_n 1, 1) := dk_27 (dk_at dksX5_readThing_1 15 rfl rfl)
theorem dX5_readThing_40 : decode cX5_readThing 40 = .ok (.aload_n 0, 1) := dk_42 (dk_at dksX5_readThing_1 16 rfl rfl)
theorem dX5_readThing_41 : decode cX5_readThing 41 = .ok (.iconst 1, 1) := dk_4 (dk_at dksX5_readThing_1 17 rfl rfl)
theorem dX5_readThing_42 : decode cX5_readThing 42 = .ok (.bipush 99, 2) := dk_16 99 (dk_at dksX5_readThing_1 18 rfl rfl)
theorem dX5_readThing_44 : decode cX5_readThing 44 = .ok (.invokevirtual 207, 3) := dk_182 0 207 (dk_at dksX5_readThing_1 20 rfl rfl)
theorem dX5_readThing_47 : decode cX5_readThing 47 = .ok (.iastore, 1) := dk_79 (dk_at dksX5_readThing_1 23 rfl rfl)
theorem dX5_readThing_48 : decode cX5_readThing 48 = .ok (.aload_n 0, 1) := dk_42 (dk_at dksX5_readThing_2 0 rfl rfl)
theorem dX5_readThing_49 : decode cX5_readThing 49 = .ok (.getfield 35, 3) := dk_180 0 35 (dk_at dksX5_readThing_2 1 rfl rfl)
theorem dX5_readThing_52 : decode cX5_readThing 52 = .ok (.bipush 12, 2) := dk_16 12 (dk_at dksX5_readThing_2 4 rfl rfl)
theorem dX5_readThing_54 : decode cX5_readThing 54 = .ok (.iload_n 1, 1) := dk_27 (dk_at dksX5_readThing_2 6 rfl rfl)
theorem dX5_readThing_55 : decode cX5_readThing 55 = .ok (.iadd, 1) := dk_96 (dk_at dksX5_readThing_2 7 rfl rfl)
theorem dX5_readThing_56 : decode cX5_readThing 56 = .ok (.aload_n 0, 1) := dk_42 (dk_at dksX5_readThing_2 8 rfl rfl)
theorem dX5_readThing_57 : decode cX5_readThing 57 = .ok (.iconst 0, 1) := dk_3 (dk_at dksX5_readThing_2 9 rfl rfl)
theorem dX5_readThing_58 : decode cX5_readThing 58 = .ok (.sipush 999, 3) := dk_17 3 231 (dk_at dksX5_readThing_2 10 rfl rfl)
theorem dX5_readThing_61 : decode cX5_readThing 61 = .ok (.invokevirtual 207, 3) := dk_182 0 207 (dk_at dksX5_readThing_2 13 rfl rfl)
theorem dX5_readThing_64 : decode cX5_readThing 64 = .ok (.iastore, 1) := dk_79 (dk_at dksX5_readThing_2 16 rfl rfl)
theorem dX5_readThing_65 : decode cX5_readThing 65 = .ok (.aload_n 0, 1) := dk_42 (dk_at dksX5_readThing_2 17 rfl rfl)
theorem dX5_readThing_66 : decode cX5_readThing 66 = .ok (.getfield 44, 3) := dk_180 0 44 (dk_at dksX5_readThing_2 18 rfl rfl)
theorem dX5_readThing_69 : decode cX5_readThing 69 = .ok (.iload_n 1, 1) := dk_27 (dk_at dksX5_readThing_2 21 rfl rfl)
theorem dX5_readThing_70 : decode cX5_readThing 70 = .ok (.aload_n 0, 1) := dk_42 (dk_at dksX5_readThing_2 22 rfl rfl)
theorem dX5_readThing_71 : decode cX5_readThing 71 = .ok (.invokevirtual 210, 3) := dk_182 0 210 (dk_at dksX5_readThing_3 0 rfl rfl)
theorem dX5_readThing_74 : decode cX5_readThing 74 = .ok (.iastore, 1) := dk_79 (dk_at dksX5_readThing_3 3 rfl rfl)
theorem dX5_readThing_75 : decode cX5_readThing 75 = .ok (.aload_n 0, 1) := dk_42 (dk_at dksX5_readThing_3 4 rfl rfl)
theorem dX5_readThing_76 : decode cX5_readThing 76 = .ok (.getfield 53, 3) := dk_180 0 53 (dk_at dksX5_readThing_3 5 rfl rfl)
theorem dX5_readThing_79 : decode cX5_readThing 79 = .ok (.bipush 12, 2) := dk_16 12 (dk_at dksX5_readThing_3 8 rfl rfl)
theorem dX5_readThing_81 : decode cX5_readThing 81 = .ok (.iload_n 1, 1) := dk_27 (dk_at dksX5_readThing_3 10 rfl rfl)
theorem dX5_readThing_82 : decode cX5_readThing 82 = .ok (.iadd, 1) := dk_96 (dk_at dksX5_readThing_3 11 rfl rfl)
theorem dX5_readThing_83 : decode cX5_readThing 83 = .ok (.aload_n 0, 1) := dk_42 (dk_at dksX5_readThing_3 12 rfl rfl)
theorem dX5_readThing_84 : decode cX5_readThing 84 = .ok (.ldc 213, 2) := dk_18 213 (dk_at dksX5_readThing_3 13 rfl rfl)
theorem dX5_readThing_86 : decode cX5_readThing 86 = .ok (.invokevirtual 204, 3) := dk_182 0 204 (dk_at dksX5_readThing_3 15 rfl rfl)
theorem dX5_readThing_89 : decode cX5_readThing 89 = .ok (.bastore, 1) := dk_84 (dk_at dksX5_readThing_3 18 rfl rfl)
theorem dX5_readThing_90 : decode cX5_readThing 90 = .ok (.aload_n 0, 1) := dk_42 (dk_at dksX5_readThing_3 19 rfl rfl)
theorem dX5_readThing_91 : decode cX5_readThing 91 = .ok (.getfield 25, 3) := dk_180 0 25 (dk_at dksX5_readThing_3 20 rfl rfl)
theorem dX5_readThing_94 : decode cX5_readThing 94 = .ok (.iconst 5, 1) := dk_8 (dk_at dksX5_readThing_3 23 rfl rfl)
theorem dX5_readThing_95 : decode cX5_readThing 95 = .ok (.dup2, 1) := dk_92 (dk_at dksX5_readThing_4 0 rfl rfl)
theorem dX5_readThing_96 : decode cX5_readThing 96 = .ok (.iaload, 1) := dk_46 (dk_at dksX5_readThing_4 1 rfl rfl)
theorem dX5_readThing_97 : decode cX5_readThing 97 = .ok (.iconst 1, 1) := dk_4 (dk_at dksX5_readThing_4 2 rfl rfl)
theorem dX5_readThing_98 : decode cX5_readThing 98 = .ok (.iadd, 1) := dk_96 (dk_at dksX5_readThing_4 3 rfl rfl)
theorem dX5_readThing_99 : decode cX5_readThing 99 = .ok (.iastore, 1) := dk_79 (dk_at dksX5_readThing_4 4 rfl rfl)
theorem dX5_readThing_100 : decode cX5_readThing 100 = .ok (.return_, 1) := dk_177 (dk_at dksX5_readThing_4 5 rfl rfl)
abbrev cX5_readPerson : ByteArray := prog_16_method_18_code
def yX5_readPerson : MethodName := ⟨RX5, "readPerson", "()I"⟩
def dkwX5_readPerson_0 : List UInt8 := [42, 182, 0, 199, 60, 42, 180, 0, 174, 154, 0, 7, 42, 182, 0, 192, 27, 172]
abbrev dktX5_readPerson_0 : List UInt8 := dkwX5_readPerson_0 ++ []
theorem dksX5_readPerson_0 : cX5_readPerson.data.toList.drop 0 = dktX5_readPerson_0 := by decide +kernel
theorem dX5_readPerson_0 : decode cX5_readPerson 0 = .ok (.aload_n 0, 1) := dk_42 (dk_at dksX5_readPerson_0 0 rfl rfl)
theorem dX5_readPerson_1 : decode cX5_readPerson 1 = .ok (.invokevirtual 199, 3) := dk_182 0 199 (dk_at dksX5_readPerson_0 1 rfl rfl)
theorem dX5_readPerson_4 : decode cX5_readPerson 4 = .ok (.istore_n 1, 1) := dk_60 (dk_at dksX5_readPerson_0 4 rfl rfl)
theorem dX5_readPerson_5 : decode cX5_readPerson 5 = .ok (.aload_n 0, 1) := dk_42 (dk_at dksX5_readPerson_0 5 rfl rfl)
theorem dX5_readPerson_6 : decode cX5_readPerson 6 = .ok (.getfield 174, 3) := dk_180 0 174 (dk_at dksX5_readPerson_0 6 rfl rfl)
theorem dX5_readPerson_9 : decode cX5_readPerson 9 = .ok (.ifCond .ne 7, 3) := dk_154 0 7 (dk_at dksX5_readPerson_0 9 rfl rfl)
theorem dX5_readPerson_12 : decode cX5_readPerson 12 = .ok (.aload_n 0, 1) := dk_42 (dk_at dksX5_readPerson_0 12 rfl rfl)
theorem dX5_readPerson_13 : decode cX5_readPerson 13 = .ok (.invokevirtual 192, 3) := dk_182 0 192 (dk_at dksX5_readPerson_0 13 rfl rfl)
theorem dX5_readPerson_16 : decode cX5_readPerson 16 = .ok (.iload_n 1, 1) := dk_27 (dk_at dksX5_readPerson_0 16 rfl rfl)
theorem dX5_readPerson_17 : decode cX5_readPerson 17 = .ok (.ireturn, 1) := dk_172 (dk_at dksX5_readPerson_0 17 rfl rfl)
abbrev cX5_personNow : ByteArray := prog_16_method_17_code
def yX5_personNow : MethodName := ⟨RX5, "personNow", "()I"⟩
def dkwX5_personNow_3 : List UInt8 := [154, 0, 10, 42, 180, 0, 161, 167, 0, 4, 3, 172]
abbrev dktX5_personNow_3 : List UInt8 := dkwX5_personNow_3 ++ []
def dkwX5_personNow_2 : List UInt8 := [42, 180, 0, 161, 42, 180, 0, 25, 7, 46, 161, 0, 8, 42, 6, 182, 0, 195, 42, 180, 0, 174]
abbrev dktX5_personNow_2 : List UInt8 := dkwX5_personNow_2 ++ dktX5_personNow_3
def dkwX5_personNow_1 : List UInt8 := [167, 0, 42, 42, 180, 0, 171, 42, 180, 0, 148, 100, 7, 164, 0, 11, 42, 5, 182, 0, 195, 167, 0, 21]
abbrev dktX5_personNow_1 : List UInt8 := dkwX5_personNow_1 ++ dktX5_personNow_2
def dkwX5_personNow_0 : List UInt8 := [42, 180, 0, 174, 153, 0, 5, 3, 172, 42, 180, 0, 151, 5, 159, 0, 11, 42, 4, 182, 0, 195]
abbrev dktX5_personNow_0 : List UInt8 := dkwX5_personNow_0 ++ dktX5_personNow_1
theorem dksX5_personNow_0 : cX5_personNow.data.toList.drop 0 = dktX5_personNow_0 := by decide +kernel
theorem dksX5_personNow_1 : cX5_personNow.data.toList.drop 22 = dktX5_personNow_1 := dk_seg dksX5_personNow_0 22 rfl rfl
theorem dksX5_personNow_2 : cX5_personNow.data.toList.drop 46 = dktX5_personNow_2 := dk_seg dksX5_personNow_1 24 rfl rfl
theorem dksX5_personNow_3 : cX5_personNow.data.toList.drop 68 = dktX5_personNow_3 := dk_seg dksX5_personNow_2 22 rfl rfl
theorem dX5_personNow_0 : decode cX5_personNow 0 = .ok (.aload_n 0, 1) := dk_42 (dk_at dksX5_personNow_0 0 rfl rfl)
theorem dX5_personNow_1 : decode cX5_personNow 1 = .ok (.getfield 174, 3) := dk_180 0 174 (dk_at dksX5_personNow_0 1 rfl rfl)
theorem dX5_personNow_4 : decode cX5_personNow 4 = .ok (.ifCond .eq 5, 3) := dk_153 0 5 (dk_at dksX5_personNow_0 4 rfl rfl)
theorem dX5_personNow_7 : decode cX5_personNow 7 = .ok (.iconst 0, 1) := dk_3 (dk_at dksX5_personNow_0 7 rfl rfl)
theorem dX5_personNow_8 : decode cX5_personNow 8 = .ok (.ireturn, 1) := dk_172 (dk_at dksX5_personNow_0 8 rfl rfl)
theorem dX5_personNow_9 : decode cX5_personNow 9 = .ok (.aload_n 0, 1) := dk_42 (dk_at dksX5_personNow_0 9 rfl rfl)
theorem dX5_personNow_10 : decode cX5_personNow 10 = .ok (.getfield 151, 3) := dk_180 0 151 (dk_at dksX5_personNow_0 10 rfl rfl)
theorem dX5_personNow_13 : decode cX5_personNow 13 = .ok (.iconst 2, 1) := dk_5 (dk_at dksX5_personNow_0 13 rfl rfl)
theorem dX5_personNow_14 : decode cX5_personNow 14 = .ok (.if_icmp .eq 11, 3) := dk_159 0 11 (dk_at dksX5_personNow_0 14 rfl rfl)
theorem dX5_personNow_17 : decode cX5_personNow 17 = .ok (.aload_n 0, 1) := dk_42 (dk_at dksX5_personNow_0 17 rfl rfl)
theorem dX5_personNow_18 : decode cX5_personNow 18 = .ok (.iconst 1, 1) := dk_4 (dk_at dksX5_personNow_0 18 rfl rfl)
theorem dX5_personNow_19 : decode cX5_personNow 19 = .ok (.invokevirtual 195, 3) := dk_182 0 195 (dk_at dksX5_personNow_0 19 rfl rfl)
theorem dX5_personNow_22 : decode cX5_personNow 22 = .ok (.goto 42, 3) := dk_167 0 42 (dk_at dksX5_personNow_1 0 rfl rfl)
theorem dX5_personNow_25 : decode cX5_personNow 25 = .ok (.aload_n 0, 1) := dk_42 (dk_at dksX5_personNow_1 3 rfl rfl)
theorem dX5_personNow_26 : decode cX5_personNow 26 = .ok (.getfield 171, 3) := dk_180 0 171 (dk_at dksX5_personNow_1 4 rfl rfl)
theorem dX5_personNow_29 : decode cX5_personNow 29 = .ok (.aload_n 0, 1) := dk_42 (dk_at dksX5_personNow_1 7 rfl rfl)
theorem dX5_personNow_30 : decode cX5_personNow 30 = .ok (.getfield 148, 3) := dk_180 0 148 (dk_at dksX5_personNow_1 8 rfl rfl)
theorem dX5_personNow_33 : decode cX5_personNow 33 = .ok (.isub, 1) := dk_100 (dk_at dksX5_personNow_1 11 rfl rfl)
theorem dX5_personNow_34 : decode cX5_personNow 34 = .ok (.iconst 4, 1) := dk_7 (dk_at dksX5_personNow_1 12 rfl rfl)
theorem dX5_personNow_35 : decode cX5_personNow 35 = .ok (.if_icmp .le 11, 3) := dk_164 0 11 (dk_at dksX5_personNow_1 13 rfl rfl)
theorem dX5_personNow_38 : decode cX5_personNow 38 = .ok (.aload_n 0, 1) := dk_42 (dk_at dksX5_personNow_1 16 rfl rfl)
theorem dX5_personNow_39 : decode cX5_personNow 39 = .ok (.iconst 2, 1) := dk_5 (dk_at dksX5_personNow_1 17 rfl rfl)
theorem dX5_personNow_40 : decode cX5_personNow 40 = .ok (.invokevirtual 195, 3) := dk_182 0 195 (dk_at dksX5_personNow_1 18 rfl rfl)
theorem dX5_personNow_43 : decode cX5_personNow 43 = .ok (.goto 21, 3) := dk_167 0 21 (dk_at dksX5_personNow_1 21 rfl rfl)
theorem dX5_personNow_46 : decode cX5_personNow 46 = .ok (.aload_n 0, 1) := dk_42 (dk_at dksX5_personNow_2 0 rfl rfl)
theorem dX5_personNow_47 : decode cX5_personNow 47 = .ok (.getfield 161, 3) := dk_180 0 161 (dk_at dksX5_personNow_2 1 rfl rfl)
theorem dX5_personNow_50 : decode cX5_personNow 50 = .ok (.aload_n 0, 1) := dk_42 (dk_at dksX5_personNow_2 4 rfl rfl)
theorem dX5_personNow_51 : decode cX5_personNow 51 = .ok (.getfield 25, 3) := dk_180 0 25 (dk_at dksX5_personNow_2 5 rfl rfl)
theorem dX5_personNow_54 : decode cX5_personNow 54 = .ok (.iconst 4, 1) := dk_7 (dk_at dksX5_personNow_2 8 rfl rfl)
theorem dX5_personNow_55 : decode cX5_personNow 55 = .ok (.iaload, 1) := dk_46 (dk_at dksX5_personNow_2 9 rfl rfl)
theorem dX5_personNow_56 : decode cX5_personNow 56 = .ok (.if_icmp .lt 8, 3) := dk_161 0 8 (dk_at dksX5_personNow_2 10 rfl rfl)
theorem dX5_personNow_59 : decode cX5_personNow 59 = .ok (.aload_n 0, 1) := dk_42 (dk_at dksX5_personNow_2 13 rfl rfl)
theorem dX5_personNow_60 : decode cX5_personNow 60 = .ok (.iconst 3, 1) := dk_6 (dk_at dksX5_personNow_2 14 rfl rfl)
theorem dX5_personNow_61 : decode cX5_personNow 61 = .ok (.invokevirtual 195, 3) := dk_182 0 195 (dk_at dksX5_personNow_2 15 rfl rfl)
theorem dX5_personNow_64 : decode cX5_personNow 64 = .ok (.aload_n 0, 1) := dk_42 (dk_at dksX5_personNow_2 18 rfl rfl)
theorem dX5_personNow_65 : decode cX5_personNow 65 = .ok (.getfield 174, 3) := dk_180 0 174 (dk_at dksX5_personNow_2 19 rfl rfl)
theorem dX5_personNow_68 : decode cX5_personNow 68 = .ok (.ifCond .ne 10, 3) := dk_154 0 10 (dk_at dksX5_personNow_3 0 rfl rfl)
theorem dX5_personNow_71 : decode cX5_personNow 71 = .ok (.aload_n 0, 1) := dk_42 (dk_at dksX5_personNow_3 3 rfl rfl)
theorem dX5_personNow_72 : decode cX5_personNow 72 = .ok (.getfield 161, 3) := dk_180 0 161 (dk_at dksX5_personNow_3 4 rfl rfl)
theorem dX5_personNow_75 : decode cX5_personNow 75 = .ok (.goto 4, 3) := dk_167 0 4 (dk_at dksX5_personNow_3 7 rfl rfl)
theorem dX5_personNow_78 : decode cX5_personNow 78 = .ok (.iconst 0, 1) := dk_3 (dk_at dksX5_personNow_3 10 rfl rfl)
theorem dX5_personNow_79 : decode cX5_personNow 79 = .ok (.ireturn, 1) := dk_172 (dk_at dksX5_personNow_3 11 rfl rfl)
abbrev cX5_readOwes : ByteArray := prog_16_method_21_code
def yX5_readOwes : MethodName := ⟨RX5, "readOwes", "()V"⟩
def dkwX5_readOwes_4 : List UInt8 := [154, 0, 7, 42, 182, 0, 192, 42, 180, 0, 44, 16, 24, 27, 96, 28, 79, 177]
abbrev dktX5_readOwes_4 : List UInt8 := dkwX5_readOwes_4 ++ []
def dkwX5_readOwes_3 : List UInt8 := [61, 42, 180, 0, 174, 154, 0, 13, 28, 27, 160, 0, 8, 42, 7, 182, 0, 195, 42, 180, 0, 174]
abbrev dktX5_readOwes_3 : List UInt8 := dkwX5_readOwes_3 ++ dktX5_readOwes_4
def dkwX5_readOwes_2 : List UInt8 := [96, 42, 4, 17, 3, 231, 182, 0, 207, 79, 42, 18, 215, 182, 0, 204, 154, 0, 4, 177, 42, 182, 0, 199]
abbrev dktX5_readOwes_2 : List UInt8 := dkwX5_readOwes_2 ++ dktX5_readOwes_3
def dkwX5_readOwes_1 : List UInt8 := [42, 7, 182, 0, 195, 42, 180, 0, 174, 153, 0, 4, 177, 42, 182, 0, 192, 42, 180, 0, 44, 16, 18, 27]
abbrev dktX5_readOwes_1 : List UInt8 := dkwX5_readOwes_1 ++ dktX5_readOwes_2
def dkwX5_readOwes_0 : List UInt8 := [42, 182, 0, 199, 60, 42, 180, 0, 174, 154, 0, 20, 42, 180, 0, 44, 16, 18, 27, 96, 46, 158, 0, 8]
abbrev dktX5_readOwes_0 : List UInt8 := dkwX5_readOwes_0 ++ dktX5_readOwes_1
theorem dksX5_readOwes_0 : cX5_readOwes.data.toList.drop 0 = dktX5_readOwes_0 := by decide +kernel
theorem dksX5_readOwes_1 : cX5_readOwes.data.toList.drop 24 = dktX5_readOwes_1 := dk_seg dksX5_readOwes_0 24 rfl rfl
theorem dksX5_readOwes_2 : cX5_readOwes.data.toList.drop 48 = dktX5_readOwes_2 := dk_seg dksX5_readOwes_1 24 rfl rfl
theorem dksX5_readOwes_3 : cX5_readOwes.data.toList.drop 72 = dktX5_readOwes_3 := dk_seg dksX5_readOwes_2 24 rfl rfl
theorem dksX5_readOwes_4 : cX5_readOwes.data.toList.drop 94 = dktX5_readOwes_4 := dk_seg dksX5_readOwes_3 22 rfl rfl
theorem dX5_readOwes_0 : decode cX5_readOwes 0 = .ok (.aload_n 0, 1) := dk_42 (dk_at dksX5_readOwes_0 0 rfl rfl)
theorem dX5_readOwes_1 : decode cX5_readOwes 1 = .ok (.invokevirtual 199, 3) := dk_182 0 199 (dk_at dksX5_readOwes_0 1 rfl rfl)
theorem dX5_readOwes_4 : decode cX5_readOwes 4 = .ok (.istore_n 1, 1) := dk_60 (dk_at dksX5_readOwes_0 4 rfl rfl)
theorem dX5_readOwes_5 : decode cX5_readOwes 5 = .ok (.aload_n 0, 1) := dk_42 (dk_at dksX5_readOwes_0 5 rfl rfl)
theorem dX5_readOwes_6 : decode cX5_readOwes 6 = .ok (.getfield 174, 3) := dk_180 0 174 (dk_at dksX5_readOwes_0 6 rfl rfl)
theorem dX5_readOwes_9 : decode cX5_readOwes 9 = .ok (.ifCond .ne 20, 3) := dk_154 0 20 (dk_at dksX5_readOwes_0 9 rfl rfl)
theorem dX5_readOwes_12 : decode cX5_readOwes 12 = .ok (.aload_n 0, 1) := dk_42 (dk_at dksX5_readOwes_0 12 rfl rfl)
theorem dX5_readOwes_13 : decode cX5_readOwes 13 = .ok (.getfield 44, 3) := dk_180 0 44 (dk_at dksX5_readOwes_0 13 rfl rfl)
theorem dX5_readOwes_16 : decode cX5_readOwes 16 = .ok (.bipush 18, 2) := dk_16 18 (dk_at dksX5_readOwes_0 16 rfl rfl)
theorem dX5_readOwes_18 : decode cX5_readOwes 18 = .ok (.iload_n 1, 1) := dk_27 (dk_at dksX5_readOwes_0 18 rfl rfl)
theorem dX5_readOwes_19 : decode cX5_readOwes 19 = .ok (.iadd, 1) := dk_96 (dk_at dksX5_readOwes_0 19 rfl rfl)
theorem dX5_readOwes_20 : decode cX5_readOwes 20 = .ok (.iaload, 1) := dk_46 (dk_at dksX5_readOwes_0 20 rfl rfl)
theorem dX5_readOwes_21 : decode cX5_readOwes 21 = .ok (.ifCond .le 8, 3) := dk_158 0 8 (dk_at dksX5_readOwes_0 21 rfl rfl)
theorem dX5_readOwes_24 : decode cX5_readOwes 24 = .ok (.aload_n 0, 1) := dk_42 (dk_at dksX5_readOwes_1 0 rfl rfl)
theorem dX5_readOwes_25 : decode cX5_readOwes 25 = .ok (.iconst 4, 1) := dk_7 (dk_at dksX5_readOwes_1 1 rfl rfl)
theorem dX5_readOwes_26 : decode cX5_readOwes 26 = .ok (.invokevirtual 195, 3) := dk_182 0 195 (dk_at dksX5_readOwes_1 2 rfl rfl)
theorem dX5_readOwes_29 : decode cX5_readOwes 29 = .ok (.aload_n 0, 1) := dk_42 (dk_at dksX5_readOwes_1 5 rfl rfl)
theorem dX5_readOwes_30 : decode cX5_readOwes 30 = .ok (.getfield 174, 3) := dk_180 0 174 (dk_at dksX5_readOwes_1 6 rfl rfl)
theorem dX5_readOwes_33 : decode cX5_readOwes 33 = .ok (.ifCond .eq 4, 3) := dk_153 0 4 (dk_at dksX5_readOwes_1 9 rfl rfl)
theorem dX5_readOwes_36 : decode cX5_readOwes 36 = .ok (.return_, 1) := dk_177 (dk_at dksX5_readOwes_1 12 rfl rfl)
theorem dX5_readOwes_37 : decode cX5_readOwes 37 = .ok (.aload_n 0, 1) := dk_42 (dk_at dksX5_readOwes_1 13 rfl rfl)
theorem dX5_readOwes_38 : decode cX5_readOwes 38 = .ok (.invokevirtual 192, 3) := dk_182 0 192 (dk_at dksX5_readOwes_1 14 rfl rfl)
theorem dX5_readOwes_41 : decode cX5_readOwes 41 = .ok (.aload_n 0, 1) := dk_42 (dk_at dksX5_readOwes_1 17 rfl rfl)
theorem dX5_readOwes_42 : decode cX5_readOwes 42 = .ok (.getfield 44, 3) := dk_180 0 44 (dk_at dksX5_readOwes_1 18 rfl rfl)
theorem dX5_readOwes_45 : decode cX5_readOwes 45 = .ok (.bipush 18, 2) := dk_16 18 (dk_at dksX5_readOwes_1 21 rfl rfl)
theorem dX5_readOwes_47 : decode cX5_readOwes 47 = .ok (.iload_n 1, 1) := dk_27 (dk_at dksX5_readOwes_1 23 rfl rfl)
theorem dX5_readOwes_48 : decode cX5_readOwes 48 = .ok (.iadd, 1) := dk_96 (dk_at dksX5_readOwes_2 0 rfl rfl)
theorem dX5_readOwes_49 : decode cX5_readOwes 49 = .ok (.aload_n 0, 1) := dk_42 (dk_at dksX5_readOwes_2 1 rfl rfl)
theorem dX5_readOwes_50 : decode cX5_readOwes 50 = .ok (.iconst 1, 1) := dk_4 (dk_at dksX5_readOwes_2 2 rfl rfl)
theorem dX5_readOwes_51 : decode cX5_readOwes 51 = .ok (.sipush 999, 3) := dk_17 3 231 (dk_at dksX5_readOwes_2 3 rfl rfl)
theorem dX5_readOwes_54 : decode cX5_readOwes 54 = .ok (.invokevirtual 207, 3) := dk_182 0 207 (dk_at dksX5_readOwes_2 6 rfl rfl)
theorem dX5_readOwes_57 : decode cX5_readOwes 57 = .ok (.iastore, 1) := dk_79 (dk_at dksX5_readOwes_2 9 rfl rfl)
theorem dX5_readOwes_58 : decode cX5_readOwes 58 = .ok (.aload_n 0, 1) := dk_42 (dk_at dksX5_readOwes_2 10 rfl rfl)
theorem dX5_readOwes_59 : decode cX5_readOwes 59 = .ok (.ldc 215, 2) := dk_18 215 (dk_at dksX5_readOwes_2 11 rfl rfl)
theorem dX5_readOwes_61 : decode cX5_readOwes 61 = .ok (.invokevirtual 204, 3) := dk_182 0 204 (dk_at dksX5_readOwes_2 13 rfl rfl)
theorem dX5_readOwes_64 : decode cX5_readOwes 64 = .ok (.ifCond .ne 4, 3) := dk_154 0 4 (dk_at dksX5_readOwes_2 16 rfl rfl)
theorem dX5_readOwes_67 : decode cX5_readOwes 67 = .ok (.return_, 1) := dk_177 (dk_at dksX5_readOwes_2 19 rfl rfl)
theorem dX5_readOwes_68 : decode cX5_readOwes 68 = .ok (.aload_n 0, 1) := dk_42 (dk_at dksX5_readOwes_2 20 rfl rfl)
theorem dX5_readOwes_69 : decode cX5_readOwes 69 = .ok (.invokevirtual 199, 3) := dk_182 0 199 (dk_at dksX5_readOwes_2 21 rfl rfl)
theorem dX5_readOwes_72 : decode cX5_readOwes 72 = .ok (.istore_n 2, 1) := dk_61 (dk_at dksX5_readOwes_3 0 rfl rfl)
theorem dX5_readOwes_73 : decode cX5_readOwes 73 = .ok (.aload_n 0, 1) := dk_42 (dk_at dksX5_readOwes_3 1 rfl rfl)
theorem dX5_readOwes_74 : decode cX5_readOwes 74 = .ok (.getfield 174, 3) := dk_180 0 174 (dk_at dksX5_readOwes_3 2 rfl rfl)
theorem dX5_readOwes_77 : decode cX5_readOwes 77 = .ok (.ifCond .ne 13, 3) := dk_154 0 13 (dk_at dksX5_readOwes_3 5 rfl rfl)
theorem dX5_readOwes_80 : decode cX5_readOwes 80 = .ok (.iload_n 2, 1) := dk_28 (dk_at dksX5_readOwes_3 8 rfl rfl)
theorem dX5_readOwes_81 : decode cX5_readOwes 81 = .ok (.iload_n 1, 1) := dk_27 (dk_at dksX5_readOwes_3 9 rfl rfl)
theorem dX5_readOwes_82 : decode cX5_readOwes 82 = .ok (.if_icmp .ne 8, 3) := dk_160 0 8 (dk_at dksX5_readOwes_3 10 rfl rfl)
theorem dX5_readOwes_85 : decode cX5_readOwes 85 = .ok (.aload_n 0, 1) := dk_42 (dk_at dksX5_readOwes_3 13 rfl rfl)
theorem dX5_readOwes_86 : decode cX5_readOwes 86 = .ok (.iconst 4, 1) := dk_7 (dk_at dksX5_readOwes_3 14 rfl rfl)
theorem dX5_readOwes_87 : decode cX5_readOwes 87 = .ok (.invokevirtual 195, 3) := dk_182 0 195 (dk_at dksX5_readOwes_3 15 rfl rfl)
theorem dX5_readOwes_90 : decode cX5_readOwes 90 = .ok (.aload_n 0, 1) := dk_42 (dk_at dksX5_readOwes_3 18 rfl rfl)
theorem dX5_readOwes_91 : decode cX5_readOwes 91 = .ok (.getfield 174, 3) := dk_180 0 174 (dk_at dksX5_readOwes_3 19 rfl rfl)
theorem dX5_readOwes_94 : decode cX5_readOwes 94 = .ok (.ifCond .ne 7, 3) := dk_154 0 7 (dk_at dksX5_readOwes_4 0 rfl rfl)
theorem dX5_readOwes_97 : decode cX5_readOwes 97 = .ok (.aload_n 0, 1) := dk_42 (dk_at dksX5_readOwes_4 3 rfl rfl)
theorem dX5_readOwes_98 : decode cX5_readOwes 98 = .ok (.invokevirtual 192, 3) := dk_182 0 192 (dk_at dksX5_readOwes_4 4 rfl rfl)
theorem dX5_readOwes_101 : decode cX5_readOwes 101 = .ok (.aload_n 0, 1) := dk_42 (dk_at dksX5_readOwes_4 7 rfl rfl)
theorem dX5_readOwes_102 : decode cX5_readOwes 102 = .ok (.getfield 44, 3) := dk_180 0 44 (dk_at dksX5_readOwes_4 8 rfl rfl)
theorem dX5_readOwes_105 : decode cX5_readOwes 105 = .ok (.bipush 24, 2) := dk_16 24 (dk_at dksX5_readOwes_4 11 rfl rfl)
theorem dX5_readOwes_107 : decode cX5_readOwes 107 = .ok (.iload_n 1, 1) := dk_27 (dk_at dksX5_readOwes_4 13 rfl rfl)
theorem dX5_readOwes_108 : decode cX5_readOwes 108 = .ok (.iadd, 1) := dk_96 (dk_at dksX5_readOwes_4 14 rfl rfl)
theorem dX5_readOwes_109 : decode cX5_readOwes 109 = .ok (.iload_n 2, 1) := dk_28 (dk_at dksX5_readOwes_4 15 rfl rfl)
theorem dX5_readOwes_110 : decode cX5_readOwes 110 = .ok (.iastore, 1) := dk_79 (dk_at dksX5_readOwes_4 16 rfl rfl)
theorem dX5_readOwes_111 : decode cX5_readOwes 111 = .ok (.return_, 1) := dk_177 (dk_at dksX5_readOwes_4 17 rfl rfl)
abbrev cX5_readLaw : ByteArray := prog_16_method_22_code
def yX5_readLaw : MethodName := ⟨RX5, "readLaw", "()V"⟩
def dkwX5_readLaw_2 : List UInt8 := [3, 167, 0, 4, 4, 79, 177]
abbrev dktX5_readLaw_2 : List UInt8 := dkwX5_readLaw_2 ++ []
def dkwX5_readLaw_1 : List UInt8 := [182, 0, 195, 42, 180, 0, 174, 154, 0, 7, 42, 182, 0, 192, 42, 180, 0, 25, 16, 6, 27, 153, 0, 7]
abbrev dktX5_readLaw_1 : List UInt8 := dkwX5_readLaw_1 ++ dktX5_readLaw_2
def dkwX5_readLaw_0 : List UInt8 := [42, 18, 217, 182, 0, 188, 60, 27, 154, 0, 17, 42, 18, 219, 182, 0, 188, 154, 0, 8, 42, 4]
abbrev dktX5_readLaw_0 : List UInt8 := dkwX5_readLaw_0 ++ dktX5_readLaw_1
theorem dksX5_readLaw_0 : cX5_readLaw.data.toList.drop 0 = dktX5_readLaw_0 := by decide +kernel
theorem dksX5_readLaw_1 : cX5_readLaw.data.toList.drop 22 = dktX5_readLaw_1 := dk_seg dksX5_readLaw_0 22 rfl rfl
theorem dksX5_readLaw_2 : cX5_readLaw.data.toList.drop 46 = dktX5_readLaw_2 := dk_seg dksX5_readLaw_1 24 rfl rfl
theorem dX5_readLaw_0 : decode cX5_readLaw 0 = .ok (.aload_n 0, 1) := dk_42 (dk_at dksX5_readLaw_0 0 rfl rfl)
theorem dX5_readLaw_1 : decode cX5_readLaw 1 = .ok (.ldc 217, 2) := dk_18 217 (dk_at dksX5_readLaw_0 1 rfl rfl)
theorem dX5_readLaw_3 : decode cX5_readLaw 3 = .ok (.invokevirtual 188, 3) := dk_182 0 188 (dk_at dksX5_readLaw_0 3 rfl rfl)
theorem dX5_readLaw_6 : decode cX5_readLaw 6 = .ok (.istore_n 1, 1) := dk_60 (dk_at dksX5_readLaw_0 6 rfl rfl)
theorem dX5_readLaw_7 : decode cX5_readLaw 7 = .ok (.iload_n 1, 1) := dk_27 (dk_at dksX5_readLaw_0 7 rfl rfl)
theorem dX5_readLaw_8 : decode cX5_readLaw 8 = .ok (.ifCond .ne 17, 3) := dk_154 0 17 (dk_at dksX5_readLaw_0 8 rfl rfl)
theorem dX5_readLaw_11 : decode cX5_readLaw 11 = .ok (.aload_n 0, 1) := dk_42 (dk_at dksX5_readLaw_0 11 rfl rfl)
theorem dX5_readLaw_12 : decode cX5_readLaw 12 = .ok (.ldc 219, 2) := dk_18 219 (dk_at dksX5_readLaw_0 12 rfl rfl)
theorem dX5_readLaw_14 : decode cX5_readLaw 14 = .ok (.invokevirtual 188, 3) := dk_182 0 188 (dk_at dksX5_readLaw_0 14 rfl rfl)
theorem dX5_readLaw_17 : decode cX5_readLaw 17 = .ok (.ifCond .ne 8, 3) := dk_154 0 8 (dk_at dksX5_readLaw_0 17 rfl rfl)
theorem dX5_readLaw_20 : decode cX5_readLaw 20 = .ok (.aload_n 0, 1) := dk_42 (dk_at dksX5_readLaw_0 20 rfl rfl)
theorem dX5_readLaw_21 : decode cX5_readLaw 21 = .ok (.iconst 1, 1) := dk_4 (dk_at dksX5_readLaw_0 21 rfl rfl)
theorem dX5_readLaw_22 : decode cX5_readLaw 22 = .ok (.invokevirtual 195, 3) := dk_182 0 195 (dk_at dksX5_readLaw_1 0 rfl rfl)
theorem dX5_readLaw_25 : decode cX5_readLaw 25 = .ok (.aload_n 0, 1) := dk_42 (dk_at dksX5_readLaw_1 3 rfl rfl)
theorem dX5_readLaw_26 : decode cX5_readLaw 26 = .ok (.getfield 174, 3) := dk_180 0 174 (dk_at dksX5_readLaw_1 4 rfl rfl)
theorem dX5_readLaw_29 : decode cX5_readLaw 29 = .ok (.ifCond .ne 7, 3) := dk_154 0 7 (dk_at dksX5_readLaw_1 7 rfl rfl)
theorem dX5_readLaw_32 : decode cX5_readLaw 32 = .ok (.aload_n 0, 1) := dk_42 (dk_at dksX5_readLaw_1 10 rfl rfl)
theorem dX5_readLaw_33 : decode cX5_readLaw 33 = .ok (.invokevirtual 192, 3) := dk_182 0 192 (dk_at dksX5_readLaw_1 11 rfl rfl)
theorem dX5_readLaw_36 : decode cX5_readLaw 36 = .ok (.aload_n 0, 1) := dk_42 (dk_at dksX5_readLaw_1 14 rfl rfl)
theorem dX5_readLaw_37 : decode cX5_readLaw 37 = .ok (.getfield 25, 3) := dk_180 0 25 (dk_at dksX5_readLaw_1 15 rfl rfl)
theorem dX5_readLaw_40 : decode cX5_readLaw 40 = .ok (.bipush 6, 2) := dk_16 6 (dk_at dksX5_readLaw_1 18 rfl rfl)
theorem dX5_readLaw_42 : decode cX5_readLaw 42 = .ok (.iload_n 1, 1) := dk_27 (dk_at dksX5_readLaw_1 20 rfl rfl)
theorem dX5_readLaw_43 : decode cX5_readLaw 43 = .ok (.ifCond .eq 7, 3) := dk_153 0 7 (dk_at dksX5_readLaw_1 21 rfl rfl)
theorem dX5_readLaw_46 : decode cX5_readLaw 46 = .ok (.iconst 0, 1) := dk_3 (dk_at dksX5_readLaw_2 0 rfl rfl)
theorem dX5_readLaw_47 : decode cX5_readLaw 47 = .ok (.goto 4, 3) := dk_167 0 4 (dk_at dksX5_readLaw_2 1 rfl rfl)
theorem dX5_readLaw_50 : decode cX5_readLaw 50 = .ok (.iconst 1, 1) := dk_4 (dk_at dksX5_readLaw_2 4 rfl rfl)
theorem dX5_readLaw_51 : decode cX5_readLaw 51 = .ok (.iastore, 1) := dk_79 (dk_at dksX5_readLaw_2 5 rfl rfl)
theorem dX5_readLaw_52 : decode cX5_readLaw 52 = .ok (.return_, 1) := dk_177 (dk_at dksX5_readLaw_2 6 rfl rfl)
abbrev cX5_copy : ByteArray := prog_16_method_25_code
def yX5_copy : MethodName := ⟨RX5, "copy", "([I[I)V"⟩
def dkwX5_copy_0 : List UInt8 := [3, 61, 28, 16, 30, 162, 0, 15, 43, 28, 42, 28, 46, 79, 132, 2, 1, 167, 255, 241, 177]
abbrev dktX5_copy_0 : List UInt8 := dkwX5_copy_0 ++ []
theorem dksX5_copy_0 : cX5_copy.data.toList.drop 0 = dktX5_copy_0 := by decide +kernel
theorem dX5_copy_0 : decode cX5_copy 0 = .ok (.iconst 0, 1) := dk_3 (dk_at dksX5_copy_0 0 rfl rfl)
theorem dX5_copy_1 : decode cX5_copy 1 = .ok (.istore_n 2, 1) := dk_61 (dk_at dksX5_copy_0 1 rfl rfl)
theorem dX5_copy_2 : decode cX5_copy 2 = .ok (.iload_n 2, 1) := dk_28 (dk_at dksX5_copy_0 2 rfl rfl)
theorem dX5_copy_3 : decode cX5_copy 3 = .ok (.bipush 30, 2) := dk_16 30 (dk_at dksX5_copy_0 3 rfl rfl)
theorem dX5_copy_5 : decode cX5_copy 5 = .ok (.if_icmp .ge 15, 3) := dk_162 0 15 (dk_at dksX5_copy_0 5 rfl rfl)
theorem dX5_copy_8 : decode cX5_copy 8 = .ok (.aload_n 1, 1) := dk_43 (dk_at dksX5_copy_0 8 rfl rfl)
theorem dX5_copy_9 : decode cX5_copy 9 = .ok (.iload_n 2, 1) := dk_28 (dk_at dksX5_copy_0 9 rfl rfl)
theorem dX5_copy_10 : decode cX5_copy 10 = .ok (.aload_n 0, 1) := dk_42 (dk_at dksX5_copy_0 10 rfl rfl)
theorem dX5_copy_11 : decode cX5_copy 11 = .ok (.iload_n 2, 1) := dk_28 (dk_at dksX5_copy_0 11 rfl rfl)
theorem dX5_copy_12 : decode cX5_copy 12 = .ok (.iaload, 1) := dk_46 (dk_at dksX5_copy_0 12 rfl rfl)
theorem dX5_copy_13 : decode cX5_copy 13 = .ok (.iastore, 1) := dk_79 (dk_at dksX5_copy_0 13 rfl rfl)
theorem dX5_copy_14 : decode cX5_copy 14 = .ok (.iinc 2 1, 3) := dk_132 2 1 (dk_at dksX5_copy_0 14 rfl rfl)
theorem dX5_copy_17 : decode cX5_copy 17 = .ok (.goto (-15), 3) := dk_167 255 241 (dk_at dksX5_copy_0 17 rfl rfl)
theorem dX5_copy_20 : decode cX5_copy 20 = .ok (.return_, 1) := dk_177 (dk_at dksX5_copy_0 20 rfl rfl)
abbrev cX5_fault : ByteArray := prog_16_method_26_code
def yX5_fault : MethodName := ⟨RX5, "fault", "()I"⟩
def dkwX5_fault_0 : List UInt8 := [42, 3, 181, 0, 128, 42, 180, 0, 60, 172]
abbrev dktX5_fault_0 : List UInt8 := dkwX5_fault_0 ++ []
theorem dksX5_fault_0 : cX5_fault.data.toList.drop 0 = dktX5_fault_0 := by decide +kernel
theorem dX5_fault_0 : decode cX5_fault 0 = .ok (.aload_n 0, 1) := dk_42 (dk_at dksX5_fault_0 0 rfl rfl)
theorem dX5_fault_1 : decode cX5_fault 1 = .ok (.iconst 0, 1) := dk_3 (dk_at dksX5_fault_0 1 rfl rfl)
theorem dX5_fault_2 : decode cX5_fault 2 = .ok (.putfield 128, 3) := dk_181 0 128 (dk_at dksX5_fault_0 2 rfl rfl)
theorem dX5_fault_5 : decode cX5_fault 5 = .ok (.aload_n 0, 1) := dk_42 (dk_at dksX5_fault_0 5 rfl rfl)
theorem dX5_fault_6 : decode cX5_fault 6 = .ok (.getfield 60, 3) := dk_180 0 60 (dk_at dksX5_fault_0 6 rfl rfl)
theorem dX5_fault_9 : decode cX5_fault 9 = .ok (.ireturn, 1) := dk_172 (dk_at dksX5_fault_0 9 rfl rfl)
abbrev cX5_count : ByteArray := prog_16_method_27_code
def yX5_count : MethodName := ⟨RX5, "count", "(I)I"⟩
def dkwX5_count_3 : List UInt8 := [172, 42, 4, 182, 0, 243, 172]
abbrev dktX5_count_3 : List UInt8 := dkwX5_count_3 ++ []
def dkwX5_count_2 : List UInt8 := [42, 180, 0, 253, 172, 42, 180, 1, 0, 172, 42, 180, 0, 135, 172, 42, 180, 0, 38, 27, 16, 7, 100, 46]
abbrev dktX5_count_2 : List UInt8 := dkwX5_count_2 ++ dktX5_count_3
def dkwX5_count_1 : List UInt8 := [170, 0, 0, 0, 0, 59, 0, 0, 0, 4, 0, 0, 0, 8, 0, 0, 0, 34, 0, 0, 0, 39, 0, 0, 0, 44, 0, 0, 0, 49, 0, 0, 0, 49]
abbrev dktX5_count_1 : List UInt8 := dkwX5_count_1 ++ dktX5_count_2
def dkwX5_count_0 : List UInt8 := [42, 3, 181, 0, 128, 27, 3, 6, 184, 0, 131, 153, 0, 10, 42, 180, 0, 25, 27, 46, 172, 27]
abbrev dktX5_count_0 : List UInt8 := dkwX5_count_0 ++ dktX5_count_1
theorem dksX5_count_0 : cX5_count.data.toList.drop 0 = dktX5_count_0 := by decide +kernel
theorem dksX5_count_1 : cX5_count.data.toList.drop 22 = dktX5_count_1 := dk_seg dksX5_count_0 22 rfl rfl
theorem dksX5_count_2 : cX5_count.data.toList.drop 56 = dktX5_count_2 := dk_seg dksX5_count_1 34 rfl rfl
theorem dksX5_count_3 : cX5_count.data.toList.drop 80 = dktX5_count_3 := dk_seg dksX5_count_2 24 rfl rfl
theorem dX5_count_0 : decode cX5_count 0 = .ok (.aload_n 0, 1) := dk_42 (dk_at dksX5_count_0 0 rfl rfl)
theorem dX5_count_1 : decode cX5_count 1 = .ok (.iconst 0, 1) := dk_3 (dk_at dksX5_count_0 1 rfl rfl)
theorem dX5_count_2 : decode cX5_count 2 = .ok (.putfield 128, 3) := dk_181 0 128 (dk_at dksX5_count_0 2 rfl rfl)
theorem dX5_count_5 : decode cX5_count 5 = .ok (.iload_n 1, 1) := dk_27 (dk_at dksX5_count_0 5 rfl rfl)
theorem dX5_count_6 : decode cX5_count 6 = .ok (.iconst 0, 1) := dk_3 (dk_at dksX5_count_0 6 rfl rfl)
theorem dX5_count_7 : decode cX5_count 7 = .ok (.iconst 3, 1) := dk_6 (dk_at dksX5_count_0 7 rfl rfl)
theorem dX5_count_8 : decode cX5_count 8 = .ok (.invokestatic 131, 3) := dk_184 0 131 (dk_at dksX5_count_0 8 rfl rfl)
theorem dX5_count_11 : decode cX5_count 11 = .ok (.ifCond .eq 10, 3) := dk_153 0 10 (dk_at dksX5_count_0 11 rfl rfl)
theorem dX5_count_14 : decode cX5_count 14 = .ok (.aload_n 0, 1) := dk_42 (dk_at dksX5_count_0 14 rfl rfl)
theorem dX5_count_15 : decode cX5_count 15 = .ok (.getfield 25, 3) := dk_180 0 25 (dk_at dksX5_count_0 15 rfl rfl)
theorem dX5_count_18 : decode cX5_count 18 = .ok (.iload_n 1, 1) := dk_27 (dk_at dksX5_count_0 18 rfl rfl)
theorem dX5_count_19 : decode cX5_count 19 = .ok (.iaload, 1) := dk_46 (dk_at dksX5_count_0 19 rfl rfl)
theorem dX5_count_20 : decode cX5_count 20 = .ok (.ireturn, 1) := dk_172 (dk_at dksX5_count_0 20 rfl rfl)
theorem dX5_count_21 : decode cX5_count 21 = .ok (.iload_n 1, 1) := dk_27 (dk_at dksX5_count_0 21 rfl rfl)
theorem dX5_count_22 : decode cX5_count 22 = .ok (.tableswitch 59 4 8 #[34, 39, 44, 49, 49], 34) := by decide +kernel
theorem dX5_count_56 : decode cX5_count 56 = .ok (.aload_n 0, 1) := dk_42 (dk_at dksX5_count_2 0 rfl rfl)
theorem dX5_count_57 : decode cX5_count 57 = .ok (.getfield 253, 3) := dk_180 0 253 (dk_at dksX5_count_2 1 rfl rfl)
theorem dX5_count_60 : decode cX5_count 60 = .ok (.ireturn, 1) := dk_172 (dk_at dksX5_count_2 4 rfl rfl)
theorem dX5_count_61 : decode cX5_count 61 = .ok (.aload_n 0, 1) := dk_42 (dk_at dksX5_count_2 5 rfl rfl)
theorem dX5_count_62 : decode cX5_count 62 = .ok (.getfield 256, 3) := dk_180 1 0 (dk_at dksX5_count_2 6 rfl rfl)
theorem dX5_count_65 : decode cX5_count 65 = .ok (.ireturn, 1) := dk_172 (dk_at dksX5_count_2 9 rfl rfl)
theorem dX5_count_66 : decode cX5_count 66 = .ok (.aload_n 0, 1) := dk_42 (dk_at dksX5_count_2 10 rfl rfl)
theorem dX5_count_67 : decode cX5_count 67 = .ok (.getfield 135, 3) := dk_180 0 135 (dk_at dksX5_count_2 11 rfl rfl)
theorem dX5_count_70 : decode cX5_count 70 = .ok (.ireturn, 1) := dk_172 (dk_at dksX5_count_2 14 rfl rfl)
theorem dX5_count_71 : decode cX5_count 71 = .ok (.aload_n 0, 1) := dk_42 (dk_at dksX5_count_2 15 rfl rfl)
theorem dX5_count_72 : decode cX5_count 72 = .ok (.getfield 38, 3) := dk_180 0 38 (dk_at dksX5_count_2 16 rfl rfl)
theorem dX5_count_75 : decode cX5_count 75 = .ok (.iload_n 1, 1) := dk_27 (dk_at dksX5_count_2 19 rfl rfl)
theorem dX5_count_76 : decode cX5_count 76 = .ok (.bipush 7, 2) := dk_16 7 (dk_at dksX5_count_2 20 rfl rfl)
theorem dX5_count_78 : decode cX5_count 78 = .ok (.isub, 1) := dk_100 (dk_at dksX5_count_2 22 rfl rfl)
theorem dX5_count_79 : decode cX5_count 79 = .ok (.iaload, 1) := dk_46 (dk_at dksX5_count_2 23 rfl rfl)
theorem dX5_count_80 : decode cX5_count 80 = .ok (.ireturn, 1) := dk_172 (dk_at dksX5_count_3 0 rfl rfl)
theorem dX5_count_81 : decode cX5_count 81 = .ok (.aload_n 0, 1) := dk_42 (dk_at dksX5_count_3 1 rfl rfl)
theorem dX5_count_82 : decode cX5_count 82 = .ok (.iconst 1, 1) := dk_4 (dk_at dksX5_count_3 2 rfl rfl)
theorem dX5_count_83 : decode cX5_count 83 = .ok (.invokevirtual 243, 3) := dk_182 0 243 (dk_at dksX5_count_3 3 rfl rfl)
theorem dX5_count_86 : decode cX5_count 86 = .ok (.ireturn, 1) := dk_172 (dk_at dksX5_count_3 6 rfl rfl)
abbrev cX5_isIn : ByteArray := prog_16_method_4_code
def yX5_isIn : MethodName := ⟨RX5, "isIn", "(III)Z"⟩
def dkwX5_isIn_0 : List UInt8 := [26, 27, 161, 0, 12, 26, 28, 163, 0, 7, 4, 167, 0, 4, 3, 172]
abbrev dktX5_isIn_0 : List UInt8 := dkwX5_isIn_0 ++ []
theorem dksX5_isIn_0 : cX5_isIn.data.toList.drop 0 = dktX5_isIn_0 := by decide +kernel
theorem dX5_isIn_0 : decode cX5_isIn 0 = .ok (.iload_n 0, 1) := dk_26 (dk_at dksX5_isIn_0 0 rfl rfl)
theorem dX5_isIn_1 : decode cX5_isIn 1 = .ok (.iload_n 1, 1) := dk_27 (dk_at dksX5_isIn_0 1 rfl rfl)
theorem dX5_isIn_2 : decode cX5_isIn 2 = .ok (.if_icmp .lt 12, 3) := dk_161 0 12 (dk_at dksX5_isIn_0 2 rfl rfl)
theorem dX5_isIn_5 : decode cX5_isIn 5 = .ok (.iload_n 0, 1) := dk_26 (dk_at dksX5_isIn_0 5 rfl rfl)
theorem dX5_isIn_6 : decode cX5_isIn 6 = .ok (.iload_n 2, 1) := dk_28 (dk_at dksX5_isIn_0 6 rfl rfl)
theorem dX5_isIn_7 : decode cX5_isIn 7 = .ok (.if_icmp .gt 7, 3) := dk_163 0 7 (dk_at dksX5_isIn_0 7 rfl rfl)
theorem dX5_isIn_10 : decode cX5_isIn 10 = .ok (.iconst 1, 1) := dk_4 (dk_at dksX5_isIn_0 10 rfl rfl)
theorem dX5_isIn_11 : decode cX5_isIn 11 = .ok (.goto 4, 3) := dk_167 0 4 (dk_at dksX5_isIn_0 11 rfl rfl)
theorem dX5_isIn_14 : decode cX5_isIn 14 = .ok (.iconst 0, 1) := dk_3 (dk_at dksX5_isIn_0 14 rfl rfl)
theorem dX5_isIn_15 : decode cX5_isIn 15 = .ok (.ireturn, 1) := dk_172 (dk_at dksX5_isIn_0 15 rfl rfl)
abbrev cX5_person : ByteArray := prog_16_method_31_code
def yX5_person : MethodName := ⟨RX5, "person", "(II)I"⟩
def dkwX5_person_5 : List UInt8 := [182, 1, 17, 172, 42, 4, 182, 0, 243, 172]
abbrev dktX5_person_5 : List UInt8 := dkwX5_person_5 ++ []
def dkwX5_person_4 : List UInt8 := [42, 42, 180, 0, 41, 27, 182, 1, 10, 182, 1, 14, 172, 42, 42, 42, 180, 0, 41, 27, 182, 1, 10]
abbrev dktX5_person_4 : List UInt8 := dkwX5_person_4 ++ dktX5_person_5
def dkwX5_person_3 : List UInt8 := [96, 46, 172, 42, 180, 0, 41, 16, 24, 27, 96, 46, 172, 42, 42, 180, 0, 41, 27, 182, 1, 10, 172, 42]
abbrev dktX5_person_3 : List UInt8 := dkwX5_person_3 ++ dktX5_person_4
def dkwX5_person_2 : List UInt8 := [42, 180, 0, 29, 27, 46, 172, 42, 180, 0, 41, 16, 12, 27, 96, 46, 172, 42, 180, 0, 41, 16, 18, 27]
abbrev dktX5_person_2 : List UInt8 := dkwX5_person_2 ++ dktX5_person_3
def dkwX5_person_1 : List UInt8 := [170, 0, 0, 0, 0, 0, 0, 119, 0, 0, 0, 0, 0, 0, 0, 6, 0, 0, 0, 44, 0, 0, 0, 51, 0, 0, 0, 61, 0, 0, 0, 71, 0, 0, 0, 81, 0, 0, 0, 91, 0, 0, 0, 105]
abbrev dktX5_person_1 : List UInt8 := dkwX5_person_1 ++ dktX5_person_2
def dkwX5_person_0 : List UInt8 := [42, 3, 181, 0, 128, 42, 27, 182, 1, 7, 154, 0, 9, 42, 4, 182, 0, 243, 172, 28]
abbrev dktX5_person_0 : List UInt8 := dkwX5_person_0 ++ dktX5_person_1
theorem dksX5_person_0 : cX5_person.data.toList.drop 0 = dktX5_person_0 := by decide +kernel
theorem dksX5_person_1 : cX5_person.data.toList.drop 20 = dktX5_person_1 := dk_seg dksX5_person_0 20 rfl rfl
theorem dksX5_person_2 : cX5_person.data.toList.drop 64 = dktX5_person_2 := dk_seg dksX5_person_1 44 rfl rfl
theorem dksX5_person_3 : cX5_person.data.toList.drop 88 = dktX5_person_3 := dk_seg dksX5_person_2 24 rfl rfl
theorem dksX5_person_4 : cX5_person.data.toList.drop 112 = dktX5_person_4 := dk_seg dksX5_person_3 24 rfl rfl
theorem dksX5_person_5 : cX5_person.data.toList.drop 135 = dktX5_person_5 := dk_seg dksX5_person_4 23 rfl rfl
theorem dX5_person_0 : decode cX5_person 0 = .ok (.aload_n 0, 1) := dk_42 (dk_at dksX5_person_0 0 rfl rfl)
theorem dX5_person_1 : decode cX5_person 1 = .ok (.iconst 0, 1) := dk_3 (dk_at dksX5_person_0 1 rfl rfl)
theorem dX5_person_2 : decode cX5_person 2 = .ok (.putfield 128, 3) := dk_181 0 128 (dk_at dksX5_person_0 2 rfl rfl)
theorem dX5_person_5 : decode cX5_person 5 = .ok (.aload_n 0, 1) := dk_42 (dk_at dksX5_person_0 5 rfl rfl)
theorem dX5_person_6 : decode cX5_person 6 = .ok (.iload_n 1, 1) := dk_27 (dk_at dksX5_person_0 6 rfl rfl)
theorem dX5_person_7 : decode cX5_person 7 = .ok (.invokevirtual 263, 3) := dk_182 1 7 (dk_at dksX5_person_0 7 rfl rfl)
theorem dX5_person_10 : decode cX5_person 10 = .ok (.ifCond .ne 9, 3) := dk_154 0 9 (dk_at dksX5_person_0 10 rfl rfl)
theorem dX5_person_13 : decode cX5_person 13 = .ok (.aload_n 0, 1) := dk_42 (dk_at dksX5_person_0 13 rfl rfl)
theorem dX5_person_14 : decode cX5_person 14 = .ok (.iconst 1, 1) := dk_4 (dk_at dksX5_person_0 14 rfl rfl)
theorem dX5_person_15 : decode cX5_person 15 = .ok (.invokevirtual 243, 3) := dk_182 0 243 (dk_at dksX5_person_0 15 rfl rfl)
theorem dX5_person_18 : decode cX5_person 18 = .ok (.ireturn, 1) := dk_172 (dk_at dksX5_person_0 18 rfl rfl)
theorem dX5_person_19 : decode cX5_person 19 = .ok (.iload_n 2, 1) := dk_28 (dk_at dksX5_person_0 19 rfl rfl)
theorem dX5_person_20 : decode cX5_person 20 = .ok (.tableswitch 119 0 6 #[44, 51, 61, 71, 81, 91, 105], 44) := by decide +kernel
theorem dX5_person_64 : decode cX5_person 64 = .ok (.aload_n 0, 1) := dk_42 (dk_at dksX5_person_2 0 rfl rfl)
theorem dX5_person_65 : decode cX5_person 65 = .ok (.getfield 29, 3) := dk_180 0 29 (dk_at dksX5_person_2 1 rfl rfl)
theorem dX5_person_68 : decode cX5_person 68 = .ok (.iload_n 1, 1) := dk_27 (dk_at dksX5_person_2 4 rfl rfl)
theorem dX5_person_69 : decode cX5_person 69 = .ok (.iaload, 1) := dk_46 (dk_at dksX5_person_2 5 rfl rfl)
theorem dX5_person_70 : decode cX5_person 70 = .ok (.ireturn, 1) := dk_172 (dk_at dksX5_person_2 6 rfl rfl)
theorem dX5_person_71 : decode cX5_person 71 = .ok (.aload_n 0, 1) := dk_42 (dk_at dksX5_person_2 7 rfl rfl)
theorem dX5_person_72 : decode cX5_person 72 = .ok (.getfield 41, 3) := dk_180 0 41 (dk_at dksX5_person_2 8 rfl rfl)
theorem dX5_person_75 : decode cX5_person 75 = .ok (.bipush 12, 2) := dk_16 12 (dk_at dksX5_person_2 11 rfl rfl)
theorem dX5_person_77 : decode cX5_person 77 = .ok (.iload_n 1, 1) := dk_27 (dk_at dksX5_person_2 13 rfl rfl)
theorem dX5_person_78 : decode cX5_person 78 = .ok (.iadd, 1) := dk_96 (dk_at dksX5_person_2 14 rfl rfl)
theorem dX5_person_79 : decode cX5_person 79 = .ok (.iaload, 1) := dk_46 (dk_at dksX5_person_2 15 rfl rfl)
theorem dX5_person_80 : decode cX5_person 80 = .ok (.ireturn, 1) := dk_172 (dk_at dksX5_person_2 16 rfl rfl)
theorem dX5_person_81 : decode cX5_person 81 = .ok (.aload_n 0, 1) := dk_42 (dk_at dksX5_person_2 17 rfl rfl)
theorem dX5_person_82 : decode cX5_person 82 = .ok (.getfield 41, 3) := dk_180 0 41 (dk_at dksX5_person_2 18 rfl rfl)
theorem dX5_person_85 : decode cX5_person 85 = .ok (.bipush 18, 2) := dk_16 18 (dk_at dksX5_person_2 21 rfl rfl)
theorem dX5_person_87 : decode cX5_person 87 = .ok (.iload_n 1, 1) := dk_27 (dk_at dksX5_person_2 23 rfl rfl)
theorem dX5_person_88 : decode cX5_person 88 = .ok (.iadd, 1) := dk_96 (dk_at dksX5_person_3 0 rfl rfl)
theorem dX5_person_89 : decode cX5_person 89 = .ok (.iaload, 1) := dk_46 (dk_at dksX5_person_3 1 rfl rfl)
theorem dX5_person_90 : decode cX5_person 90 = .ok (.ireturn, 1) := dk_172 (dk_at dksX5_person_3 2 rfl rfl)
theorem dX5_person_91 : decode cX5_person 91 = .ok (.aload_n 0, 1) := dk_42 (dk_at dksX5_person_3 3 rfl rfl)
theorem dX5_person_92 : decode cX5_person 92 = .ok (.getfield 41, 3) := dk_180 0 41 (dk_at dksX5_person_3 4 rfl rfl)
theorem dX5_person_95 : decode cX5_person 95 = .ok (.bipush 24, 2) := dk_16 24 (dk_at dksX5_person_3 7 rfl rfl)
theorem dX5_person_97 : decode cX5_person 97 = .ok (.iload_n 1, 1) := dk_27 (dk_at dksX5_person_3 9 rfl rfl)
theorem dX5_person_98 : decode cX5_person 98 = .ok (.iadd, 1) := dk_96 (dk_at dksX5_person_3 10 rfl rfl)
theorem dX5_person_99 : decode cX5_person 99 = .ok (.iaload, 1) := dk_46 (dk_at dksX5_person_3 11 rfl rfl)
theorem dX5_person_100 : decode cX5_person 100 = .ok (.ireturn, 1) := dk_172 (dk_at dksX5_person_3 12 rfl rfl)
theorem dX5_person_101 : decode cX5_person 101 = .ok (.aload_n 0, 1) := dk_42 (dk_at dksX5_person_3 13 rfl rfl)
theorem dX5_person_102 : decode cX5_person 102 = .ok (.aload_n 0, 1) := dk_42 (dk_at dksX5_person_3 14 rfl rfl)
theorem dX5_person_103 : decode cX5_person 103 = .ok (.getfield 41, 3) := dk_180 0 41 (dk_at dksX5_person_3 15 rfl rfl)
theorem dX5_person_106 : decode cX5_person 106 = .ok (.iload_n 1, 1) := dk_27 (dk_at dksX5_person_3 18 rfl rfl)
theorem dX5_person_107 : decode cX5_person 107 = .ok (.invokevirtual 266, 3) := dk_182 1 10 (dk_at dksX5_person_3 19 rfl rfl)
theorem dX5_person_110 : decode cX5_person 110 = .ok (.ireturn, 1) := dk_172 (dk_at dksX5_person_3 22 rfl rfl)
theorem dX5_person_111 : decode cX5_person 111 = .ok (.aload_n 0, 1) := dk_42 (dk_at dksX5_person_3 23 rfl rfl)
theorem dX5_person_112 : decode cX5_person 112 = .ok (.aload_n 0, 1) := dk_42 (dk_at dksX5_person_4 0 rfl rfl)
theorem dX5_person_113 : decode cX5_person 113 = .ok (.aload_n 0, 1) := dk_42 (dk_at dksX5_person_4 1 rfl rfl)
theorem dX5_person_114 : decode cX5_person 114 = .ok (.getfield 41, 3) := dk_180 0 41 (dk_at dksX5_person_4 2 rfl rfl)
theorem dX5_person_117 : decode cX5_person 117 = .ok (.iload_n 1, 1) := dk_27 (dk_at dksX5_person_4 5 rfl rfl)
theorem dX5_person_118 : decode cX5_person 118 = .ok (.invokevirtual 266, 3) := dk_182 1 10 (dk_at dksX5_person_4 6 rfl rfl)
theorem dX5_person_121 : decode cX5_person 121 = .ok (.invokevirtual 270, 3) := dk_182 1 14 (dk_at dksX5_person_4 9 rfl rfl)
theorem dX5_person_124 : decode cX5_person 124 = .ok (.ireturn, 1) := dk_172 (dk_at dksX5_person_4 12 rfl rfl)
theorem dX5_person_125 : decode cX5_person 125 = .ok (.aload_n 0, 1) := dk_42 (dk_at dksX5_person_4 13 rfl rfl)
theorem dX5_person_126 : decode cX5_person 126 = .ok (.aload_n 0, 1) := dk_42 (dk_at dksX5_person_4 14 rfl rfl)
theorem dX5_person_127 : decode cX5_person 127 = .ok (.aload_n 0, 1) := dk_42 (dk_at dksX5_person_4 15 rfl rfl)
theorem dX5_person_128 : decode cX5_person 128 = .ok (.getfield 41, 3) := dk_180 0 41 (dk_at dksX5_person_4 16 rfl rfl)
theorem dX5_person_131 : decode cX5_person 131 = .ok (.iload_n 1, 1) := dk_27 (dk_at dksX5_person_4 19 rfl rfl)
theorem dX5_person_132 : decode cX5_person 132 = .ok (.invokevirtual 266, 3) := dk_182 1 10 (dk_at dksX5_person_4 20 rfl rfl)
theorem dX5_person_135 : decode cX5_person 135 = .ok (.invokevirtual 273, 3) := dk_182 1 17 (dk_at dksX5_person_5 0 rfl rfl)
theorem dX5_person_138 : decode cX5_person 138 = .ok (.ireturn, 1) := dk_172 (dk_at dksX5_person_5 3 rfl rfl)
theorem dX5_person_139 : decode cX5_person 139 = .ok (.aload_n 0, 1) := dk_42 (dk_at dksX5_person_5 4 rfl rfl)
theorem dX5_person_140 : decode cX5_person 140 = .ok (.iconst 1, 1) := dk_4 (dk_at dksX5_person_5 5 rfl rfl)
theorem dX5_person_141 : decode cX5_person 141 = .ok (.invokevirtual 243, 3) := dk_182 0 243 (dk_at dksX5_person_5 6 rfl rfl)
theorem dX5_person_144 : decode cX5_person 144 = .ok (.ireturn, 1) := dk_172 (dk_at dksX5_person_5 9 rfl rfl)
abbrev cX5_isPerson : ByteArray := prog_16_method_6_code
def yX5_isPerson : MethodName := ⟨RX5, "isPerson", "(I)Z"⟩
def dkwX5_isPerson_0 : List UInt8 := [27, 3, 42, 180, 0, 25, 3, 46, 4, 100, 184, 0, 131, 172]
abbrev dktX5_isPerson_0 : List UInt8 := dkwX5_isPerson_0 ++ []
theorem dksX5_isPerson_0 : cX5_isPerson.data.toList.drop 0 = dktX5_isPerson_0 := by decide +kernel
theorem dX5_isPerson_0 : decode cX5_isPerson 0 = .ok (.iload_n 1, 1) := dk_27 (dk_at dksX5_isPerson_0 0 rfl rfl)
theorem dX5_isPerson_1 : decode cX5_isPerson 1 = .ok (.iconst 0, 1) := dk_3 (dk_at dksX5_isPerson_0 1 rfl rfl)
theorem dX5_isPerson_2 : decode cX5_isPerson 2 = .ok (.aload_n 0, 1) := dk_42 (dk_at dksX5_isPerson_0 2 rfl rfl)
theorem dX5_isPerson_3 : decode cX5_isPerson 3 = .ok (.getfield 25, 3) := dk_180 0 25 (dk_at dksX5_isPerson_0 3 rfl rfl)
theorem dX5_isPerson_6 : decode cX5_isPerson 6 = .ok (.iconst 0, 1) := dk_3 (dk_at dksX5_isPerson_0 6 rfl rfl)
theorem dX5_isPerson_7 : decode cX5_isPerson 7 = .ok (.iaload, 1) := dk_46 (dk_at dksX5_isPerson_0 7 rfl rfl)
theorem dX5_isPerson_8 : decode cX5_isPerson 8 = .ok (.iconst 1, 1) := dk_4 (dk_at dksX5_isPerson_0 8 rfl rfl)
theorem dX5_isPerson_9 : decode cX5_isPerson 9 = .ok (.isub, 1) := dk_100 (dk_at dksX5_isPerson_0 9 rfl rfl)
theorem dX5_isPerson_10 : decode cX5_isPerson 10 = .ok (.invokestatic 131, 3) := dk_184 0 131 (dk_at dksX5_isPerson_0 10 rfl rfl)
theorem dX5_isPerson_13 : decode cX5_isPerson 13 = .ok (.ireturn, 1) := dk_172 (dk_at dksX5_isPerson_0 13 rfl rfl)
abbrev cX5_hasOf : ByteArray := prog_16_method_28_code
def yX5_hasOf : MethodName := ⟨RX5, "hasOf", "([II)I"⟩
def dkwX5_hasOf_1 : List UInt8 := [160, 0, 10, 4, 21, 4, 120, 167, 0, 4, 3, 128, 62, 132, 4, 1, 167, 255, 223, 29, 172]
abbrev dktX5_hasOf_1 : List UInt8 := dkwX5_hasOf_1 ++ []
def dkwX5_hasOf_0 : List UInt8 := [3, 62, 3, 54, 4, 21, 4, 42, 180, 0, 25, 4, 46, 162, 0, 28, 29, 43, 21, 4, 46, 28]
abbrev dktX5_hasOf_0 : List UInt8 := dkwX5_hasOf_0 ++ dktX5_hasOf_1
theorem dksX5_hasOf_0 : cX5_hasOf.data.toList.drop 0 = dktX5_hasOf_0 := by decide +kernel
theorem dksX5_hasOf_1 : cX5_hasOf.data.toList.drop 22 = dktX5_hasOf_1 := dk_seg dksX5_hasOf_0 22 rfl rfl
theorem dX5_hasOf_0 : decode cX5_hasOf 0 = .ok (.iconst 0, 1) := dk_3 (dk_at dksX5_hasOf_0 0 rfl rfl)
theorem dX5_hasOf_1 : decode cX5_hasOf 1 = .ok (.istore_n 3, 1) := dk_62 (dk_at dksX5_hasOf_0 1 rfl rfl)
theorem dX5_hasOf_2 : decode cX5_hasOf 2 = .ok (.iconst 0, 1) := dk_3 (dk_at dksX5_hasOf_0 2 rfl rfl)
theorem dX5_hasOf_3 : decode cX5_hasOf 3 = .ok (.istore 4, 2) := dk_54 4 (dk_at dksX5_hasOf_0 3 rfl rfl)
theorem dX5_hasOf_5 : decode cX5_hasOf 5 = .ok (.iload 4, 2) := dk_21 4 (dk_at dksX5_hasOf_0 5 rfl rfl)
theorem dX5_hasOf_7 : decode cX5_hasOf 7 = .ok (.aload_n 0, 1) := dk_42 (dk_at dksX5_hasOf_0 7 rfl rfl)
theorem dX5_hasOf_8 : decode cX5_hasOf 8 = .ok (.getfield 25, 3) := dk_180 0 25 (dk_at dksX5_hasOf_0 8 rfl rfl)
theorem dX5_hasOf_11 : decode cX5_hasOf 11 = .ok (.iconst 1, 1) := dk_4 (dk_at dksX5_hasOf_0 11 rfl rfl)
theorem dX5_hasOf_12 : decode cX5_hasOf 12 = .ok (.iaload, 1) := dk_46 (dk_at dksX5_hasOf_0 12 rfl rfl)
theorem dX5_hasOf_13 : decode cX5_hasOf 13 = .ok (.if_icmp .ge 28, 3) := dk_162 0 28 (dk_at dksX5_hasOf_0 13 rfl rfl)
theorem dX5_hasOf_16 : decode cX5_hasOf 16 = .ok (.iload_n 3, 1) := dk_29 (dk_at dksX5_hasOf_0 16 rfl rfl)
theorem dX5_hasOf_17 : decode cX5_hasOf 17 = .ok (.aload_n 1, 1) := dk_43 (dk_at dksX5_hasOf_0 17 rfl rfl)
theorem dX5_hasOf_18 : decode cX5_hasOf 18 = .ok (.iload 4, 2) := dk_21 4 (dk_at dksX5_hasOf_0 18 rfl rfl)
theorem dX5_hasOf_20 : decode cX5_hasOf 20 = .ok (.iaload, 1) := dk_46 (dk_at dksX5_hasOf_0 20 rfl rfl)
theorem dX5_hasOf_21 : decode cX5_hasOf 21 = .ok (.iload_n 2, 1) := dk_28 (dk_at dksX5_hasOf_0 21 rfl rfl)
theorem dX5_hasOf_22 : decode cX5_hasOf 22 = .ok (.if_icmp .ne 10, 3) := dk_160 0 10 (dk_at dksX5_hasOf_1 0 rfl rfl)
theorem dX5_hasOf_25 : decode cX5_hasOf 25 = .ok (.iconst 1, 1) := dk_4 (dk_at dksX5_hasOf_1 3 rfl rfl)
theorem dX5_hasOf_26 : decode cX5_hasOf 26 = .ok (.iload 4, 2) := dk_21 4 (dk_at dksX5_hasOf_1 4 rfl rfl)
theorem dX5_hasOf_28 : decode cX5_hasOf 28 = .ok (.ishl, 1) := dk_120 (dk_at dksX5_hasOf_1 6 rfl rfl)
theorem dX5_hasOf_29 : decode cX5_hasOf 29 = .ok (.goto 4, 3) := dk_167 0 4 (dk_at dksX5_hasOf_1 7 rfl rfl)
theorem dX5_hasOf_32 : decode cX5_hasOf 32 = .ok (.iconst 0, 1) := dk_3 (dk_at dksX5_hasOf_1 10 rfl rfl)
theorem dX5_hasOf_33 : decode cX5_hasOf 33 = .ok (.ior, 1) := dk_128 (dk_at dksX5_hasOf_1 11 rfl rfl)
theorem dX5_hasOf_34 : decode cX5_hasOf 34 = .ok (.istore_n 3, 1) := dk_62 (dk_at dksX5_hasOf_1 12 rfl rfl)
theorem dX5_hasOf_35 : decode cX5_hasOf 35 = .ok (.iinc 4 1, 3) := dk_132 4 1 (dk_at dksX5_hasOf_1 13 rfl rfl)
theorem dX5_hasOf_38 : decode cX5_hasOf 38 = .ok (.goto (-33), 3) := dk_167 255 223 (dk_at dksX5_hasOf_1 16 rfl rfl)
theorem dX5_hasOf_41 : decode cX5_hasOf 41 = .ok (.iload_n 3, 1) := dk_29 (dk_at dksX5_hasOf_1 19 rfl rfl)
theorem dX5_hasOf_42 : decode cX5_hasOf 42 = .ok (.ireturn, 1) := dk_172 (dk_at dksX5_hasOf_1 20 rfl rfl)
abbrev cX5_worthOf : ByteArray := prog_16_method_30_code
def yX5_worthOf : MethodName := ⟨RX5, "worthOf", "(I)I"⟩
def dkwX5_worthOf_1 : List UInt8 := [42, 180, 0, 35, 29, 46, 167, 0, 4, 3, 96, 61, 132, 3, 1, 167, 255, 221, 28, 172]
abbrev dktX5_worthOf_1 : List UInt8 := dkwX5_worthOf_1 ++ []
def dkwX5_worthOf_0 : List UInt8 := [3, 61, 3, 62, 29, 42, 180, 0, 25, 4, 46, 162, 0, 31, 28, 27, 29, 122, 4, 126, 4, 160, 0, 12]
abbrev dktX5_worthOf_0 : List UInt8 := dkwX5_worthOf_0 ++ dktX5_worthOf_1
theorem dksX5_worthOf_0 : cX5_worthOf.data.toList.drop 0 = dktX5_worthOf_0 := by decide +kernel
theorem dksX5_worthOf_1 : cX5_worthOf.data.toList.drop 24 = dktX5_worthOf_1 := dk_seg dksX5_worthOf_0 24 rfl rfl
theorem dX5_worthOf_0 : decode cX5_worthOf 0 = .ok (.iconst 0, 1) := dk_3 (dk_at dksX5_worthOf_0 0 rfl rfl)
theorem dX5_worthOf_1 : decode cX5_worthOf 1 = .ok (.istore_n 2, 1) := dk_61 (dk_at dksX5_worthOf_0 1 rfl rfl)
theorem dX5_worthOf_2 : decode cX5_worthOf 2 = .ok (.iconst 0, 1) := dk_3 (dk_at dksX5_worthOf_0 2 rfl rfl)
theorem dX5_worthOf_3 : decode cX5_worthOf 3 = .ok (.istore_n 3, 1) := dk_62 (dk_at dksX5_worthOf_0 3 rfl rfl)
theorem dX5_worthOf_4 : decode cX5_worthOf 4 = .ok (.iload_n 3, 1) := dk_29 (dk_at dksX5_worthOf_0 4 rfl rfl)
theorem dX5_worthOf_5 : decode cX5_worthOf 5 = .ok (.aload_n 0, 1) := dk_42 (dk_at dksX5_worthOf_0 5 rfl rfl)
theorem dX5_worthOf_6 : decode cX5_worthOf 6 = .ok (.getfield 25, 3) := dk_180 0 25 (dk_at dksX5_worthOf_0 6 rfl rfl)
theorem dX5_worthOf_9 : decode cX5_worthOf 9 = .ok (.iconst 1, 1) := dk_4 (dk_at dksX5_worthOf_0 9 rfl rfl)
theorem dX5_worthOf_10 : decode cX5_worthOf 10 = .ok (.iaload, 1) := dk_46 (dk_at dksX5_worthOf_0 10 rfl rfl)
theorem dX5_worthOf_11 : decode cX5_worthOf 11 = .ok (.if_icmp .ge 31, 3) := dk_162 0 31 (dk_at dksX5_worthOf_0 11 rfl rfl)
theorem dX5_worthOf_14 : decode cX5_worthOf 14 = .ok (.iload_n 2, 1) := dk_28 (dk_at dksX5_worthOf_0 14 rfl rfl)
theorem dX5_worthOf_15 : decode cX5_worthOf 15 = .ok (.iload_n 1, 1) := dk_27 (dk_at dksX5_worthOf_0 15 rfl rfl)
theorem dX5_worthOf_16 : decode cX5_worthOf 16 = .ok (.iload_n 3, 1) := dk_29 (dk_at dksX5_worthOf_0 16 rfl rfl)
theorem dX5_worthOf_17 : decode cX5_worthOf 17 = .ok (.ishr, 1) := dk_122 (dk_at dksX5_worthOf_0 17 rfl rfl)
theorem dX5_worthOf_18 : decode cX5_worthOf 18 = .ok (.iconst 1, 1) := dk_4 (dk_at dksX5_worthOf_0 18 rfl rfl)
theorem dX5_worthOf_19 : decode cX5_worthOf 19 = .ok (.iand, 1) := dk_126 (dk_at dksX5_worthOf_0 19 rfl rfl)
theorem dX5_worthOf_20 : decode cX5_worthOf 20 = .ok (.iconst 1, 1) := dk_4 (dk_at dksX5_worthOf_0 20 rfl rfl)
theorem dX5_worthOf_21 : decode cX5_worthOf 21 = .ok (.if_icmp .ne 12, 3) := dk_160 0 12 (dk_at dksX5_worthOf_0 21 rfl rfl)
theorem dX5_worthOf_24 : decode cX5_worthOf 24 = .ok (.aload_n 0, 1) := dk_42 (dk_at dksX5_worthOf_1 0 rfl rfl)
theorem dX5_worthOf_25 : decode cX5_worthOf 25 = .ok (.getfield 35, 3) := dk_180 0 35 (dk_at dksX5_worthOf_1 1 rfl rfl)
theorem dX5_worthOf_28 : decode cX5_worthOf 28 = .ok (.iload_n 3, 1) := dk_29 (dk_at dksX5_worthOf_1 4 rfl rfl)
theorem dX5_worthOf_29 : decode cX5_worthOf 29 = .ok (.iaload, 1) := dk_46 (dk_at dksX5_worthOf_1 5 rfl rfl)
theorem dX5_worthOf_30 : decode cX5_worthOf 30 = .ok (.goto 4, 3) := dk_167 0 4 (dk_at dksX5_worthOf_1 6 rfl rfl)
theorem dX5_worthOf_33 : decode cX5_worthOf 33 = .ok (.iconst 0, 1) := dk_3 (dk_at dksX5_worthOf_1 9 rfl rfl)
theorem dX5_worthOf_34 : decode cX5_worthOf 34 = .ok (.iadd, 1) := dk_96 (dk_at dksX5_worthOf_1 10 rfl rfl)
theorem dX5_worthOf_35 : decode cX5_worthOf 35 = .ok (.istore_n 2, 1) := dk_61 (dk_at dksX5_worthOf_1 11 rfl rfl)
theorem dX5_worthOf_36 : decode cX5_worthOf 36 = .ok (.iinc 3 1, 3) := dk_132 3 1 (dk_at dksX5_worthOf_1 12 rfl rfl)
theorem dX5_worthOf_39 : decode cX5_worthOf 39 = .ok (.goto (-35), 3) := dk_167 255 221 (dk_at dksX5_worthOf_1 15 rfl rfl)
theorem dX5_worthOf_42 : decode cX5_worthOf 42 = .ok (.iload_n 2, 1) := dk_28 (dk_at dksX5_worthOf_1 18 rfl rfl)
theorem dX5_worthOf_43 : decode cX5_worthOf 43 = .ok (.ireturn, 1) := dk_172 (dk_at dksX5_worthOf_1 19 rfl rfl)
abbrev cX5_weightOf : ByteArray := prog_16_method_29_code
def yX5_weightOf : MethodName := ⟨RX5, "weightOf", "(I)I"⟩
def dkwX5_weightOf_1 : List UInt8 := [42, 180, 0, 47, 29, 46, 167, 0, 4, 3, 96, 61, 132, 3, 1, 167, 255, 221, 28, 172]
abbrev dktX5_weightOf_1 : List UInt8 := dkwX5_weightOf_1 ++ []
def dkwX5_weightOf_0 : List UInt8 := [3, 61, 3, 62, 29, 42, 180, 0, 25, 4, 46, 162, 0, 31, 28, 27, 29, 122, 4, 126, 4, 160, 0, 12]
abbrev dktX5_weightOf_0 : List UInt8 := dkwX5_weightOf_0 ++ dktX5_weightOf_1
theorem dksX5_weightOf_0 : cX5_weightOf.data.toList.drop 0 = dktX5_weightOf_0 := by decide +kernel
theorem dksX5_weightOf_1 : cX5_weightOf.data.toList.drop 24 = dktX5_weightOf_1 := dk_seg dksX5_weightOf_0 24 rfl rfl
theorem dX5_weightOf_0 : decode cX5_weightOf 0 = .ok (.iconst 0, 1) := dk_3 (dk_at dksX5_weightOf_0 0 rfl rfl)
theorem dX5_weightOf_1 : decode cX5_weightOf 1 = .ok (.istore_n 2, 1) := dk_61 (dk_at dksX5_weightOf_0 1 rfl rfl)
theorem dX5_weightOf_2 : decode cX5_weightOf 2 = .ok (.iconst 0, 1) := dk_3 (dk_at dksX5_weightOf_0 2 rfl rfl)
theorem dX5_weightOf_3 : decode cX5_weightOf 3 = .ok (.istore_n 3, 1) := dk_62 (dk_at dksX5_weightOf_0 3 rfl rfl)
theorem dX5_weightOf_4 : decode cX5_weightOf 4 = .ok (.iload_n 3, 1) := dk_29 (dk_at dksX5_weightOf_0 4 rfl rfl)
theorem dX5_weightOf_5 : decode cX5_weightOf 5 = .ok (.aload_n 0, 1) := dk_42 (dk_at dksX5_weightOf_0 5 rfl rfl)
theorem dX5_weightOf_6 : decode cX5_weightOf 6 = .ok (.getfield 25, 3) := dk_180 0 25 (dk_at dksX5_weightOf_0 6 rfl rfl)
theorem dX5_weightOf_9 : decode cX5_weightOf 9 = .ok (.iconst 1, 1) := dk_4 (dk_at dksX5_weightOf_0 9 rfl rfl)
theorem dX5_weightOf_10 : decode cX5_weightOf 10 = .ok (.iaload, 1) := dk_46 (dk_at dksX5_weightOf_0 10 rfl rfl)
theorem dX5_weightOf_11 : decode cX5_weightOf 11 = .ok (.if_icmp .ge 31, 3) := dk_162 0 31 (dk_at dksX5_weightOf_0 11 rfl rfl)
theorem dX5_weightOf_14 : decode cX5_weightOf 14 = .ok (.iload_n 2, 1) := dk_28 (dk_at dksX5_weightOf_0 14 rfl rfl)
theorem dX5_weightOf_15 : decode cX5_weightOf 15 = .ok (.iload_n 1, 1) := dk_27 (dk_at dksX5_weightOf_0 15 rfl rfl)
theorem dX5_weightOf_16 : decode cX5_weightOf 16 = .ok (.iload_n 3, 1) := dk_29 (dk_at dksX5_weightOf_0 16 rfl rfl)
theorem dX5_weightOf_17 : decode cX5_weightOf 17 = .ok (.ishr, 1) := dk_122 (dk_at dksX5_weightOf_0 17 rfl rfl)
theorem dX5_weightOf_18 : decode cX5_weightOf 18 = .ok (.iconst 1, 1) := dk_4 (dk_at dksX5_weightOf_0 18 rfl rfl)
theorem dX5_weightOf_19 : decode cX5_weightOf 19 = .ok (.iand, 1) := dk_126 (dk_at dksX5_weightOf_0 19 rfl rfl)
theorem dX5_weightOf_20 : decode cX5_weightOf 20 = .ok (.iconst 1, 1) := dk_4 (dk_at dksX5_weightOf_0 20 rfl rfl)
theorem dX5_weightOf_21 : decode cX5_weightOf 21 = .ok (.if_icmp .ne 12, 3) := dk_160 0 12 (dk_at dksX5_weightOf_0 21 rfl rfl)
theorem dX5_weightOf_24 : decode cX5_weightOf 24 = .ok (.aload_n 0, 1) := dk_42 (dk_at dksX5_weightOf_1 0 rfl rfl)
theorem dX5_weightOf_25 : decode cX5_weightOf 25 = .ok (.getfield 47, 3) := dk_180 0 47 (dk_at dksX5_weightOf_1 1 rfl rfl)
theorem dX5_weightOf_28 : decode cX5_weightOf 28 = .ok (.iload_n 3, 1) := dk_29 (dk_at dksX5_weightOf_1 4 rfl rfl)
theorem dX5_weightOf_29 : decode cX5_weightOf 29 = .ok (.iaload, 1) := dk_46 (dk_at dksX5_weightOf_1 5 rfl rfl)
theorem dX5_weightOf_30 : decode cX5_weightOf 30 = .ok (.goto 4, 3) := dk_167 0 4 (dk_at dksX5_weightOf_1 6 rfl rfl)
theorem dX5_weightOf_33 : decode cX5_weightOf 33 = .ok (.iconst 0, 1) := dk_3 (dk_at dksX5_weightOf_1 9 rfl rfl)
theorem dX5_weightOf_34 : decode cX5_weightOf 34 = .ok (.iadd, 1) := dk_96 (dk_at dksX5_weightOf_1 10 rfl rfl)
theorem dX5_weightOf_35 : decode cX5_weightOf 35 = .ok (.istore_n 2, 1) := dk_61 (dk_at dksX5_weightOf_1 11 rfl rfl)
theorem dX5_weightOf_36 : decode cX5_weightOf 36 = .ok (.iinc 3 1, 3) := dk_132 3 1 (dk_at dksX5_weightOf_1 12 rfl rfl)
theorem dX5_weightOf_39 : decode cX5_weightOf 39 = .ok (.goto (-35), 3) := dk_167 255 221 (dk_at dksX5_weightOf_1 15 rfl rfl)
theorem dX5_weightOf_42 : decode cX5_weightOf 42 = .ok (.iload_n 2, 1) := dk_28 (dk_at dksX5_weightOf_1 18 rfl rfl)
theorem dX5_weightOf_43 : decode cX5_weightOf 43 = .ok (.ireturn, 1) := dk_172 (dk_at dksX5_weightOf_1 19 rfl rfl)
abbrev cX5_thing : ByteArray := prog_16_method_32_code
def yX5_thing : MethodName := ⟨RX5, "thing", "(II)I"⟩
def dkwX5_thing_3 : List UInt8 := [153, 0, 7, 4, 167, 0, 12, 3, 167, 0, 8, 42, 4, 182, 0, 243, 172]
abbrev dktX5_thing_3 : List UInt8 := dkwX5_thing_3 ++ []
def dkwX5_thing_2 : List UInt8 := [160, 0, 12, 42, 180, 0, 41, 27, 46, 167, 0, 30, 28, 6, 160, 0, 20, 42, 180, 0, 53, 27, 51]
abbrev dktX5_thing_2 : List UInt8 := dkwX5_thing_2 ++ dktX5_thing_3
def dkwX5_thing_1 : List UInt8 := [180, 0, 47, 27, 46, 167, 0, 58, 28, 4, 160, 0, 12, 42, 180, 0, 35, 27, 46, 167, 0, 44, 28, 5]
abbrev dktX5_thing_1 : List UInt8 := dkwX5_thing_1 ++ dktX5_thing_2
def dkwX5_thing_0 : List UInt8 := [42, 3, 181, 0, 128, 42, 27, 182, 1, 20, 154, 0, 9, 42, 4, 182, 0, 243, 172, 28, 154, 0, 12, 42]
abbrev dktX5_thing_0 : List UInt8 := dkwX5_thing_0 ++ dktX5_thing_1
theorem dksX5_thing_0 : cX5_thing.data.toList.drop 0 = dktX5_thing_0 := by decide +kernel
theorem dksX5_thing_1 : cX5_thing.data.toList.drop 24 = dktX5_thing_1 := dk_seg dksX5_thing_0 24 rfl rfl
theorem dksX5_thing_2 : cX5_thing.data.toList.drop 48 = dktX5_thing_2 := dk_seg dksX5_thing_1 24 rfl rfl
theorem dksX5_thing_3 : cX5_thing.data.toList.drop 71 = dktX5_thing_3 := dk_seg dksX5_thing_2 23 rfl rfl
theorem dX5_thing_0 : decode cX5_thing 0 = .ok (.aload_n 0, 1) := dk_42 (dk_at dksX5_thing_0 0 rfl rfl)
theorem dX5_thing_1 : decode cX5_thing 1 = .ok (.iconst 0, 1) := dk_3 (dk_at dksX5_thing_0 1 rfl rfl)
theorem dX5_thing_2 : decode cX5_thing 2 = .ok (.putfield 128, 3) := dk_181 0 128 (dk_at dksX5_thing_0 2 rfl rfl)
theorem dX5_thing_5 : decode cX5_thing 5 = .ok (.aload_n 0, 1) := dk_42 (dk_at dksX5_thing_0 5 rfl rfl)
theorem dX5_thing_6 : decode cX5_thing 6 = .ok (.iload_n 1, 1) := dk_27 (dk_at dksX5_thing_0 6 rfl rfl)
theorem dX5_thing_7 : decode cX5_thing 7 = .ok (.invokevirtual 276, 3) := dk_182 1 20 (dk_at dksX5_thing_0 7 rfl rfl)
theorem dX5_thing_10 : decode cX5_thing 10 = .ok (.ifCond .ne 9, 3) := dk_154 0 9 (dk_at dksX5_thing_0 10 rfl rfl)
theorem dX5_thing_13 : decode cX5_thing 13 = .ok (.aload_n 0, 1) := dk_42 (dk_at dksX5_thing_0 13 rfl rfl)
theorem dX5_thing_14 : decode cX5_thing 14 = .ok (.iconst 1, 1) := dk_4 (dk_at dksX5_thing_0 14 rfl rfl)
theorem dX5_thing_15 : decode cX5_thing 15 = .ok (.invokevirtual 243, 3) := dk_182 0 243 (dk_at dksX5_thing_0 15 rfl rfl)
theorem dX5_thing_18 : decode cX5_thing 18 = .ok (.ireturn, 1) := dk_172 (dk_at dksX5_thing_0 18 rfl rfl)
theorem dX5_thing_19 : decode cX5_thing 19 = .ok (.iload_n 2, 1) := dk_28 (dk_at dksX5_thing_0 19 rfl rfl)
theorem dX5_thing_20 : decode cX5_thing 20 = .ok (.ifCond .ne 12, 3) := dk_154 0 12 (dk_at dksX5_thing_0 20 rfl rfl)
theorem dX5_thing_23 : decode cX5_thing 23 = .ok (.aload_n 0, 1) := dk_42 (dk_at dksX5_thing_0 23 rfl rfl)
theorem dX5_thing_24 : decode cX5_thing 24 = .ok (.getfield 47, 3) := dk_180 0 47 (dk_at dksX5_thing_1 0 rfl rfl)
theorem dX5_thing_27 : decode cX5_thing 27 = .ok (.iload_n 1, 1) := dk_27 (dk_at dksX5_thing_1 3 rfl rfl)
theorem dX5_thing_28 : decode cX5_thing 28 = .ok (.iaload, 1) := dk_46 (dk_at dksX5_thing_1 4 rfl rfl)
theorem dX5_thing_29 : decode cX5_thing 29 = .ok (.goto 58, 3) := dk_167 0 58 (dk_at dksX5_thing_1 5 rfl rfl)
theorem dX5_thing_32 : decode cX5_thing 32 = .ok (.iload_n 2, 1) := dk_28 (dk_at dksX5_thing_1 8 rfl rfl)
theorem dX5_thing_33 : decode cX5_thing 33 = .ok (.iconst 1, 1) := dk_4 (dk_at dksX5_thing_1 9 rfl rfl)
theorem dX5_thing_34 : decode cX5_thing 34 = .ok (.if_icmp .ne 12, 3) := dk_160 0 12 (dk_at dksX5_thing_1 10 rfl rfl)
theorem dX5_thing_37 : decode cX5_thing 37 = .ok (.aload_n 0, 1) := dk_42 (dk_at dksX5_thing_1 13 rfl rfl)
theorem dX5_thing_38 : decode cX5_thing 38 = .ok (.getfield 35, 3) := dk_180 0 35 (dk_at dksX5_thing_1 14 rfl rfl)
theorem dX5_thing_41 : decode cX5_thing 41 = .ok (.iload_n 1, 1) := dk_27 (dk_at dksX5_thing_1 17 rfl rfl)
theorem dX5_thing_42 : decode cX5_thing 42 = .ok (.iaload, 1) := dk_46 (dk_at dksX5_thing_1 18 rfl rfl)
theorem dX5_thing_43 : decode cX5_thing 43 = .ok (.goto 44, 3) := dk_167 0 44 (dk_at dksX5_thing_1 19 rfl rfl)
theorem dX5_thing_46 : decode cX5_thing 46 = .ok (.iload_n 2, 1) := dk_28 (dk_at dksX5_thing_1 22 rfl rfl)
theorem dX5_thing_47 : decode cX5_thing 47 = .ok (.iconst 2, 1) := dk_5 (dk_at dksX5_thing_1 23 rfl rfl)
theorem dX5_thing_48 : decode cX5_thing 48 = .ok (.if_icmp .ne 12, 3) := dk_160 0 12 (dk_at dksX5_thing_2 0 rfl rfl)
theorem dX5_thing_51 : decode cX5_thing 51 = .ok (.aload_n 0, 1) := dk_42 (dk_at dksX5_thing_2 3 rfl rfl)
theorem dX5_thing_52 : decode cX5_thing 52 = .ok (.getfield 41, 3) := dk_180 0 41 (dk_at dksX5_thing_2 4 rfl rfl)
theorem dX5_thing_55 : decode cX5_thing 55 = .ok (.iload_n 1, 1) := dk_27 (dk_at dksX5_thing_2 7 rfl rfl)
theorem dX5_thing_56 : decode cX5_thing 56 = .ok (.iaload, 1) := dk_46 (dk_at dksX5_thing_2 8 rfl rfl)
theorem dX5_thing_57 : decode cX5_thing 57 = .ok (.goto 30, 3) := dk_167 0 30 (dk_at dksX5_thing_2 9 rfl rfl)
theorem dX5_thing_60 : decode cX5_thing 60 = .ok (.iload_n 2, 1) := dk_28 (dk_at dksX5_thing_2 12 rfl rfl)
theorem dX5_thing_61 : decode cX5_thing 61 = .ok (.iconst 3, 1) := dk_6 (dk_at dksX5_thing_2 13 rfl rfl)
theorem dX5_thing_62 : decode cX5_thing 62 = .ok (.if_icmp .ne 20, 3) := dk_160 0 20 (dk_at dksX5_thing_2 14 rfl rfl)
theorem dX5_thing_65 : decode cX5_thing 65 = .ok (.aload_n 0, 1) := dk_42 (dk_at dksX5_thing_2 17 rfl rfl)
theorem dX5_thing_66 : decode cX5_thing 66 = .ok (.getfield 53, 3) := dk_180 0 53 (dk_at dksX5_thing_2 18 rfl rfl)
theorem dX5_thing_69 : decode cX5_thing 69 = .ok (.iload_n 1, 1) := dk_27 (dk_at dksX5_thing_2 21 rfl rfl)
theorem dX5_thing_70 : decode cX5_thing 70 = .ok (.baload, 1) := dk_51 (dk_at dksX5_thing_2 22 rfl rfl)
theorem dX5_thing_71 : decode cX5_thing 71 = .ok (.ifCond .eq 7, 3) := dk_153 0 7 (dk_at dksX5_thing_3 0 rfl rfl)
theorem dX5_thing_74 : decode cX5_thing 74 = .ok (.iconst 1, 1) := dk_4 (dk_at dksX5_thing_3 3 rfl rfl)
theorem dX5_thing_75 : decode cX5_thing 75 = .ok (.goto 12, 3) := dk_167 0 12 (dk_at dksX5_thing_3 4 rfl rfl)
theorem dX5_thing_78 : decode cX5_thing 78 = .ok (.iconst 0, 1) := dk_3 (dk_at dksX5_thing_3 7 rfl rfl)
theorem dX5_thing_79 : decode cX5_thing 79 = .ok (.goto 8, 3) := dk_167 0 8 (dk_at dksX5_thing_3 8 rfl rfl)
theorem dX5_thing_82 : decode cX5_thing 82 = .ok (.aload_n 0, 1) := dk_42 (dk_at dksX5_thing_3 11 rfl rfl)
theorem dX5_thing_83 : decode cX5_thing 83 = .ok (.iconst 1, 1) := dk_4 (dk_at dksX5_thing_3 12 rfl rfl)
theorem dX5_thing_84 : decode cX5_thing 84 = .ok (.invokevirtual 243, 3) := dk_182 0 243 (dk_at dksX5_thing_3 13 rfl rfl)
theorem dX5_thing_87 : decode cX5_thing 87 = .ok (.ireturn, 1) := dk_172 (dk_at dksX5_thing_3 16 rfl rfl)
abbrev cX5_isThing : ByteArray := prog_16_method_7_code
def yX5_isThing : MethodName := ⟨RX5, "isThing", "(I)Z"⟩
def dkwX5_isThing_0 : List UInt8 := [27, 3, 42, 180, 0, 25, 4, 46, 4, 100, 184, 0, 131, 172]
abbrev dktX5_isThing_0 : List UInt8 := dkwX5_isThing_0 ++ []
theorem dksX5_isThing_0 : cX5_isThing.data.toList.drop 0 = dktX5_isThing_0 := by decide +kernel
theorem dX5_isThing_0 : decode cX5_isThing 0 = .ok (.iload_n 1, 1) := dk_27 (dk_at dksX5_isThing_0 0 rfl rfl)
theorem dX5_isThing_1 : decode cX5_isThing 1 = .ok (.iconst 0, 1) := dk_3 (dk_at dksX5_isThing_0 1 rfl rfl)
theorem dX5_isThing_2 : decode cX5_isThing 2 = .ok (.aload_n 0, 1) := dk_42 (dk_at dksX5_isThing_0 2 rfl rfl)
theorem dX5_isThing_3 : decode cX5_isThing 3 = .ok (.getfield 25, 3) := dk_180 0 25 (dk_at dksX5_isThing_0 3 rfl rfl)
theorem dX5_isThing_6 : decode cX5_isThing 6 = .ok (.iconst 1, 1) := dk_4 (dk_at dksX5_isThing_0 6 rfl rfl)
theorem dX5_isThing_7 : decode cX5_isThing 7 = .ok (.iaload, 1) := dk_46 (dk_at dksX5_isThing_0 7 rfl rfl)
theorem dX5_isThing_8 : decode cX5_isThing 8 = .ok (.iconst 1, 1) := dk_4 (dk_at dksX5_isThing_0 8 rfl rfl)
theorem dX5_isThing_9 : decode cX5_isThing 9 = .ok (.isub, 1) := dk_100 (dk_at dksX5_isThing_0 9 rfl rfl)
theorem dX5_isThing_10 : decode cX5_isThing 10 = .ok (.invokestatic 131, 3) := dk_184 0 131 (dk_at dksX5_isThing_0 10 rfl rfl)
theorem dX5_isThing_13 : decode cX5_isThing 13 = .ok (.ireturn, 1) := dk_172 (dk_at dksX5_isThing_0 13 rfl rfl)
abbrev cX5_judge : ByteArray := prog_16_method_37_code
def yX5_judge : MethodName := ⟨RX5, "judge", "(IIII)I"⟩
def dkwX5_judge_0 : List UInt8 := [42, 3, 181, 0, 128, 42, 27, 28, 29, 21, 4, 182, 1, 33, 172]
abbrev dktX5_judge_0 : List UInt8 := dkwX5_judge_0 ++ []
theorem dksX5_judge_0 : cX5_judge.data.toList.drop 0 = dktX5_judge_0 := by decide +kernel
theorem dX5_judge_0 : decode cX5_judge 0 = .ok (.aload_n 0, 1) := dk_42 (dk_at dksX5_judge_0 0 rfl rfl)
theorem dX5_judge_1 : decode cX5_judge 1 = .ok (.iconst 0, 1) := dk_3 (dk_at dksX5_judge_0 1 rfl rfl)
theorem dX5_judge_2 : decode cX5_judge 2 = .ok (.putfield 128, 3) := dk_181 0 128 (dk_at dksX5_judge_0 2 rfl rfl)
theorem dX5_judge_5 : decode cX5_judge 5 = .ok (.aload_n 0, 1) := dk_42 (dk_at dksX5_judge_0 5 rfl rfl)
theorem dX5_judge_6 : decode cX5_judge 6 = .ok (.iload_n 1, 1) := dk_27 (dk_at dksX5_judge_0 6 rfl rfl)
theorem dX5_judge_7 : decode cX5_judge 7 = .ok (.iload_n 2, 1) := dk_28 (dk_at dksX5_judge_0 7 rfl rfl)
theorem dX5_judge_8 : decode cX5_judge 8 = .ok (.iload_n 3, 1) := dk_29 (dk_at dksX5_judge_0 8 rfl rfl)
theorem dX5_judge_9 : decode cX5_judge 9 = .ok (.iload 4, 2) := dk_21 4 (dk_at dksX5_judge_0 9 rfl rfl)
theorem dX5_judge_11 : decode cX5_judge 11 = .ok (.invokevirtual 289, 3) := dk_182 1 33 (dk_at dksX5_judge_0 11 rfl rfl)
theorem dX5_judge_14 : decode cX5_judge 14 = .ok (.ireturn, 1) := dk_172 (dk_at dksX5_judge_0 14 rfl rfl)
abbrev cX5_troubleOf : ByteArray := prog_16_method_33_code
def yX5_troubleOf : MethodName := ⟨RX5, "troubleOf", "(IIII)I"⟩
def dkwX5_troubleOf_7 : List UInt8 := [180, 0, 25, 6, 46, 96, 164, 0, 8, 16, 6, 167, 0, 4, 3, 172]
abbrev dktX5_troubleOf_7 : List UInt8 := dkwX5_troubleOf_7 ++ []
def dkwX5_troubleOf_6 : List UInt8 := [182, 1, 23, 162, 0, 7, 8, 167, 0, 30, 21, 5, 42, 180, 0, 41, 16, 18, 27, 96, 46, 42]
abbrev dktX5_troubleOf_6 : List UInt8 := dkwX5_troubleOf_6 ++ dktX5_troubleOf_7
def dkwX5_troubleOf_5 : List UInt8 := [172, 42, 28, 182, 1, 17, 29, 96, 54, 5, 21, 5, 42, 42, 180, 0, 41, 16, 18, 27, 96, 46]
abbrev dktX5_troubleOf_5 : List UInt8 := dkwX5_troubleOf_5 ++ dktX5_troubleOf_6
def dkwX5_troubleOf_4 : List UInt8 := [16, 24, 27, 96, 46, 2, 159, 0, 19, 42, 180, 0, 41, 16, 24, 27, 96, 46, 21, 4, 159, 0, 5, 7]
abbrev dktX5_troubleOf_4 : List UInt8 := dkwX5_troubleOf_4 ++ dktX5_troubleOf_5
def dkwX5_troubleOf_3 : List UInt8 := [180, 0, 41, 16, 12, 27, 96, 46, 164, 0, 5, 6, 172, 21, 4, 27, 159, 0, 30, 42, 180, 0, 41]
abbrev dktX5_troubleOf_3 : List UInt8 := dkwX5_troubleOf_3 ++ dktX5_troubleOf_4
def dkwX5_troubleOf_2 : List UInt8 := [154, 0, 5, 5, 172, 28, 42, 42, 180, 0, 41, 27, 182, 1, 10, 2, 130, 126, 154, 0, 16, 29, 42]
abbrev dktX5_troubleOf_2 : List UInt8 := dkwX5_troubleOf_2 ++ dktX5_troubleOf_3
def dkwX5_troubleOf_1 : List UInt8 := [180, 0, 25, 4, 46, 120, 162, 0, 7, 29, 156, 0, 5, 4, 172, 42, 180, 0, 41, 16, 18, 27, 96, 46]
abbrev dktX5_troubleOf_1 : List UInt8 := dkwX5_troubleOf_1 ++ dktX5_troubleOf_2
def dkwX5_troubleOf_0 : List UInt8 := [42, 27, 182, 1, 7, 153, 0, 32, 42, 21, 4, 182, 1, 7, 153, 0, 23, 28, 155, 0, 19, 28, 4, 42]
abbrev dktX5_troubleOf_0 : List UInt8 := dkwX5_troubleOf_0 ++ dktX5_troubleOf_1
theorem dksX5_troubleOf_0 : cX5_troubleOf.data.toList.drop 0 = dktX5_troubleOf_0 := by decide +kernel
theorem dksX5_troubleOf_1 : cX5_troubleOf.data.toList.drop 24 = dktX5_troubleOf_1 := dk_seg dksX5_troubleOf_0 24 rfl rfl
theorem dksX5_troubleOf_2 : cX5_troubleOf.data.toList.drop 48 = dktX5_troubleOf_2 := dk_seg dksX5_troubleOf_1 24 rfl rfl
theorem dksX5_troubleOf_3 : cX5_troubleOf.data.toList.drop 71 = dktX5_troubleOf_3 := dk_seg dksX5_troubleOf_2 23 rfl rfl
theorem dksX5_troubleOf_4 : cX5_troubleOf.data.toList.drop 94 = dktX5_troubleOf_4 := dk_seg dksX5_troubleOf_3 23 rfl rfl
theorem dksX5_troubleOf_5 : cX5_troubleOf.data.toList.drop 118 = dktX5_troubleOf_5 := dk_seg dksX5_troubleOf_4 24 rfl rfl
theorem dksX5_troubleOf_6 : cX5_troubleOf.data.toList.drop 140 = dktX5_troubleOf_6 := dk_seg dksX5_troubleOf_5 22 rfl rfl
theorem dksX5_troubleOf_7 : cX5_troubleOf.data.toList.drop 162 = dktX5_troubleOf_7 := dk_seg dksX5_troubleOf_6 22 rfl rfl
theorem dX5_troubleOf_0 : decode cX5_troubleOf 0 = .ok (.aload_n 0, 1) := dk_42 (dk_at dksX5_troubleOf_0 0 rfl rfl)
theorem dX5_troubleOf_1 : decode cX5_troubleOf 1 = .ok (.iload_n 1, 1) := dk_27 (dk_at dksX5_troubleOf_0 1 rfl rfl)
theorem dX5_troubleOf_2 : decode cX5_troubleOf 2 = .ok (.invokevirtual 263, 3) := dk_182 1 7 (dk_at dksX5_troubleOf_0 2 rfl rfl)
theorem dX5_troubleOf_5 : decode cX5_troubleOf 5 = .ok (.ifCond .eq 32, 3) := dk_153 0 32 (dk_at dksX5_troubleOf_0 5 rfl rfl)
theorem dX5_troubleOf_8 : decode cX5_troubleOf 8 = .ok (.aload_n 0, 1) := dk_42 (dk_at dksX5_troubleOf_0 8 rfl rfl)
theorem dX5_troubleOf_9 : decode cX5_troubleOf 9 = .ok (.iload 4, 2) := dk_21 4 (dk_at dksX5_troubleOf_0 9 rfl rfl)
theorem dX5_troubleOf_11 : decode cX5_troubleOf 11 = .ok (.invokevirtual 263, 3) := dk_182 1 7 (dk_at dksX5_troubleOf_0 11 rfl rfl)
theorem dX5_troubleOf_14 : decode cX5_troubleOf 14 = .ok (.ifCond .eq 23, 3) := dk_153 0 23 (dk_at dksX5_troubleOf_0 14 rfl rfl)
theorem dX5_troubleOf_17 : decode cX5_troubleOf 17 = .ok (.iload_n 2, 1) := dk_28 (dk_at dksX5_troubleOf_0 17 rfl rfl)
theorem dX5_troubleOf_18 : decode cX5_troubleOf 18 = .ok (.ifCond .lt 19, 3) := dk_155 0 19 (dk_at dksX5_troubleOf_0 18 rfl rfl)
theorem dX5_troubleOf_21 : decode cX5_troubleOf 21 = .ok (.iload_n 2, 1) := dk_28 (dk_at dksX5_troubleOf_0 21 rfl rfl)
theorem dX5_troubleOf_22 : decode cX5_troubleOf 22 = .ok (.iconst 1, 1) := dk_4 (dk_at dksX5_troubleOf_0 22 rfl rfl)
theorem dX5_troubleOf_23 : decode cX5_troubleOf 23 = .ok (.aload_n 0, 1) := dk_42 (dk_at dksX5_troubleOf_0 23 rfl rfl)
theorem dX5_troubleOf_24 : decode cX5_troubleOf 24 = .ok (.getfield 25, 3) := dk_180 0 25 (dk_at dksX5_troubleOf_1 0 rfl rfl)
theorem dX5_troubleOf_27 : decode cX5_troubleOf 27 = .ok (.iconst 1, 1) := dk_4 (dk_at dksX5_troubleOf_1 3 rfl rfl)
theorem dX5_troubleOf_28 : decode cX5_troubleOf 28 = .ok (.iaload, 1) := dk_46 (dk_at dksX5_troubleOf_1 4 rfl rfl)
theorem dX5_troubleOf_29 : decode cX5_troubleOf 29 = .ok (.ishl, 1) := dk_120 (dk_at dksX5_troubleOf_1 5 rfl rfl)
theorem dX5_troubleOf_30 : decode cX5_troubleOf 30 = .ok (.if_icmp .ge 7, 3) := dk_162 0 7 (dk_at dksX5_troubleOf_1 6 rfl rfl)
theorem dX5_troubleOf_33 : decode cX5_troubleOf 33 = .ok (.iload_n 3, 1) := dk_29 (dk_at dksX5_troubleOf_1 9 rfl rfl)
theorem dX5_troubleOf_34 : decode cX5_troubleOf 34 = .ok (.ifCond .ge 5, 3) := dk_156 0 5 (dk_at dksX5_troubleOf_1 10 rfl rfl)
theorem dX5_troubleOf_37 : decode cX5_troubleOf 37 = .ok (.iconst 1, 1) := dk_4 (dk_at dksX5_troubleOf_1 13 rfl rfl)
theorem dX5_troubleOf_38 : decode cX5_troubleOf 38 = .ok (.ireturn, 1) := dk_172 (dk_at dksX5_troubleOf_1 14 rfl rfl)
theorem dX5_troubleOf_39 : decode cX5_troubleOf 39 = .ok (.aload_n 0, 1) := dk_42 (dk_at dksX5_troubleOf_1 15 rfl rfl)
theorem dX5_troubleOf_40 : decode cX5_troubleOf 40 = .ok (.getfield 41, 3) := dk_180 0 41 (dk_at dksX5_troubleOf_1 16 rfl rfl)
theorem dX5_troubleOf_43 : decode cX5_troubleOf 43 = .ok (.bipush 18, 2) := dk_16 18 (dk_at dksX5_troubleOf_1 19 rfl rfl)
theorem dX5_troubleOf_45 : decode cX5_troubleOf 45 = .ok (.iload_n 1, 1) := dk_27 (dk_at dksX5_troubleOf_1 21 rfl rfl)
theorem dX5_troubleOf_46 : decode cX5_troubleOf 46 = .ok (.iadd, 1) := dk_96 (dk_at dksX5_troubleOf_1 22 rfl rfl)
theorem dX5_troubleOf_47 : decode cX5_troubleOf 47 = .ok (.iaload, 1) := dk_46 (dk_at dksX5_troubleOf_1 23 rfl rfl)
theorem dX5_troubleOf_48 : decode cX5_troubleOf 48 = .ok (.ifCond .ne 5, 3) := dk_154 0 5 (dk_at dksX5_troubleOf_2 0 rfl rfl)
theorem dX5_troubleOf_51 : decode cX5_troubleOf 51 = .ok (.iconst 2, 1) := dk_5 (dk_at dksX5_troubleOf_2 3 rfl rfl)
theorem dX5_troubleOf_52 : decode cX5_troubleOf 52 = .ok (.ireturn, 1) := dk_172 (dk_at dksX5_troubleOf_2 4 rfl rfl)
theorem dX5_troubleOf_53 : decode cX5_troubleOf 53 = .ok (.iload_n 2, 1) := dk_28 (dk_at dksX5_troubleOf_2 5 rfl rfl)
theorem dX5_troubleOf_54 : decode cX5_troubleOf 54 = .ok (.aload_n 0, 1) := dk_42 (dk_at dksX5_troubleOf_2 6 rfl rfl)
theorem dX5_troubleOf_55 : decode cX5_troubleOf 55 = .ok (.aload_n 0, 1) := dk_42 (dk_at dksX5_troubleOf_2 7 rfl rfl)
theorem dX5_troubleOf_56 : decode cX5_troubleOf 56 = .ok (.getfield 41, 3) := dk_180 0 41 (dk_at dksX5_troubleOf_2 8 rfl rfl)
theorem dX5_troubleOf_59 : decode cX5_troubleOf 59 = .ok (.iload_n 1, 1) := dk_27 (dk_at dksX5_troubleOf_2 11 rfl rfl)
theorem dX5_troubleOf_60 : decode cX5_troubleOf 60 = .ok (.invokevirtual 266, 3) := dk_182 1 10 (dk_at dksX5_troubleOf_2 12 rfl rfl)
theorem dX5_troubleOf_63 : decode cX5_troubleOf 63 = .ok (.iconst (-1), 1) := dk_2 (dk_at dksX5_troubleOf_2 15 rfl rfl)
theorem dX5_troubleOf_64 : decode cX5_troubleOf 64 = .ok (.ixor, 1) := dk_130 (dk_at dksX5_troubleOf_2 16 rfl rfl)
theorem dX5_troubleOf_65 : decode cX5_troubleOf 65 = .ok (.iand, 1) := dk_126 (dk_at dksX5_troubleOf_2 17 rfl rfl)
theorem dX5_troubleOf_66 : decode cX5_troubleOf 66 = .ok (.ifCond .ne 16, 3) := dk_154 0 16 (dk_at dksX5_troubleOf_2 18 rfl rfl)
theorem dX5_troubleOf_69 : decode cX5_troubleOf 69 = .ok (.iload_n 3, 1) := dk_29 (dk_at dksX5_troubleOf_2 21 rfl rfl)
theorem dX5_troubleOf_70 : decode cX5_troubleOf 70 = .ok (.aload_n 0, 1) := dk_42 (dk_at dksX5_troubleOf_2 22 rfl rfl)
theorem dX5_troubleOf_71 : decode cX5_troubleOf 71 = .ok (.getfield 41, 3) := dk_180 0 41 (dk_at dksX5_troubleOf_3 0 rfl rfl)
theorem dX5_troubleOf_74 : decode cX5_troubleOf 74 = .ok (.bipush 12, 2) := dk_16 12 (dk_at dksX5_troubleOf_3 3 rfl rfl)
theorem dX5_troubleOf_76 : decode cX5_troubleOf 76 = .ok (.iload_n 1, 1) := dk_27 (dk_at dksX5_troubleOf_3 5 rfl rfl)
theorem dX5_troubleOf_77 : decode cX5_troubleOf 77 = .ok (.iadd, 1) := dk_96 (dk_at dksX5_troubleOf_3 6 rfl rfl)
theorem dX5_troubleOf_78 : decode cX5_troubleOf 78 = .ok (.iaload, 1) := dk_46 (dk_at dksX5_troubleOf_3 7 rfl rfl)
theorem dX5_troubleOf_79 : decode cX5_troubleOf 79 = .ok (.if_icmp .le 5, 3) := dk_164 0 5 (dk_at dksX5_troubleOf_3 8 rfl rfl)
theorem dX5_troubleOf_82 : decode cX5_troubleOf 82 = .ok (.iconst 3, 1) := dk_6 (dk_at dksX5_troubleOf_3 11 rfl rfl)
theorem dX5_troubleOf_83 : decode cX5_troubleOf 83 = .ok (.ireturn, 1) := dk_172 (dk_at dksX5_troubleOf_3 12 rfl rfl)
theorem dX5_troubleOf_84 : decode cX5_troubleOf 84 = .ok (.iload 4, 2) := dk_21 4 (dk_at dksX5_troubleOf_3 13 rfl rfl)
theorem dX5_troubleOf_86 : decode cX5_troubleOf 86 = .ok (.iload_n 1, 1) := dk_27 (dk_at dksX5_troubleOf_3 15 rfl rfl)
theorem dX5_troubleOf_87 : decode cX5_troubleOf 87 = .ok (.if_icmp .eq 30, 3) := dk_159 0 30 (dk_at dksX5_troubleOf_3 16 rfl rfl)
theorem dX5_troubleOf_90 : decode cX5_troubleOf 90 = .ok (.aload_n 0, 1) := dk_42 (dk_at dksX5_troubleOf_3 19 rfl rfl)
theorem dX5_troubleOf_91 : decode cX5_troubleOf 91 = .ok (.getfield 41, 3) := dk_180 0 41 (dk_at dksX5_troubleOf_3 20 rfl rfl)
theorem dX5_troubleOf_94 : decode cX5_troubleOf 94 = .ok (.bipush 24, 2) := dk_16 24 (dk_at dksX5_troubleOf_4 0 rfl rfl)
theorem dX5_troubleOf_96 : decode cX5_troubleOf 96 = .ok (.iload_n 1, 1) := dk_27 (dk_at dksX5_troubleOf_4 2 rfl rfl)
theorem dX5_troubleOf_97 : decode cX5_troubleOf 97 = .ok (.iadd, 1) := dk_96 (dk_at dksX5_troubleOf_4 3 rfl rfl)
theorem dX5_troubleOf_98 : decode cX5_troubleOf 98 = .ok (.iaload, 1) := dk_46 (dk_at dksX5_troubleOf_4 4 rfl rfl)
theorem dX5_troubleOf_99 : decode cX5_troubleOf 99 = .ok (.iconst (-1), 1) := dk_2 (dk_at dksX5_troubleOf_4 5 rfl rfl)
theorem dX5_troubleOf_100 : decode cX5_troubleOf 100 = .ok (.if_icmp .eq 19, 3) := dk_159 0 19 (dk_at dksX5_troubleOf_4 6 rfl rfl)
theorem dX5_troubleOf_103 : decode cX5_troubleOf 103 = .ok (.aload_n 0, 1) := dk_42 (dk_at dksX5_troubleOf_4 9 rfl rfl)
theorem dX5_troubleOf_104 : decode cX5_troubleOf 104 = .ok (.getfield 41, 3) := dk_180 0 41 (dk_at dksX5_troubleOf_4 10 rfl rfl)
theorem dX5_troubleOf_107 : decode cX5_troubleOf 107 = .ok (.bipush 24, 2) := dk_16 24 (dk_at dksX5_troubleOf_4 13 rfl rfl)
theorem dX5_troubleOf_109 : decode cX5_troubleOf 109 = .ok (.iload_n 1, 1) := dk_27 (dk_at dksX5_troubleOf_4 15 rfl rfl)
theorem dX5_troubleOf_110 : decode cX5_troubleOf 110 = .ok (.iadd, 1) := dk_96 (dk_at dksX5_troubleOf_4 16 rfl rfl)
theorem dX5_troubleOf_111 : decode cX5_troubleOf 111 = .ok (.iaload, 1) := dk_46 (dk_at dksX5_troubleOf_4 17 rfl rfl)
theorem dX5_troubleOf_112 : decode cX5_troubleOf 112 = .ok (.iload 4, 2) := dk_21 4 (dk_at dksX5_troubleOf_4 18 rfl rfl)
theorem dX5_troubleOf_114 : decode cX5_troubleOf 114 = .ok (.if_icmp .eq 5, 3) := dk_159 0 5 (dk_at dksX5_troubleOf_4 20 rfl rfl)
theorem dX5_troubleOf_117 : decode cX5_troubleOf 117 = .ok (.iconst 4, 1) := dk_7 (dk_at dksX5_troubleOf_4 23 rfl rfl)
theorem dX5_troubleOf_118 : decode cX5_troubleOf 118 = .ok (.ireturn, 1) := dk_172 (dk_at dksX5_troubleOf_5 0 rfl rfl)
theorem dX5_troubleOf_119 : decode cX5_troubleOf 119 = .ok (.aload_n 0, 1) := dk_42 (dk_at dksX5_troubleOf_5 1 rfl rfl)
theorem dX5_troubleOf_120 : decode cX5_troubleOf 120 = .ok (.iload_n 2, 1) := dk_28 (dk_at dksX5_troubleOf_5 2 rfl rfl)
theorem dX5_troubleOf_121 : decode cX5_troubleOf 121 = .ok (.invokevirtual 273, 3) := dk_182 1 17 (dk_at dksX5_troubleOf_5 3 rfl rfl)
theorem dX5_troubleOf_124 : decode cX5_troubleOf 124 = .ok (.iload_n 3, 1) := dk_29 (dk_at dksX5_troubleOf_5 6 rfl rfl)
theorem dX5_troubleOf_125 : decode cX5_troubleOf 125 = .ok (.iadd, 1) := dk_96 (dk_at dksX5_troubleOf_5 7 rfl rfl)
theorem dX5_troubleOf_126 : decode cX5_troubleOf 126 = .ok (.istore 5, 2) := dk_54 5 (dk_at dksX5_troubleOf_5 8 rfl rfl)
theorem dX5_troubleOf_128 : decode cX5_troubleOf 128 = .ok (.iload 5, 2) := dk_21 5 (dk_at dksX5_troubleOf_5 10 rfl rfl)
theorem dX5_troubleOf_130 : decode cX5_troubleOf 130 = .ok (.aload_n 0, 1) := dk_42 (dk_at dksX5_troubleOf_5 12 rfl rfl)
theorem dX5_troubleOf_131 : decode cX5_troubleOf 131 = .ok (.aload_n 0, 1) := dk_42 (dk_at dksX5_troubleOf_5 13 rfl rfl)
theorem dX5_troubleOf_132 : decode cX5_troubleOf 132 = .ok (.getfield 41, 3) := dk_180 0 41 (dk_at dksX5_troubleOf_5 14 rfl rfl)
theorem dX5_troubleOf_135 : decode cX5_troubleOf 135 = .ok (.bipush 18, 2) := dk_16 18 (dk_at dksX5_troubleOf_5 17 rfl rfl)
theorem dX5_troubleOf_137 : decode cX5_troubleOf 137 = .ok (.iload_n 1, 1) := dk_27 (dk_at dksX5_troubleOf_5 19 rfl rfl)
theorem dX5_troubleOf_138 : decode cX5_troubleOf 138 = .ok (.iadd, 1) := dk_96 (dk_at dksX5_troubleOf_5 20 rfl rfl)
theorem dX5_troubleOf_139 : decode cX5_troubleOf 139 = .ok (.iaload, 1) := dk_46 (dk_at dksX5_troubleOf_5 21 rfl rfl)
theorem dX5_troubleOf_140 : decode cX5_troubleOf 140 = .ok (.invokevirtual 279, 3) := dk_182 1 23 (dk_at dksX5_troubleOf_6 0 rfl rfl)
theorem dX5_troubleOf_143 : decode cX5_troubleOf 143 = .ok (.if_icmp .ge 7, 3) := dk_162 0 7 (dk_at dksX5_troubleOf_6 3 rfl rfl)
theorem dX5_troubleOf_146 : decode cX5_troubleOf 146 = .ok (.iconst 5, 1) := dk_8 (dk_at dksX5_troubleOf_6 6 rfl rfl)
theorem dX5_troubleOf_147 : decode cX5_troubleOf 147 = .ok (.goto 30, 3) := dk_167 0 30 (dk_at dksX5_troubleOf_6 7 rfl rfl)
theorem dX5_troubleOf_150 : decode cX5_troubleOf 150 = .ok (.iload 5, 2) := dk_21 5 (dk_at dksX5_troubleOf_6 10 rfl rfl)
theorem dX5_troubleOf_152 : decode cX5_troubleOf 152 = .ok (.aload_n 0, 1) := dk_42 (dk_at dksX5_troubleOf_6 12 rfl rfl)
theorem dX5_troubleOf_153 : decode cX5_troubleOf 153 = .ok (.getfield 41, 3) := dk_180 0 41 (dk_at dksX5_troubleOf_6 13 rfl rfl)
theorem dX5_troubleOf_156 : decode cX5_troubleOf 156 = .ok (.bipush 18, 2) := dk_16 18 (dk_at dksX5_troubleOf_6 16 rfl rfl)
theorem dX5_troubleOf_158 : decode cX5_troubleOf 158 = .ok (.iload_n 1, 1) := dk_27 (dk_at dksX5_troubleOf_6 18 rfl rfl)
theorem dX5_troubleOf_159 : decode cX5_troubleOf 159 = .ok (.iadd, 1) := dk_96 (dk_at dksX5_troubleOf_6 19 rfl rfl)
theorem dX5_troubleOf_160 : decode cX5_troubleOf 160 = .ok (.iaload, 1) := dk_46 (dk_at dksX5_troubleOf_6 20 rfl rfl)
theorem dX5_troubleOf_161 : decode cX5_troubleOf 161 = .ok (.aload_n 0, 1) := dk_42 (dk_at dksX5_troubleOf_6 21 rfl rfl)
theorem dX5_troubleOf_162 : decode cX5_troubleOf 162 = .ok (.getfield 25, 3) := dk_180 0 25 (dk_at dksX5_troubleOf_7 0 rfl rfl)
theorem dX5_troubleOf_165 : decode cX5_troubleOf 165 = .ok (.iconst 3, 1) := dk_6 (dk_at dksX5_troubleOf_7 3 rfl rfl)
theorem dX5_troubleOf_166 : decode cX5_troubleOf 166 = .ok (.iaload, 1) := dk_46 (dk_at dksX5_troubleOf_7 4 rfl rfl)
theorem dX5_troubleOf_167 : decode cX5_troubleOf 167 = .ok (.iadd, 1) := dk_96 (dk_at dksX5_troubleOf_7 5 rfl rfl)
theorem dX5_troubleOf_168 : decode cX5_troubleOf 168 = .ok (.if_icmp .le 8, 3) := dk_164 0 8 (dk_at dksX5_troubleOf_7 6 rfl rfl)
theorem dX5_troubleOf_171 : decode cX5_troubleOf 171 = .ok (.bipush 6, 2) := dk_16 6 (dk_at dksX5_troubleOf_7 9 rfl rfl)
theorem dX5_troubleOf_173 : decode cX5_troubleOf 173 = .ok (.goto 4, 3) := dk_167 0 4 (dk_at dksX5_troubleOf_7 11 rfl rfl)
theorem dX5_troubleOf_176 : decode cX5_troubleOf 176 = .ok (.iconst 0, 1) := dk_3 (dk_at dksX5_troubleOf_7 14 rfl rfl)
theorem dX5_troubleOf_177 : decode cX5_troubleOf 177 = .ok (.ireturn, 1) := dk_172 (dk_at dksX5_troubleOf_7 15 rfl rfl)
abbrev cX5_lightest : ByteArray := prog_16_method_34_code
def yX5_lightest : MethodName := ⟨RX5, "lightest", "(I)I"⟩
def dkwX5_lightest_0 : List UInt8 := [4, 27, 42, 180, 0, 25, 6, 46, 100, 184, 1, 26, 172]
abbrev dktX5_lightest_0 : List UInt8 := dkwX5_lightest_0 ++ []
theorem dksX5_lightest_0 : cX5_lightest.data.toList.drop 0 = dktX5_lightest_0 := by decide +kernel
theorem dX5_lightest_0 : decode cX5_lightest 0 = .ok (.iconst 1, 1) := dk_4 (dk_at dksX5_lightest_0 0 rfl rfl)
theorem dX5_lightest_1 : decode cX5_lightest 1 = .ok (.iload_n 1, 1) := dk_27 (dk_at dksX5_lightest_0 1 rfl rfl)
theorem dX5_lightest_2 : decode cX5_lightest 2 = .ok (.aload_n 0, 1) := dk_42 (dk_at dksX5_lightest_0 2 rfl rfl)
theorem dX5_lightest_3 : decode cX5_lightest 3 = .ok (.getfield 25, 3) := dk_180 0 25 (dk_at dksX5_lightest_0 3 rfl rfl)
theorem dX5_lightest_6 : decode cX5_lightest 6 = .ok (.iconst 3, 1) := dk_6 (dk_at dksX5_lightest_0 6 rfl rfl)
theorem dX5_lightest_7 : decode cX5_lightest 7 = .ok (.iaload, 1) := dk_46 (dk_at dksX5_lightest_0 7 rfl rfl)
theorem dX5_lightest_8 : decode cX5_lightest 8 = .ok (.isub, 1) := dk_100 (dk_at dksX5_lightest_0 8 rfl rfl)
theorem dX5_lightest_9 : decode cX5_lightest 9 = .ok (.invokestatic 282, 3) := dk_184 1 26 (dk_at dksX5_lightest_0 9 rfl rfl)
theorem dX5_lightest_12 : decode cX5_lightest 12 = .ok (.ireturn, 1) := dk_172 (dk_at dksX5_lightest_0 12 rfl rfl)
abbrev cX5_give : ByteArray := prog_16_method_38_code
def yX5_give : MethodName := ⟨RX5, "give", "(IIII)I"⟩
def dkwX5_give_2 : List UInt8 := [180, 0, 38, 4, 92, 46, 4, 96, 79, 21, 5, 172, 42, 27, 28, 29, 21, 4, 182, 1, 37, 3, 172]
abbrev dktX5_give_2 : List UInt8 := dkwX5_give_2 ++ []
def dkwX5_give_1 : List UInt8 := [180, 1, 0, 17, 0, 200, 160, 0, 8, 16, 7, 167, 0, 5, 21, 5, 54, 5, 21, 5, 153, 0, 16, 42]
abbrev dktX5_give_1 : List UInt8 := dkwX5_give_1 ++ dktX5_give_2
def dkwX5_give_0 : List UInt8 := [42, 3, 181, 0, 128, 42, 27, 28, 29, 21, 4, 182, 1, 33, 54, 5, 21, 5, 154, 0, 18, 42]
abbrev dktX5_give_0 : List UInt8 := dkwX5_give_0 ++ dktX5_give_1
theorem dksX5_give_0 : cX5_give.data.toList.drop 0 = dktX5_give_0 := by decide +kernel
theorem dksX5_give_1 : cX5_give.data.toList.drop 22 = dktX5_give_1 := dk_seg dksX5_give_0 22 rfl rfl
theorem dksX5_give_2 : cX5_give.data.toList.drop 46 = dktX5_give_2 := dk_seg dksX5_give_1 24 rfl rfl
theorem dX5_give_0 : decode cX5_give 0 = .ok (.aload_n 0, 1) := dk_42 (dk_at dksX5_give_0 0 rfl rfl)
theorem dX5_give_1 : decode cX5_give 1 = .ok (.iconst 0, 1) := dk_3 (dk_at dksX5_give_0 1 rfl rfl)
theorem dX5_give_2 : decode cX5_give 2 = .ok (.putfield 128, 3) := dk_181 0 128 (dk_at dksX5_give_0 2 rfl rfl)
theorem dX5_give_5 : decode cX5_give 5 = .ok (.aload_n 0, 1) := dk_42 (dk_at dksX5_give_0 5 rfl rfl)
theorem dX5_give_6 : decode cX5_give 6 = .ok (.iload_n 1, 1) := dk_27 (dk_at dksX5_give_0 6 rfl rfl)
theorem dX5_give_7 : decode cX5_give 7 = .ok (.iload_n 2, 1) := dk_28 (dk_at dksX5_give_0 7 rfl rfl)
theorem dX5_give_8 : decode cX5_give 8 = .ok (.iload_n 3, 1) := dk_29 (dk_at dksX5_give_0 8 rfl rfl)
theorem dX5_give_9 : decode cX5_give 9 = .ok (.iload 4, 2) := dk_21 4 (dk_at dksX5_give_0 9 rfl rfl)
theorem dX5_give_11 : decode cX5_give 11 = .ok (.invokevirtual 289, 3) := dk_182 1 33 (dk_at dksX5_give_0 11 rfl rfl)
theorem dX5_give_14 : decode cX5_give 14 = .ok (.istore 5, 2) := dk_54 5 (dk_at dksX5_give_0 14 rfl rfl)
theorem dX5_give_16 : decode cX5_give 16 = .ok (.iload 5, 2) := dk_21 5 (dk_at dksX5_give_0 16 rfl rfl)
theorem dX5_give_18 : decode cX5_give 18 = .ok (.ifCond .ne 18, 3) := dk_154 0 18 (dk_at dksX5_give_0 18 rfl rfl)
theorem dX5_give_21 : decode cX5_give 21 = .ok (.aload_n 0, 1) := dk_42 (dk_at dksX5_give_0 21 rfl rfl)
theorem dX5_give_22 : decode cX5_give 22 = .ok (.getfield 256, 3) := dk_180 1 0 (dk_at dksX5_give_1 0 rfl rfl)
theorem dX5_give_25 : decode cX5_give 25 = .ok (.sipush 200, 3) := dk_17 0 200 (dk_at dksX5_give_1 3 rfl rfl)
theorem dX5_give_28 : decode cX5_give 28 = .ok (.if_icmp .ne 8, 3) := dk_160 0 8 (dk_at dksX5_give_1 6 rfl rfl)
theorem dX5_give_31 : decode cX5_give 31 = .ok (.bipush 7, 2) := dk_16 7 (dk_at dksX5_give_1 9 rfl rfl)
theorem dX5_give_33 : decode cX5_give 33 = .ok (.goto 5, 3) := dk_167 0 5 (dk_at dksX5_give_1 11 rfl rfl)
theorem dX5_give_36 : decode cX5_give 36 = .ok (.iload 5, 2) := dk_21 5 (dk_at dksX5_give_1 14 rfl rfl)
theorem dX5_give_38 : decode cX5_give 38 = .ok (.istore 5, 2) := dk_54 5 (dk_at dksX5_give_1 16 rfl rfl)
theorem dX5_give_40 : decode cX5_give 40 = .ok (.iload 5, 2) := dk_21 5 (dk_at dksX5_give_1 18 rfl rfl)
theorem dX5_give_42 : decode cX5_give 42 = .ok (.ifCond .eq 16, 3) := dk_153 0 16 (dk_at dksX5_give_1 20 rfl rfl)
theorem dX5_give_45 : decode cX5_give 45 = .ok (.aload_n 0, 1) := dk_42 (dk_at dksX5_give_1 23 rfl rfl)
theorem dX5_give_46 : decode cX5_give 46 = .ok (.getfield 38, 3) := dk_180 0 38 (dk_at dksX5_give_2 0 rfl rfl)
theorem dX5_give_49 : decode cX5_give 49 = .ok (.iconst 1, 1) := dk_4 (dk_at dksX5_give_2 3 rfl rfl)
theorem dX5_give_50 : decode cX5_give 50 = .ok (.dup2, 1) := dk_92 (dk_at dksX5_give_2 4 rfl rfl)
theorem dX5_give_51 : decode cX5_give 51 = .ok (.iaload, 1) := dk_46 (dk_at dksX5_give_2 5 rfl rfl)
theorem dX5_give_52 : decode cX5_give 52 = .ok (.iconst 1, 1) := dk_4 (dk_at dksX5_give_2 6 rfl rfl)
theorem dX5_give_53 : decode cX5_give 53 = .ok (.iadd, 1) := dk_96 (dk_at dksX5_give_2 7 rfl rfl)
theorem dX5_give_54 : decode cX5_give 54 = .ok (.iastore, 1) := dk_79 (dk_at dksX5_give_2 8 rfl rfl)
theorem dX5_give_55 : decode cX5_give 55 = .ok (.iload 5, 2) := dk_21 5 (dk_at dksX5_give_2 9 rfl rfl)
theorem dX5_give_57 : decode cX5_give 57 = .ok (.ireturn, 1) := dk_172 (dk_at dksX5_give_2 11 rfl rfl)
theorem dX5_give_58 : decode cX5_give 58 = .ok (.aload_n 0, 1) := dk_42 (dk_at dksX5_give_2 12 rfl rfl)
theorem dX5_give_59 : decode cX5_give 59 = .ok (.iload_n 1, 1) := dk_27 (dk_at dksX5_give_2 13 rfl rfl)
theorem dX5_give_60 : decode cX5_give 60 = .ok (.iload_n 2, 1) := dk_28 (dk_at dksX5_give_2 14 rfl rfl)
theorem dX5_give_61 : decode cX5_give 61 = .ok (.iload_n 3, 1) := dk_29 (dk_at dksX5_give_2 15 rfl rfl)
theorem dX5_give_62 : decode cX5_give 62 = .ok (.iload 4, 2) := dk_21 4 (dk_at dksX5_give_2 16 rfl rfl)
theorem dX5_give_64 : decode cX5_give 64 = .ok (.invokevirtual 293, 3) := dk_182 1 37 (dk_at dksX5_give_2 18 rfl rfl)
theorem dX5_give_67 : decode cX5_give 67 = .ok (.iconst 0, 1) := dk_3 (dk_at dksX5_give_2 21 rfl rfl)
theorem dX5_give_68 : decode cX5_give 68 = .ok (.ireturn, 1) := dk_172 (dk_at dksX5_give_2 22 rfl rfl)
abbrev cX5_makeNow : ByteArray := prog_16_method_36_code
def yX5_makeNow : MethodName := ⟨RX5, "makeNow", "(IIII)V"⟩
def dkwX5_makeNow_6 : List UInt8 := [21, 4, 182, 1, 29, 79, 42, 89, 180, 1, 0, 4, 96, 181, 1, 0, 177]
abbrev dktX5_makeNow_6 : List UInt8 := dkwX5_makeNow_6 ++ []
def dkwX5_makeNow_5 : List UInt8 := [16, 24, 21, 4, 96, 46, 79, 42, 180, 0, 64, 21, 5, 7, 96, 42, 42, 180, 0, 41, 27, 28, 29]
abbrev dktX5_makeNow_5 : List UInt8 := dkwX5_makeNow_5 ++ dktX5_makeNow_6
def dkwX5_makeNow_4 : List UInt8 := [180, 0, 41, 16, 18, 21, 4, 96, 46, 79, 42, 180, 0, 64, 21, 5, 16, 8, 96, 42, 180, 0, 41]
abbrev dktX5_makeNow_4 : List UInt8 := dkwX5_makeNow_4 ++ dktX5_makeNow_5
def dkwX5_makeNow_3 : List UInt8 := [16, 6, 96, 42, 180, 0, 41, 16, 24, 27, 96, 46, 79, 42, 180, 0, 64, 21, 5, 16, 7, 96, 42]
abbrev dktX5_makeNow_3 : List UInt8 := dkwX5_makeNow_3 ++ dktX5_makeNow_4
def dkwX5_makeNow_2 : List UInt8 := [42, 180, 0, 64, 21, 5, 8, 96, 42, 180, 0, 41, 16, 18, 27, 96, 46, 79, 42, 180, 0, 64, 21, 5]
abbrev dktX5_makeNow_2 : List UInt8 := dkwX5_makeNow_2 ++ dktX5_makeNow_3
def dkwX5_makeNow_1 : List UInt8 := [96, 28, 79, 42, 180, 0, 64, 21, 5, 5, 96, 29, 79, 42, 180, 0, 64, 21, 5, 6, 96, 21, 4, 79]
abbrev dktX5_makeNow_1 : List UInt8 := dkwX5_makeNow_1 ++ dktX5_makeNow_2
def dkwX5_makeNow_0 : List UInt8 := [16, 9, 42, 180, 1, 0, 104, 54, 5, 42, 180, 0, 64, 21, 5, 27, 79, 42, 180, 0, 64, 21, 5, 4]
abbrev dktX5_makeNow_0 : List UInt8 := dkwX5_makeNow_0 ++ dktX5_makeNow_1
theorem dksX5_makeNow_0 : cX5_makeNow.data.toList.drop 0 = dktX5_makeNow_0 := by decide +kernel
theorem dksX5_makeNow_1 : cX5_makeNow.data.toList.drop 24 = dktX5_makeNow_1 := dk_seg dksX5_makeNow_0 24 rfl rfl
theorem dksX5_makeNow_2 : cX5_makeNow.data.toList.drop 48 = dktX5_makeNow_2 := dk_seg dksX5_makeNow_1 24 rfl rfl
theorem dksX5_makeNow_3 : cX5_makeNow.data.toList.drop 72 = dktX5_makeNow_3 := dk_seg dksX5_makeNow_2 24 rfl rfl
theorem dksX5_makeNow_4 : cX5_makeNow.data.toList.drop 95 = dktX5_makeNow_4 := dk_seg dksX5_makeNow_3 23 rfl rfl
theorem dksX5_makeNow_5 : cX5_makeNow.data.toList.drop 118 = dktX5_makeNow_5 := dk_seg dksX5_makeNow_4 23 rfl rfl
theorem dksX5_makeNow_6 : cX5_makeNow.data.toList.drop 141 = dktX5_makeNow_6 := dk_seg dksX5_makeNow_5 23 rfl rfl
theorem dX5_makeNow_0 : decode cX5_makeNow 0 = .ok (.bipush 9, 2) := dk_16 9 (dk_at dksX5_makeNow_0 0 rfl rfl)
theorem dX5_makeNow_2 : decode cX5_makeNow 2 = .ok (.aload_n 0, 1) := dk_42 (dk_at dksX5_makeNow_0 2 rfl rfl)
theorem dX5_makeNow_3 : decode cX5_makeNow 3 = .ok (.getfield 256, 3) := dk_180 1 0 (dk_at dksX5_makeNow_0 3 rfl rfl)
theorem dX5_makeNow_6 : decode cX5_makeNow 6 = .ok (.imul, 1) := dk_104 (dk_at dksX5_makeNow_0 6 rfl rfl)
theorem dX5_makeNow_7 : decode cX5_makeNow 7 = .ok (.istore 5, 2) := dk_54 5 (dk_at dksX5_makeNow_0 7 rfl rfl)
theorem dX5_makeNow_9 : decode cX5_makeNow 9 = .ok (.aload_n 0, 1) := dk_42 (dk_at dksX5_makeNow_0 9 rfl rfl)
theorem dX5_makeNow_10 : decode cX5_makeNow 10 = .ok (.getfield 64, 3) := dk_180 0 64 (dk_at dksX5_makeNow_0 10 rfl rfl)
theorem dX5_makeNow_13 : decode cX5_makeNow 13 = .ok (.iload 5, 2) := dk_21 5 (dk_at dksX5_makeNow_0 13 rfl rfl)
theorem dX5_makeNow_15 : decode cX5_makeNow 15 = .ok (.iload_n 1, 1) := dk_27 (dk_at dksX5_makeNow_0 15 rfl rfl)
theorem dX5_makeNow_16 : decode cX5_makeNow 16 = .ok (.iastore, 1) := dk_79 (dk_at dksX5_makeNow_0 16 rfl rfl)
theorem dX5_makeNow_17 : decode cX5_makeNow 17 = .ok (.aload_n 0, 1) := dk_42 (dk_at dksX5_makeNow_0 17 rfl rfl)
theorem dX5_makeNow_18 : decode cX5_makeNow 18 = .ok (.getfield 64, 3) := dk_180 0 64 (dk_at dksX5_makeNow_0 18 rfl rfl)
theorem dX5_makeNow_21 : decode cX5_makeNow 21 = .ok (.iload 5, 2) := dk_21 5 (dk_at dksX5_makeNow_0 21 rfl rfl)
theorem dX5_makeNow_23 : decode cX5_makeNow 23 = .ok (.iconst 1, 1) := dk_4 (dk_at dksX5_makeNow_0 23 rfl rfl)
theorem dX5_makeNow_24 : decode cX5_makeNow 24 = .ok (.iadd, 1) := dk_96 (dk_at dksX5_makeNow_1 0 rfl rfl)
theorem dX5_makeNow_25 : decode cX5_makeNow 25 = .ok (.iload_n 2, 1) := dk_28 (dk_at dksX5_makeNow_1 1 rfl rfl)
theorem dX5_makeNow_26 : decode cX5_makeNow 26 = .ok (.iastore, 1) := dk_79 (dk_at dksX5_makeNow_1 2 rfl rfl)
theorem dX5_makeNow_27 : decode cX5_makeNow 27 = .ok (.aload_n 0, 1) := dk_42 (dk_at dksX5_makeNow_1 3 rfl rfl)
theorem dX5_makeNow_28 : decode cX5_makeNow 28 = .ok (.getfield 64, 3) := dk_180 0 64 (dk_at dksX5_makeNow_1 4 rfl rfl)
theorem dX5_makeNow_31 : decode cX5_makeNow 31 = .ok (.iload 5, 2) := dk_21 5 (dk_at dksX5_makeNow_1 7 rfl rfl)
theorem dX5_makeNow_33 : decode cX5_makeNow 33 = .ok (.iconst 2, 1) := dk_5 (dk_at dksX5_makeNow_1 9 rfl rfl)
theorem dX5_makeNow_34 : decode cX5_makeNow 34 = .ok (.iadd, 1) := dk_96 (dk_at dksX5_makeNow_1 10 rfl rfl)
theorem dX5_makeNow_35 : decode cX5_makeNow 35 = .ok (.iload_n 3, 1) := dk_29 (dk_at dksX5_makeNow_1 11 rfl rfl)
theorem dX5_makeNow_36 : decode cX5_makeNow 36 = .ok (.iastore, 1) := dk_79 (dk_at dksX5_makeNow_1 12 rfl rfl)
theorem dX5_makeNow_37 : decode cX5_makeNow 37 = .ok (.aload_n 0, 1) := dk_42 (dk_at dksX5_makeNow_1 13 rfl rfl)
theorem dX5_makeNow_38 : decode cX5_makeNow 38 = .ok (.getfield 64, 3) := dk_180 0 64 (dk_at dksX5_makeNow_1 14 rfl rfl)
theorem dX5_makeNow_41 : decode cX5_makeNow 41 = .ok (.iload 5, 2) := dk_21 5 (dk_at dksX5_makeNow_1 17 rfl rfl)
theorem dX5_makeNow_43 : decode cX5_makeNow 43 = .ok (.iconst 3, 1) := dk_6 (dk_at dksX5_makeNow_1 19 rfl rfl)
theorem dX5_makeNow_44 : decode cX5_makeNow 44 = .ok (.iadd, 1) := dk_96 (dk_at dksX5_makeNow_1 20 rfl rfl)
theorem dX5_makeNow_45 : decode cX5_makeNow 45 = .ok (.iload 4, 2) := dk_21 4 (dk_at dksX5_makeNow_1 21 rfl rfl)
theorem dX5_makeNow_47 : decode cX5_makeNow 47 = .ok (.iastore, 1) := dk_79 (dk_at dksX5_makeNow_1 23 rfl rfl)
theorem dX5_makeNow_48 : decode cX5_makeNow 48 = .ok (.aload_n 0, 1) := dk_42 (dk_at dksX5_makeNow_2 0 rfl rfl)
theorem dX5_makeNow_49 : decode cX5_makeNow 49 = .ok (.getfield 64, 3) := dk_180 0 64 (dk_at dksX5_makeNow_2 1 rfl rfl)
theorem dX5_makeNow_52 : decode cX5_makeNow 52 = .ok (.iload 5, 2) := dk_21 5 (dk_at dksX5_makeNow_2 4 rfl rfl)
theorem dX5_makeNow_54 : decode cX5_makeNow 54 = .ok (.iconst 5, 1) := dk_8 (dk_at dksX5_makeNow_2 6 rfl rfl)
theorem dX5_makeNow_55 : decode cX5_makeNow 55 = .ok (.iadd, 1) := dk_96 (dk_at dksX5_makeNow_2 7 rfl rfl)
theorem dX5_makeNow_56 : decode cX5_makeNow 56 = .ok (.aload_n 0, 1) := dk_42 (dk_at dksX5_makeNow_2 8 rfl rfl)
theorem dX5_makeNow_57 : decode cX5_makeNow 57 = .ok (.getfield 41, 3) := dk_180 0 41 (dk_at dksX5_makeNow_2 9 rfl rfl)
theorem dX5_makeNow_60 : decode cX5_makeNow 60 = .ok (.bipush 18, 2) := dk_16 18 (dk_at dksX5_makeNow_2 12 rfl rfl)
theorem dX5_makeNow_62 : decode cX5_makeNow 62 = .ok (.iload_n 1, 1) := dk_27 (dk_at dksX5_makeNow_2 14 rfl rfl)
theorem dX5_makeNow_63 : decode cX5_makeNow 63 = .ok (.iadd, 1) := dk_96 (dk_at dksX5_makeNow_2 15 rfl rfl)
theorem dX5_makeNow_64 : decode cX5_makeNow 64 = .ok (.iaload, 1) := dk_46 (dk_at dksX5_makeNow_2 16 rfl rfl)
theorem dX5_makeNow_65 : decode cX5_makeNow 65 = .ok (.iastore, 1) := dk_79 (dk_at dksX5_makeNow_2 17 rfl rfl)
theorem dX5_makeNow_66 : decode cX5_makeNow 66 = .ok (.aload_n 0, 1) := dk_42 (dk_at dksX5_makeNow_2 18 rfl rfl)
theorem dX5_makeNow_67 : decode cX5_makeNow 67 = .ok (.getfield 64, 3) := dk_180 0 64 (dk_at dksX5_makeNow_2 19 rfl rfl)
theorem dX5_makeNow_70 : decode cX5_makeNow 70 = .ok (.iload 5, 2) := dk_21 5 (dk_at dksX5_makeNow_2 22 rfl rfl)
theorem dX5_makeNow_72 : decode cX5_makeNow 72 = .ok (.bipush 6, 2) := dk_16 6 (dk_at dksX5_makeNow_3 0 rfl rfl)
theorem dX5_makeNow_74 : decode cX5_makeNow 74 = .ok (.iadd, 1) := dk_96 (dk_at dksX5_makeNow_3 2 rfl rfl)
theorem dX5_makeNow_75 : decode cX5_makeNow 75 = .ok (.aload_n 0, 1) := dk_42 (dk_at dksX5_makeNow_3 3 rfl rfl)
theorem dX5_makeNow_76 : decode cX5_makeNow 76 = .ok (.getfield 41, 3) := dk_180 0 41 (dk_at dksX5_makeNow_3 4 rfl rfl)
theorem dX5_makeNow_79 : decode cX5_makeNow 79 = .ok (.bipush 24, 2) := dk_16 24 (dk_at dksX5_makeNow_3 7 rfl rfl)
theorem dX5_makeNow_81 : decode cX5_makeNow 81 = .ok (.iload_n 1, 1) := dk_27 (dk_at dksX5_makeNow_3 9 rfl rfl)
theorem dX5_makeNow_82 : decode cX5_makeNow 82 = .ok (.iadd, 1) := dk_96 (dk_at dksX5_makeNow_3 10 rfl rfl)
theorem dX5_makeNow_83 : decode cX5_makeNow 83 = .ok (.iaload, 1) := dk_46 (dk_at dksX5_makeNow_3 11 rfl rfl)
theorem dX5_makeNow_84 : decode cX5_makeNow 84 = .ok (.iastore, 1) := dk_79 (dk_at dksX5_makeNow_3 12 rfl rfl)
theorem dX5_makeNow_85 : decode cX5_makeNow 85 = .ok (.aload_n 0, 1) := dk_42 (dk_at dksX5_makeNow_3 13 rfl rfl)
theorem dX5_makeNow_86 : decode cX5_makeNow 86 = .ok (.getfield 64, 3) := dk_180 0 64 (dk_at dksX5_makeNow_3 14 rfl rfl)
theorem dX5_makeNow_89 : decode cX5_makeNow 89 = .ok (.iload 5, 2) := dk_21 5 (dk_at dksX5_makeNow_3 17 rfl rfl)
theorem dX5_makeNow_91 : decode cX5_makeNow 91 = .ok (.bipush 7, 2) := dk_16 7 (dk_at dksX5_makeNow_3 19 rfl rfl)
theorem dX5_makeNow_93 : decode cX5_makeNow 93 = .ok (.iadd, 1) := dk_96 (dk_at dksX5_makeNow_3 21 rfl rfl)
theorem dX5_makeNow_94 : decode cX5_makeNow 94 = .ok (.aload_n 0, 1) := dk_42 (dk_at dksX5_makeNow_3 22 rfl rfl)
theorem dX5_makeNow_95 : decode cX5_makeNow 95 = .ok (.getfield 41, 3) := dk_180 0 41 (dk_at dksX5_makeNow_4 0 rfl rfl)
theorem dX5_makeNow_98 : decode cX5_makeNow 98 = .ok (.bipush 18, 2) := dk_16 18 (dk_at dksX5_makeNow_4 3 rfl rfl)
theorem dX5_makeNow_100 : decode cX5_makeNow 100 = .ok (.iload 4, 2) := dk_21 4 (dk_at dksX5_makeNow_4 5 rfl rfl)
theorem dX5_makeNow_102 : decode cX5_makeNow 102 = .ok (.iadd, 1) := dk_96 (dk_at dksX5_makeNow_4 7 rfl rfl)
theorem dX5_makeNow_103 : decode cX5_makeNow 103 = .ok (.iaload, 1) := dk_46 (dk_at dksX5_makeNow_4 8 rfl rfl)
theorem dX5_makeNow_104 : decode cX5_makeNow 104 = .ok (.iastore, 1) := dk_79 (dk_at dksX5_makeNow_4 9 rfl rfl)
theorem dX5_makeNow_105 : decode cX5_makeNow 105 = .ok (.aload_n 0, 1) := dk_42 (dk_at dksX5_makeNow_4 10 rfl rfl)
theorem dX5_makeNow_106 : decode cX5_makeNow 106 = .ok (.getfield 64, 3) := dk_180 0 64 (dk_at dksX5_makeNow_4 11 rfl rfl)
theorem dX5_makeNow_109 : decode cX5_makeNow 109 = .ok (.iload 5, 2) := dk_21 5 (dk_at dksX5_makeNow_4 14 rfl rfl)
theorem dX5_makeNow_111 : decode cX5_makeNow 111 = .ok (.bipush 8, 2) := dk_16 8 (dk_at dksX5_makeNow_4 16 rfl rfl)
theorem dX5_makeNow_113 : decode cX5_makeNow 113 = .ok (.iadd, 1) := dk_96 (dk_at dksX5_makeNow_4 18 rfl rfl)
theorem dX5_makeNow_114 : decode cX5_makeNow 114 = .ok (.aload_n 0, 1) := dk_42 (dk_at dksX5_makeNow_4 19 rfl rfl)
theorem dX5_makeNow_115 : decode cX5_makeNow 115 = .ok (.getfield 41, 3) := dk_180 0 41 (dk_at dksX5_makeNow_4 20 rfl rfl)
theorem dX5_makeNow_118 : decode cX5_makeNow 118 = .ok (.bipush 24, 2) := dk_16 24 (dk_at dksX5_makeNow_5 0 rfl rfl)
theorem dX5_makeNow_120 : decode cX5_makeNow 120 = .ok (.iload 4, 2) := dk_21 4 (dk_at dksX5_makeNow_5 2 rfl rfl)
theorem dX5_makeNow_122 : decode cX5_makeNow 122 = .ok (.iadd, 1) := dk_96 (dk_at dksX5_makeNow_5 4 rfl rfl)
theorem dX5_makeNow_123 : decode cX5_makeNow 123 = .ok (.iaload, 1) := dk_46 (dk_at dksX5_makeNow_5 5 rfl rfl)
theorem dX5_makeNow_124 : decode cX5_makeNow 124 = .ok (.iastore, 1) := dk_79 (dk_at dksX5_makeNow_5 6 rfl rfl)
theorem dX5_makeNow_125 : decode cX5_makeNow 125 = .ok (.aload_n 0, 1) := dk_42 (dk_at dksX5_makeNow_5 7 rfl rfl)
theorem dX5_makeNow_126 : decode cX5_makeNow 126 = .ok (.getfield 64, 3) := dk_180 0 64 (dk_at dksX5_makeNow_5 8 rfl rfl)
theorem dX5_makeNow_129 : decode cX5_makeNow 129 = .ok (.iload 5, 2) := dk_21 5 (dk_at dksX5_makeNow_5 11 rfl rfl)
theorem dX5_makeNow_131 : decode cX5_makeNow 131 = .ok (.iconst 4, 1) := dk_7 (dk_at dksX5_makeNow_5 13 rfl rfl)
theorem dX5_makeNow_132 : decode cX5_makeNow 132 = .ok (.iadd, 1) := dk_96 (dk_at dksX5_makeNow_5 14 rfl rfl)
theorem dX5_makeNow_133 : decode cX5_makeNow 133 = .ok (.aload_n 0, 1) := dk_42 (dk_at dksX5_makeNow_5 15 rfl rfl)
theorem dX5_makeNow_134 : decode cX5_makeNow 134 = .ok (.aload_n 0, 1) := dk_42 (dk_at dksX5_makeNow_5 16 rfl rfl)
theorem dX5_makeNow_135 : decode cX5_makeNow 135 = .ok (.getfield 41, 3) := dk_180 0 41 (dk_at dksX5_makeNow_5 17 rfl rfl)
theorem dX5_makeNow_138 : decode cX5_makeNow 138 = .ok (.iload_n 1, 1) := dk_27 (dk_at dksX5_makeNow_5 20 rfl rfl)
theorem dX5_makeNow_139 : decode cX5_makeNow 139 = .ok (.iload_n 2, 1) := dk_28 (dk_at dksX5_makeNow_5 21 rfl rfl)
theorem dX5_makeNow_140 : decode cX5_makeNow 140 = .ok (.iload_n 3, 1) := dk_29 (dk_at dksX5_makeNow_5 22 rfl rfl)
theorem dX5_makeNow_141 : decode cX5_makeNow 141 = .ok (.iload 4, 2) := dk_21 4 (dk_at dksX5_makeNow_6 0 rfl rfl)
theorem dX5_makeNow_143 : decode cX5_makeNow 143 = .ok (.invokevirtual 285, 3) := dk_182 1 29 (dk_at dksX5_makeNow_6 2 rfl rfl)
theorem dX5_makeNow_146 : decode cX5_makeNow 146 = .ok (.iastore, 1) := dk_79 (dk_at dksX5_makeNow_6 5 rfl rfl)
theorem dX5_makeNow_147 : decode cX5_makeNow 147 = .ok (.aload_n 0, 1) := dk_42 (dk_at dksX5_makeNow_6 6 rfl rfl)
theorem dX5_makeNow_148 : decode cX5_makeNow 148 = .ok (.dup, 1) := dk_89 (dk_at dksX5_makeNow_6 7 rfl rfl)
theorem dX5_makeNow_149 : decode cX5_makeNow 149 = .ok (.getfield 256, 3) := dk_180 1 0 (dk_at dksX5_makeNow_6 8 rfl rfl)
theorem dX5_makeNow_152 : decode cX5_makeNow 152 = .ok (.iconst 1, 1) := dk_4 (dk_at dksX5_makeNow_6 11 rfl rfl)
theorem dX5_makeNow_153 : decode cX5_makeNow 153 = .ok (.iadd, 1) := dk_96 (dk_at dksX5_makeNow_6 12 rfl rfl)
theorem dX5_makeNow_154 : decode cX5_makeNow 154 = .ok (.putfield 256, 3) := dk_181 1 0 (dk_at dksX5_makeNow_6 13 rfl rfl)
theorem dX5_makeNow_157 : decode cX5_makeNow 157 = .ok (.return_, 1) := dk_177 (dk_at dksX5_makeNow_6 16 rfl rfl)
abbrev cX5_make : ByteArray := prog_16_method_35_code
def yX5_make : MethodName := ⟨RX5, "make", "([IIIII)I"⟩
def dkwX5_make_4 : List UInt8 := [16, 24, 21, 5, 96, 42, 180, 0, 25, 5, 46, 154, 0, 7, 28, 167, 0, 4, 2, 79, 21, 6, 172]
abbrev dktX5_make_4 : List UInt8 := dkwX5_make_4 ++ []
def dkwX5_make_3 : List UInt8 := [16, 18, 28, 96, 3, 79, 43, 16, 24, 28, 96, 2, 79, 43, 16, 18, 21, 5, 96, 21, 6, 79, 43]
abbrev dktX5_make_3 : List UInt8 := dkwX5_make_3 ++ dktX5_make_4
def dkwX5_make_2 : List UInt8 := [16, 12, 28, 96, 92, 46, 21, 4, 100, 79, 43, 16, 12, 21, 5, 96, 92, 46, 21, 4, 96, 79, 43]
abbrev dktX5_make_2 : List UInt8 := dkwX5_make_2 ++ dktX5_make_3
def dkwX5_make_1 : List UInt8 := [29, 21, 7, 122, 4, 126, 4, 160, 0, 9, 43, 21, 7, 21, 5, 79, 132, 7, 1, 167, 255, 226, 43]
abbrev dktX5_make_1 : List UInt8 := dkwX5_make_1 ++ dktX5_make_2
def dkwX5_make_0 : List UInt8 := [42, 29, 182, 1, 17, 21, 4, 96, 54, 6, 3, 54, 7, 21, 7, 42, 180, 0, 25, 4, 46, 162, 0, 25]
abbrev dktX5_make_0 : List UInt8 := dkwX5_make_0 ++ dktX5_make_1
theorem dksX5_make_0 : cX5_make.data.toList.drop 0 = dktX5_make_0 := by decide +kernel
theorem dksX5_make_1 : cX5_make.data.toList.drop 24 = dktX5_make_1 := dk_seg dksX5_make_0 24 rfl rfl
theorem dksX5_make_2 : cX5_make.data.toList.drop 47 = dktX5_make_2 := dk_seg dksX5_make_1 23 rfl rfl
theorem dksX5_make_3 : cX5_make.data.toList.drop 70 = dktX5_make_3 := dk_seg dksX5_make_2 23 rfl rfl
theorem dksX5_make_4 : cX5_make.data.toList.drop 93 = dktX5_make_4 := dk_seg dksX5_make_3 23 rfl rfl
theorem dX5_make_0 : decode cX5_make 0 = .ok (.aload_n 0, 1) := dk_42 (dk_at dksX5_make_0 0 rfl rfl)
theorem dX5_make_1 : decode cX5_make 1 = .ok (.iload_n 3, 1) := dk_29 (dk_at dksX5_make_0 1 rfl rfl)
theorem dX5_make_2 : decode cX5_make 2 = .ok (.invokevirtual 273, 3) := dk_182 1 17 (dk_at dksX5_make_0 2 rfl rfl)
theorem dX5_make_5 : decode cX5_make 5 = .ok (.iload 4, 2) := dk_21 4 (dk_at dksX5_make_0 5 rfl rfl)
theorem dX5_make_7 : decode cX5_make 7 = .ok (.iadd, 1) := dk_96 (dk_at dksX5_make_0 7 rfl rfl)
theorem dX5_make_8 : decode cX5_make 8 = .ok (.istore 6, 2) := dk_54 6 (dk_at dksX5_make_0 8 rfl rfl)
theorem dX5_make_10 : decode cX5_make 10 = .ok (.iconst 0, 1) := dk_3 (dk_at dksX5_make_0 10 rfl rfl)
theorem dX5_make_11 : decode cX5_make 11 = .ok (.istore 7, 2) := dk_54 7 (dk_at dksX5_make_0 11 rfl rfl)
theorem dX5_make_13 : decode cX5_make 13 = .ok (.iload 7, 2) := dk_21 7 (dk_at dksX5_make_0 13 rfl rfl)
theorem dX5_make_15 : decode cX5_make 15 = .ok (.aload_n 0, 1) := dk_42 (dk_at dksX5_make_0 15 rfl rfl)
theorem dX5_make_16 : decode cX5_make 16 = .ok (.getfield 25, 3) := dk_180 0 25 (dk_at dksX5_make_0 16 rfl rfl)
theorem dX5_make_19 : decode cX5_make 19 = .ok (.iconst 1, 1) := dk_4 (dk_at dksX5_make_0 19 rfl rfl)
theorem dX5_make_20 : decode cX5_make 20 = .ok (.iaload, 1) := dk_46 (dk_at dksX5_make_0 20 rfl rfl)
theorem dX5_make_21 : decode cX5_make 21 = .ok (.if_icmp .ge 25, 3) := dk_162 0 25 (dk_at dksX5_make_0 21 rfl rfl)
theorem dX5_make_24 : decode cX5_make 24 = .ok (.iload_n 3, 1) := dk_29 (dk_at dksX5_make_1 0 rfl rfl)
theorem dX5_make_25 : decode cX5_make 25 = .ok (.iload 7, 2) := dk_21 7 (dk_at dksX5_make_1 1 rfl rfl)
theorem dX5_make_27 : decode cX5_make 27 = .ok (.ishr, 1) := dk_122 (dk_at dksX5_make_1 3 rfl rfl)
theorem dX5_make_28 : decode cX5_make 28 = .ok (.iconst 1, 1) := dk_4 (dk_at dksX5_make_1 4 rfl rfl)
theorem dX5_make_29 : decode cX5_make 29 = .ok (.iand, 1) := dk_126 (dk_at dksX5_make_1 5 rfl rfl)
theorem dX5_make_30 : decode cX5_make 30 = .ok (.iconst 1, 1) := dk_4 (dk_at dksX5_make_1 6 rfl rfl)
theorem dX5_make_31 : decode cX5_make 31 = .ok (.if_icmp .ne 9, 3) := dk_160 0 9 (dk_at dksX5_make_1 7 rfl rfl)
theorem dX5_make_34 : decode cX5_make 34 = .ok (.aload_n 1, 1) := dk_43 (dk_at dksX5_make_1 10 rfl rfl)
theorem dX5_make_35 : decode cX5_make 35 = .ok (.iload 7, 2) := dk_21 7 (dk_at dksX5_make_1 11 rfl rfl)
theorem dX5_make_37 : decode cX5_make 37 = .ok (.iload 5, 2) := dk_21 5 (dk_at dksX5_make_1 13 rfl rfl)
theorem dX5_make_39 : decode cX5_make 39 = .ok (.iastore, 1) := dk_79 (dk_at dksX5_make_1 15 rfl rfl)
theorem dX5_make_40 : decode cX5_make 40 = .ok (.iinc 7 1, 3) := dk_132 7 1 (dk_at dksX5_make_1 16 rfl rfl)
theorem dX5_make_43 : decode cX5_make 43 = .ok (.goto (-30), 3) := dk_167 255 226 (dk_at dksX5_make_1 19 rfl rfl)
theorem dX5_make_46 : decode cX5_make 46 = .ok (.aload_n 1, 1) := dk_43 (dk_at dksX5_make_1 22 rfl rfl)
theorem dX5_make_47 : decode cX5_make 47 = .ok (.bipush 12, 2) := dk_16 12 (dk_at dksX5_make_2 0 rfl rfl)
theorem dX5_make_49 : decode cX5_make 49 = .ok (.iload_n 2, 1) := dk_28 (dk_at dksX5_make_2 2 rfl rfl)
theorem dX5_make_50 : decode cX5_make 50 = .ok (.iadd, 1) := dk_96 (dk_at dksX5_make_2 3 rfl rfl)
theorem dX5_make_51 : decode cX5_make 51 = .ok (.dup2, 1) := dk_92 (dk_at dksX5_make_2 4 rfl rfl)
theorem dX5_make_52 : decode cX5_make 52 = .ok (.iaload, 1) := dk_46 (dk_at dksX5_make_2 5 rfl rfl)
theorem dX5_make_53 : decode cX5_make 53 = .ok (.iload 4, 2) := dk_21 4 (dk_at dksX5_make_2 6 rfl rfl)
theorem dX5_make_55 : decode cX5_make 55 = .ok (.isub, 1) := dk_100 (dk_at dksX5_make_2 8 rfl rfl)
theorem dX5_make_56 : decode cX5_make 56 = .ok (.iastore, 1) := dk_79 (dk_at dksX5_make_2 9 rfl rfl)
theorem dX5_make_57 : decode cX5_make 57 = .ok (.aload_n 1, 1) := dk_43 (dk_at dksX5_make_2 10 rfl rfl)
theorem dX5_make_58 : decode cX5_make 58 = .ok (.bipush 12, 2) := dk_16 12 (dk_at dksX5_make_2 11 rfl rfl)
theorem dX5_make_60 : decode cX5_make 60 = .ok (.iload 5, 2) := dk_21 5 (dk_at dksX5_make_2 13 rfl rfl)
theorem dX5_make_62 : decode cX5_make 62 = .ok (.iadd, 1) := dk_96 (dk_at dksX5_make_2 15 rfl rfl)
theorem dX5_make_63 : decode cX5_make 63 = .ok (.dup2, 1) := dk_92 (dk_at dksX5_make_2 16 rfl rfl)
theorem dX5_make_64 : decode cX5_make 64 = .ok (.iaload, 1) := dk_46 (dk_at dksX5_make_2 17 rfl rfl)
theorem dX5_make_65 : decode cX5_make 65 = .ok (.iload 4, 2) := dk_21 4 (dk_at dksX5_make_2 18 rfl rfl)
theorem dX5_make_67 : decode cX5_make 67 = .ok (.iadd, 1) := dk_96 (dk_at dksX5_make_2 20 rfl rfl)
theorem dX5_make_68 : decode cX5_make 68 = .ok (.iastore, 1) := dk_79 (dk_at dksX5_make_2 21 rfl rfl)
theorem dX5_make_69 : decode cX5_make 69 = .ok (.aload_n 1, 1) := dk_43 (dk_at dksX5_make_2 22 rfl rfl)
theorem dX5_make_70 : decode cX5_make 70 = .ok (.bipush 18, 2) := dk_16 18 (dk_at dksX5_make_3 0 rfl rfl)
theorem dX5_make_72 : decode cX5_make 72 = .ok (.iload_n 2, 1) := dk_28 (dk_at dksX5_make_3 2 rfl rfl)
theorem dX5_make_73 : decode cX5_make 73 = .ok (.iadd, 1) := dk_96 (dk_at dksX5_make_3 3 rfl rfl)
theorem dX5_make_74 : decode cX5_make 74 = .ok (.iconst 0, 1) := dk_3 (dk_at dksX5_make_3 4 rfl rfl)
theorem dX5_make_75 : decode cX5_make 75 = .ok (.iastore, 1) := dk_79 (dk_at dksX5_make_3 5 rfl rfl)
theorem dX5_make_76 : decode cX5_make 76 = .ok (.aload_n 1, 1) := dk_43 (dk_at dksX5_make_3 6 rfl rfl)
theorem dX5_make_77 : decode cX5_make 77 = .ok (.bipush 24, 2) := dk_16 24 (dk_at dksX5_make_3 7 rfl rfl)
theorem dX5_make_79 : decode cX5_make 79 = .ok (.iload_n 2, 1) := dk_28 (dk_at dksX5_make_3 9 rfl rfl)
theorem dX5_make_80 : decode cX5_make 80 = .ok (.iadd, 1) := dk_96 (dk_at dksX5_make_3 10 rfl rfl)
theorem dX5_make_81 : decode cX5_make 81 = .ok (.iconst (-1), 1) := dk_2 (dk_at dksX5_make_3 11 rfl rfl)
theorem dX5_make_82 : decode cX5_make 82 = .ok (.iastore, 1) := dk_79 (dk_at dksX5_make_3 12 rfl rfl)
theorem dX5_make_83 : decode cX5_make 83 = .ok (.aload_n 1, 1) := dk_43 (dk_at dksX5_make_3 13 rfl rfl)
theorem dX5_make_84 : decode cX5_make 84 = .ok (.bipush 18, 2) := dk_16 18 (dk_at dksX5_make_3 14 rfl rfl)
theorem dX5_make_86 : decode cX5_make 86 = .ok (.iload 5, 2) := dk_21 5 (dk_at dksX5_make_3 16 rfl rfl)
theorem dX5_make_88 : decode cX5_make 88 = .ok (.iadd, 1) := dk_96 (dk_at dksX5_make_3 18 rfl rfl)
theorem dX5_make_89 : decode cX5_make 89 = .ok (.iload 6, 2) := dk_21 6 (dk_at dksX5_make_3 19 rfl rfl)
theorem dX5_make_91 : decode cX5_make 91 = .ok (.iastore, 1) := dk_79 (dk_at dksX5_make_3 21 rfl rfl)
theorem dX5_make_92 : decode cX5_make 92 = .ok (.aload_n 1, 1) := dk_43 (dk_at dksX5_make_3 22 rfl rfl)
theorem dX5_make_93 : decode cX5_make 93 = .ok (.bipush 24, 2) := dk_16 24 (dk_at dksX5_make_4 0 rfl rfl)
theorem dX5_make_95 : decode cX5_make 95 = .ok (.iload 5, 2) := dk_21 5 (dk_at dksX5_make_4 2 rfl rfl)
theorem dX5_make_97 : decode cX5_make 97 = .ok (.iadd, 1) := dk_96 (dk_at dksX5_make_4 4 rfl rfl)
theorem dX5_make_98 : decode cX5_make 98 = .ok (.aload_n 0, 1) := dk_42 (dk_at dksX5_make_4 5 rfl rfl)
theorem dX5_make_99 : decode cX5_make 99 = .ok (.getfield 25, 3) := dk_180 0 25 (dk_at dksX5_make_4 6 rfl rfl)
theorem dX5_make_102 : decode cX5_make 102 = .ok (.iconst 2, 1) := dk_5 (dk_at dksX5_make_4 9 rfl rfl)
theorem dX5_make_103 : decode cX5_make 103 = .ok (.iaload, 1) := dk_46 (dk_at dksX5_make_4 10 rfl rfl)
theorem dX5_make_104 : decode cX5_make 104 = .ok (.ifCond .ne 7, 3) := dk_154 0 7 (dk_at dksX5_make_4 11 rfl rfl)
theorem dX5_make_107 : decode cX5_make 107 = .ok (.iload_n 2, 1) := dk_28 (dk_at dksX5_make_4 14 rfl rfl)
theorem dX5_make_108 : decode cX5_make 108 = .ok (.goto 4, 3) := dk_167 0 4 (dk_at dksX5_make_4 15 rfl rfl)
theorem dX5_make_111 : decode cX5_make 111 = .ok (.iconst (-1), 1) := dk_2 (dk_at dksX5_make_4 18 rfl rfl)
theorem dX5_make_112 : decode cX5_make 112 = .ok (.iastore, 1) := dk_79 (dk_at dksX5_make_4 19 rfl rfl)
theorem dX5_make_113 : decode cX5_make 113 = .ok (.iload 6, 2) := dk_21 6 (dk_at dksX5_make_4 20 rfl rfl)
theorem dX5_make_115 : decode cX5_make 115 = .ok (.ireturn, 1) := dk_172 (dk_at dksX5_make_4 22 rfl rfl)
abbrev cX5_undo : ByteArray := prog_16_method_39_code
def yX5_undo : MethodName := ⟨RX5, "undo", "()I"⟩
def dkwX5_undo_8 : List UInt8 := [180, 0, 41, 16, 24, 29, 96, 42, 180, 0, 64, 27, 16, 8, 96, 46, 79, 42, 180, 1, 0, 172]
abbrev dktX5_undo_8 : List UInt8 := dkwX5_undo_8 ++ []
def dkwX5_undo_7 : List UInt8 := [96, 46, 79, 42, 180, 0, 41, 16, 18, 29, 96, 42, 180, 0, 64, 27, 16, 7, 96, 46, 79, 42]
abbrev dktX5_undo_7 : List UInt8 := dkwX5_undo_7 ++ dktX5_undo_8
def dkwX5_undo_6 : List UInt8 := [42, 180, 0, 64, 27, 8, 96, 46, 79, 42, 180, 0, 41, 16, 24, 28, 96, 42, 180, 0, 64, 27, 16, 6]
abbrev dktX5_undo_6 : List UInt8 := dkwX5_undo_6 ++ dktX5_undo_7
def dkwX5_undo_5 : List UInt8 := [16, 12, 29, 96, 92, 46, 42, 180, 0, 64, 27, 5, 96, 46, 100, 79, 42, 180, 0, 41, 16, 18, 28, 96]
abbrev dktX5_undo_5 : List UInt8 := dkwX5_undo_5 ++ dktX5_undo_6
def dkwX5_undo_4 : List UInt8 := [180, 0, 41, 16, 12, 28, 96, 92, 46, 42, 180, 0, 64, 27, 5, 96, 46, 96, 79, 42, 180, 0, 41]
abbrev dktX5_undo_4 : List UInt8 := dkwX5_undo_4 ++ dktX5_undo_5
def dkwX5_undo_3 : List UInt8 := [122, 4, 126, 4, 160, 0, 11, 42, 180, 0, 41, 21, 4, 28, 79, 132, 4, 1, 167, 255, 217, 42]
abbrev dktX5_undo_3 : List UInt8 := dkwX5_undo_3 ++ dktX5_undo_4
def dkwX5_undo_2 : List UInt8 := [3, 54, 4, 21, 4, 42, 180, 0, 25, 4, 46, 162, 0, 34, 42, 180, 0, 64, 27, 4, 96, 46, 21, 4]
abbrev dktX5_undo_2 : List UInt8 := dkwX5_undo_2 ++ dktX5_undo_3
def dkwX5_undo_1 : List UInt8 := [16, 9, 42, 180, 1, 0, 104, 60, 42, 180, 0, 64, 27, 46, 61, 42, 180, 0, 64, 27, 6, 96, 46, 62]
abbrev dktX5_undo_1 : List UInt8 := dkwX5_undo_1 ++ dktX5_undo_2
def dkwX5_undo_0 : List UInt8 := [42, 3, 181, 0, 128, 42, 180, 1, 0, 154, 0, 5, 2, 172, 42, 89, 180, 1, 0, 4, 100, 181, 1, 0]
abbrev dktX5_undo_0 : List UInt8 := dkwX5_undo_0 ++ dktX5_undo_1
theorem dksX5_undo_0 : cX5_undo.data.toList.drop 0 = dktX5_undo_0 := by decide +kernel
theorem dksX5_undo_1 : cX5_undo.data.toList.drop 24 = dktX5_undo_1 := dk_seg dksX5_undo_0 24 rfl rfl
theorem dksX5_undo_2 : cX5_undo.data.toList.drop 48 = dktX5_undo_2 := dk_seg dksX5_undo_1 24 rfl rfl
theorem dksX5_undo_3 : cX5_undo.data.toList.drop 72 = dktX5_undo_3 := dk_seg dksX5_undo_2 24 rfl rfl
theorem dksX5_undo_4 : cX5_undo.data.toList.drop 94 = dktX5_undo_4 := dk_seg dksX5_undo_3 22 rfl rfl
theorem dksX5_undo_5 : cX5_undo.data.toList.drop 117 = dktX5_undo_5 := dk_seg dksX5_undo_4 23 rfl rfl
theorem dksX5_undo_6 : cX5_undo.data.toList.drop 141 = dktX5_undo_6 := dk_seg dksX5_undo_5 24 rfl rfl
theorem dksX5_undo_7 : cX5_undo.data.toList.drop 165 = dktX5_undo_7 := dk_seg dksX5_undo_6 24 rfl rfl
theorem dksX5_undo_8 : cX5_undo.data.toList.drop 187 = dktX5_undo_8 := dk_seg dksX5_undo_7 22 rfl rfl
theorem dX5_undo_0 : decode cX5_undo 0 = .ok (.aload_n 0, 1) := dk_42 (dk_at dksX5_undo_0 0 rfl rfl)
theorem dX5_undo_1 : decode cX5_undo 1 = .ok (.iconst 0, 1) := dk_3 (dk_at dksX5_undo_0 1 rfl rfl)
theorem dX5_undo_2 : decode cX5_undo 2 = .ok (.putfield 128, 3) := dk_181 0 128 (dk_at dksX5_undo_0 2 rfl rfl)
theorem dX5_undo_5 : decode cX5_undo 5 = .ok (.aload_n 0, 1) := dk_42 (dk_at dksX5_undo_0 5 rfl rfl)
theorem dX5_undo_6 : decode cX5_undo 6 = .ok (.getfield 256, 3) := dk_180 1 0 (dk_at dksX5_undo_0 6 rfl rfl)
theorem dX5_undo_9 : decode cX5_undo 9 = .ok (.ifCond .ne 5, 3) := dk_154 0 5 (dk_at dksX5_undo_0 9 rfl rfl)
theorem dX5_undo_12 : decode cX5_undo 12 = .ok (.iconst (-1), 1) := dk_2 (dk_at dksX5_undo_0 12 rfl rfl)
theorem dX5_undo_13 : decode cX5_undo 13 = .ok (.ireturn, 1) := dk_172 (dk_at dksX5_undo_0 13 rfl rfl)
theorem dX5_undo_14 : decode cX5_undo 14 = .ok (.aload_n 0, 1) := dk_42 (dk_at dksX5_undo_0 14 rfl rfl)
theorem dX5_undo_15 : decode cX5_undo 15 = .ok (.dup, 1) := dk_89 (dk_at dksX5_undo_0 15 rfl rfl)
theorem dX5_undo_16 : decode cX5_undo 16 = .ok (.getfield 256, 3) := dk_180 1 0 (dk_at dksX5_undo_0 16 rfl rfl)
theorem dX5_undo_19 : decode cX5_undo 19 = .ok (.iconst 1, 1) := dk_4 (dk_at dksX5_undo_0 19 rfl rfl)
theorem dX5_undo_20 : decode cX5_undo 20 = .ok (.isub, 1) := dk_100 (dk_at dksX5_undo_0 20 rfl rfl)
theorem dX5_undo_21 : decode cX5_undo 21 = .ok (.putfield 256, 3) := dk_181 1 0 (dk_at dksX5_undo_0 21 rfl rfl)
theorem dX5_undo_24 : decode cX5_undo 24 = .ok (.bipush 9, 2) := dk_16 9 (dk_at dksX5_undo_1 0 rfl rfl)
theorem dX5_undo_26 : decode cX5_undo 26 = .ok (.aload_n 0, 1) := dk_42 (dk_at dksX5_undo_1 2 rfl rfl)
theorem dX5_undo_27 : decode cX5_undo 27 = .ok (.getfield 256, 3) := dk_180 1 0 (dk_at dksX5_undo_1 3 rfl rfl)
theorem dX5_undo_30 : decode cX5_undo 30 = .ok (.imul, 1) := dk_104 (dk_at dksX5_undo_1 6 rfl rfl)
theorem dX5_undo_31 : decode cX5_undo 31 = .ok (.istore_n 1, 1) := dk_60 (dk_at dksX5_undo_1 7 rfl rfl)
theorem dX5_undo_32 : decode cX5_undo 32 = .ok (.aload_n 0, 1) := dk_42 (dk_at dksX5_undo_1 8 rfl rfl)
theorem dX5_undo_33 : decode cX5_undo 33 = .ok (.getfield 64, 3) := dk_180 0 64 (dk_at dksX5_undo_1 9 rfl rfl)
theorem dX5_undo_36 : decode cX5_undo 36 = .ok (.iload_n 1, 1) := dk_27 (dk_at dksX5_undo_1 12 rfl rfl)
theorem dX5_undo_37 : decode cX5_undo 37 = .ok (.iaload, 1) := dk_46 (dk_at dksX5_undo_1 13 rfl rfl)
theorem dX5_undo_38 : decode cX5_undo 38 = .ok (.istore_n 2, 1) := dk_61 (dk_at dksX5_undo_1 14 rfl rfl)
theorem dX5_undo_39 : decode cX5_undo 39 = .ok (.aload_n 0, 1) := dk_42 (dk_at dksX5_undo_1 15 rfl rfl)
theorem dX5_undo_40 : decode cX5_undo 40 = .ok (.getfield 64, 3) := dk_180 0 64 (dk_at dksX5_undo_1 16 rfl rfl)
theorem dX5_undo_43 : decode cX5_undo 43 = .ok (.iload_n 1, 1) := dk_27 (dk_at dksX5_undo_1 19 rfl rfl)
theorem dX5_undo_44 : decode cX5_undo 44 = .ok (.iconst 3, 1) := dk_6 (dk_at dksX5_undo_1 20 rfl rfl)
theorem dX5_undo_45 : decode cX5_undo 45 = .ok (.iadd, 1) := dk_96 (dk_at dksX5_undo_1 21 rfl rfl)
theorem dX5_undo_46 : decode cX5_undo 46 = .ok (.iaload, 1) := dk_46 (dk_at dksX5_undo_1 22 rfl rfl)
theorem dX5_undo_47 : decode cX5_undo 47 = .ok (.istore_n 3, 1) := dk_62 (dk_at dksX5_undo_1 23 rfl rfl)
theorem dX5_undo_48 : decode cX5_undo 48 = .ok (.iconst 0, 1) := dk_3 (dk_at dksX5_undo_2 0 rfl rfl)
theorem dX5_undo_49 : decode cX5_undo 49 = .ok (.istore 4, 2) := dk_54 4 (dk_at dksX5_undo_2 1 rfl rfl)
theorem dX5_undo_51 : decode cX5_undo 51 = .ok (.iload 4, 2) := dk_21 4 (dk_at dksX5_undo_2 3 rfl rfl)
theorem dX5_undo_53 : decode cX5_undo 53 = .ok (.aload_n 0, 1) := dk_42 (dk_at dksX5_undo_2 5 rfl rfl)
theorem dX5_undo_54 : decode cX5_undo 54 = .ok (.getfield 25, 3) := dk_180 0 25 (dk_at dksX5_undo_2 6 rfl rfl)
theorem dX5_undo_57 : decode cX5_undo 57 = .ok (.iconst 1, 1) := dk_4 (dk_at dksX5_undo_2 9 rfl rfl)
theorem dX5_undo_58 : decode cX5_undo 58 = .ok (.iaload, 1) := dk_46 (dk_at dksX5_undo_2 10 rfl rfl)
theorem dX5_undo_59 : decode cX5_undo 59 = .ok (.if_icmp .ge 34, 3) := dk_162 0 34 (dk_at dksX5_undo_2 11 rfl rfl)
theorem dX5_undo_62 : decode cX5_undo 62 = .ok (.aload_n 0, 1) := dk_42 (dk_at dksX5_undo_2 14 rfl rfl)
theorem dX5_undo_63 : decode cX5_undo 63 = .ok (.getfield 64, 3) := dk_180 0 64 (dk_at dksX5_undo_2 15 rfl rfl)
theorem dX5_undo_66 : decode cX5_undo 66 = .ok (.iload_n 1, 1) := dk_27 (dk_at dksX5_undo_2 18 rfl rfl)
theorem dX5_undo_67 : decode cX5_undo 67 = .ok (.iconst 1, 1) := dk_4 (dk_at dksX5_undo_2 19 rfl rfl)
theorem dX5_undo_68 : decode cX5_undo 68 = .ok (.iadd, 1) := dk_96 (dk_at dksX5_undo_2 20 rfl rfl)
theorem dX5_undo_69 : decode cX5_undo 69 = .ok (.iaload, 1) := dk_46 (dk_at dksX5_undo_2 21 rfl rfl)
theorem dX5_undo_70 : decode cX5_undo 70 = .ok (.iload 4, 2) := dk_21 4 (dk_at dksX5_undo_2 22 rfl rfl)
theorem dX5_undo_72 : decode cX5_undo 72 = .ok (.ishr, 1) := dk_122 (dk_at dksX5_undo_3 0 rfl rfl)
theorem dX5_undo_73 : decode cX5_undo 73 = .ok (.iconst 1, 1) := dk_4 (dk_at dksX5_undo_3 1 rfl rfl)
theorem dX5_undo_74 : decode cX5_undo 74 = .ok (.iand, 1) := dk_126 (dk_at dksX5_undo_3 2 rfl rfl)
theorem dX5_undo_75 : decode cX5_undo 75 = .ok (.iconst 1, 1) := dk_4 (dk_at dksX5_undo_3 3 rfl rfl)
theorem dX5_undo_76 : decode cX5_undo 76 = .ok (.if_icmp .ne 11, 3) := dk_160 0 11 (dk_at dksX5_undo_3 4 rfl rfl)
theorem dX5_undo_79 : decode cX5_undo 79 = .ok (.aload_n 0, 1) := dk_42 (dk_at dksX5_undo_3 7 rfl rfl)
theorem dX5_undo_80 : decode cX5_undo 80 = .ok (.getfield 41, 3) := dk_180 0 41 (dk_at dksX5_undo_3 8 rfl rfl)
theorem dX5_undo_83 : decode cX5_undo 83 = .ok (.iload 4, 2) := dk_21 4 (dk_at dksX5_undo_3 11 rfl rfl)
theorem dX5_undo_85 : decode cX5_undo 85 = .ok (.iload_n 2, 1) := dk_28 (dk_at dksX5_undo_3 13 rfl rfl)
theorem dX5_undo_86 : decode cX5_undo 86 = .ok (.iastore, 1) := dk_79 (dk_at dksX5_undo_3 14 rfl rfl)
theorem dX5_undo_87 : decode cX5_undo 87 = .ok (.iinc 4 1, 3) := dk_132 4 1 (dk_at dksX5_undo_3 15 rfl rfl)
theorem dX5_undo_90 : decode cX5_undo 90 = .ok (.goto (-39), 3) := dk_167 255 217 (dk_at dksX5_undo_3 18 rfl rfl)
theorem dX5_undo_93 : decode cX5_undo 93 = .ok (.aload_n 0, 1) := dk_42 (dk_at dksX5_undo_3 21 rfl rfl)
theorem dX5_undo_94 : decode cX5_undo 94 = .ok (.getfield 41, 3) := dk_180 0 41 (dk_at dksX5_undo_4 0 rfl rfl)
theorem dX5_undo_97 : decode cX5_undo 97 = .ok (.bipush 12, 2) := dk_16 12 (dk_at dksX5_undo_4 3 rfl rfl)
theorem dX5_undo_99 : decode cX5_undo 99 = .ok (.iload_n 2, 1) := dk_28 (dk_at dksX5_undo_4 5 rfl rfl)
theorem dX5_undo_100 : decode cX5_undo 100 = .ok (.iadd, 1) := dk_96 (dk_at dksX5_undo_4 6 rfl rfl)
theorem dX5_undo_101 : decode cX5_undo 101 = .ok (.dup2, 1) := dk_92 (dk_at dksX5_undo_4 7 rfl rfl)
theorem dX5_undo_102 : decode cX5_undo 102 = .ok (.iaload, 1) := dk_46 (dk_at dksX5_undo_4 8 rfl rfl)
theorem dX5_undo_103 : decode cX5_undo 103 = .ok (.aload_n 0, 1) := dk_42 (dk_at dksX5_undo_4 9 rfl rfl)
theorem dX5_undo_104 : decode cX5_undo 104 = .ok (.getfield 64, 3) := dk_180 0 64 (dk_at dksX5_undo_4 10 rfl rfl)
theorem dX5_undo_107 : decode cX5_undo 107 = .ok (.iload_n 1, 1) := dk_27 (dk_at dksX5_undo_4 13 rfl rfl)
theorem dX5_undo_108 : decode cX5_undo 108 = .ok (.iconst 2, 1) := dk_5 (dk_at dksX5_undo_4 14 rfl rfl)
theorem dX5_undo_109 : decode cX5_undo 109 = .ok (.iadd, 1) := dk_96 (dk_at dksX5_undo_4 15 rfl rfl)
theorem dX5_undo_110 : decode cX5_undo 110 = .ok (.iaload, 1) := dk_46 (dk_at dksX5_undo_4 16 rfl rfl)
theorem dX5_undo_111 : decode cX5_undo 111 = .ok (.iadd, 1) := dk_96 (dk_at dksX5_undo_4 17 rfl rfl)
theorem dX5_undo_112 : decode cX5_undo 112 = .ok (.iastore, 1) := dk_79 (dk_at dksX5_undo_4 18 rfl rfl)
theorem dX5_undo_113 : decode cX5_undo 113 = .ok (.aload_n 0, 1) := dk_42 (dk_at dksX5_undo_4 19 rfl rfl)
theorem dX5_undo_114 : decode cX5_undo 114 = .ok (.getfield 41, 3) := dk_180 0 41 (dk_at dksX5_undo_4 20 rfl rfl)
theorem dX5_undo_117 : decode cX5_undo 117 = .ok (.bipush 12, 2) := dk_16 12 (dk_at dksX5_undo_5 0 rfl rfl)
theorem dX5_undo_119 : decode cX5_undo 119 = .ok (.iload_n 3, 1) := dk_29 (dk_at dksX5_undo_5 2 rfl rfl)
theorem dX5_undo_120 : decode cX5_undo 120 = .ok (.iadd, 1) := dk_96 (dk_at dksX5_undo_5 3 rfl rfl)
theorem dX5_undo_121 : decode cX5_undo 121 = .ok (.dup2, 1) := dk_92 (dk_at dksX5_undo_5 4 rfl rfl)
theorem dX5_undo_122 : decode cX5_undo 122 = .ok (.iaload, 1) := dk_46 (dk_at dksX5_undo_5 5 rfl rfl)
theorem dX5_undo_123 : decode cX5_undo 123 = .ok (.aload_n 0, 1) := dk_42 (dk_at dksX5_undo_5 6 rfl rfl)
theorem dX5_undo_124 : decode cX5_undo 124 = .ok (.getfield 64, 3) := dk_180 0 64 (dk_at dksX5_undo_5 7 rfl rfl)
theorem dX5_undo_127 : decode cX5_undo 127 = .ok (.iload_n 1, 1) := dk_27 (dk_at dksX5_undo_5 10 rfl rfl)
theorem dX5_undo_128 : decode cX5_undo 128 = .ok (.iconst 2, 1) := dk_5 (dk_at dksX5_undo_5 11 rfl rfl)
theorem dX5_undo_129 : decode cX5_undo 129 = .ok (.iadd, 1) := dk_96 (dk_at dksX5_undo_5 12 rfl rfl)
theorem dX5_undo_130 : decode cX5_undo 130 = .ok (.iaload, 1) := dk_46 (dk_at dksX5_undo_5 13 rfl rfl)
theorem dX5_undo_131 : decode cX5_undo 131 = .ok (.isub, 1) := dk_100 (dk_at dksX5_undo_5 14 rfl rfl)
theorem dX5_undo_132 : decode cX5_undo 132 = .ok (.iastore, 1) := dk_79 (dk_at dksX5_undo_5 15 rfl rfl)
theorem dX5_undo_133 : decode cX5_undo 133 = .ok (.aload_n 0, 1) := dk_42 (dk_at dksX5_undo_5 16 rfl rfl)
theorem dX5_undo_134 : decode cX5_undo 134 = .ok (.getfield 41, 3) := dk_180 0 41 (dk_at dksX5_undo_5 17 rfl rfl)
theorem dX5_undo_137 : decode cX5_undo 137 = .ok (.bipush 18, 2) := dk_16 18 (dk_at dksX5_undo_5 20 rfl rfl)
theorem dX5_undo_139 : decode cX5_undo 139 = .ok (.iload_n 2, 1) := dk_28 (dk_at dksX5_undo_5 22 rfl rfl)
theorem dX5_undo_140 : decode cX5_undo 140 = .ok (.iadd, 1) := dk_96 (dk_at dksX5_undo_5 23 rfl rfl)
theorem dX5_undo_141 : decode cX5_undo 141 = .ok (.aload_n 0, 1) := dk_42 (dk_at dksX5_undo_6 0 rfl rfl)
theorem dX5_undo_142 : decode cX5_undo 142 = .ok (.getfield 64, 3) := dk_180 0 64 (dk_at dksX5_undo_6 1 rfl rfl)
theorem dX5_undo_145 : decode cX5_undo 145 = .ok (.iload_n 1, 1) := dk_27 (dk_at dksX5_undo_6 4 rfl rfl)
theorem dX5_undo_146 : decode cX5_undo 146 = .ok (.iconst 5, 1) := dk_8 (dk_at dksX5_undo_6 5 rfl rfl)
theorem dX5_undo_147 : decode cX5_undo 147 = .ok (.iadd, 1) := dk_96 (dk_at dksX5_undo_6 6 rfl rfl)
theorem dX5_undo_148 : decode cX5_undo 148 = .ok (.iaload, 1) := dk_46 (dk_at dksX5_undo_6 7 rfl rfl)
theorem dX5_undo_149 : decode cX5_undo 149 = .ok (.iastore, 1) := dk_79 (dk_at dksX5_undo_6 8 rfl rfl)
theorem dX5_undo_150 : decode cX5_undo 150 = .ok (.aload_n 0, 1) := dk_42 (dk_at dksX5_undo_6 9 rfl rfl)
theorem dX5_undo_151 : decode cX5_undo 151 = .ok (.getfield 41, 3) := dk_180 0 41 (dk_at dksX5_undo_6 10 rfl rfl)
theorem dX5_undo_154 : decode cX5_undo 154 = .ok (.bipush 24, 2) := dk_16 24 (dk_at dksX5_undo_6 13 rfl rfl)
theorem dX5_undo_156 : decode cX5_undo 156 = .ok (.iload_n 2, 1) := dk_28 (dk_at dksX5_undo_6 15 rfl rfl)
theorem dX5_undo_157 : decode cX5_undo 157 = .ok (.iadd, 1) := dk_96 (dk_at dksX5_undo_6 16 rfl rfl)
theorem dX5_undo_158 : decode cX5_undo 158 = .ok (.aload_n 0, 1) := dk_42 (dk_at dksX5_undo_6 17 rfl rfl)
theorem dX5_undo_159 : decode cX5_undo 159 = .ok (.getfield 64, 3) := dk_180 0 64 (dk_at dksX5_undo_6 18 rfl rfl)
theorem dX5_undo_162 : decode cX5_undo 162 = .ok (.iload_n 1, 1) := dk_27 (dk_at dksX5_undo_6 21 rfl rfl)
theorem dX5_undo_163 : decode cX5_undo 163 = .ok (.bipush 6, 2) := dk_16 6 (dk_at dksX5_undo_6 22 rfl rfl)
theorem dX5_undo_165 : decode cX5_undo 165 = .ok (.iadd, 1) := dk_96 (dk_at dksX5_undo_7 0 rfl rfl)
theorem dX5_undo_166 : decode cX5_undo 166 = .ok (.iaload, 1) := dk_46 (dk_at dksX5_undo_7 1 rfl rfl)
theorem dX5_undo_167 : decode cX5_undo 167 = .ok (.iastore, 1) := dk_79 (dk_at dksX5_undo_7 2 rfl rfl)
theorem dX5_undo_168 : decode cX5_undo 168 = .ok (.aload_n 0, 1) := dk_42 (dk_at dksX5_undo_7 3 rfl rfl)
theorem dX5_undo_169 : decode cX5_undo 169 = .ok (.getfield 41, 3) := dk_180 0 41 (dk_at dksX5_undo_7 4 rfl rfl)
theorem dX5_undo_172 : decode cX5_undo 172 = .ok (.bipush 18, 2) := dk_16 18 (dk_at dksX5_undo_7 7 rfl rfl)
theorem dX5_undo_174 : decode cX5_undo 174 = .ok (.iload_n 3, 1) := dk_29 (dk_at dksX5_undo_7 9 rfl rfl)
theorem dX5_undo_175 : decode cX5_undo 175 = .ok (.iadd, 1) := dk_96 (dk_at dksX5_undo_7 10 rfl rfl)
theorem dX5_undo_176 : decode cX5_undo 176 = .ok (.aload_n 0, 1) := dk_42 (dk_at dksX5_undo_7 11 rfl rfl)
theorem dX5_undo_177 : decode cX5_undo 177 = .ok (.getfield 64, 3) := dk_180 0 64 (dk_at dksX5_undo_7 12 rfl rfl)
theorem dX5_undo_180 : decode cX5_undo 180 = .ok (.iload_n 1, 1) := dk_27 (dk_at dksX5_undo_7 15 rfl rfl)
theorem dX5_undo_181 : decode cX5_undo 181 = .ok (.bipush 7, 2) := dk_16 7 (dk_at dksX5_undo_7 16 rfl rfl)
theorem dX5_undo_183 : decode cX5_undo 183 = .ok (.iadd, 1) := dk_96 (dk_at dksX5_undo_7 18 rfl rfl)
theorem dX5_undo_184 : decode cX5_undo 184 = .ok (.iaload, 1) := dk_46 (dk_at dksX5_undo_7 19 rfl rfl)
theorem dX5_undo_185 : decode cX5_undo 185 = .ok (.iastore, 1) := dk_79 (dk_at dksX5_undo_7 20 rfl rfl)
theorem dX5_undo_186 : decode cX5_undo 186 = .ok (.aload_n 0, 1) := dk_42 (dk_at dksX5_undo_7 21 rfl rfl)
theorem dX5_undo_187 : decode cX5_undo 187 = .ok (.getfield 41, 3) := dk_180 0 41 (dk_at dksX5_undo_8 0 rfl rfl)
theorem dX5_undo_190 : decode cX5_undo 190 = .ok (.bipush 24, 2) := dk_16 24 (dk_at dksX5_undo_8 3 rfl rfl)
theorem dX5_undo_192 : decode cX5_undo 192 = .ok (.iload_n 3, 1) := dk_29 (dk_at dksX5_undo_8 5 rfl rfl)
theorem dX5_undo_193 : decode cX5_undo 193 = .ok (.iadd, 1) := dk_96 (dk_at dksX5_undo_8 6 rfl rfl)
theorem dX5_undo_194 : decode cX5_undo 194 = .ok (.aload_n 0, 1) := dk_42 (dk_at dksX5_undo_8 7 rfl rfl)
theorem dX5_undo_195 : decode cX5_undo 195 = .ok (.getfield 64, 3) := dk_180 0 64 (dk_at dksX5_undo_8 8 rfl rfl)
theorem dX5_undo_198 : decode cX5_undo 198 = .ok (.iload_n 1, 1) := dk_27 (dk_at dksX5_undo_8 11 rfl rfl)
theorem dX5_undo_199 : decode cX5_undo 199 = .ok (.bipush 8, 2) := dk_16 8 (dk_at dksX5_undo_8 12 rfl rfl)
theorem dX5_undo_201 : decode cX5_undo 201 = .ok (.iadd, 1) := dk_96 (dk_at dksX5_undo_8 14 rfl rfl)
theorem dX5_undo_202 : decode cX5_undo 202 = .ok (.iaload, 1) := dk_46 (dk_at dksX5_undo_8 15 rfl rfl)
theorem dX5_undo_203 : decode cX5_undo 203 = .ok (.iastore, 1) := dk_79 (dk_at dksX5_undo_8 16 rfl rfl)
theorem dX5_undo_204 : decode cX5_undo 204 = .ok (.aload_n 0, 1) := dk_42 (dk_at dksX5_undo_8 17 rfl rfl)
theorem dX5_undo_205 : decode cX5_undo 205 = .ok (.getfield 256, 3) := dk_180 1 0 (dk_at dksX5_undo_8 18 rfl rfl)
theorem dX5_undo_208 : decode cX5_undo 208 = .ok (.ireturn, 1) := dk_172 (dk_at dksX5_undo_8 21 rfl rfl)
abbrev cX5_gift : ByteArray := prog_16_method_40_code
def yX5_gift : MethodName := ⟨RX5, "gift", "(II)I"⟩
def dkwX5_gift_2 : List UInt8 := [182, 0, 243, 172]
abbrev dktX5_gift_2 : List UInt8 := dkwX5_gift_2 ++ []
def dkwX5_gift_1 : List UInt8 := [184, 0, 131, 153, 0, 17, 42, 180, 0, 64, 16, 9, 27, 104, 28, 96, 46, 167, 0, 8, 42, 4]
abbrev dktX5_gift_1 : List UInt8 := dkwX5_gift_1 ++ dktX5_gift_2
def dkwX5_gift_0 : List UInt8 := [42, 3, 181, 0, 128, 27, 3, 42, 180, 1, 0, 4, 100, 184, 0, 131, 153, 0, 26, 28, 3, 7]
abbrev dktX5_gift_0 : List UInt8 := dkwX5_gift_0 ++ dktX5_gift_1
theorem dksX5_gift_0 : cX5_gift.data.toList.drop 0 = dktX5_gift_0 := by decide +kernel
theorem dksX5_gift_1 : cX5_gift.data.toList.drop 22 = dktX5_gift_1 := dk_seg dksX5_gift_0 22 rfl rfl
theorem dksX5_gift_2 : cX5_gift.data.toList.drop 44 = dktX5_gift_2 := dk_seg dksX5_gift_1 22 rfl rfl
theorem dX5_gift_0 : decode cX5_gift 0 = .ok (.aload_n 0, 1) := dk_42 (dk_at dksX5_gift_0 0 rfl rfl)
theorem dX5_gift_1 : decode cX5_gift 1 = .ok (.iconst 0, 1) := dk_3 (dk_at dksX5_gift_0 1 rfl rfl)
theorem dX5_gift_2 : decode cX5_gift 2 = .ok (.putfield 128, 3) := dk_181 0 128 (dk_at dksX5_gift_0 2 rfl rfl)
theorem dX5_gift_5 : decode cX5_gift 5 = .ok (.iload_n 1, 1) := dk_27 (dk_at dksX5_gift_0 5 rfl rfl)
theorem dX5_gift_6 : decode cX5_gift 6 = .ok (.iconst 0, 1) := dk_3 (dk_at dksX5_gift_0 6 rfl rfl)
theorem dX5_gift_7 : decode cX5_gift 7 = .ok (.aload_n 0, 1) := dk_42 (dk_at dksX5_gift_0 7 rfl rfl)
theorem dX5_gift_8 : decode cX5_gift 8 = .ok (.getfield 256, 3) := dk_180 1 0 (dk_at dksX5_gift_0 8 rfl rfl)
theorem dX5_gift_11 : decode cX5_gift 11 = .ok (.iconst 1, 1) := dk_4 (dk_at dksX5_gift_0 11 rfl rfl)
theorem dX5_gift_12 : decode cX5_gift 12 = .ok (.isub, 1) := dk_100 (dk_at dksX5_gift_0 12 rfl rfl)
theorem dX5_gift_13 : decode cX5_gift 13 = .ok (.invokestatic 131, 3) := dk_184 0 131 (dk_at dksX5_gift_0 13 rfl rfl)
theorem dX5_gift_16 : decode cX5_gift 16 = .ok (.ifCond .eq 26, 3) := dk_153 0 26 (dk_at dksX5_gift_0 16 rfl rfl)
theorem dX5_gift_19 : decode cX5_gift 19 = .ok (.iload_n 2, 1) := dk_28 (dk_at dksX5_gift_0 19 rfl rfl)
theorem dX5_gift_20 : decode cX5_gift 20 = .ok (.iconst 0, 1) := dk_3 (dk_at dksX5_gift_0 20 rfl rfl)
theorem dX5_gift_21 : decode cX5_gift 21 = .ok (.iconst 4, 1) := dk_7 (dk_at dksX5_gift_0 21 rfl rfl)
theorem dX5_gift_22 : decode cX5_gift 22 = .ok (.invokestatic 131, 3) := dk_184 0 131 (dk_at dksX5_gift_1 0 rfl rfl)
theorem dX5_gift_25 : decode cX5_gift 25 = .ok (.ifCond .eq 17, 3) := dk_153 0 17 (dk_at dksX5_gift_1 3 rfl rfl)
theorem dX5_gift_28 : decode cX5_gift 28 = .ok (.aload_n 0, 1) := dk_42 (dk_at dksX5_gift_1 6 rfl rfl)
theorem dX5_gift_29 : decode cX5_gift 29 = .ok (.getfield 64, 3) := dk_180 0 64 (dk_at dksX5_gift_1 7 rfl rfl)
theorem dX5_gift_32 : decode cX5_gift 32 = .ok (.bipush 9, 2) := dk_16 9 (dk_at dksX5_gift_1 10 rfl rfl)
theorem dX5_gift_34 : decode cX5_gift 34 = .ok (.iload_n 1, 1) := dk_27 (dk_at dksX5_gift_1 12 rfl rfl)
theorem dX5_gift_35 : decode cX5_gift 35 = .ok (.imul, 1) := dk_104 (dk_at dksX5_gift_1 13 rfl rfl)
theorem dX5_gift_36 : decode cX5_gift 36 = .ok (.iload_n 2, 1) := dk_28 (dk_at dksX5_gift_1 14 rfl rfl)
theorem dX5_gift_37 : decode cX5_gift 37 = .ok (.iadd, 1) := dk_96 (dk_at dksX5_gift_1 15 rfl rfl)
theorem dX5_gift_38 : decode cX5_gift 38 = .ok (.iaload, 1) := dk_46 (dk_at dksX5_gift_1 16 rfl rfl)
theorem dX5_gift_39 : decode cX5_gift 39 = .ok (.goto 8, 3) := dk_167 0 8 (dk_at dksX5_gift_1 17 rfl rfl)
theorem dX5_gift_42 : decode cX5_gift 42 = .ok (.aload_n 0, 1) := dk_42 (dk_at dksX5_gift_1 20 rfl rfl)
theorem dX5_gift_43 : decode cX5_gift 43 = .ok (.iconst 1, 1) := dk_4 (dk_at dksX5_gift_1 21 rfl rfl)
theorem dX5_gift_44 : decode cX5_gift 44 = .ok (.invokevirtual 243, 3) := dk_182 0 243 (dk_at dksX5_gift_2 0 rfl rfl)
theorem dX5_gift_47 : decode cX5_gift 47 = .ok (.ireturn, 1) := dk_172 (dk_at dksX5_gift_2 3 rfl rfl)
abbrev cX5_sets : ByteArray := prog_16_method_43_code
def yX5_sets : MethodName := ⟨RX5, "sets", "(I)I"⟩
def dkwX5_sets_2 : List UInt8 := [153, 0, 7, 4, 167, 0, 4, 3, 96, 61, 132, 3, 1, 167, 255, 220, 28, 172]
abbrev dktX5_sets_2 : List UInt8 := dkwX5_sets_2 ++ []
def dkwX5_sets_1 : List UInt8 := [4, 42, 180, 0, 25, 4, 46, 120, 162, 0, 30, 28, 42, 42, 180, 0, 41, 27, 29, 182, 1, 45]
abbrev dktX5_sets_1 : List UInt8 := dkwX5_sets_1 ++ dktX5_sets_2
def dkwX5_sets_0 : List UInt8 := [42, 3, 181, 0, 128, 42, 27, 182, 1, 7, 154, 0, 9, 42, 4, 182, 0, 243, 172, 3, 61, 3, 62, 29]
abbrev dktX5_sets_0 : List UInt8 := dkwX5_sets_0 ++ dktX5_sets_1
theorem dksX5_sets_0 : cX5_sets.data.toList.drop 0 = dktX5_sets_0 := by decide +kernel
theorem dksX5_sets_1 : cX5_sets.data.toList.drop 24 = dktX5_sets_1 := dk_seg dksX5_sets_0 24 rfl rfl
theorem dksX5_sets_2 : cX5_sets.data.toList.drop 46 = dktX5_sets_2 := dk_seg dksX5_sets_1 22 rfl rfl
theorem dX5_sets_0 : decode cX5_sets 0 = .ok (.aload_n 0, 1) := dk_42 (dk_at dksX5_sets_0 0 rfl rfl)
theorem dX5_sets_1 : decode cX5_sets 1 = .ok (.iconst 0, 1) := dk_3 (dk_at dksX5_sets_0 1 rfl rfl)
theorem dX5_sets_2 : decode cX5_sets 2 = .ok (.putfield 128, 3) := dk_181 0 128 (dk_at dksX5_sets_0 2 rfl rfl)
theorem dX5_sets_5 : decode cX5_sets 5 = .ok (.aload_n 0, 1) := dk_42 (dk_at dksX5_sets_0 5 rfl rfl)
theorem dX5_sets_6 : decode cX5_sets 6 = .ok (.iload_n 1, 1) := dk_27 (dk_at dksX5_sets_0 6 rfl rfl)
theorem dX5_sets_7 : decode cX5_sets 7 = .ok (.invokevirtual 263, 3) := dk_182 1 7 (dk_at dksX5_sets_0 7 rfl rfl)
theorem dX5_sets_10 : decode cX5_sets 10 = .ok (.ifCond .ne 9, 3) := dk_154 0 9 (dk_at dksX5_sets_0 10 rfl rfl)
theorem dX5_sets_13 : decode cX5_sets 13 = .ok (.aload_n 0, 1) := dk_42 (dk_at dksX5_sets_0 13 rfl rfl)
theorem dX5_sets_14 : decode cX5_sets 14 = .ok (.iconst 1, 1) := dk_4 (dk_at dksX5_sets_0 14 rfl rfl)
theorem dX5_sets_15 : decode cX5_sets 15 = .ok (.invokevirtual 243, 3) := dk_182 0 243 (dk_at dksX5_sets_0 15 rfl rfl)
theorem dX5_sets_18 : decode cX5_sets 18 = .ok (.ireturn, 1) := dk_172 (dk_at dksX5_sets_0 18 rfl rfl)
theorem dX5_sets_19 : decode cX5_sets 19 = .ok (.iconst 0, 1) := dk_3 (dk_at dksX5_sets_0 19 rfl rfl)
theorem dX5_sets_20 : decode cX5_sets 20 = .ok (.istore_n 2, 1) := dk_61 (dk_at dksX5_sets_0 20 rfl rfl)
theorem dX5_sets_21 : decode cX5_sets 21 = .ok (.iconst 0, 1) := dk_3 (dk_at dksX5_sets_0 21 rfl rfl)
theorem dX5_sets_22 : decode cX5_sets 22 = .ok (.istore_n 3, 1) := dk_62 (dk_at dksX5_sets_0 22 rfl rfl)
theorem dX5_sets_23 : decode cX5_sets 23 = .ok (.iload_n 3, 1) := dk_29 (dk_at dksX5_sets_0 23 rfl rfl)
theorem dX5_sets_24 : decode cX5_sets 24 = .ok (.iconst 1, 1) := dk_4 (dk_at dksX5_sets_1 0 rfl rfl)
theorem dX5_sets_25 : decode cX5_sets 25 = .ok (.aload_n 0, 1) := dk_42 (dk_at dksX5_sets_1 1 rfl rfl)
theorem dX5_sets_26 : decode cX5_sets 26 = .ok (.getfield 25, 3) := dk_180 0 25 (dk_at dksX5_sets_1 2 rfl rfl)
theorem dX5_sets_29 : decode cX5_sets 29 = .ok (.iconst 1, 1) := dk_4 (dk_at dksX5_sets_1 5 rfl rfl)
theorem dX5_sets_30 : decode cX5_sets 30 = .ok (.iaload, 1) := dk_46 (dk_at dksX5_sets_1 6 rfl rfl)
theorem dX5_sets_31 : decode cX5_sets 31 = .ok (.ishl, 1) := dk_120 (dk_at dksX5_sets_1 7 rfl rfl)
theorem dX5_sets_32 : decode cX5_sets 32 = .ok (.if_icmp .ge 30, 3) := dk_162 0 30 (dk_at dksX5_sets_1 8 rfl rfl)
theorem dX5_sets_35 : decode cX5_sets 35 = .ok (.iload_n 2, 1) := dk_28 (dk_at dksX5_sets_1 11 rfl rfl)
theorem dX5_sets_36 : decode cX5_sets 36 = .ok (.aload_n 0, 1) := dk_42 (dk_at dksX5_sets_1 12 rfl rfl)
theorem dX5_sets_37 : decode cX5_sets 37 = .ok (.aload_n 0, 1) := dk_42 (dk_at dksX5_sets_1 13 rfl rfl)
theorem dX5_sets_38 : decode cX5_sets 38 = .ok (.getfield 41, 3) := dk_180 0 41 (dk_at dksX5_sets_1 14 rfl rfl)
theorem dX5_sets_41 : decode cX5_sets 41 = .ok (.iload_n 1, 1) := dk_27 (dk_at dksX5_sets_1 17 rfl rfl)
theorem dX5_sets_42 : decode cX5_sets 42 = .ok (.iload_n 3, 1) := dk_29 (dk_at dksX5_sets_1 18 rfl rfl)
theorem dX5_sets_43 : decode cX5_sets 43 = .ok (.invokevirtual 301, 3) := dk_182 1 45 (dk_at dksX5_sets_1 19 rfl rfl)
theorem dX5_sets_46 : decode cX5_sets 46 = .ok (.ifCond .eq 7, 3) := dk_153 0 7 (dk_at dksX5_sets_2 0 rfl rfl)
theorem dX5_sets_49 : decode cX5_sets 49 = .ok (.iconst 1, 1) := dk_4 (dk_at dksX5_sets_2 3 rfl rfl)
theorem dX5_sets_50 : decode cX5_sets 50 = .ok (.goto 4, 3) := dk_167 0 4 (dk_at dksX5_sets_2 4 rfl rfl)
theorem dX5_sets_53 : decode cX5_sets 53 = .ok (.iconst 0, 1) := dk_3 (dk_at dksX5_sets_2 7 rfl rfl)
theorem dX5_sets_54 : decode cX5_sets 54 = .ok (.iadd, 1) := dk_96 (dk_at dksX5_sets_2 8 rfl rfl)
theorem dX5_sets_55 : decode cX5_sets 55 = .ok (.istore_n 2, 1) := dk_61 (dk_at dksX5_sets_2 9 rfl rfl)
theorem dX5_sets_56 : decode cX5_sets 56 = .ok (.iinc 3 1, 3) := dk_132 3 1 (dk_at dksX5_sets_2 10 rfl rfl)
theorem dX5_sets_59 : decode cX5_sets 59 = .ok (.goto (-36), 3) := dk_167 255 220 (dk_at dksX5_sets_2 13 rfl rfl)
theorem dX5_sets_62 : decode cX5_sets 62 = .ok (.iload_n 2, 1) := dk_28 (dk_at dksX5_sets_2 16 rfl rfl)
theorem dX5_sets_63 : decode cX5_sets 63 = .ok (.ireturn, 1) := dk_172 (dk_at dksX5_sets_2 17 rfl rfl)
abbrev cX5_fits : ByteArray := prog_16_method_42_code
def yX5_fits : MethodName := ⟨RX5, "fits", "([III)Z"⟩
def dkwX5_fits_0 : List UInt8 := [42, 43, 28, 29, 43, 16, 18, 28, 96, 46, 182, 1, 41, 2, 159, 0, 7, 4, 167, 0, 4, 3, 172]
abbrev dktX5_fits_0 : List UInt8 := dkwX5_fits_0 ++ []
theorem dksX5_fits_0 : cX5_fits.data.toList.drop 0 = dktX5_fits_0 := by decide +kernel
theorem dX5_fits_0 : decode cX5_fits 0 = .ok (.aload_n 0, 1) := dk_42 (dk_at dksX5_fits_0 0 rfl rfl)
theorem dX5_fits_1 : decode cX5_fits 1 = .ok (.aload_n 1, 1) := dk_43 (dk_at dksX5_fits_0 1 rfl rfl)
theorem dX5_fits_2 : decode cX5_fits 2 = .ok (.iload_n 2, 1) := dk_28 (dk_at dksX5_fits_0 2 rfl rfl)
theorem dX5_fits_3 : decode cX5_fits 3 = .ok (.iload_n 3, 1) := dk_29 (dk_at dksX5_fits_0 3 rfl rfl)
theorem dX5_fits_4 : decode cX5_fits 4 = .ok (.aload_n 1, 1) := dk_43 (dk_at dksX5_fits_0 4 rfl rfl)
theorem dX5_fits_5 : decode cX5_fits 5 = .ok (.bipush 18, 2) := dk_16 18 (dk_at dksX5_fits_0 5 rfl rfl)
theorem dX5_fits_7 : decode cX5_fits 7 = .ok (.iload_n 2, 1) := dk_28 (dk_at dksX5_fits_0 7 rfl rfl)
theorem dX5_fits_8 : decode cX5_fits 8 = .ok (.iadd, 1) := dk_96 (dk_at dksX5_fits_0 8 rfl rfl)
theorem dX5_fits_9 : decode cX5_fits 9 = .ok (.iaload, 1) := dk_46 (dk_at dksX5_fits_0 9 rfl rfl)
theorem dX5_fits_10 : decode cX5_fits 10 = .ok (.invokevirtual 297, 3) := dk_182 1 41 (dk_at dksX5_fits_0 10 rfl rfl)
theorem dX5_fits_13 : decode cX5_fits 13 = .ok (.iconst (-1), 1) := dk_2 (dk_at dksX5_fits_0 13 rfl rfl)
theorem dX5_fits_14 : decode cX5_fits 14 = .ok (.if_icmp .eq 7, 3) := dk_159 0 7 (dk_at dksX5_fits_0 14 rfl rfl)
theorem dX5_fits_17 : decode cX5_fits 17 = .ok (.iconst 1, 1) := dk_4 (dk_at dksX5_fits_0 17 rfl rfl)
theorem dX5_fits_18 : decode cX5_fits 18 = .ok (.goto 4, 3) := dk_167 0 4 (dk_at dksX5_fits_0 18 rfl rfl)
theorem dX5_fits_21 : decode cX5_fits 21 = .ok (.iconst 0, 1) := dk_3 (dk_at dksX5_fits_0 21 rfl rfl)
theorem dX5_fits_22 : decode cX5_fits 22 = .ok (.ireturn, 1) := dk_172 (dk_at dksX5_fits_0 22 rfl rfl)
abbrev cX5_sandFor : ByteArray := prog_16_method_41_code
def yX5_sandFor : MethodName := ⟨RX5, "sandFor", "([IIII)I"⟩
def dkwX5_sandFor_3 : List UInt8 := [43, 16, 12, 28, 96, 46, 163, 0, 8, 21, 6, 167, 0, 4, 2, 172]
abbrev dktX5_sandFor_3 : List UInt8 := dkwX5_sandFor_3 ++ []
def dkwX5_sandFor_2 : List UInt8 := [184, 1, 26, 54, 6, 21, 5, 21, 6, 96, 21, 4, 42, 180, 0, 25, 6, 46, 96, 163, 0, 19, 21, 6]
abbrev dktX5_sandFor_2 : List UInt8 := dkwX5_sandFor_2 ++ dktX5_sandFor_3
def dkwX5_sandFor_1 : List UInt8 := [126, 153, 0, 5, 2, 172, 42, 29, 182, 1, 17, 54, 5, 3, 42, 21, 4, 182, 1, 23, 21, 5, 100]
abbrev dktX5_sandFor_1 : List UInt8 := dkwX5_sandFor_1 ++ dktX5_sandFor_2
def dkwX5_sandFor_0 : List UInt8 := [21, 4, 153, 0, 26, 42, 180, 0, 25, 3, 46, 5, 161, 0, 16, 29, 42, 43, 28, 182, 1, 10, 2, 130]
abbrev dktX5_sandFor_0 : List UInt8 := dkwX5_sandFor_0 ++ dktX5_sandFor_1
theorem dksX5_sandFor_0 : cX5_sandFor.data.toList.drop 0 = dktX5_sandFor_0 := by decide +kernel
theorem dksX5_sandFor_1 : cX5_sandFor.data.toList.drop 24 = dktX5_sandFor_1 := dk_seg dksX5_sandFor_0 24 rfl rfl
theorem dksX5_sandFor_2 : cX5_sandFor.data.toList.drop 47 = dktX5_sandFor_2 := dk_seg dksX5_sandFor_1 23 rfl rfl
theorem dksX5_sandFor_3 : cX5_sandFor.data.toList.drop 71 = dktX5_sandFor_3 := dk_seg dksX5_sandFor_2 24 rfl rfl
theorem dX5_sandFor_0 : decode cX5_sandFor 0 = .ok (.iload 4, 2) := dk_21 4 (dk_at dksX5_sandFor_0 0 rfl rfl)
theorem dX5_sandFor_2 : decode cX5_sandFor 2 = .ok (.ifCond .eq 26, 3) := dk_153 0 26 (dk_at dksX5_sandFor_0 2 rfl rfl)
theorem dX5_sandFor_5 : decode cX5_sandFor 5 = .ok (.aload_n 0, 1) := dk_42 (dk_at dksX5_sandFor_0 5 rfl rfl)
theorem dX5_sandFor_6 : decode cX5_sandFor 6 = .ok (.getfield 25, 3) := dk_180 0 25 (dk_at dksX5_sandFor_0 6 rfl rfl)
theorem dX5_sandFor_9 : decode cX5_sandFor 9 = .ok (.iconst 0, 1) := dk_3 (dk_at dksX5_sandFor_0 9 rfl rfl)
theorem dX5_sandFor_10 : decode cX5_sandFor 10 = .ok (.iaload, 1) := dk_46 (dk_at dksX5_sandFor_0 10 rfl rfl)
theorem dX5_sandFor_11 : decode cX5_sandFor 11 = .ok (.iconst 2, 1) := dk_5 (dk_at dksX5_sandFor_0 11 rfl rfl)
theorem dX5_sandFor_12 : decode cX5_sandFor 12 = .ok (.if_icmp .lt 16, 3) := dk_161 0 16 (dk_at dksX5_sandFor_0 12 rfl rfl)
theorem dX5_sandFor_15 : decode cX5_sandFor 15 = .ok (.iload_n 3, 1) := dk_29 (dk_at dksX5_sandFor_0 15 rfl rfl)
theorem dX5_sandFor_16 : decode cX5_sandFor 16 = .ok (.aload_n 0, 1) := dk_42 (dk_at dksX5_sandFor_0 16 rfl rfl)
theorem dX5_sandFor_17 : decode cX5_sandFor 17 = .ok (.aload_n 1, 1) := dk_43 (dk_at dksX5_sandFor_0 17 rfl rfl)
theorem dX5_sandFor_18 : decode cX5_sandFor 18 = .ok (.iload_n 2, 1) := dk_28 (dk_at dksX5_sandFor_0 18 rfl rfl)
theorem dX5_sandFor_19 : decode cX5_sandFor 19 = .ok (.invokevirtual 266, 3) := dk_182 1 10 (dk_at dksX5_sandFor_0 19 rfl rfl)
theorem dX5_sandFor_22 : decode cX5_sandFor 22 = .ok (.iconst (-1), 1) := dk_2 (dk_at dksX5_sandFor_0 22 rfl rfl)
theorem dX5_sandFor_23 : decode cX5_sandFor 23 = .ok (.ixor, 1) := dk_130 (dk_at dksX5_sandFor_0 23 rfl rfl)
theorem dX5_sandFor_24 : decode cX5_sandFor 24 = .ok (.iand, 1) := dk_126 (dk_at dksX5_sandFor_1 0 rfl rfl)
theorem dX5_sandFor_25 : decode cX5_sandFor 25 = .ok (.ifCond .eq 5, 3) := dk_153 0 5 (dk_at dksX5_sandFor_1 1 rfl rfl)
theorem dX5_sandFor_28 : decode cX5_sandFor 28 = .ok (.iconst (-1), 1) := dk_2 (dk_at dksX5_sandFor_1 4 rfl rfl)
theorem dX5_sandFor_29 : decode cX5_sandFor 29 = .ok (.ireturn, 1) := dk_172 (dk_at dksX5_sandFor_1 5 rfl rfl)
theorem dX5_sandFor_30 : decode cX5_sandFor 30 = .ok (.aload_n 0, 1) := dk_42 (dk_at dksX5_sandFor_1 6 rfl rfl)
theorem dX5_sandFor_31 : decode cX5_sandFor 31 = .ok (.iload_n 3, 1) := dk_29 (dk_at dksX5_sandFor_1 7 rfl rfl)
theorem dX5_sandFor_32 : decode cX5_sandFor 32 = .ok (.invokevirtual 273, 3) := dk_182 1 17 (dk_at dksX5_sandFor_1 8 rfl rfl)
theorem dX5_sandFor_35 : decode cX5_sandFor 35 = .ok (.istore 5, 2) := dk_54 5 (dk_at dksX5_sandFor_1 11 rfl rfl)
theorem dX5_sandFor_37 : decode cX5_sandFor 37 = .ok (.iconst 0, 1) := dk_3 (dk_at dksX5_sandFor_1 13 rfl rfl)
theorem dX5_sandFor_38 : decode cX5_sandFor 38 = .ok (.aload_n 0, 1) := dk_42 (dk_at dksX5_sandFor_1 14 rfl rfl)
theorem dX5_sandFor_39 : decode cX5_sandFor 39 = .ok (.iload 4, 2) := dk_21 4 (dk_at dksX5_sandFor_1 15 rfl rfl)
theorem dX5_sandFor_41 : decode cX5_sandFor 41 = .ok (.invokevirtual 279, 3) := dk_182 1 23 (dk_at dksX5_sandFor_1 17 rfl rfl)
theorem dX5_sandFor_44 : decode cX5_sandFor 44 = .ok (.iload 5, 2) := dk_21 5 (dk_at dksX5_sandFor_1 20 rfl rfl)
theorem dX5_sandFor_46 : decode cX5_sandFor 46 = .ok (.isub, 1) := dk_100 (dk_at dksX5_sandFor_1 22 rfl rfl)
theorem dX5_sandFor_47 : decode cX5_sandFor 47 = .ok (.invokestatic 282, 3) := dk_184 1 26 (dk_at dksX5_sandFor_2 0 rfl rfl)
theorem dX5_sandFor_50 : decode cX5_sandFor 50 = .ok (.istore 6, 2) := dk_54 6 (dk_at dksX5_sandFor_2 3 rfl rfl)
theorem dX5_sandFor_52 : decode cX5_sandFor 52 = .ok (.iload 5, 2) := dk_21 5 (dk_at dksX5_sandFor_2 5 rfl rfl)
theorem dX5_sandFor_54 : decode cX5_sandFor 54 = .ok (.iload 6, 2) := dk_21 6 (dk_at dksX5_sandFor_2 7 rfl rfl)
theorem dX5_sandFor_56 : decode cX5_sandFor 56 = .ok (.iadd, 1) := dk_96 (dk_at dksX5_sandFor_2 9 rfl rfl)
theorem dX5_sandFor_57 : decode cX5_sandFor 57 = .ok (.iload 4, 2) := dk_21 4 (dk_at dksX5_sandFor_2 10 rfl rfl)
theorem dX5_sandFor_59 : decode cX5_sandFor 59 = .ok (.aload_n 0, 1) := dk_42 (dk_at dksX5_sandFor_2 12 rfl rfl)
theorem dX5_sandFor_60 : decode cX5_sandFor 60 = .ok (.getfield 25, 3) := dk_180 0 25 (dk_at dksX5_sandFor_2 13 rfl rfl)
theorem dX5_sandFor_63 : decode cX5_sandFor 63 = .ok (.iconst 3, 1) := dk_6 (dk_at dksX5_sandFor_2 16 rfl rfl)
theorem dX5_sandFor_64 : decode cX5_sandFor 64 = .ok (.iaload, 1) := dk_46 (dk_at dksX5_sandFor_2 17 rfl rfl)
theorem dX5_sandFor_65 : decode cX5_sandFor 65 = .ok (.iadd, 1) := dk_96 (dk_at dksX5_sandFor_2 18 rfl rfl)
theorem dX5_sandFor_66 : decode cX5_sandFor 66 = .ok (.if_icmp .gt 19, 3) := dk_163 0 19 (dk_at dksX5_sandFor_2 19 rfl rfl)
theorem dX5_sandFor_69 : decode cX5_sandFor 69 = .ok (.iload 6, 2) := dk_21 6 (dk_at dksX5_sandFor_2 22 rfl rfl)
theorem dX5_sandFor_71 : decode cX5_sandFor 71 = .ok (.aload_n 1, 1) := dk_43 (dk_at dksX5_sandFor_3 0 rfl rfl)
theorem dX5_sandFor_72 : decode cX5_sandFor 72 = .ok (.bipush 12, 2) := dk_16 12 (dk_at dksX5_sandFor_3 1 rfl rfl)
theorem dX5_sandFor_74 : decode cX5_sandFor 74 = .ok (.iload_n 2, 1) := dk_28 (dk_at dksX5_sandFor_3 3 rfl rfl)
theorem dX5_sandFor_75 : decode cX5_sandFor 75 = .ok (.iadd, 1) := dk_96 (dk_at dksX5_sandFor_3 4 rfl rfl)
theorem dX5_sandFor_76 : decode cX5_sandFor 76 = .ok (.iaload, 1) := dk_46 (dk_at dksX5_sandFor_3 5 rfl rfl)
theorem dX5_sandFor_77 : decode cX5_sandFor 77 = .ok (.if_icmp .gt 8, 3) := dk_163 0 8 (dk_at dksX5_sandFor_3 6 rfl rfl)
theorem dX5_sandFor_80 : decode cX5_sandFor 80 = .ok (.iload 6, 2) := dk_21 6 (dk_at dksX5_sandFor_3 9 rfl rfl)
theorem dX5_sandFor_82 : decode cX5_sandFor 82 = .ok (.goto 4, 3) := dk_167 0 4 (dk_at dksX5_sandFor_3 11 rfl rfl)
theorem dX5_sandFor_85 : decode cX5_sandFor 85 = .ok (.iconst (-1), 1) := dk_2 (dk_at dksX5_sandFor_3 14 rfl rfl)
theorem dX5_sandFor_86 : decode cX5_sandFor 86 = .ok (.ireturn, 1) := dk_172 (dk_at dksX5_sandFor_3 15 rfl rfl)
abbrev cX5_choice : ByteArray := prog_16_method_48_code
def yX5_choice : MethodName := ⟨RX5, "choice", "(II)I"⟩
def dkwX5_choice_4 : List UInt8 := [16, 24, 27, 96, 46, 182, 1, 59, 172]
abbrev dktX5_choice_4 : List UInt8 := dkwX5_choice_4 ++ []
def dkwX5_choice_3 : List UInt8 := [180, 0, 41, 16, 18, 27, 96, 46, 182, 1, 41, 167, 0, 21, 42, 42, 180, 0, 41, 27, 42, 180, 0, 41]
abbrev dktX5_choice_3 : List UInt8 := dkwX5_choice_3 ++ dktX5_choice_4
def dkwX5_choice_2 : List UInt8 := [172, 28, 154, 0, 7, 29, 167, 0, 48, 28, 4, 160, 0, 25, 42, 42, 180, 0, 41, 27, 29, 42]
abbrev dktX5_choice_2 : List UInt8 := dkwX5_choice_2 ++ dktX5_choice_3
def dkwX5_choice_1 : List UInt8 := [182, 0, 243, 172, 42, 42, 180, 0, 41, 27, 42, 180, 0, 253, 182, 1, 55, 62, 29, 2, 160, 0, 5, 2]
abbrev dktX5_choice_1 : List UInt8 := dkwX5_choice_1 ++ dktX5_choice_2
def dkwX5_choice_0 : List UInt8 := [42, 3, 181, 0, 128, 42, 27, 182, 1, 7, 153, 0, 12, 28, 3, 5, 184, 0, 131, 154, 0, 9, 42, 4]
abbrev dktX5_choice_0 : List UInt8 := dkwX5_choice_0 ++ dktX5_choice_1
theorem dksX5_choice_0 : cX5_choice.data.toList.drop 0 = dktX5_choice_0 := by decide +kernel
theorem dksX5_choice_1 : cX5_choice.data.toList.drop 24 = dktX5_choice_1 := dk_seg dksX5_choice_0 24 rfl rfl
theorem dksX5_choice_2 : cX5_choice.data.toList.drop 48 = dktX5_choice_2 := dk_seg dksX5_choice_1 24 rfl rfl
theorem dksX5_choice_3 : cX5_choice.data.toList.drop 70 = dktX5_choice_3 := dk_seg dksX5_choice_2 22 rfl rfl
theorem dksX5_choice_4 : cX5_choice.data.toList.drop 94 = dktX5_choice_4 := dk_seg dksX5_choice_3 24 rfl rfl
theorem dX5_choice_0 : decode cX5_choice 0 = .ok (.aload_n 0, 1) := dk_42 (dk_at dksX5_choice_0 0 rfl rfl)
theorem dX5_choice_1 : decode cX5_choice 1 = .ok (.iconst 0, 1) := dk_3 (dk_at dksX5_choice_0 1 rfl rfl)
theorem dX5_choice_2 : decode cX5_choice 2 = .ok (.putfield 128, 3) := dk_181 0 128 (dk_at dksX5_choice_0 2 rfl rfl)
theorem dX5_choice_5 : decode cX5_choice 5 = .ok (.aload_n 0, 1) := dk_42 (dk_at dksX5_choice_0 5 rfl rfl)
theorem dX5_choice_6 : decode cX5_choice 6 = .ok (.iload_n 1, 1) := dk_27 (dk_at dksX5_choice_0 6 rfl rfl)
theorem dX5_choice_7 : decode cX5_choice 7 = .ok (.invokevirtual 263, 3) := dk_182 1 7 (dk_at dksX5_choice_0 7 rfl rfl)
theorem dX5_choice_10 : decode cX5_choice 10 = .ok (.ifCond .eq 12, 3) := dk_153 0 12 (dk_at dksX5_choice_0 10 rfl rfl)
theorem dX5_choice_13 : decode cX5_choice 13 = .ok (.iload_n 2, 1) := dk_28 (dk_at dksX5_choice_0 13 rfl rfl)
theorem dX5_choice_14 : decode cX5_choice 14 = .ok (.iconst 0, 1) := dk_3 (dk_at dksX5_choice_0 14 rfl rfl)
theorem dX5_choice_15 : decode cX5_choice 15 = .ok (.iconst 2, 1) := dk_5 (dk_at dksX5_choice_0 15 rfl rfl)
theorem dX5_choice_16 : decode cX5_choice 16 = .ok (.invokestatic 131, 3) := dk_184 0 131 (dk_at dksX5_choice_0 16 rfl rfl)
theorem dX5_choice_19 : decode cX5_choice 19 = .ok (.ifCond .ne 9, 3) := dk_154 0 9 (dk_at dksX5_choice_0 19 rfl rfl)
theorem dX5_choice_22 : decode cX5_choice 22 = .ok (.aload_n 0, 1) := dk_42 (dk_at dksX5_choice_0 22 rfl rfl)
theorem dX5_choice_23 : decode cX5_choice 23 = .ok (.iconst 1, 1) := dk_4 (dk_at dksX5_choice_0 23 rfl rfl)
theorem dX5_choice_24 : decode cX5_choice 24 = .ok (.invokevirtual 243, 3) := dk_182 0 243 (dk_at dksX5_choice_1 0 rfl rfl)
theorem dX5_choice_27 : decode cX5_choice 27 = .ok (.ireturn, 1) := dk_172 (dk_at dksX5_choice_1 3 rfl rfl)
theorem dX5_choice_28 : decode cX5_choice 28 = .ok (.aload_n 0, 1) := dk_42 (dk_at dksX5_choice_1 4 rfl rfl)
theorem dX5_choice_29 : decode cX5_choice 29 = .ok (.aload_n 0, 1) := dk_42 (dk_at dksX5_choice_1 5 rfl rfl)
theorem dX5_choice_30 : decode cX5_choice 30 = .ok (.getfield 41, 3) := dk_180 0 41 (dk_at dksX5_choice_1 6 rfl rfl)
theorem dX5_choice_33 : decode cX5_choice 33 = .ok (.iload_n 1, 1) := dk_27 (dk_at dksX5_choice_1 9 rfl rfl)
theorem dX5_choice_34 : decode cX5_choice 34 = .ok (.aload_n 0, 1) := dk_42 (dk_at dksX5_choice_1 10 rfl rfl)
theorem dX5_choice_35 : decode cX5_choice 35 = .ok (.getfield 253, 3) := dk_180 0 253 (dk_at dksX5_choice_1 11 rfl rfl)
theorem dX5_choice_38 : decode cX5_choice 38 = .ok (.invokevirtual 311, 3) := dk_182 1 55 (dk_at dksX5_choice_1 14 rfl rfl)
theorem dX5_choice_41 : decode cX5_choice 41 = .ok (.istore_n 3, 1) := dk_62 (dk_at dksX5_choice_1 17 rfl rfl)
theorem dX5_choice_42 : decode cX5_choice 42 = .ok (.iload_n 3, 1) := dk_29 (dk_at dksX5_choice_1 18 rfl rfl)
theorem dX5_choice_43 : decode cX5_choice 43 = .ok (.iconst (-1), 1) := dk_2 (dk_at dksX5_choice_1 19 rfl rfl)
theorem dX5_choice_44 : decode cX5_choice 44 = .ok (.if_icmp .ne 5, 3) := dk_160 0 5 (dk_at dksX5_choice_1 20 rfl rfl)
theorem dX5_choice_47 : decode cX5_choice 47 = .ok (.iconst (-1), 1) := dk_2 (dk_at dksX5_choice_1 23 rfl rfl)
theorem dX5_choice_48 : decode cX5_choice 48 = .ok (.ireturn, 1) := dk_172 (dk_at dksX5_choice_2 0 rfl rfl)
theorem dX5_choice_49 : decode cX5_choice 49 = .ok (.iload_n 2, 1) := dk_28 (dk_at dksX5_choice_2 1 rfl rfl)
theorem dX5_choice_50 : decode cX5_choice 50 = .ok (.ifCond .ne 7, 3) := dk_154 0 7 (dk_at dksX5_choice_2 2 rfl rfl)
theorem dX5_choice_53 : decode cX5_choice 53 = .ok (.iload_n 3, 1) := dk_29 (dk_at dksX5_choice_2 5 rfl rfl)
theorem dX5_choice_54 : decode cX5_choice 54 = .ok (.goto 48, 3) := dk_167 0 48 (dk_at dksX5_choice_2 6 rfl rfl)
theorem dX5_choice_57 : decode cX5_choice 57 = .ok (.iload_n 2, 1) := dk_28 (dk_at dksX5_choice_2 9 rfl rfl)
theorem dX5_choice_58 : decode cX5_choice 58 = .ok (.iconst 1, 1) := dk_4 (dk_at dksX5_choice_2 10 rfl rfl)
theorem dX5_choice_59 : decode cX5_choice 59 = .ok (.if_icmp .ne 25, 3) := dk_160 0 25 (dk_at dksX5_choice_2 11 rfl rfl)
theorem dX5_choice_62 : decode cX5_choice 62 = .ok (.aload_n 0, 1) := dk_42 (dk_at dksX5_choice_2 14 rfl rfl)
theorem dX5_choice_63 : decode cX5_choice 63 = .ok (.aload_n 0, 1) := dk_42 (dk_at dksX5_choice_2 15 rfl rfl)
theorem dX5_choice_64 : decode cX5_choice 64 = .ok (.getfield 41, 3) := dk_180 0 41 (dk_at dksX5_choice_2 16 rfl rfl)
theorem dX5_choice_67 : decode cX5_choice 67 = .ok (.iload_n 1, 1) := dk_27 (dk_at dksX5_choice_2 19 rfl rfl)
theorem dX5_choice_68 : decode cX5_choice 68 = .ok (.iload_n 3, 1) := dk_29 (dk_at dksX5_choice_2 20 rfl rfl)
theorem dX5_choice_69 : decode cX5_choice 69 = .ok (.aload_n 0, 1) := dk_42 (dk_at dksX5_choice_2 21 rfl rfl)
theorem dX5_choice_70 : decode cX5_choice 70 = .ok (.getfield 41, 3) := dk_180 0 41 (dk_at dksX5_choice_3 0 rfl rfl)
theorem dX5_choice_73 : decode cX5_choice 73 = .ok (.bipush 18, 2) := dk_16 18 (dk_at dksX5_choice_3 3 rfl rfl)
theorem dX5_choice_75 : decode cX5_choice 75 = .ok (.iload_n 1, 1) := dk_27 (dk_at dksX5_choice_3 5 rfl rfl)
theorem dX5_choice_76 : decode cX5_choice 76 = .ok (.iadd, 1) := dk_96 (dk_at dksX5_choice_3 6 rfl rfl)
theorem dX5_choice_77 : decode cX5_choice 77 = .ok (.iaload, 1) := dk_46 (dk_at dksX5_choice_3 7 rfl rfl)
theorem dX5_choice_78 : decode cX5_choice 78 = .ok (.invokevirtual 297, 3) := dk_182 1 41 (dk_at dksX5_choice_3 8 rfl rfl)
theorem dX5_choice_81 : decode cX5_choice 81 = .ok (.goto 21, 3) := dk_167 0 21 (dk_at dksX5_choice_3 11 rfl rfl)
theorem dX5_choice_84 : decode cX5_choice 84 = .ok (.aload_n 0, 1) := dk_42 (dk_at dksX5_choice_3 14 rfl rfl)
theorem dX5_choice_85 : decode cX5_choice 85 = .ok (.aload_n 0, 1) := dk_42 (dk_at dksX5_choice_3 15 rfl rfl)
theorem dX5_choice_86 : decode cX5_choice 86 = .ok (.getfield 41, 3) := dk_180 0 41 (dk_at dksX5_choice_3 16 rfl rfl)
theorem dX5_choice_89 : decode cX5_choice 89 = .ok (.iload_n 1, 1) := dk_27 (dk_at dksX5_choice_3 19 rfl rfl)
theorem dX5_choice_90 : decode cX5_choice 90 = .ok (.aload_n 0, 1) := dk_42 (dk_at dksX5_choice_3 20 rfl rfl)
theorem dX5_choice_91 : decode cX5_choice 91 = .ok (.getfield 41, 3) := dk_180 0 41 (dk_at dksX5_choice_3 21 rfl rfl)
theorem dX5_choice_94 : decode cX5_choice 94 = .ok (.bipush 24, 2) := dk_16 24 (dk_at dksX5_choice_4 0 rfl rfl)
theorem dX5_choice_96 : decode cX5_choice 96 = .ok (.iload_n 1, 1) := dk_27 (dk_at dksX5_choice_4 2 rfl rfl)
theorem dX5_choice_97 : decode cX5_choice 97 = .ok (.iadd, 1) := dk_96 (dk_at dksX5_choice_4 3 rfl rfl)
theorem dX5_choice_98 : decode cX5_choice 98 = .ok (.iaload, 1) := dk_46 (dk_at dksX5_choice_4 4 rfl rfl)
theorem dX5_choice_99 : decode cX5_choice 99 = .ok (.invokevirtual 315, 3) := dk_182 1 59 (dk_at dksX5_choice_4 5 rfl rfl)
theorem dX5_choice_102 : decode cX5_choice 102 = .ok (.ireturn, 1) := dk_172 (dk_at dksX5_choice_4 8 rfl rfl)
abbrev cX5_choiceOf : ByteArray := prog_16_method_46_code
def yX5_choiceOf : MethodName := ⟨RX5, "choiceOf", "([III)I"⟩
def dkwX5_choiceOf_4 : List UInt8 := [21, 4, 182, 1, 52, 162, 0, 7, 21, 5, 54, 4, 132, 5, 1, 167, 255, 174, 21, 4, 172]
abbrev dktX5_choiceOf_4 : List UInt8 := dkwX5_choiceOf_4 ++ []
def dkwX5_choiceOf_3 : List UInt8 := [182, 1, 45, 154, 0, 6, 167, 0, 30, 21, 4, 2, 159, 0, 20, 42, 28, 21, 5, 182, 1, 52, 42, 28]
abbrev dktX5_choiceOf_3 : List UInt8 := dkwX5_choiceOf_3 ++ dktX5_choiceOf_4
def dkwX5_choiceOf_2 : List UInt8 := [160, 0, 18, 21, 5, 42, 180, 0, 32, 28, 46, 122, 4, 126, 4, 159, 0, 44, 42, 43, 28, 21, 5]
abbrev dktX5_choiceOf_2 : List UInt8 := dkwX5_choiceOf_2 ++ dktX5_choiceOf_3
def dkwX5_choiceOf_1 : List UInt8 := [172, 3, 54, 5, 21, 5, 4, 42, 180, 0, 25, 4, 46, 120, 162, 0, 75, 42, 180, 0, 29, 28, 46, 6]
abbrev dktX5_choiceOf_1 : List UInt8 := dkwX5_choiceOf_1 ++ dktX5_choiceOf_2
def dkwX5_choiceOf_0 : List UInt8 := [2, 54, 4, 42, 180, 0, 29, 28, 46, 7, 160, 0, 15, 29, 42, 180, 0, 32, 28, 46, 162, 0, 5, 2]
abbrev dktX5_choiceOf_0 : List UInt8 := dkwX5_choiceOf_0 ++ dktX5_choiceOf_1
theorem dksX5_choiceOf_0 : cX5_choiceOf.data.toList.drop 0 = dktX5_choiceOf_0 := by decide +kernel
theorem dksX5_choiceOf_1 : cX5_choiceOf.data.toList.drop 24 = dktX5_choiceOf_1 := dk_seg dksX5_choiceOf_0 24 rfl rfl
theorem dksX5_choiceOf_2 : cX5_choiceOf.data.toList.drop 48 = dktX5_choiceOf_2 := dk_seg dksX5_choiceOf_1 24 rfl rfl
theorem dksX5_choiceOf_3 : cX5_choiceOf.data.toList.drop 71 = dktX5_choiceOf_3 := dk_seg dksX5_choiceOf_2 23 rfl rfl
theorem dksX5_choiceOf_4 : cX5_choiceOf.data.toList.drop 95 = dktX5_choiceOf_4 := dk_seg dksX5_choiceOf_3 24 rfl rfl
theorem dX5_choiceOf_0 : decode cX5_choiceOf 0 = .ok (.iconst (-1), 1) := dk_2 (dk_at dksX5_choiceOf_0 0 rfl rfl)
theorem dX5_choiceOf_1 : decode cX5_choiceOf 1 = .ok (.istore 4, 2) := dk_54 4 (dk_at dksX5_choiceOf_0 1 rfl rfl)
theorem dX5_choiceOf_3 : decode cX5_choiceOf 3 = .ok (.aload_n 0, 1) := dk_42 (dk_at dksX5_choiceOf_0 3 rfl rfl)
theorem dX5_choiceOf_4 : decode cX5_choiceOf 4 = .ok (.getfield 29, 3) := dk_180 0 29 (dk_at dksX5_choiceOf_0 4 rfl rfl)
theorem dX5_choiceOf_7 : decode cX5_choiceOf 7 = .ok (.iload_n 2, 1) := dk_28 (dk_at dksX5_choiceOf_0 7 rfl rfl)
theorem dX5_choiceOf_8 : decode cX5_choiceOf 8 = .ok (.iaload, 1) := dk_46 (dk_at dksX5_choiceOf_0 8 rfl rfl)
theorem dX5_choiceOf_9 : decode cX5_choiceOf 9 = .ok (.iconst 4, 1) := dk_7 (dk_at dksX5_choiceOf_0 9 rfl rfl)
theorem dX5_choiceOf_10 : decode cX5_choiceOf 10 = .ok (.if_icmp .ne 15, 3) := dk_160 0 15 (dk_at dksX5_choiceOf_0 10 rfl rfl)
theorem dX5_choiceOf_13 : decode cX5_choiceOf 13 = .ok (.iload_n 3, 1) := dk_29 (dk_at dksX5_choiceOf_0 13 rfl rfl)
theorem dX5_choiceOf_14 : decode cX5_choiceOf 14 = .ok (.aload_n 0, 1) := dk_42 (dk_at dksX5_choiceOf_0 14 rfl rfl)
theorem dX5_choiceOf_15 : decode cX5_choiceOf 15 = .ok (.getfield 32, 3) := dk_180 0 32 (dk_at dksX5_choiceOf_0 15 rfl rfl)
theorem dX5_choiceOf_18 : decode cX5_choiceOf 18 = .ok (.iload_n 2, 1) := dk_28 (dk_at dksX5_choiceOf_0 18 rfl rfl)
theorem dX5_choiceOf_19 : decode cX5_choiceOf 19 = .ok (.iaload, 1) := dk_46 (dk_at dksX5_choiceOf_0 19 rfl rfl)
theorem dX5_choiceOf_20 : decode cX5_choiceOf 20 = .ok (.if_icmp .ge 5, 3) := dk_162 0 5 (dk_at dksX5_choiceOf_0 20 rfl rfl)
theorem dX5_choiceOf_23 : decode cX5_choiceOf 23 = .ok (.iconst (-1), 1) := dk_2 (dk_at dksX5_choiceOf_0 23 rfl rfl)
theorem dX5_choiceOf_24 : decode cX5_choiceOf 24 = .ok (.ireturn, 1) := dk_172 (dk_at dksX5_choiceOf_1 0 rfl rfl)
theorem dX5_choiceOf_25 : decode cX5_choiceOf 25 = .ok (.iconst 0, 1) := dk_3 (dk_at dksX5_choiceOf_1 1 rfl rfl)
theorem dX5_choiceOf_26 : decode cX5_choiceOf 26 = .ok (.istore 5, 2) := dk_54 5 (dk_at dksX5_choiceOf_1 2 rfl rfl)
theorem dX5_choiceOf_28 : decode cX5_choiceOf 28 = .ok (.iload 5, 2) := dk_21 5 (dk_at dksX5_choiceOf_1 4 rfl rfl)
theorem dX5_choiceOf_30 : decode cX5_choiceOf 30 = .ok (.iconst 1, 1) := dk_4 (dk_at dksX5_choiceOf_1 6 rfl rfl)
theorem dX5_choiceOf_31 : decode cX5_choiceOf 31 = .ok (.aload_n 0, 1) := dk_42 (dk_at dksX5_choiceOf_1 7 rfl rfl)
theorem dX5_choiceOf_32 : decode cX5_choiceOf 32 = .ok (.getfield 25, 3) := dk_180 0 25 (dk_at dksX5_choiceOf_1 8 rfl rfl)
theorem dX5_choiceOf_35 : decode cX5_choiceOf 35 = .ok (.iconst 1, 1) := dk_4 (dk_at dksX5_choiceOf_1 11 rfl rfl)
theorem dX5_choiceOf_36 : decode cX5_choiceOf 36 = .ok (.iaload, 1) := dk_46 (dk_at dksX5_choiceOf_1 12 rfl rfl)
theorem dX5_choiceOf_37 : decode cX5_choiceOf 37 = .ok (.ishl, 1) := dk_120 (dk_at dksX5_choiceOf_1 13 rfl rfl)
theorem dX5_choiceOf_38 : decode cX5_choiceOf 38 = .ok (.if_icmp .ge 75, 3) := dk_162 0 75 (dk_at dksX5_choiceOf_1 14 rfl rfl)
theorem dX5_choiceOf_41 : decode cX5_choiceOf 41 = .ok (.aload_n 0, 1) := dk_42 (dk_at dksX5_choiceOf_1 17 rfl rfl)
theorem dX5_choiceOf_42 : decode cX5_choiceOf 42 = .ok (.getfield 29, 3) := dk_180 0 29 (dk_at dksX5_choiceOf_1 18 rfl rfl)
theorem dX5_choiceOf_45 : decode cX5_choiceOf 45 = .ok (.iload_n 2, 1) := dk_28 (dk_at dksX5_choiceOf_1 21 rfl rfl)
theorem dX5_choiceOf_46 : decode cX5_choiceOf 46 = .ok (.iaload, 1) := dk_46 (dk_at dksX5_choiceOf_1 22 rfl rfl)
theorem dX5_choiceOf_47 : decode cX5_choiceOf 47 = .ok (.iconst 3, 1) := dk_6 (dk_at dksX5_choiceOf_1 23 rfl rfl)
theorem dX5_choiceOf_48 : decode cX5_choiceOf 48 = .ok (.if_icmp .ne 18, 3) := dk_160 0 18 (dk_at dksX5_choiceOf_2 0 rfl rfl)
theorem dX5_choiceOf_51 : decode cX5_choiceOf 51 = .ok (.iload 5, 2) := dk_21 5 (dk_at dksX5_choiceOf_2 3 rfl rfl)
theorem dX5_choiceOf_53 : decode cX5_choiceOf 53 = .ok (.aload_n 0, 1) := dk_42 (dk_at dksX5_choiceOf_2 5 rfl rfl)
theorem dX5_choiceOf_54 : decode cX5_choiceOf 54 = .ok (.getfield 32, 3) := dk_180 0 32 (dk_at dksX5_choiceOf_2 6 rfl rfl)
theorem dX5_choiceOf_57 : decode cX5_choiceOf 57 = .ok (.iload_n 2, 1) := dk_28 (dk_at dksX5_choiceOf_2 9 rfl rfl)
theorem dX5_choiceOf_58 : decode cX5_choiceOf 58 = .ok (.iaload, 1) := dk_46 (dk_at dksX5_choiceOf_2 10 rfl rfl)
theorem dX5_choiceOf_59 : decode cX5_choiceOf 59 = .ok (.ishr, 1) := dk_122 (dk_at dksX5_choiceOf_2 11 rfl rfl)
theorem dX5_choiceOf_60 : decode cX5_choiceOf 60 = .ok (.iconst 1, 1) := dk_4 (dk_at dksX5_choiceOf_2 12 rfl rfl)
theorem dX5_choiceOf_61 : decode cX5_choiceOf 61 = .ok (.iand, 1) := dk_126 (dk_at dksX5_choiceOf_2 13 rfl rfl)
theorem dX5_choiceOf_62 : decode cX5_choiceOf 62 = .ok (.iconst 1, 1) := dk_4 (dk_at dksX5_choiceOf_2 14 rfl rfl)
theorem dX5_choiceOf_63 : decode cX5_choiceOf 63 = .ok (.if_icmp .eq 44, 3) := dk_159 0 44 (dk_at dksX5_choiceOf_2 15 rfl rfl)
theorem dX5_choiceOf_66 : decode cX5_choiceOf 66 = .ok (.aload_n 0, 1) := dk_42 (dk_at dksX5_choiceOf_2 18 rfl rfl)
theorem dX5_choiceOf_67 : decode cX5_choiceOf 67 = .ok (.aload_n 1, 1) := dk_43 (dk_at dksX5_choiceOf_2 19 rfl rfl)
theorem dX5_choiceOf_68 : decode cX5_choiceOf 68 = .ok (.iload_n 2, 1) := dk_28 (dk_at dksX5_choiceOf_2 20 rfl rfl)
theorem dX5_choiceOf_69 : decode cX5_choiceOf 69 = .ok (.iload 5, 2) := dk_21 5 (dk_at dksX5_choiceOf_2 21 rfl rfl)
theorem dX5_choiceOf_71 : decode cX5_choiceOf 71 = .ok (.invokevirtual 301, 3) := dk_182 1 45 (dk_at dksX5_choiceOf_3 0 rfl rfl)
theorem dX5_choiceOf_74 : decode cX5_choiceOf 74 = .ok (.ifCond .ne 6, 3) := dk_154 0 6 (dk_at dksX5_choiceOf_3 3 rfl rfl)
theorem dX5_choiceOf_77 : decode cX5_choiceOf 77 = .ok (.goto 30, 3) := dk_167 0 30 (dk_at dksX5_choiceOf_3 6 rfl rfl)
theorem dX5_choiceOf_80 : decode cX5_choiceOf 80 = .ok (.iload 4, 2) := dk_21 4 (dk_at dksX5_choiceOf_3 9 rfl rfl)
theorem dX5_choiceOf_82 : decode cX5_choiceOf 82 = .ok (.iconst (-1), 1) := dk_2 (dk_at dksX5_choiceOf_3 11 rfl rfl)
theorem dX5_choiceOf_83 : decode cX5_choiceOf 83 = .ok (.if_icmp .eq 20, 3) := dk_159 0 20 (dk_at dksX5_choiceOf_3 12 rfl rfl)
theorem dX5_choiceOf_86 : decode cX5_choiceOf 86 = .ok (.aload_n 0, 1) := dk_42 (dk_at dksX5_choiceOf_3 15 rfl rfl)
theorem dX5_choiceOf_87 : decode cX5_choiceOf 87 = .ok (.iload_n 2, 1) := dk_28 (dk_at dksX5_choiceOf_3 16 rfl rfl)
theorem dX5_choiceOf_88 : decode cX5_choiceOf 88 = .ok (.iload 5, 2) := dk_21 5 (dk_at dksX5_choiceOf_3 17 rfl rfl)
theorem dX5_choiceOf_90 : decode cX5_choiceOf 90 = .ok (.invokevirtual 308, 3) := dk_182 1 52 (dk_at dksX5_choiceOf_3 19 rfl rfl)
theorem dX5_choiceOf_93 : decode cX5_choiceOf 93 = .ok (.aload_n 0, 1) := dk_42 (dk_at dksX5_choiceOf_3 22 rfl rfl)
theorem dX5_choiceOf_94 : decode cX5_choiceOf 94 = .ok (.iload_n 2, 1) := dk_28 (dk_at dksX5_choiceOf_3 23 rfl rfl)
theorem dX5_choiceOf_95 : decode cX5_choiceOf 95 = .ok (.iload 4, 2) := dk_21 4 (dk_at dksX5_choiceOf_4 0 rfl rfl)
theorem dX5_choiceOf_97 : decode cX5_choiceOf 97 = .ok (.invokevirtual 308, 3) := dk_182 1 52 (dk_at dksX5_choiceOf_4 2 rfl rfl)
theorem dX5_choiceOf_100 : decode cX5_choiceOf 100 = .ok (.if_icmp .ge 7, 3) := dk_162 0 7 (dk_at dksX5_choiceOf_4 5 rfl rfl)
theorem dX5_choiceOf_103 : decode cX5_choiceOf 103 = .ok (.iload 5, 2) := dk_21 5 (dk_at dksX5_choiceOf_4 8 rfl rfl)
theorem dX5_choiceOf_105 : decode cX5_choiceOf 105 = .ok (.istore 4, 2) := dk_54 4 (dk_at dksX5_choiceOf_4 10 rfl rfl)
theorem dX5_choiceOf_107 : decode cX5_choiceOf 107 = .ok (.iinc 5 1, 3) := dk_132 5 1 (dk_at dksX5_choiceOf_4 12 rfl rfl)
theorem dX5_choiceOf_110 : decode cX5_choiceOf 110 = .ok (.goto (-82), 3) := dk_167 255 174 (dk_at dksX5_choiceOf_4 15 rfl rfl)
theorem dX5_choiceOf_113 : decode cX5_choiceOf 113 = .ok (.iload 4, 2) := dk_21 4 (dk_at dksX5_choiceOf_4 18 rfl rfl)
theorem dX5_choiceOf_115 : decode cX5_choiceOf 115 = .ok (.ireturn, 1) := dk_172 (dk_at dksX5_choiceOf_4 20 rfl rfl)
abbrev cX5_rankOf : ByteArray := prog_16_method_45_code
def yX5_rankOf : MethodName := ⟨RX5, "rankOf", "(II)I"⟩
def dkwX5_rankOf_1 : List UInt8 := [5, 160, 0, 10, 28, 184, 1, 49, 167, 0, 4, 3, 172]
abbrev dktX5_rankOf_1 : List UInt8 := dkwX5_rankOf_1 ++ []
def dkwX5_rankOf_0 : List UInt8 := [42, 180, 0, 29, 27, 46, 4, 160, 0, 11, 42, 28, 182, 1, 14, 167, 0, 21, 42, 180, 0, 29, 27, 46]
abbrev dktX5_rankOf_0 : List UInt8 := dkwX5_rankOf_0 ++ dktX5_rankOf_1
theorem dksX5_rankOf_0 : cX5_rankOf.data.toList.drop 0 = dktX5_rankOf_0 := by decide +kernel
theorem dksX5_rankOf_1 : cX5_rankOf.data.toList.drop 24 = dktX5_rankOf_1 := dk_seg dksX5_rankOf_0 24 rfl rfl
theorem dX5_rankOf_0 : decode cX5_rankOf 0 = .ok (.aload_n 0, 1) := dk_42 (dk_at dksX5_rankOf_0 0 rfl rfl)
theorem dX5_rankOf_1 : decode cX5_rankOf 1 = .ok (.getfield 29, 3) := dk_180 0 29 (dk_at dksX5_rankOf_0 1 rfl rfl)
theorem dX5_rankOf_4 : decode cX5_rankOf 4 = .ok (.iload_n 1, 1) := dk_27 (dk_at dksX5_rankOf_0 4 rfl rfl)
theorem dX5_rankOf_5 : decode cX5_rankOf 5 = .ok (.iaload, 1) := dk_46 (dk_at dksX5_rankOf_0 5 rfl rfl)
theorem dX5_rankOf_6 : decode cX5_rankOf 6 = .ok (.iconst 1, 1) := dk_4 (dk_at dksX5_rankOf_0 6 rfl rfl)
theorem dX5_rankOf_7 : decode cX5_rankOf 7 = .ok (.if_icmp .ne 11, 3) := dk_160 0 11 (dk_at dksX5_rankOf_0 7 rfl rfl)
theorem dX5_rankOf_10 : decode cX5_rankOf 10 = .ok (.aload_n 0, 1) := dk_42 (dk_at dksX5_rankOf_0 10 rfl rfl)
theorem dX5_rankOf_11 : decode cX5_rankOf 11 = .ok (.iload_n 2, 1) := dk_28 (dk_at dksX5_rankOf_0 11 rfl rfl)
theorem dX5_rankOf_12 : decode cX5_rankOf 12 = .ok (.invokevirtual 270, 3) := dk_182 1 14 (dk_at dksX5_rankOf_0 12 rfl rfl)
theorem dX5_rankOf_15 : decode cX5_rankOf 15 = .ok (.goto 21, 3) := dk_167 0 21 (dk_at dksX5_rankOf_0 15 rfl rfl)
theorem dX5_rankOf_18 : decode cX5_rankOf 18 = .ok (.aload_n 0, 1) := dk_42 (dk_at dksX5_rankOf_0 18 rfl rfl)
theorem dX5_rankOf_19 : decode cX5_rankOf 19 = .ok (.getfield 29, 3) := dk_180 0 29 (dk_at dksX5_rankOf_0 19 rfl rfl)
theorem dX5_rankOf_22 : decode cX5_rankOf 22 = .ok (.iload_n 1, 1) := dk_27 (dk_at dksX5_rankOf_0 22 rfl rfl)
theorem dX5_rankOf_23 : decode cX5_rankOf 23 = .ok (.iaload, 1) := dk_46 (dk_at dksX5_rankOf_0 23 rfl rfl)
theorem dX5_rankOf_24 : decode cX5_rankOf 24 = .ok (.iconst 2, 1) := dk_5 (dk_at dksX5_rankOf_1 0 rfl rfl)
theorem dX5_rankOf_25 : decode cX5_rankOf 25 = .ok (.if_icmp .ne 10, 3) := dk_160 0 10 (dk_at dksX5_rankOf_1 1 rfl rfl)
theorem dX5_rankOf_28 : decode cX5_rankOf 28 = .ok (.iload_n 2, 1) := dk_28 (dk_at dksX5_rankOf_1 4 rfl rfl)
theorem dX5_rankOf_29 : decode cX5_rankOf 29 = .ok (.invokestatic 305, 3) := dk_184 1 49 (dk_at dksX5_rankOf_1 5 rfl rfl)
theorem dX5_rankOf_32 : decode cX5_rankOf 32 = .ok (.goto 4, 3) := dk_167 0 4 (dk_at dksX5_rankOf_1 8 rfl rfl)
theorem dX5_rankOf_35 : decode cX5_rankOf 35 = .ok (.iconst 0, 1) := dk_3 (dk_at dksX5_rankOf_1 11 rfl rfl)
theorem dX5_rankOf_36 : decode cX5_rankOf 36 = .ok (.ireturn, 1) := dk_172 (dk_at dksX5_rankOf_1 12 rfl rfl)
abbrev cX5_bitsOf : ByteArray := prog_16_method_44_code
def yX5_bitsOf : MethodName := ⟨RX5, "bitsOf", "(I)I"⟩
def dkwX5_bitsOf_0 : List UInt8 := [3, 60, 26, 61, 28, 153, 0, 15, 132, 1, 1, 28, 28, 4, 100, 126, 61, 167, 255, 243, 27, 172]
abbrev dktX5_bitsOf_0 : List UInt8 := dkwX5_bitsOf_0 ++ []
theorem dksX5_bitsOf_0 : cX5_bitsOf.data.toList.drop 0 = dktX5_bitsOf_0 := by decide +kernel
theorem dX5_bitsOf_0 : decode cX5_bitsOf 0 = .ok (.iconst 0, 1) := dk_3 (dk_at dksX5_bitsOf_0 0 rfl rfl)
theorem dX5_bitsOf_1 : decode cX5_bitsOf 1 = .ok (.istore_n 1, 1) := dk_60 (dk_at dksX5_bitsOf_0 1 rfl rfl)
theorem dX5_bitsOf_2 : decode cX5_bitsOf 2 = .ok (.iload_n 0, 1) := dk_26 (dk_at dksX5_bitsOf_0 2 rfl rfl)
theorem dX5_bitsOf_3 : decode cX5_bitsOf 3 = .ok (.istore_n 2, 1) := dk_61 (dk_at dksX5_bitsOf_0 3 rfl rfl)
theorem dX5_bitsOf_4 : decode cX5_bitsOf 4 = .ok (.iload_n 2, 1) := dk_28 (dk_at dksX5_bitsOf_0 4 rfl rfl)
theorem dX5_bitsOf_5 : decode cX5_bitsOf 5 = .ok (.ifCond .eq 15, 3) := dk_153 0 15 (dk_at dksX5_bitsOf_0 5 rfl rfl)
theorem dX5_bitsOf_8 : decode cX5_bitsOf 8 = .ok (.iinc 1 1, 3) := dk_132 1 1 (dk_at dksX5_bitsOf_0 8 rfl rfl)
theorem dX5_bitsOf_11 : decode cX5_bitsOf 11 = .ok (.iload_n 2, 1) := dk_28 (dk_at dksX5_bitsOf_0 11 rfl rfl)
theorem dX5_bitsOf_12 : decode cX5_bitsOf 12 = .ok (.iload_n 2, 1) := dk_28 (dk_at dksX5_bitsOf_0 12 rfl rfl)
theorem dX5_bitsOf_13 : decode cX5_bitsOf 13 = .ok (.iconst 1, 1) := dk_4 (dk_at dksX5_bitsOf_0 13 rfl rfl)
theorem dX5_bitsOf_14 : decode cX5_bitsOf 14 = .ok (.isub, 1) := dk_100 (dk_at dksX5_bitsOf_0 14 rfl rfl)
theorem dX5_bitsOf_15 : decode cX5_bitsOf 15 = .ok (.iand, 1) := dk_126 (dk_at dksX5_bitsOf_0 15 rfl rfl)
theorem dX5_bitsOf_16 : decode cX5_bitsOf 16 = .ok (.istore_n 2, 1) := dk_61 (dk_at dksX5_bitsOf_0 16 rfl rfl)
theorem dX5_bitsOf_17 : decode cX5_bitsOf 17 = .ok (.goto (-13), 3) := dk_167 255 243 (dk_at dksX5_bitsOf_0 17 rfl rfl)
theorem dX5_bitsOf_20 : decode cX5_bitsOf 20 = .ok (.iload_n 1, 1) := dk_27 (dk_at dksX5_bitsOf_0 20 rfl rfl)
theorem dX5_bitsOf_21 : decode cX5_bitsOf 21 = .ok (.ireturn, 1) := dk_172 (dk_at dksX5_bitsOf_0 21 rfl rfl)
abbrev cX5_whomOf : ByteArray := prog_16_method_47_code
def yX5_whomOf : MethodName := ⟨RX5, "whomOf", "([III)I"⟩
def dkwX5_whomOf_2 : List UInt8 := [180, 0, 32, 28, 46, 46, 172, 28, 4, 96, 42, 180, 0, 25, 3, 46, 112, 172]
abbrev dktX5_whomOf_2 : List UInt8 := dkwX5_whomOf_2 ++ []
def dkwX5_whomOf_1 : List UInt8 := [180, 0, 25, 4, 46, 162, 0, 24, 43, 42, 180, 0, 32, 28, 46, 46, 28, 159, 0, 12, 43, 42]
abbrev dktX5_whomOf_1 : List UInt8 := dkwX5_whomOf_1 ++ dktX5_whomOf_2
def dkwX5_whomOf_0 : List UInt8 := [29, 2, 159, 0, 5, 29, 172, 42, 180, 0, 29, 28, 46, 6, 160, 0, 39, 42, 180, 0, 32, 28, 46, 42]
abbrev dktX5_whomOf_0 : List UInt8 := dkwX5_whomOf_0 ++ dktX5_whomOf_1
theorem dksX5_whomOf_0 : cX5_whomOf.data.toList.drop 0 = dktX5_whomOf_0 := by decide +kernel
theorem dksX5_whomOf_1 : cX5_whomOf.data.toList.drop 24 = dktX5_whomOf_1 := dk_seg dksX5_whomOf_0 24 rfl rfl
theorem dksX5_whomOf_2 : cX5_whomOf.data.toList.drop 46 = dktX5_whomOf_2 := dk_seg dksX5_whomOf_1 22 rfl rfl
theorem dX5_whomOf_0 : decode cX5_whomOf 0 = .ok (.iload_n 3, 1) := dk_29 (dk_at dksX5_whomOf_0 0 rfl rfl)
theorem dX5_whomOf_1 : decode cX5_whomOf 1 = .ok (.iconst (-1), 1) := dk_2 (dk_at dksX5_whomOf_0 1 rfl rfl)
theorem dX5_whomOf_2 : decode cX5_whomOf 2 = .ok (.if_icmp .eq 5, 3) := dk_159 0 5 (dk_at dksX5_whomOf_0 2 rfl rfl)
theorem dX5_whomOf_5 : decode cX5_whomOf 5 = .ok (.iload_n 3, 1) := dk_29 (dk_at dksX5_whomOf_0 5 rfl rfl)
theorem dX5_whomOf_6 : decode cX5_whomOf 6 = .ok (.ireturn, 1) := dk_172 (dk_at dksX5_whomOf_0 6 rfl rfl)
theorem dX5_whomOf_7 : decode cX5_whomOf 7 = .ok (.aload_n 0, 1) := dk_42 (dk_at dksX5_whomOf_0 7 rfl rfl)
theorem dX5_whomOf_8 : decode cX5_whomOf 8 = .ok (.getfield 29, 3) := dk_180 0 29 (dk_at dksX5_whomOf_0 8 rfl rfl)
theorem dX5_whomOf_11 : decode cX5_whomOf 11 = .ok (.iload_n 2, 1) := dk_28 (dk_at dksX5_whomOf_0 11 rfl rfl)
theorem dX5_whomOf_12 : decode cX5_whomOf 12 = .ok (.iaload, 1) := dk_46 (dk_at dksX5_whomOf_0 12 rfl rfl)
theorem dX5_whomOf_13 : decode cX5_whomOf 13 = .ok (.iconst 3, 1) := dk_6 (dk_at dksX5_whomOf_0 13 rfl rfl)
theorem dX5_whomOf_14 : decode cX5_whomOf 14 = .ok (.if_icmp .ne 39, 3) := dk_160 0 39 (dk_at dksX5_whomOf_0 14 rfl rfl)
theorem dX5_whomOf_17 : decode cX5_whomOf 17 = .ok (.aload_n 0, 1) := dk_42 (dk_at dksX5_whomOf_0 17 rfl rfl)
theorem dX5_whomOf_18 : decode cX5_whomOf 18 = .ok (.getfield 32, 3) := dk_180 0 32 (dk_at dksX5_whomOf_0 18 rfl rfl)
theorem dX5_whomOf_21 : decode cX5_whomOf 21 = .ok (.iload_n 2, 1) := dk_28 (dk_at dksX5_whomOf_0 21 rfl rfl)
theorem dX5_whomOf_22 : decode cX5_whomOf 22 = .ok (.iaload, 1) := dk_46 (dk_at dksX5_whomOf_0 22 rfl rfl)
theorem dX5_whomOf_23 : decode cX5_whomOf 23 = .ok (.aload_n 0, 1) := dk_42 (dk_at dksX5_whomOf_0 23 rfl rfl)
theorem dX5_whomOf_24 : decode cX5_whomOf 24 = .ok (.getfield 25, 3) := dk_180 0 25 (dk_at dksX5_whomOf_1 0 rfl rfl)
theorem dX5_whomOf_27 : decode cX5_whomOf 27 = .ok (.iconst 1, 1) := dk_4 (dk_at dksX5_whomOf_1 3 rfl rfl)
theorem dX5_whomOf_28 : decode cX5_whomOf 28 = .ok (.iaload, 1) := dk_46 (dk_at dksX5_whomOf_1 4 rfl rfl)
theorem dX5_whomOf_29 : decode cX5_whomOf 29 = .ok (.if_icmp .ge 24, 3) := dk_162 0 24 (dk_at dksX5_whomOf_1 5 rfl rfl)
theorem dX5_whomOf_32 : decode cX5_whomOf 32 = .ok (.aload_n 1, 1) := dk_43 (dk_at dksX5_whomOf_1 8 rfl rfl)
theorem dX5_whomOf_33 : decode cX5_whomOf 33 = .ok (.aload_n 0, 1) := dk_42 (dk_at dksX5_whomOf_1 9 rfl rfl)
theorem dX5_whomOf_34 : decode cX5_whomOf 34 = .ok (.getfield 32, 3) := dk_180 0 32 (dk_at dksX5_whomOf_1 10 rfl rfl)
theorem dX5_whomOf_37 : decode cX5_whomOf 37 = .ok (.iload_n 2, 1) := dk_28 (dk_at dksX5_whomOf_1 13 rfl rfl)
theorem dX5_whomOf_38 : decode cX5_whomOf 38 = .ok (.iaload, 1) := dk_46 (dk_at dksX5_whomOf_1 14 rfl rfl)
theorem dX5_whomOf_39 : decode cX5_whomOf 39 = .ok (.iaload, 1) := dk_46 (dk_at dksX5_whomOf_1 15 rfl rfl)
theorem dX5_whomOf_40 : decode cX5_whomOf 40 = .ok (.iload_n 2, 1) := dk_28 (dk_at dksX5_whomOf_1 16 rfl rfl)
theorem dX5_whomOf_41 : decode cX5_whomOf 41 = .ok (.if_icmp .eq 12, 3) := dk_159 0 12 (dk_at dksX5_whomOf_1 17 rfl rfl)
theorem dX5_whomOf_44 : decode cX5_whomOf 44 = .ok (.aload_n 1, 1) := dk_43 (dk_at dksX5_whomOf_1 20 rfl rfl)
theorem dX5_whomOf_45 : decode cX5_whomOf 45 = .ok (.aload_n 0, 1) := dk_42 (dk_at dksX5_whomOf_1 21 rfl rfl)
theorem dX5_whomOf_46 : decode cX5_whomOf 46 = .ok (.getfield 32, 3) := dk_180 0 32 (dk_at dksX5_whomOf_2 0 rfl rfl)
theorem dX5_whomOf_49 : decode cX5_whomOf 49 = .ok (.iload_n 2, 1) := dk_28 (dk_at dksX5_whomOf_2 3 rfl rfl)
theorem dX5_whomOf_50 : decode cX5_whomOf 50 = .ok (.iaload, 1) := dk_46 (dk_at dksX5_whomOf_2 4 rfl rfl)
theorem dX5_whomOf_51 : decode cX5_whomOf 51 = .ok (.iaload, 1) := dk_46 (dk_at dksX5_whomOf_2 5 rfl rfl)
theorem dX5_whomOf_52 : decode cX5_whomOf 52 = .ok (.ireturn, 1) := dk_172 (dk_at dksX5_whomOf_2 6 rfl rfl)
theorem dX5_whomOf_53 : decode cX5_whomOf 53 = .ok (.iload_n 2, 1) := dk_28 (dk_at dksX5_whomOf_2 7 rfl rfl)
theorem dX5_whomOf_54 : decode cX5_whomOf 54 = .ok (.iconst 1, 1) := dk_4 (dk_at dksX5_whomOf_2 8 rfl rfl)
theorem dX5_whomOf_55 : decode cX5_whomOf 55 = .ok (.iadd, 1) := dk_96 (dk_at dksX5_whomOf_2 9 rfl rfl)
theorem dX5_whomOf_56 : decode cX5_whomOf 56 = .ok (.aload_n 0, 1) := dk_42 (dk_at dksX5_whomOf_2 10 rfl rfl)
theorem dX5_whomOf_57 : decode cX5_whomOf 57 = .ok (.getfield 25, 3) := dk_180 0 25 (dk_at dksX5_whomOf_2 11 rfl rfl)
theorem dX5_whomOf_60 : decode cX5_whomOf 60 = .ok (.iconst 0, 1) := dk_3 (dk_at dksX5_whomOf_2 14 rfl rfl)
theorem dX5_whomOf_61 : decode cX5_whomOf 61 = .ok (.iaload, 1) := dk_46 (dk_at dksX5_whomOf_2 15 rfl rfl)
theorem dX5_whomOf_62 : decode cX5_whomOf 62 = .ok (.irem, 1) := dk_112 (dk_at dksX5_whomOf_2 16 rfl rfl)
theorem dX5_whomOf_63 : decode cX5_whomOf 63 = .ok (.ireturn, 1) := dk_172 (dk_at dksX5_whomOf_2 17 rfl rfl)
abbrev cX5_gap : ByteArray := prog_16_method_49_code
def yX5_gap : MethodName := ⟨RX5, "gap", "(I)I"⟩
def dkwX5_gap_7 : List UInt8 := [29, 172]
abbrev dktX5_gap_7 : List UInt8 := dkwX5_gap_7 ++ []
def dkwX5_gap_6 : List UInt8 := [21, 8, 62, 132, 6, 1, 167, 255, 189, 132, 5, 1, 167, 255, 154, 29, 2, 160, 0, 7, 28, 167, 0, 4]
abbrev dktX5_gap_6 : List UInt8 := dkwX5_gap_6 ++ dktX5_gap_7
def dkwX5_gap_5 : List UInt8 := [46, 100, 184, 1, 26, 54, 8, 21, 7, 158, 0, 17, 29, 2, 159, 0, 9, 21, 8, 29, 162, 0, 6]
abbrev dktX5_gap_5 : List UInt8 := dkwX5_gap_5 ++ dktX5_gap_6
def dkwX5_gap_4 : List UInt8 := [42, 21, 5, 182, 1, 17, 21, 6, 96, 54, 7, 3, 21, 7, 28, 100, 184, 1, 62, 42, 180, 0, 25, 6]
abbrev dktX5_gap_4 : List UInt8 := dkwX5_gap_4 ++ dktX5_gap_5
def dkwX5_gap_3 : List UInt8 := [126, 153, 0, 6, 167, 0, 76, 3, 54, 6, 21, 6, 42, 180, 0, 41, 16, 12, 27, 96, 46, 163, 0, 59]
abbrev dktX5_gap_3 : List UInt8 := dkwX5_gap_3 ++ dktX5_gap_4
def dkwX5_gap_2 : List UInt8 := [54, 4, 3, 54, 5, 21, 5, 4, 42, 180, 0, 25, 4, 46, 120, 162, 0, 95, 21, 5, 21, 4, 2, 130]
abbrev dktX5_gap_2 : List UInt8 := dkwX5_gap_2 ++ dktX5_gap_3
def dkwX5_gap_1 : List UInt8 := [16, 18, 27, 96, 46, 61, 28, 154, 0, 5, 2, 172, 2, 62, 42, 42, 180, 0, 41, 27, 182, 1, 10]
abbrev dktX5_gap_1 : List UInt8 := dkwX5_gap_1 ++ dktX5_gap_2
def dkwX5_gap_0 : List UInt8 := [42, 3, 181, 0, 128, 42, 27, 182, 1, 7, 154, 0, 9, 42, 4, 182, 0, 243, 172, 42, 180, 0, 41]
abbrev dktX5_gap_0 : List UInt8 := dkwX5_gap_0 ++ dktX5_gap_1
theorem dksX5_gap_0 : cX5_gap.data.toList.drop 0 = dktX5_gap_0 := by decide +kernel
theorem dksX5_gap_1 : cX5_gap.data.toList.drop 23 = dktX5_gap_1 := dk_seg dksX5_gap_0 23 rfl rfl
theorem dksX5_gap_2 : cX5_gap.data.toList.drop 46 = dktX5_gap_2 := dk_seg dksX5_gap_1 23 rfl rfl
theorem dksX5_gap_3 : cX5_gap.data.toList.drop 70 = dktX5_gap_3 := dk_seg dksX5_gap_2 24 rfl rfl
theorem dksX5_gap_4 : cX5_gap.data.toList.drop 94 = dktX5_gap_4 := dk_seg dksX5_gap_3 24 rfl rfl
theorem dksX5_gap_5 : cX5_gap.data.toList.drop 118 = dktX5_gap_5 := dk_seg dksX5_gap_4 24 rfl rfl
theorem dksX5_gap_6 : cX5_gap.data.toList.drop 141 = dktX5_gap_6 := dk_seg dksX5_gap_5 23 rfl rfl
theorem dksX5_gap_7 : cX5_gap.data.toList.drop 165 = dktX5_gap_7 := dk_seg dksX5_gap_6 24 rfl rfl
theorem dX5_gap_0 : decode cX5_gap 0 = .ok (.aload_n 0, 1) := dk_42 (dk_at dksX5_gap_0 0 rfl rfl)
theorem dX5_gap_1 : decode cX5_gap 1 = .ok (.iconst 0, 1) := dk_3 (dk_at dksX5_gap_0 1 rfl rfl)
theorem dX5_gap_2 : decode cX5_gap 2 = .ok (.putfield 128, 3) := dk_181 0 128 (dk_at dksX5_gap_0 2 rfl rfl)
theorem dX5_gap_5 : decode cX5_gap 5 = .ok (.aload_n 0, 1) := dk_42 (dk_at dksX5_gap_0 5 rfl rfl)
theorem dX5_gap_6 : decode cX5_gap 6 = .ok (.iload_n 1, 1) := dk_27 (dk_at dksX5_gap_0 6 rfl rfl)
theorem dX5_gap_7 : decode cX5_gap 7 = .ok (.invokevirtual 263, 3) := dk_182 1 7 (dk_at dksX5_gap_0 7 rfl rfl)
theorem dX5_gap_10 : decode cX5_gap 10 = .ok (.ifCond .ne 9, 3) := dk_154 0 9 (dk_at dksX5_gap_0 10 rfl rfl)
theorem dX5_gap_13 : decode cX5_gap 13 = .ok (.aload_n 0, 1) := dk_42 (dk_at dksX5_gap_0 13 rfl rfl)
theorem dX5_gap_14 : decode cX5_gap 14 = .ok (.iconst 1, 1) := dk_4 (dk_at dksX5_gap_0 14 rfl rfl)
theorem dX5_gap_15 : decode cX5_gap 15 = .ok (.invokevirtual 243, 3) := dk_182 0 243 (dk_at dksX5_gap_0 15 rfl rfl)
theorem dX5_gap_18 : decode cX5_gap 18 = .ok (.ireturn, 1) := dk_172 (dk_at dksX5_gap_0 18 rfl rfl)
theorem dX5_gap_19 : decode cX5_gap 19 = .ok (.aload_n 0, 1) := dk_42 (dk_at dksX5_gap_0 19 rfl rfl)
theorem dX5_gap_20 : decode cX5_gap 20 = .ok (.getfield 41, 3) := dk_180 0 41 (dk_at dksX5_gap_0 20 rfl rfl)
theorem dX5_gap_23 : decode cX5_gap 23 = .ok (.bipush 18, 2) := dk_16 18 (dk_at dksX5_gap_1 0 rfl rfl)
theorem dX5_gap_25 : decode cX5_gap 25 = .ok (.iload_n 1, 1) := dk_27 (dk_at dksX5_gap_1 2 rfl rfl)
theorem dX5_gap_26 : decode cX5_gap 26 = .ok (.iadd, 1) := dk_96 (dk_at dksX5_gap_1 3 rfl rfl)
theorem dX5_gap_27 : decode cX5_gap 27 = .ok (.iaload, 1) := dk_46 (dk_at dksX5_gap_1 4 rfl rfl)
theorem dX5_gap_28 : decode cX5_gap 28 = .ok (.istore_n 2, 1) := dk_61 (dk_at dksX5_gap_1 5 rfl rfl)
theorem dX5_gap_29 : decode cX5_gap 29 = .ok (.iload_n 2, 1) := dk_28 (dk_at dksX5_gap_1 6 rfl rfl)
theorem dX5_gap_30 : decode cX5_gap 30 = .ok (.ifCond .ne 5, 3) := dk_154 0 5 (dk_at dksX5_gap_1 7 rfl rfl)
theorem dX5_gap_33 : decode cX5_gap 33 = .ok (.iconst (-1), 1) := dk_2 (dk_at dksX5_gap_1 10 rfl rfl)
theorem dX5_gap_34 : decode cX5_gap 34 = .ok (.ireturn, 1) := dk_172 (dk_at dksX5_gap_1 11 rfl rfl)
theorem dX5_gap_35 : decode cX5_gap 35 = .ok (.iconst (-1), 1) := dk_2 (dk_at dksX5_gap_1 12 rfl rfl)
theorem dX5_gap_36 : decode cX5_gap 36 = .ok (.istore_n 3, 1) := dk_62 (dk_at dksX5_gap_1 13 rfl rfl)
theorem dX5_gap_37 : decode cX5_gap 37 = .ok (.aload_n 0, 1) := dk_42 (dk_at dksX5_gap_1 14 rfl rfl)
theorem dX5_gap_38 : decode cX5_gap 38 = .ok (.aload_n 0, 1) := dk_42 (dk_at dksX5_gap_1 15 rfl rfl)
theorem dX5_gap_39 : decode cX5_gap 39 = .ok (.getfield 41, 3) := dk_180 0 41 (dk_at dksX5_gap_1 16 rfl rfl)
theorem dX5_gap_42 : decode cX5_gap 42 = .ok (.iload_n 1, 1) := dk_27 (dk_at dksX5_gap_1 19 rfl rfl)
theorem dX5_gap_43 : decode cX5_gap 43 = .ok (.invokevirtual 266, 3) := dk_182 1 10 (dk_at dksX5_gap_1 20 rfl rfl)
theorem dX5_gap_46 : decode cX5_gap 46 = .ok (.istore 4, 2) := dk_54 4 (dk_at dksX5_gap_2 0 rfl rfl)
theorem dX5_gap_48 : decode cX5_gap 48 = .ok (.iconst 0, 1) := dk_3 (dk_at dksX5_gap_2 2 rfl rfl)
theorem dX5_gap_49 : decode cX5_gap 49 = .ok (.istore 5, 2) := dk_54 5 (dk_at dksX5_gap_2 3 rfl rfl)
theorem dX5_gap_51 : decode cX5_gap 51 = .ok (.iload 5, 2) := dk_21 5 (dk_at dksX5_gap_2 5 rfl rfl)
theorem dX5_gap_53 : decode cX5_gap 53 = .ok (.iconst 1, 1) := dk_4 (dk_at dksX5_gap_2 7 rfl rfl)
theorem dX5_gap_54 : decode cX5_gap 54 = .ok (.aload_n 0, 1) := dk_42 (dk_at dksX5_gap_2 8 rfl rfl)
theorem dX5_gap_55 : decode cX5_gap 55 = .ok (.getfield 25, 3) := dk_180 0 25 (dk_at dksX5_gap_2 9 rfl rfl)
theorem dX5_gap_58 : decode cX5_gap 58 = .ok (.iconst 1, 1) := dk_4 (dk_at dksX5_gap_2 12 rfl rfl)
theorem dX5_gap_59 : decode cX5_gap 59 = .ok (.iaload, 1) := dk_46 (dk_at dksX5_gap_2 13 rfl rfl)
theorem dX5_gap_60 : decode cX5_gap 60 = .ok (.ishl, 1) := dk_120 (dk_at dksX5_gap_2 14 rfl rfl)
theorem dX5_gap_61 : decode cX5_gap 61 = .ok (.if_icmp .ge 95, 3) := dk_162 0 95 (dk_at dksX5_gap_2 15 rfl rfl)
theorem dX5_gap_64 : decode cX5_gap 64 = .ok (.iload 5, 2) := dk_21 5 (dk_at dksX5_gap_2 18 rfl rfl)
theorem dX5_gap_66 : decode cX5_gap 66 = .ok (.iload 4, 2) := dk_21 4 (dk_at dksX5_gap_2 20 rfl rfl)
theorem dX5_gap_68 : decode cX5_gap 68 = .ok (.iconst (-1), 1) := dk_2 (dk_at dksX5_gap_2 22 rfl rfl)
theorem dX5_gap_69 : decode cX5_gap 69 = .ok (.ixor, 1) := dk_130 (dk_at dksX5_gap_2 23 rfl rfl)
theorem dX5_gap_70 : decode cX5_gap 70 = .ok (.iand, 1) := dk_126 (dk_at dksX5_gap_3 0 rfl rfl)
theorem dX5_gap_71 : decode cX5_gap 71 = .ok (.ifCond .eq 6, 3) := dk_153 0 6 (dk_at dksX5_gap_3 1 rfl rfl)
theorem dX5_gap_74 : decode cX5_gap 74 = .ok (.goto 76, 3) := dk_167 0 76 (dk_at dksX5_gap_3 4 rfl rfl)
theorem dX5_gap_77 : decode cX5_gap 77 = .ok (.iconst 0, 1) := dk_3 (dk_at dksX5_gap_3 7 rfl rfl)
theorem dX5_gap_78 : decode cX5_gap 78 = .ok (.istore 6, 2) := dk_54 6 (dk_at dksX5_gap_3 8 rfl rfl)
theorem dX5_gap_80 : decode cX5_gap 80 = .ok (.iload 6, 2) := dk_21 6 (dk_at dksX5_gap_3 10 rfl rfl)
theorem dX5_gap_82 : decode cX5_gap 82 = .ok (.aload_n 0, 1) := dk_42 (dk_at dksX5_gap_3 12 rfl rfl)
theorem dX5_gap_83 : decode cX5_gap 83 = .ok (.getfield 41, 3) := dk_180 0 41 (dk_at dksX5_gap_3 13 rfl rfl)
theorem dX5_gap_86 : decode cX5_gap 86 = .ok (.bipush 12, 2) := dk_16 12 (dk_at dksX5_gap_3 16 rfl rfl)
theorem dX5_gap_88 : decode cX5_gap 88 = .ok (.iload_n 1, 1) := dk_27 (dk_at dksX5_gap_3 18 rfl rfl)
theorem dX5_gap_89 : decode cX5_gap 89 = .ok (.iadd, 1) := dk_96 (dk_at dksX5_gap_3 19 rfl rfl)
theorem dX5_gap_90 : decode cX5_gap 90 = .ok (.iaload, 1) := dk_46 (dk_at dksX5_gap_3 20 rfl rfl)
theorem dX5_gap_91 : decode cX5_gap 91 = .ok (.if_icmp .gt 59, 3) := dk_163 0 59 (dk_at dksX5_gap_3 21 rfl rfl)
theorem dX5_gap_94 : decode cX5_gap 94 = .ok (.aload_n 0, 1) := dk_42 (dk_at dksX5_gap_4 0 rfl rfl)
theorem dX5_gap_95 : decode cX5_gap 95 = .ok (.iload 5, 2) := dk_21 5 (dk_at dksX5_gap_4 1 rfl rfl)
theorem dX5_gap_97 : decode cX5_gap 97 = .ok (.invokevirtual 273, 3) := dk_182 1 17 (dk_at dksX5_gap_4 3 rfl rfl)
theorem dX5_gap_100 : decode cX5_gap 100 = .ok (.iload 6, 2) := dk_21 6 (dk_at dksX5_gap_4 6 rfl rfl)
theorem dX5_gap_102 : decode cX5_gap 102 = .ok (.iadd, 1) := dk_96 (dk_at dksX5_gap_4 8 rfl rfl)
theorem dX5_gap_103 : decode cX5_gap 103 = .ok (.istore 7, 2) := dk_54 7 (dk_at dksX5_gap_4 9 rfl rfl)
theorem dX5_gap_105 : decode cX5_gap 105 = .ok (.iconst 0, 1) := dk_3 (dk_at dksX5_gap_4 11 rfl rfl)
theorem dX5_gap_106 : decode cX5_gap 106 = .ok (.iload 7, 2) := dk_21 7 (dk_at dksX5_gap_4 12 rfl rfl)
theorem dX5_gap_108 : decode cX5_gap 108 = .ok (.iload_n 2, 1) := dk_28 (dk_at dksX5_gap_4 14 rfl rfl)
theorem dX5_gap_109 : decode cX5_gap 109 = .ok (.isub, 1) := dk_100 (dk_at dksX5_gap_4 15 rfl rfl)
theorem dX5_gap_110 : decode cX5_gap 110 = .ok (.invokestatic 318, 3) := dk_184 1 62 (dk_at dksX5_gap_4 16 rfl rfl)
theorem dX5_gap_113 : decode cX5_gap 113 = .ok (.aload_n 0, 1) := dk_42 (dk_at dksX5_gap_4 19 rfl rfl)
theorem dX5_gap_114 : decode cX5_gap 114 = .ok (.getfield 25, 3) := dk_180 0 25 (dk_at dksX5_gap_4 20 rfl rfl)
theorem dX5_gap_117 : decode cX5_gap 117 = .ok (.iconst 3, 1) := dk_6 (dk_at dksX5_gap_4 23 rfl rfl)
theorem dX5_gap_118 : decode cX5_gap 118 = .ok (.iaload, 1) := dk_46 (dk_at dksX5_gap_5 0 rfl rfl)
theorem dX5_gap_119 : decode cX5_gap 119 = .ok (.isub, 1) := dk_100 (dk_at dksX5_gap_5 1 rfl rfl)
theorem dX5_gap_120 : decode cX5_gap 120 = .ok (.invokestatic 282, 3) := dk_184 1 26 (dk_at dksX5_gap_5 2 rfl rfl)
theorem dX5_gap_123 : decode cX5_gap 123 = .ok (.istore 8, 2) := dk_54 8 (dk_at dksX5_gap_5 5 rfl rfl)
theorem dX5_gap_125 : decode cX5_gap 125 = .ok (.iload 7, 2) := dk_21 7 (dk_at dksX5_gap_5 7 rfl rfl)
theorem dX5_gap_127 : decode cX5_gap 127 = .ok (.ifCond .le 17, 3) := dk_158 0 17 (dk_at dksX5_gap_5 9 rfl rfl)
theorem dX5_gap_130 : decode cX5_gap 130 = .ok (.iload_n 3, 1) := dk_29 (dk_at dksX5_gap_5 12 rfl rfl)
theorem dX5_gap_131 : decode cX5_gap 131 = .ok (.iconst (-1), 1) := dk_2 (dk_at dksX5_gap_5 13 rfl rfl)
theorem dX5_gap_132 : decode cX5_gap 132 = .ok (.if_icmp .eq 9, 3) := dk_159 0 9 (dk_at dksX5_gap_5 14 rfl rfl)
theorem dX5_gap_135 : decode cX5_gap 135 = .ok (.iload 8, 2) := dk_21 8 (dk_at dksX5_gap_5 17 rfl rfl)
theorem dX5_gap_137 : decode cX5_gap 137 = .ok (.iload_n 3, 1) := dk_29 (dk_at dksX5_gap_5 19 rfl rfl)
theorem dX5_gap_138 : decode cX5_gap 138 = .ok (.if_icmp .ge 6, 3) := dk_162 0 6 (dk_at dksX5_gap_5 20 rfl rfl)
theorem dX5_gap_141 : decode cX5_gap 141 = .ok (.iload 8, 2) := dk_21 8 (dk_at dksX5_gap_6 0 rfl rfl)
theorem dX5_gap_143 : decode cX5_gap 143 = .ok (.istore_n 3, 1) := dk_62 (dk_at dksX5_gap_6 2 rfl rfl)
theorem dX5_gap_144 : decode cX5_gap 144 = .ok (.iinc 6 1, 3) := dk_132 6 1 (dk_at dksX5_gap_6 3 rfl rfl)
theorem dX5_gap_147 : decode cX5_gap 147 = .ok (.goto (-67), 3) := dk_167 255 189 (dk_at dksX5_gap_6 6 rfl rfl)
theorem dX5_gap_150 : decode cX5_gap 150 = .ok (.iinc 5 1, 3) := dk_132 5 1 (dk_at dksX5_gap_6 9 rfl rfl)
theorem dX5_gap_153 : decode cX5_gap 153 = .ok (.goto (-102), 3) := dk_167 255 154 (dk_at dksX5_gap_6 12 rfl rfl)
theorem dX5_gap_156 : decode cX5_gap 156 = .ok (.iload_n 3, 1) := dk_29 (dk_at dksX5_gap_6 15 rfl rfl)
theorem dX5_gap_157 : decode cX5_gap 157 = .ok (.iconst (-1), 1) := dk_2 (dk_at dksX5_gap_6 16 rfl rfl)
theorem dX5_gap_158 : decode cX5_gap 158 = .ok (.if_icmp .ne 7, 3) := dk_160 0 7 (dk_at dksX5_gap_6 17 rfl rfl)
theorem dX5_gap_161 : decode cX5_gap 161 = .ok (.iload_n 2, 1) := dk_28 (dk_at dksX5_gap_6 20 rfl rfl)
theorem dX5_gap_162 : decode cX5_gap 162 = .ok (.goto 4, 3) := dk_167 0 4 (dk_at dksX5_gap_6 21 rfl rfl)
theorem dX5_gap_165 : decode cX5_gap 165 = .ok (.iload_n 3, 1) := dk_29 (dk_at dksX5_gap_7 0 rfl rfl)
theorem dX5_gap_166 : decode cX5_gap 166 = .ok (.ireturn, 1) := dk_172 (dk_at dksX5_gap_7 1 rfl rfl)
abbrev cX5_week : ByteArray := prog_16_method_53_code
def yX5_week : MethodName := ⟨RX5, "week", "(I)I"⟩
def dkwX5_week_10 : List UInt8 := [160, 0, 10, 42, 180, 1, 65, 167, 0, 7, 42, 180, 1, 84, 172]
abbrev dktX5_week_10 : List UInt8 := dkwX5_week_10 ++ []
def dkwX5_week_9 : List UInt8 := [167, 255, 233, 27, 154, 0, 18, 42, 180, 1, 71, 153, 0, 7, 4, 167, 0, 23, 3, 167, 0, 19, 27, 4]
abbrev dktX5_week_9 : List UInt8 := dkwX5_week_9 ++ dktX5_week_10
def dkwX5_week_8 : List UInt8 := [42, 180, 1, 68, 162, 0, 21, 42, 180, 0, 82, 28, 42, 180, 0, 79, 28, 46, 79, 132, 2, 1]
abbrev dktX5_week_8 : List UInt8 := dkwX5_week_8 ++ dktX5_week_9
def dkwX5_week_7 : List UInt8 := [153, 0, 6, 16, 254, 172, 42, 180, 1, 71, 153, 0, 39, 42, 42, 180, 1, 68, 181, 0, 85, 3, 61, 28]
abbrev dktX5_week_7 : List UInt8 := dkwX5_week_7 ++ dktX5_week_8
def dkwX5_week_6 : List UInt8 := [181, 1, 65, 42, 3, 181, 1, 74, 42, 3, 181, 1, 71, 42, 3, 3, 182, 1, 87, 42, 180, 1, 74]
abbrev dktX5_week_6 : List UInt8 := dkwX5_week_6 ++ dktX5_week_7
def dkwX5_week_5 : List UInt8 := [180, 0, 67, 28, 42, 180, 0, 41, 28, 46, 79, 132, 2, 1, 167, 255, 235, 42, 3, 181, 1, 84, 42, 3]
abbrev dktX5_week_5 : List UInt8 := dkwX5_week_5 ++ dktX5_week_6
def dkwX5_week_4 : List UInt8 := [167, 0, 4, 3, 96, 181, 1, 68, 132, 2, 1, 167, 255, 180, 3, 61, 28, 16, 30, 162, 0, 21, 42]
abbrev dktX5_week_4 : List UInt8 := dkwX5_week_4 ++ dktX5_week_5
def dkwX5_week_3 : List UInt8 := [180, 0, 41, 16, 24, 28, 96, 46, 79, 42, 89, 180, 1, 68, 42, 180, 0, 73, 28, 46, 158, 0, 7, 4]
abbrev dktX5_week_3 : List UInt8 := dkwX5_week_3 ++ dktX5_week_4
def dkwX5_week_2 : List UInt8 := [162, 0, 15, 42, 180, 0, 41, 16, 18, 28, 96, 46, 167, 0, 4, 3, 79, 42, 180, 0, 76, 28, 42]
abbrev dktX5_week_2 : List UInt8 := dkwX5_week_2 ++ dktX5_week_3
def dkwX5_week_1 : List UInt8 := [181, 1, 68, 3, 61, 28, 16, 6, 162, 0, 76, 42, 180, 0, 73, 28, 28, 42, 180, 0, 25, 3, 46]
abbrev dktX5_week_1 : List UInt8 := dkwX5_week_1 ++ dktX5_week_2
def dkwX5_week_0 : List UInt8 := [42, 3, 181, 0, 128, 27, 3, 5, 184, 0, 131, 154, 0, 9, 42, 4, 182, 0, 243, 172, 42, 3]
abbrev dktX5_week_0 : List UInt8 := dkwX5_week_0 ++ dktX5_week_1
theorem dksX5_week_0 : cX5_week.data.toList.drop 0 = dktX5_week_0 := by decide +kernel
theorem dksX5_week_1 : cX5_week.data.toList.drop 22 = dktX5_week_1 := dk_seg dksX5_week_0 22 rfl rfl
theorem dksX5_week_2 : cX5_week.data.toList.drop 45 = dktX5_week_2 := dk_seg dksX5_week_1 23 rfl rfl
theorem dksX5_week_3 : cX5_week.data.toList.drop 68 = dktX5_week_3 := dk_seg dksX5_week_2 23 rfl rfl
theorem dksX5_week_4 : cX5_week.data.toList.drop 92 = dktX5_week_4 := dk_seg dksX5_week_3 24 rfl rfl
theorem dksX5_week_5 : cX5_week.data.toList.drop 115 = dktX5_week_5 := dk_seg dksX5_week_4 23 rfl rfl
theorem dksX5_week_6 : cX5_week.data.toList.drop 139 = dktX5_week_6 := dk_seg dksX5_week_5 24 rfl rfl
theorem dksX5_week_7 : cX5_week.data.toList.drop 162 = dktX5_week_7 := dk_seg dksX5_week_6 23 rfl rfl
theorem dksX5_week_8 : cX5_week.data.toList.drop 186 = dktX5_week_8 := dk_seg dksX5_week_7 24 rfl rfl
theorem dksX5_week_9 : cX5_week.data.toList.drop 208 = dktX5_week_9 := dk_seg dksX5_week_8 22 rfl rfl
theorem dksX5_week_10 : cX5_week.data.toList.drop 232 = dktX5_week_10 := dk_seg dksX5_week_9 24 rfl rfl
theorem dX5_week_0 : decode cX5_week 0 = .ok (.aload_n 0, 1) := dk_42 (dk_at dksX5_week_0 0 rfl rfl)
theorem dX5_week_1 : decode cX5_week 1 = .ok (.iconst 0, 1) := dk_3 (dk_at dksX5_week_0 1 rfl rfl)
theorem dX5_week_2 : decode cX5_week 2 = .ok (.putfield 128, 3) := dk_181 0 128 (dk_at dksX5_week_0 2 rfl rfl)
theorem dX5_week_5 : decode cX5_week 5 = .ok (.iload_n 1, 1) := dk_27 (dk_at dksX5_week_0 5 rfl rfl)
theorem dX5_week_6 : decode cX5_week 6 = .ok (.iconst 0, 1) := dk_3 (dk_at dksX5_week_0 6 rfl rfl)
theorem dX5_week_7 : decode cX5_week 7 = .ok (.iconst 2, 1) := dk_5 (dk_at dksX5_week_0 7 rfl rfl)
theorem dX5_week_8 : decode cX5_week 8 = .ok (.invokestatic 131, 3) := dk_184 0 131 (dk_at dksX5_week_0 8 rfl rfl)
theorem dX5_week_11 : decode cX5_week 11 = .ok (.ifCond .ne 9, 3) := dk_154 0 9 (dk_at dksX5_week_0 11 rfl rfl)
theorem dX5_week_14 : decode cX5_week 14 = .ok (.aload_n 0, 1) := dk_42 (dk_at dksX5_week_0 14 rfl rfl)
theorem dX5_week_15 : decode cX5_week 15 = .ok (.iconst 1, 1) := dk_4 (dk_at dksX5_week_0 15 rfl rfl)
theorem dX5_week_16 : decode cX5_week 16 = .ok (.invokevirtual 243, 3) := dk_182 0 243 (dk_at dksX5_week_0 16 rfl rfl)
theorem dX5_week_19 : decode cX5_week 19 = .ok (.ireturn, 1) := dk_172 (dk_at dksX5_week_0 19 rfl rfl)
theorem dX5_week_20 : decode cX5_week 20 = .ok (.aload_n 0, 1) := dk_42 (dk_at dksX5_week_0 20 rfl rfl)
theorem dX5_week_21 : decode cX5_week 21 = .ok (.iconst 0, 1) := dk_3 (dk_at dksX5_week_0 21 rfl rfl)
theorem dX5_week_22 : decode cX5_week 22 = .ok (.putfield 324, 3) := dk_181 1 68 (dk_at dksX5_week_1 0 rfl rfl)
theorem dX5_week_25 : decode cX5_week 25 = .ok (.iconst 0, 1) := dk_3 (dk_at dksX5_week_1 3 rfl rfl)
theorem dX5_week_26 : decode cX5_week 26 = .ok (.istore_n 2, 1) := dk_61 (dk_at dksX5_week_1 4 rfl rfl)
theorem dX5_week_27 : decode cX5_week 27 = .ok (.iload_n 2, 1) := dk_28 (dk_at dksX5_week_1 5 rfl rfl)
theorem dX5_week_28 : decode cX5_week 28 = .ok (.bipush 6, 2) := dk_16 6 (dk_at dksX5_week_1 6 rfl rfl)
theorem dX5_week_30 : decode cX5_week 30 = .ok (.if_icmp .ge 76, 3) := dk_162 0 76 (dk_at dksX5_week_1 8 rfl rfl)
theorem dX5_week_33 : decode cX5_week 33 = .ok (.aload_n 0, 1) := dk_42 (dk_at dksX5_week_1 11 rfl rfl)
theorem dX5_week_34 : decode cX5_week 34 = .ok (.getfield 73, 3) := dk_180 0 73 (dk_at dksX5_week_1 12 rfl rfl)
theorem dX5_week_37 : decode cX5_week 37 = .ok (.iload_n 2, 1) := dk_28 (dk_at dksX5_week_1 15 rfl rfl)
theorem dX5_week_38 : decode cX5_week 38 = .ok (.iload_n 2, 1) := dk_28 (dk_at dksX5_week_1 16 rfl rfl)
theorem dX5_week_39 : decode cX5_week 39 = .ok (.aload_n 0, 1) := dk_42 (dk_at dksX5_week_1 17 rfl rfl)
theorem dX5_week_40 : decode cX5_week 40 = .ok (.getfield 25, 3) := dk_180 0 25 (dk_at dksX5_week_1 18 rfl rfl)
theorem dX5_week_43 : decode cX5_week 43 = .ok (.iconst 0, 1) := dk_3 (dk_at dksX5_week_1 21 rfl rfl)
theorem dX5_week_44 : decode cX5_week 44 = .ok (.iaload, 1) := dk_46 (dk_at dksX5_week_1 22 rfl rfl)
theorem dX5_week_45 : decode cX5_week 45 = .ok (.if_icmp .ge 15, 3) := dk_162 0 15 (dk_at dksX5_week_2 0 rfl rfl)
theorem dX5_week_48 : decode cX5_week 48 = .ok (.aload_n 0, 1) := dk_42 (dk_at dksX5_week_2 3 rfl rfl)
theorem dX5_week_49 : decode cX5_week 49 = .ok (.getfield 41, 3) := dk_180 0 41 (dk_at dksX5_week_2 4 rfl rfl)
theorem dX5_week_52 : decode cX5_week 52 = .ok (.bipush 18, 2) := dk_16 18 (dk_at dksX5_week_2 7 rfl rfl)
theorem dX5_week_54 : decode cX5_week 54 = .ok (.iload_n 2, 1) := dk_28 (dk_at dksX5_week_2 9 rfl rfl)
theorem dX5_week_55 : decode cX5_week 55 = .ok (.iadd, 1) := dk_96 (dk_at dksX5_week_2 10 rfl rfl)
theorem dX5_week_56 : decode cX5_week 56 = .ok (.iaload, 1) := dk_46 (dk_at dksX5_week_2 11 rfl rfl)
theorem dX5_week_57 : decode cX5_week 57 = .ok (.goto 4, 3) := dk_167 0 4 (dk_at dksX5_week_2 12 rfl rfl)
theorem dX5_week_60 : decode cX5_week 60 = .ok (.iconst 0, 1) := dk_3 (dk_at dksX5_week_2 15 rfl rfl)
theorem dX5_week_61 : decode cX5_week 61 = .ok (.iastore, 1) := dk_79 (dk_at dksX5_week_2 16 rfl rfl)
theorem dX5_week_62 : decode cX5_week 62 = .ok (.aload_n 0, 1) := dk_42 (dk_at dksX5_week_2 17 rfl rfl)
theorem dX5_week_63 : decode cX5_week 63 = .ok (.getfield 76, 3) := dk_180 0 76 (dk_at dksX5_week_2 18 rfl rfl)
theorem dX5_week_66 : decode cX5_week 66 = .ok (.iload_n 2, 1) := dk_28 (dk_at dksX5_week_2 21 rfl rfl)
theorem dX5_week_67 : decode cX5_week 67 = .ok (.aload_n 0, 1) := dk_42 (dk_at dksX5_week_2 22 rfl rfl)
theorem dX5_week_68 : decode cX5_week 68 = .ok (.getfield 41, 3) := dk_180 0 41 (dk_at dksX5_week_3 0 rfl rfl)
theorem dX5_week_71 : decode cX5_week 71 = .ok (.bipush 24, 2) := dk_16 24 (dk_at dksX5_week_3 3 rfl rfl)
theorem dX5_week_73 : decode cX5_week 73 = .ok (.iload_n 2, 1) := dk_28 (dk_at dksX5_week_3 5 rfl rfl)
theorem dX5_week_74 : decode cX5_week 74 = .ok (.iadd, 1) := dk_96 (dk_at dksX5_week_3 6 rfl rfl)
theorem dX5_week_75 : decode cX5_week 75 = .ok (.iaload, 1) := dk_46 (dk_at dksX5_week_3 7 rfl rfl)
theorem dX5_week_76 : decode cX5_week 76 = .ok (.iastore, 1) := dk_79 (dk_at dksX5_week_3 8 rfl rfl)
theorem dX5_week_77 : decode cX5_week 77 = .ok (.aload_n 0, 1) := dk_42 (dk_at dksX5_week_3 9 rfl rfl)
theorem dX5_week_78 : decode cX5_week 78 = .ok (.dup, 1) := dk_89 (dk_at dksX5_week_3 10 rfl rfl)
theorem dX5_week_79 : decode cX5_week 79 = .ok (.getfield 324, 3) := dk_180 1 68 (dk_at dksX5_week_3 11 rfl rfl)
theorem dX5_week_82 : decode cX5_week 82 = .ok (.aload_n 0, 1) := dk_42 (dk_at dksX5_week_3 14 rfl rfl)
theorem dX5_week_83 : decode cX5_week 83 = .ok (.getfield 73, 3) := dk_180 0 73 (dk_at dksX5_week_3 15 rfl rfl)
theorem dX5_week_86 : decode cX5_week 86 = .ok (.iload_n 2, 1) := dk_28 (dk_at dksX5_week_3 18 rfl rfl)
theorem dX5_week_87 : decode cX5_week 87 = .ok (.iaload, 1) := dk_46 (dk_at dksX5_week_3 19 rfl rfl)
theorem dX5_week_88 : decode cX5_week 88 = .ok (.ifCond .le 7, 3) := dk_158 0 7 (dk_at dksX5_week_3 20 rfl rfl)
theorem dX5_week_91 : decode cX5_week 91 = .ok (.iconst 1, 1) := dk_4 (dk_at dksX5_week_3 23 rfl rfl)
theorem dX5_week_92 : decode cX5_week 92 = .ok (.goto 4, 3) := dk_167 0 4 (dk_at dksX5_week_4 0 rfl rfl)
theorem dX5_week_95 : decode cX5_week 95 = .ok (.iconst 0, 1) := dk_3 (dk_at dksX5_week_4 3 rfl rfl)
theorem dX5_week_96 : decode cX5_week 96 = .ok (.iadd, 1) := dk_96 (dk_at dksX5_week_4 4 rfl rfl)
theorem dX5_week_97 : decode cX5_week 97 = .ok (.putfield 324, 3) := dk_181 1 68 (dk_at dksX5_week_4 5 rfl rfl)
theorem dX5_week_100 : decode cX5_week 100 = .ok (.iinc 2 1, 3) := dk_132 2 1 (dk_at dksX5_week_4 8 rfl rfl)
theorem dX5_week_103 : decode cX5_week 103 = .ok (.goto (-76), 3) := dk_167 255 180 (dk_at dksX5_week_4 11 rfl rfl)
theorem dX5_week_106 : decode cX5_week 106 = .ok (.iconst 0, 1) := dk_3 (dk_at dksX5_week_4 14 rfl rfl)
theorem dX5_week_107 : decode cX5_week 107 = .ok (.istore_n 2, 1) := dk_61 (dk_at dksX5_week_4 15 rfl rfl)
theorem dX5_week_108 : decode cX5_week 108 = .ok (.iload_n 2, 1) := dk_28 (dk_at dksX5_week_4 16 rfl rfl)
theorem dX5_week_109 : decode cX5_week 109 = .ok (.bipush 30, 2) := dk_16 30 (dk_at dksX5_week_4 17 rfl rfl)
theorem dX5_week_111 : decode cX5_week 111 = .ok (.if_icmp .ge 21, 3) := dk_162 0 21 (dk_at dksX5_week_4 19 rfl rfl)
theorem dX5_week_114 : decode cX5_week 114 = .ok (.aload_n 0, 1) := dk_42 (dk_at dksX5_week_4 22 rfl rfl)
theorem dX5_week_115 : decode cX5_week 115 = .ok (.getfield 67, 3) := dk_180 0 67 (dk_at dksX5_week_5 0 rfl rfl)
theorem dX5_week_118 : decode cX5_week 118 = .ok (.iload_n 2, 1) := dk_28 (dk_at dksX5_week_5 3 rfl rfl)
theorem dX5_week_119 : decode cX5_week 119 = .ok (.aload_n 0, 1) := dk_42 (dk_at dksX5_week_5 4 rfl rfl)
theorem dX5_week_120 : decode cX5_week 120 = .ok (.getfield 41, 3) := dk_180 0 41 (dk_at dksX5_week_5 5 rfl rfl)
theorem dX5_week_123 : decode cX5_week 123 = .ok (.iload_n 2, 1) := dk_28 (dk_at dksX5_week_5 8 rfl rfl)
theorem dX5_week_124 : decode cX5_week 124 = .ok (.iaload, 1) := dk_46 (dk_at dksX5_week_5 9 rfl rfl)
theorem dX5_week_125 : decode cX5_week 125 = .ok (.iastore, 1) := dk_79 (dk_at dksX5_week_5 10 rfl rfl)
theorem dX5_week_126 : decode cX5_week 126 = .ok (.iinc 2 1, 3) := dk_132 2 1 (dk_at dksX5_week_5 11 rfl rfl)
theorem dX5_week_129 : decode cX5_week 129 = .ok (.goto (-21), 3) := dk_167 255 235 (dk_at dksX5_week_5 14 rfl rfl)
theorem dX5_week_132 : decode cX5_week 132 = .ok (.aload_n 0, 1) := dk_42 (dk_at dksX5_week_5 17 rfl rfl)
theorem dX5_week_133 : decode cX5_week 133 = .ok (.iconst 0, 1) := dk_3 (dk_at dksX5_week_5 18 rfl rfl)
theorem dX5_week_134 : decode cX5_week 134 = .ok (.putfield 340, 3) := dk_181 1 84 (dk_at dksX5_week_5 19 rfl rfl)
theorem dX5_week_137 : decode cX5_week 137 = .ok (.aload_n 0, 1) := dk_42 (dk_at dksX5_week_5 22 rfl rfl)
theorem dX5_week_138 : decode cX5_week 138 = .ok (.iconst 0, 1) := dk_3 (dk_at dksX5_week_5 23 rfl rfl)
theorem dX5_week_139 : decode cX5_week 139 = .ok (.putfield 321, 3) := dk_181 1 65 (dk_at dksX5_week_6 0 rfl rfl)
theorem dX5_week_142 : decode cX5_week 142 = .ok (.aload_n 0, 1) := dk_42 (dk_at dksX5_week_6 3 rfl rfl)
theorem dX5_week_143 : decode cX5_week 143 = .ok (.iconst 0, 1) := dk_3 (dk_at dksX5_week_6 4 rfl rfl)
theorem dX5_week_144 : decode cX5_week 144 = .ok (.putfield 330, 3) := dk_181 1 74 (dk_at dksX5_week_6 5 rfl rfl)
theorem dX5_week_147 : decode cX5_week 147 = .ok (.aload_n 0, 1) := dk_42 (dk_at dksX5_week_6 8 rfl rfl)
theorem dX5_week_148 : decode cX5_week 148 = .ok (.iconst 0, 1) := dk_3 (dk_at dksX5_week_6 9 rfl rfl)
theorem dX5_week_149 : decode cX5_week 149 = .ok (.putfield 327, 3) := dk_181 1 71 (dk_at dksX5_week_6 10 rfl rfl)
theorem dX5_week_152 : decode cX5_week 152 = .ok (.aload_n 0, 1) := dk_42 (dk_at dksX5_week_6 13 rfl rfl)
theorem dX5_week_153 : decode cX5_week 153 = .ok (.iconst 0, 1) := dk_3 (dk_at dksX5_week_6 14 rfl rfl)
theorem dX5_week_154 : decode cX5_week 154 = .ok (.iconst 0, 1) := dk_3 (dk_at dksX5_week_6 15 rfl rfl)
theorem dX5_week_155 : decode cX5_week 155 = .ok (.invokevirtual 343, 3) := dk_182 1 87 (dk_at dksX5_week_6 16 rfl rfl)
theorem dX5_week_158 : decode cX5_week 158 = .ok (.aload_n 0, 1) := dk_42 (dk_at dksX5_week_6 19 rfl rfl)
theorem dX5_week_159 : decode cX5_week 159 = .ok (.getfield 330, 3) := dk_180 1 74 (dk_at dksX5_week_6 20 rfl rfl)
theorem dX5_week_162 : decode cX5_week 162 = .ok (.ifCond .eq 6, 3) := dk_153 0 6 (dk_at dksX5_week_7 0 rfl rfl)
theorem dX5_week_165 : decode cX5_week 165 = .ok (.bipush (-2), 2) := dk_16 254 (dk_at dksX5_week_7 3 rfl rfl)
theorem dX5_week_167 : decode cX5_week 167 = .ok (.ireturn, 1) := dk_172 (dk_at dksX5_week_7 5 rfl rfl)
theorem dX5_week_168 : decode cX5_week 168 = .ok (.aload_n 0, 1) := dk_42 (dk_at dksX5_week_7 6 rfl rfl)
theorem dX5_week_169 : decode cX5_week 169 = .ok (.getfield 327, 3) := dk_180 1 71 (dk_at dksX5_week_7 7 rfl rfl)
theorem dX5_week_172 : decode cX5_week 172 = .ok (.ifCond .eq 39, 3) := dk_153 0 39 (dk_at dksX5_week_7 10 rfl rfl)
theorem dX5_week_175 : decode cX5_week 175 = .ok (.aload_n 0, 1) := dk_42 (dk_at dksX5_week_7 13 rfl rfl)
theorem dX5_week_176 : decode cX5_week 176 = .ok (.aload_n 0, 1) := dk_42 (dk_at dksX5_week_7 14 rfl rfl)
theorem dX5_week_177 : decode cX5_week 177 = .ok (.getfield 324, 3) := dk_180 1 68 (dk_at dksX5_week_7 15 rfl rfl)
theorem dX5_week_180 : decode cX5_week 180 = .ok (.putfield 85, 3) := dk_181 0 85 (dk_at dksX5_week_7 18 rfl rfl)
theorem dX5_week_183 : decode cX5_week 183 = .ok (.iconst 0, 1) := dk_3 (dk_at dksX5_week_7 21 rfl rfl)
theorem dX5_week_184 : decode cX5_week 184 = .ok (.istore_n 2, 1) := dk_61 (dk_at dksX5_week_7 22 rfl rfl)
theorem dX5_week_185 : decode cX5_week 185 = .ok (.iload_n 2, 1) := dk_28 (dk_at dksX5_week_7 23 rfl rfl)
theorem dX5_week_186 : decode cX5_week 186 = .ok (.aload_n 0, 1) := dk_42 (dk_at dksX5_week_8 0 rfl rfl)
theorem dX5_week_187 : decode cX5_week 187 = .ok (.getfield 324, 3) := dk_180 1 68 (dk_at dksX5_week_8 1 rfl rfl)
theorem dX5_week_190 : decode cX5_week 190 = .ok (.if_icmp .ge 21, 3) := dk_162 0 21 (dk_at dksX5_week_8 4 rfl rfl)
theorem dX5_week_193 : decode cX5_week 193 = .ok (.aload_n 0, 1) := dk_42 (dk_at dksX5_week_8 7 rfl rfl)
theorem dX5_week_194 : decode cX5_week 194 = .ok (.getfield 82, 3) := dk_180 0 82 (dk_at dksX5_week_8 8 rfl rfl)
theorem dX5_week_197 : decode cX5_week 197 = .ok (.iload_n 2, 1) := dk_28 (dk_at dksX5_week_8 11 rfl rfl)
theorem dX5_week_198 : decode cX5_week 198 = .ok (.aload_n 0, 1) := dk_42 (dk_at dksX5_week_8 12 rfl rfl)
theorem dX5_week_199 : decode cX5_week 199 = .ok (.getfield 79, 3) := dk_180 0 79 (dk_at dksX5_week_8 13 rfl rfl)
theorem dX5_week_202 : decode cX5_week 202 = .ok (.iload_n 2, 1) := dk_28 (dk_at dksX5_week_8 16 rfl rfl)
theorem dX5_week_203 : decode cX5_week 203 = .ok (.iaload, 1) := dk_46 (dk_at dksX5_week_8 17 rfl rfl)
theorem dX5_week_204 : decode cX5_week 204 = .ok (.iastore, 1) := dk_79 (dk_at dksX5_week_8 18 rfl rfl)
theorem dX5_week_205 : decode cX5_week 205 = .ok (.iinc 2 1, 3) := dk_132 2 1 (dk_at dksX5_week_8 19 rfl rfl)
theorem dX5_week_208 : decode cX5_week 208 = .ok (.goto (-23), 3) := dk_167 255 233 (dk_at dksX5_week_9 0 rfl rfl)
theorem dX5_week_211 : decode cX5_week 211 = .ok (.iload_n 1, 1) := dk_27 (dk_at dksX5_week_9 3 rfl rfl)
theorem dX5_week_212 : decode cX5_week 212 = .ok (.ifCond .ne 18, 3) := dk_154 0 18 (dk_at dksX5_week_9 4 rfl rfl)
theorem dX5_week_215 : decode cX5_week 215 = .ok (.aload_n 0, 1) := dk_42 (dk_at dksX5_week_9 7 rfl rfl)
theorem dX5_week_216 : decode cX5_week 216 = .ok (.getfield 327, 3) := dk_180 1 71 (dk_at dksX5_week_9 8 rfl rfl)
theorem dX5_week_219 : decode cX5_week 219 = .ok (.ifCond .eq 7, 3) := dk_153 0 7 (dk_at dksX5_week_9 11 rfl rfl)
theorem dX5_week_222 : decode cX5_week 222 = .ok (.iconst 1, 1) := dk_4 (dk_at dksX5_week_9 14 rfl rfl)
theorem dX5_week_223 : decode cX5_week 223 = .ok (.goto 23, 3) := dk_167 0 23 (dk_at dksX5_week_9 15 rfl rfl)
theorem dX5_week_226 : decode cX5_week 226 = .ok (.iconst 0, 1) := dk_3 (dk_at dksX5_week_9 18 rfl rfl)
theorem dX5_week_227 : decode cX5_week 227 = .ok (.goto 19, 3) := dk_167 0 19 (dk_at dksX5_week_9 19 rfl rfl)
theorem dX5_week_230 : decode cX5_week 230 = .ok (.iload_n 1, 1) := dk_27 (dk_at dksX5_week_9 22 rfl rfl)
theorem dX5_week_231 : decode cX5_week 231 = .ok (.iconst 1, 1) := dk_4 (dk_at dksX5_week_9 23 rfl rfl)
theorem dX5_week_232 : decode cX5_week 232 = .ok (.if_icmp .ne 10, 3) := dk_160 0 10 (dk_at dksX5_week_10 0 rfl rfl)
theorem dX5_week_235 : decode cX5_week 235 = .ok (.aload_n 0, 1) := dk_42 (dk_at dksX5_week_10 3 rfl rfl)
theorem dX5_week_236 : decode cX5_week 236 = .ok (.getfield 321, 3) := dk_180 1 65 (dk_at dksX5_week_10 4 rfl rfl)
theorem dX5_week_239 : decode cX5_week 239 = .ok (.goto 7, 3) := dk_167 0 7 (dk_at dksX5_week_10 7 rfl rfl)
theorem dX5_week_242 : decode cX5_week 242 = .ok (.aload_n 0, 1) := dk_42 (dk_at dksX5_week_10 10 rfl rfl)
theorem dX5_week_243 : decode cX5_week 243 = .ok (.getfield 340, 3) := dk_180 1 84 (dk_at dksX5_week_10 11 rfl rfl)
theorem dX5_week_246 : decode cX5_week 246 = .ok (.ireturn, 1) := dk_172 (dk_at dksX5_week_10 14 rfl rfl)
abbrev cX5_weekOn : ByteArray := prog_16_method_51_code
def yX5_weekOn : MethodName := ⟨RX5, "weekOn", "(II)V"⟩
def dkwX5_weekOn_3 : List UInt8 := [167, 0, 17, 42, 180, 0, 79, 27, 29, 79, 42, 27, 28, 29, 182, 1, 77, 132, 3, 1, 167, 255, 194, 177]
abbrev dktX5_weekOn_3 : List UInt8 := dkwX5_weekOn_3 ++ []
def dkwX5_weekOn_2 : List UInt8 := [180, 1, 74, 154, 0, 44, 42, 180, 0, 73, 29, 46, 153, 0, 29, 28, 29, 122, 4, 126, 4, 160, 0, 6]
abbrev dktX5_weekOn_2 : List UInt8 := dkwX5_weekOn_2 ++ dktX5_weekOn_3
def dkwX5_weekOn_1 : List UInt8 := [181, 1, 71, 177, 3, 62, 29, 42, 180, 0, 25, 3, 46, 162, 0, 58, 42, 180, 1, 71, 154, 0, 51, 42]
abbrev dktX5_weekOn_1 : List UInt8 := dkwX5_weekOn_1 ++ dktX5_weekOn_2
def dkwX5_weekOn_0 : List UInt8 := [42, 42, 180, 1, 65, 27, 184, 1, 26, 181, 1, 65, 27, 42, 180, 1, 68, 160, 0, 9, 42, 4]
abbrev dktX5_weekOn_0 : List UInt8 := dkwX5_weekOn_0 ++ dktX5_weekOn_1
theorem dksX5_weekOn_0 : cX5_weekOn.data.toList.drop 0 = dktX5_weekOn_0 := by decide +kernel
theorem dksX5_weekOn_1 : cX5_weekOn.data.toList.drop 22 = dktX5_weekOn_1 := dk_seg dksX5_weekOn_0 22 rfl rfl
theorem dksX5_weekOn_2 : cX5_weekOn.data.toList.drop 46 = dktX5_weekOn_2 := dk_seg dksX5_weekOn_1 24 rfl rfl
theorem dksX5_weekOn_3 : cX5_weekOn.data.toList.drop 70 = dktX5_weekOn_3 := dk_seg dksX5_weekOn_2 24 rfl rfl
theorem dX5_weekOn_0 : decode cX5_weekOn 0 = .ok (.aload_n 0, 1) := dk_42 (dk_at dksX5_weekOn_0 0 rfl rfl)
theorem dX5_weekOn_1 : decode cX5_weekOn 1 = .ok (.aload_n 0, 1) := dk_42 (dk_at dksX5_weekOn_0 1 rfl rfl)
theorem dX5_weekOn_2 : decode cX5_weekOn 2 = .ok (.getfield 321, 3) := dk_180 1 65 (dk_at dksX5_weekOn_0 2 rfl rfl)
theorem dX5_weekOn_5 : decode cX5_weekOn 5 = .ok (.iload_n 1, 1) := dk_27 (dk_at dksX5_weekOn_0 5 rfl rfl)
theorem dX5_weekOn_6 : decode cX5_weekOn 6 = .ok (.invokestatic 282, 3) := dk_184 1 26 (dk_at dksX5_weekOn_0 6 rfl rfl)
theorem dX5_weekOn_9 : decode cX5_weekOn 9 = .ok (.putfield 321, 3) := dk_181 1 65 (dk_at dksX5_weekOn_0 9 rfl rfl)
theorem dX5_weekOn_12 : decode cX5_weekOn 12 = .ok (.iload_n 1, 1) := dk_27 (dk_at dksX5_weekOn_0 12 rfl rfl)
theorem dX5_weekOn_13 : decode cX5_weekOn 13 = .ok (.aload_n 0, 1) := dk_42 (dk_at dksX5_weekOn_0 13 rfl rfl)
theorem dX5_weekOn_14 : decode cX5_weekOn 14 = .ok (.getfield 324, 3) := dk_180 1 68 (dk_at dksX5_weekOn_0 14 rfl rfl)
theorem dX5_weekOn_17 : decode cX5_weekOn 17 = .ok (.if_icmp .ne 9, 3) := dk_160 0 9 (dk_at dksX5_weekOn_0 17 rfl rfl)
theorem dX5_weekOn_20 : decode cX5_weekOn 20 = .ok (.aload_n 0, 1) := dk_42 (dk_at dksX5_weekOn_0 20 rfl rfl)
theorem dX5_weekOn_21 : decode cX5_weekOn 21 = .ok (.iconst 1, 1) := dk_4 (dk_at dksX5_weekOn_0 21 rfl rfl)
theorem dX5_weekOn_22 : decode cX5_weekOn 22 = .ok (.putfield 327, 3) := dk_181 1 71 (dk_at dksX5_weekOn_1 0 rfl rfl)
theorem dX5_weekOn_25 : decode cX5_weekOn 25 = .ok (.return_, 1) := dk_177 (dk_at dksX5_weekOn_1 3 rfl rfl)
theorem dX5_weekOn_26 : decode cX5_weekOn 26 = .ok (.iconst 0, 1) := dk_3 (dk_at dksX5_weekOn_1 4 rfl rfl)
theorem dX5_weekOn_27 : decode cX5_weekOn 27 = .ok (.istore_n 3, 1) := dk_62 (dk_at dksX5_weekOn_1 5 rfl rfl)
theorem dX5_weekOn_28 : decode cX5_weekOn 28 = .ok (.iload_n 3, 1) := dk_29 (dk_at dksX5_weekOn_1 6 rfl rfl)
theorem dX5_weekOn_29 : decode cX5_weekOn 29 = .ok (.aload_n 0, 1) := dk_42 (dk_at dksX5_weekOn_1 7 rfl rfl)
theorem dX5_weekOn_30 : decode cX5_weekOn 30 = .ok (.getfield 25, 3) := dk_180 0 25 (dk_at dksX5_weekOn_1 8 rfl rfl)
theorem dX5_weekOn_33 : decode cX5_weekOn 33 = .ok (.iconst 0, 1) := dk_3 (dk_at dksX5_weekOn_1 11 rfl rfl)
theorem dX5_weekOn_34 : decode cX5_weekOn 34 = .ok (.iaload, 1) := dk_46 (dk_at dksX5_weekOn_1 12 rfl rfl)
theorem dX5_weekOn_35 : decode cX5_weekOn 35 = .ok (.if_icmp .ge 58, 3) := dk_162 0 58 (dk_at dksX5_weekOn_1 13 rfl rfl)
theorem dX5_weekOn_38 : decode cX5_weekOn 38 = .ok (.aload_n 0, 1) := dk_42 (dk_at dksX5_weekOn_1 16 rfl rfl)
theorem dX5_weekOn_39 : decode cX5_weekOn 39 = .ok (.getfield 327, 3) := dk_180 1 71 (dk_at dksX5_weekOn_1 17 rfl rfl)
theorem dX5_weekOn_42 : decode cX5_weekOn 42 = .ok (.ifCond .ne 51, 3) := dk_154 0 51 (dk_at dksX5_weekOn_1 20 rfl rfl)
theorem dX5_weekOn_45 : decode cX5_weekOn 45 = .ok (.aload_n 0, 1) := dk_42 (dk_at dksX5_weekOn_1 23 rfl rfl)
theorem dX5_weekOn_46 : decode cX5_weekOn 46 = .ok (.getfield 330, 3) := dk_180 1 74 (dk_at dksX5_weekOn_2 0 rfl rfl)
theorem dX5_weekOn_49 : decode cX5_weekOn 49 = .ok (.ifCond .ne 44, 3) := dk_154 0 44 (dk_at dksX5_weekOn_2 3 rfl rfl)
theorem dX5_weekOn_52 : decode cX5_weekOn 52 = .ok (.aload_n 0, 1) := dk_42 (dk_at dksX5_weekOn_2 6 rfl rfl)
theorem dX5_weekOn_53 : decode cX5_weekOn 53 = .ok (.getfield 73, 3) := dk_180 0 73 (dk_at dksX5_weekOn_2 7 rfl rfl)
theorem dX5_weekOn_56 : decode cX5_weekOn 56 = .ok (.iload_n 3, 1) := dk_29 (dk_at dksX5_weekOn_2 10 rfl rfl)
theorem dX5_weekOn_57 : decode cX5_weekOn 57 = .ok (.iaload, 1) := dk_46 (dk_at dksX5_weekOn_2 11 rfl rfl)
theorem dX5_weekOn_58 : decode cX5_weekOn 58 = .ok (.ifCond .eq 29, 3) := dk_153 0 29 (dk_at dksX5_weekOn_2 12 rfl rfl)
theorem dX5_weekOn_61 : decode cX5_weekOn 61 = .ok (.iload_n 2, 1) := dk_28 (dk_at dksX5_weekOn_2 15 rfl rfl)
theorem dX5_weekOn_62 : decode cX5_weekOn 62 = .ok (.iload_n 3, 1) := dk_29 (dk_at dksX5_weekOn_2 16 rfl rfl)
theorem dX5_weekOn_63 : decode cX5_weekOn 63 = .ok (.ishr, 1) := dk_122 (dk_at dksX5_weekOn_2 17 rfl rfl)
theorem dX5_weekOn_64 : decode cX5_weekOn 64 = .ok (.iconst 1, 1) := dk_4 (dk_at dksX5_weekOn_2 18 rfl rfl)
theorem dX5_weekOn_65 : decode cX5_weekOn 65 = .ok (.iand, 1) := dk_126 (dk_at dksX5_weekOn_2 19 rfl rfl)
theorem dX5_weekOn_66 : decode cX5_weekOn 66 = .ok (.iconst 1, 1) := dk_4 (dk_at dksX5_weekOn_2 20 rfl rfl)
theorem dX5_weekOn_67 : decode cX5_weekOn 67 = .ok (.if_icmp .ne 6, 3) := dk_160 0 6 (dk_at dksX5_weekOn_2 21 rfl rfl)
theorem dX5_weekOn_70 : decode cX5_weekOn 70 = .ok (.goto 17, 3) := dk_167 0 17 (dk_at dksX5_weekOn_3 0 rfl rfl)
theorem dX5_weekOn_73 : decode cX5_weekOn 73 = .ok (.aload_n 0, 1) := dk_42 (dk_at dksX5_weekOn_3 3 rfl rfl)
theorem dX5_weekOn_74 : decode cX5_weekOn 74 = .ok (.getfield 79, 3) := dk_180 0 79 (dk_at dksX5_weekOn_3 4 rfl rfl)
theorem dX5_weekOn_77 : decode cX5_weekOn 77 = .ok (.iload_n 1, 1) := dk_27 (dk_at dksX5_weekOn_3 7 rfl rfl)
theorem dX5_weekOn_78 : decode cX5_weekOn 78 = .ok (.iload_n 3, 1) := dk_29 (dk_at dksX5_weekOn_3 8 rfl rfl)
theorem dX5_weekOn_79 : decode cX5_weekOn 79 = .ok (.iastore, 1) := dk_79 (dk_at dksX5_weekOn_3 9 rfl rfl)
theorem dX5_weekOn_80 : decode cX5_weekOn 80 = .ok (.aload_n 0, 1) := dk_42 (dk_at dksX5_weekOn_3 10 rfl rfl)
theorem dX5_weekOn_81 : decode cX5_weekOn 81 = .ok (.iload_n 1, 1) := dk_27 (dk_at dksX5_weekOn_3 11 rfl rfl)
theorem dX5_weekOn_82 : decode cX5_weekOn 82 = .ok (.iload_n 2, 1) := dk_28 (dk_at dksX5_weekOn_3 12 rfl rfl)
theorem dX5_weekOn_83 : decode cX5_weekOn 83 = .ok (.iload_n 3, 1) := dk_29 (dk_at dksX5_weekOn_3 13 rfl rfl)
theorem dX5_weekOn_84 : decode cX5_weekOn 84 = .ok (.invokevirtual 333, 3) := dk_182 1 77 (dk_at dksX5_weekOn_3 14 rfl rfl)
theorem dX5_weekOn_87 : decode cX5_weekOn 87 = .ok (.iinc 3 1, 3) := dk_132 3 1 (dk_at dksX5_weekOn_3 17 rfl rfl)
theorem dX5_weekOn_90 : decode cX5_weekOn 90 = .ok (.goto (-62), 3) := dk_167 255 194 (dk_at dksX5_weekOn_3 20 rfl rfl)
theorem dX5_weekOn_93 : decode cX5_weekOn 93 = .ok (.return_, 1) := dk_177 (dk_at dksX5_weekOn_3 23 rfl rfl)
abbrev cX5_answerOn : ByteArray := prog_16_method_52_code
def yX5_answerOn : MethodName := ⟨RX5, "answerOn", "(III)V"⟩
def dkwX5_answerOn_9 : List UInt8 := [167, 255, 225, 42, 27, 4, 96, 28, 4, 29, 120, 128, 182, 1, 87, 132, 4, 1, 167, 255, 32, 177]
abbrev dktX5_answerOn_9 : List UInt8 := dkwX5_answerOn_9 ++ []
def dkwX5_answerOn_8 : List UInt8 := [180, 0, 67, 16, 30, 27, 4, 96, 104, 21, 7, 96, 42, 180, 0, 70, 21, 7, 46, 79, 132, 7, 1]
abbrev dktX5_answerOn_8 : List UInt8 := dkwX5_answerOn_8 ++ dktX5_answerOn_9
def dkwX5_answerOn_7 : List UInt8 := [16, 12, 21, 6, 96, 92, 46, 21, 5, 96, 79, 3, 54, 7, 21, 7, 16, 30, 162, 0, 30, 42]
abbrev dktX5_answerOn_7 : List UInt8 := dkwX5_answerOn_7 ++ dktX5_answerOn_8
def dkwX5_answerOn_6 : List UInt8 := [132, 7, 1, 167, 255, 222, 42, 180, 0, 70, 16, 12, 29, 96, 92, 46, 21, 5, 100, 79, 42, 180, 0, 70]
abbrev dktX5_answerOn_6 : List UInt8 := dkwX5_answerOn_6 ++ dktX5_answerOn_7
def dkwX5_answerOn_5 : List UInt8 := [162, 0, 29, 21, 4, 21, 7, 122, 4, 126, 4, 160, 0, 12, 42, 180, 0, 70, 21, 7, 21, 6, 79]
abbrev dktX5_answerOn_5 : List UInt8 := dkwX5_answerOn_5 ++ dktX5_answerOn_6
def dkwX5_answerOn_4 : List UInt8 := [29, 42, 180, 0, 76, 29, 46, 182, 1, 59, 54, 6, 3, 54, 7, 21, 7, 42, 180, 0, 25, 4, 46]
abbrev dktX5_answerOn_4 : List UInt8 := dkwX5_answerOn_4 ++ dktX5_answerOn_5
def dkwX5_answerOn_3 : List UInt8 := [160, 0, 9, 42, 4, 181, 1, 74, 177, 42, 89, 180, 1, 84, 4, 96, 181, 1, 84, 42, 42, 180, 0, 70]
abbrev dktX5_answerOn_3 : List UInt8 := dkwX5_answerOn_3 ++ dktX5_answerOn_4
def dkwX5_answerOn_2 : List UInt8 := [46, 182, 1, 41, 54, 5, 21, 5, 2, 160, 0, 6, 167, 0, 164, 42, 180, 1, 84, 17, 78, 32]
abbrev dktX5_answerOn_2 : List UInt8 := dkwX5_answerOn_2 ++ dktX5_answerOn_3
def dkwX5_answerOn_1 : List UInt8 := [180, 1, 74, 154, 0, 203, 42, 27, 182, 1, 81, 42, 42, 180, 0, 70, 29, 21, 4, 42, 180, 0, 73, 29]
abbrev dktX5_answerOn_1 : List UInt8 := dkwX5_answerOn_1 ++ dktX5_answerOn_2
def dkwX5_answerOn_0 : List UInt8 := [3, 54, 4, 21, 4, 4, 42, 180, 0, 25, 4, 46, 120, 162, 0, 217, 42, 180, 1, 71, 154, 0, 210, 42]
abbrev dktX5_answerOn_0 : List UInt8 := dkwX5_answerOn_0 ++ dktX5_answerOn_1
theorem dksX5_answerOn_0 : cX5_answerOn.data.toList.drop 0 = dktX5_answerOn_0 := by decide +kernel
theorem dksX5_answerOn_1 : cX5_answerOn.data.toList.drop 24 = dktX5_answerOn_1 := dk_seg dksX5_answerOn_0 24 rfl rfl
theorem dksX5_answerOn_2 : cX5_answerOn.data.toList.drop 48 = dktX5_answerOn_2 := dk_seg dksX5_answerOn_1 24 rfl rfl
theorem dksX5_answerOn_3 : cX5_answerOn.data.toList.drop 70 = dktX5_answerOn_3 := dk_seg dksX5_answerOn_2 22 rfl rfl
theorem dksX5_answerOn_4 : cX5_answerOn.data.toList.drop 94 = dktX5_answerOn_4 := dk_seg dksX5_answerOn_3 24 rfl rfl
theorem dksX5_answerOn_5 : cX5_answerOn.data.toList.drop 117 = dktX5_answerOn_5 := dk_seg dksX5_answerOn_4 23 rfl rfl
theorem dksX5_answerOn_6 : cX5_answerOn.data.toList.drop 140 = dktX5_answerOn_6 := dk_seg dksX5_answerOn_5 23 rfl rfl
theorem dksX5_answerOn_7 : cX5_answerOn.data.toList.drop 164 = dktX5_answerOn_7 := dk_seg dksX5_answerOn_6 24 rfl rfl
theorem dksX5_answerOn_8 : cX5_answerOn.data.toList.drop 186 = dktX5_answerOn_8 := dk_seg dksX5_answerOn_7 22 rfl rfl
theorem dksX5_answerOn_9 : cX5_answerOn.data.toList.drop 209 = dktX5_answerOn_9 := dk_seg dksX5_answerOn_8 23 rfl rfl
theorem dX5_answerOn_0 : decode cX5_answerOn 0 = .ok (.iconst 0, 1) := dk_3 (dk_at dksX5_answerOn_0 0 rfl rfl)
theorem dX5_answerOn_1 : decode cX5_answerOn 1 = .ok (.istore 4, 2) := dk_54 4 (dk_at dksX5_answerOn_0 1 rfl rfl)
theorem dX5_answerOn_3 : decode cX5_answerOn 3 = .ok (.iload 4, 2) := dk_21 4 (dk_at dksX5_answerOn_0 3 rfl rfl)
theorem dX5_answerOn_5 : decode cX5_answerOn 5 = .ok (.iconst 1, 1) := dk_4 (dk_at dksX5_answerOn_0 5 rfl rfl)
theorem dX5_answerOn_6 : decode cX5_answerOn 6 = .ok (.aload_n 0, 1) := dk_42 (dk_at dksX5_answerOn_0 6 rfl rfl)
theorem dX5_answerOn_7 : decode cX5_answerOn 7 = .ok (.getfield 25, 3) := dk_180 0 25 (dk_at dksX5_answerOn_0 7 rfl rfl)
theorem dX5_answerOn_10 : decode cX5_answerOn 10 = .ok (.iconst 1, 1) := dk_4 (dk_at dksX5_answerOn_0 10 rfl rfl)
theorem dX5_answerOn_11 : decode cX5_answerOn 11 = .ok (.iaload, 1) := dk_46 (dk_at dksX5_answerOn_0 11 rfl rfl)
theorem dX5_answerOn_12 : decode cX5_answerOn 12 = .ok (.ishl, 1) := dk_120 (dk_at dksX5_answerOn_0 12 rfl rfl)
theorem dX5_answerOn_13 : decode cX5_answerOn 13 = .ok (.if_icmp .ge 217, 3) := dk_162 0 217 (dk_at dksX5_answerOn_0 13 rfl rfl)
theorem dX5_answerOn_16 : decode cX5_answerOn 16 = .ok (.aload_n 0, 1) := dk_42 (dk_at dksX5_answerOn_0 16 rfl rfl)
theorem dX5_answerOn_17 : decode cX5_answerOn 17 = .ok (.getfield 327, 3) := dk_180 1 71 (dk_at dksX5_answerOn_0 17 rfl rfl)
theorem dX5_answerOn_20 : decode cX5_answerOn 20 = .ok (.ifCond .ne 210, 3) := dk_154 0 210 (dk_at dksX5_answerOn_0 20 rfl rfl)
theorem dX5_answerOn_23 : decode cX5_answerOn 23 = .ok (.aload_n 0, 1) := dk_42 (dk_at dksX5_answerOn_0 23 rfl rfl)
theorem dX5_answerOn_24 : decode cX5_answerOn 24 = .ok (.getfield 330, 3) := dk_180 1 74 (dk_at dksX5_answerOn_1 0 rfl rfl)
theorem dX5_answerOn_27 : decode cX5_answerOn 27 = .ok (.ifCond .ne 203, 3) := dk_154 0 203 (dk_at dksX5_answerOn_1 3 rfl rfl)
theorem dX5_answerOn_30 : decode cX5_answerOn 30 = .ok (.aload_n 0, 1) := dk_42 (dk_at dksX5_answerOn_1 6 rfl rfl)
theorem dX5_answerOn_31 : decode cX5_answerOn 31 = .ok (.iload_n 1, 1) := dk_27 (dk_at dksX5_answerOn_1 7 rfl rfl)
theorem dX5_answerOn_32 : decode cX5_answerOn 32 = .ok (.invokevirtual 337, 3) := dk_182 1 81 (dk_at dksX5_answerOn_1 8 rfl rfl)
theorem dX5_answerOn_35 : decode cX5_answerOn 35 = .ok (.aload_n 0, 1) := dk_42 (dk_at dksX5_answerOn_1 11 rfl rfl)
theorem dX5_answerOn_36 : decode cX5_answerOn 36 = .ok (.aload_n 0, 1) := dk_42 (dk_at dksX5_answerOn_1 12 rfl rfl)
theorem dX5_answerOn_37 : decode cX5_answerOn 37 = .ok (.getfield 70, 3) := dk_180 0 70 (dk_at dksX5_answerOn_1 13 rfl rfl)
theorem dX5_answerOn_40 : decode cX5_answerOn 40 = .ok (.iload_n 3, 1) := dk_29 (dk_at dksX5_answerOn_1 16 rfl rfl)
theorem dX5_answerOn_41 : decode cX5_answerOn 41 = .ok (.iload 4, 2) := dk_21 4 (dk_at dksX5_answerOn_1 17 rfl rfl)
theorem dX5_answerOn_43 : decode cX5_answerOn 43 = .ok (.aload_n 0, 1) := dk_42 (dk_at dksX5_answerOn_1 19 rfl rfl)
theorem dX5_answerOn_44 : decode cX5_answerOn 44 = .ok (.getfield 73, 3) := dk_180 0 73 (dk_at dksX5_answerOn_1 20 rfl rfl)
theorem dX5_answerOn_47 : decode cX5_answerOn 47 = .ok (.iload_n 3, 1) := dk_29 (dk_at dksX5_answerOn_1 23 rfl rfl)
theorem dX5_answerOn_48 : decode cX5_answerOn 48 = .ok (.iaload, 1) := dk_46 (dk_at dksX5_answerOn_2 0 rfl rfl)
theorem dX5_answerOn_49 : decode cX5_answerOn 49 = .ok (.invokevirtual 297, 3) := dk_182 1 41 (dk_at dksX5_answerOn_2 1 rfl rfl)
theorem dX5_answerOn_52 : decode cX5_answerOn 52 = .ok (.istore 5, 2) := dk_54 5 (dk_at dksX5_answerOn_2 4 rfl rfl)
theorem dX5_answerOn_54 : decode cX5_answerOn 54 = .ok (.iload 5, 2) := dk_21 5 (dk_at dksX5_answerOn_2 6 rfl rfl)
theorem dX5_answerOn_56 : decode cX5_answerOn 56 = .ok (.iconst (-1), 1) := dk_2 (dk_at dksX5_answerOn_2 8 rfl rfl)
theorem dX5_answerOn_57 : decode cX5_answerOn 57 = .ok (.if_icmp .ne 6, 3) := dk_160 0 6 (dk_at dksX5_answerOn_2 9 rfl rfl)
theorem dX5_answerOn_60 : decode cX5_answerOn 60 = .ok (.goto 164, 3) := dk_167 0 164 (dk_at dksX5_answerOn_2 12 rfl rfl)
theorem dX5_answerOn_63 : decode cX5_answerOn 63 = .ok (.aload_n 0, 1) := dk_42 (dk_at dksX5_answerOn_2 15 rfl rfl)
theorem dX5_answerOn_64 : decode cX5_answerOn 64 = .ok (.getfield 340, 3) := dk_180 1 84 (dk_at dksX5_answerOn_2 16 rfl rfl)
theorem dX5_answerOn_67 : decode cX5_answerOn 67 = .ok (.sipush 20000, 3) := dk_17 78 32 (dk_at dksX5_answerOn_2 19 rfl rfl)
theorem dX5_answerOn_70 : decode cX5_answerOn 70 = .ok (.if_icmp .ne 9, 3) := dk_160 0 9 (dk_at dksX5_answerOn_3 0 rfl rfl)
theorem dX5_answerOn_73 : decode cX5_answerOn 73 = .ok (.aload_n 0, 1) := dk_42 (dk_at dksX5_answerOn_3 3 rfl rfl)
theorem dX5_answerOn_74 : decode cX5_answerOn 74 = .ok (.iconst 1, 1) := dk_4 (dk_at dksX5_answerOn_3 4 rfl rfl)
theorem dX5_answerOn_75 : decode cX5_answerOn 75 = .ok (.putfield 330, 3) := dk_181 1 74 (dk_at dksX5_answerOn_3 5 rfl rfl)
theorem dX5_answerOn_78 : decode cX5_answerOn 78 = .ok (.return_, 1) := dk_177 (dk_at dksX5_answerOn_3 8 rfl rfl)
theorem dX5_answerOn_79 : decode cX5_answerOn 79 = .ok (.aload_n 0, 1) := dk_42 (dk_at dksX5_answerOn_3 9 rfl rfl)
theorem dX5_answerOn_80 : decode cX5_answerOn 80 = .ok (.dup, 1) := dk_89 (dk_at dksX5_answerOn_3 10 rfl rfl)
theorem dX5_answerOn_81 : decode cX5_answerOn 81 = .ok (.getfield 340, 3) := dk_180 1 84 (dk_at dksX5_answerOn_3 11 rfl rfl)
theorem dX5_answerOn_84 : decode cX5_answerOn 84 = .ok (.iconst 1, 1) := dk_4 (dk_at dksX5_answerOn_3 14 rfl rfl)
theorem dX5_answerOn_85 : decode cX5_answerOn 85 = .ok (.iadd, 1) := dk_96 (dk_at dksX5_answerOn_3 15 rfl rfl)
theorem dX5_answerOn_86 : decode cX5_answerOn 86 = .ok (.putfield 340, 3) := dk_181 1 84 (dk_at dksX5_answerOn_3 16 rfl rfl)
theorem dX5_answerOn_89 : decode cX5_answerOn 89 = .ok (.aload_n 0, 1) := dk_42 (dk_at dksX5_answerOn_3 19 rfl rfl)
theorem dX5_answerOn_90 : decode cX5_answerOn 90 = .ok (.aload_n 0, 1) := dk_42 (dk_at dksX5_answerOn_3 20 rfl rfl)
theorem dX5_answerOn_91 : decode cX5_answerOn 91 = .ok (.getfield 70, 3) := dk_180 0 70 (dk_at dksX5_answerOn_3 21 rfl rfl)
theorem dX5_answerOn_94 : decode cX5_answerOn 94 = .ok (.iload_n 3, 1) := dk_29 (dk_at dksX5_answerOn_4 0 rfl rfl)
theorem dX5_answerOn_95 : decode cX5_answerOn 95 = .ok (.aload_n 0, 1) := dk_42 (dk_at dksX5_answerOn_4 1 rfl rfl)
theorem dX5_answerOn_96 : decode cX5_answerOn 96 = .ok (.getfield 76, 3) := dk_180 0 76 (dk_at dksX5_answerOn_4 2 rfl rfl)
theorem dX5_answerOn_99 : decode cX5_answerOn 99 = .ok (.iload_n 3, 1) := dk_29 (dk_at dksX5_answerOn_4 5 rfl rfl)
theorem dX5_answerOn_100 : decode cX5_answerOn 100 = .ok (.iaload, 1) := dk_46 (dk_at dksX5_answerOn_4 6 rfl rfl)
theorem dX5_answerOn_101 : decode cX5_answerOn 101 = .ok (.invokevirtual 315, 3) := dk_182 1 59 (dk_at dksX5_answerOn_4 7 rfl rfl)
theorem dX5_answerOn_104 : decode cX5_answerOn 104 = .ok (.istore 6, 2) := dk_54 6 (dk_at dksX5_answerOn_4 10 rfl rfl)
theorem dX5_answerOn_106 : decode cX5_answerOn 106 = .ok (.iconst 0, 1) := dk_3 (dk_at dksX5_answerOn_4 12 rfl rfl)
theorem dX5_answerOn_107 : decode cX5_answerOn 107 = .ok (.istore 7, 2) := dk_54 7 (dk_at dksX5_answerOn_4 13 rfl rfl)
theorem dX5_answerOn_109 : decode cX5_answerOn 109 = .ok (.iload 7, 2) := dk_21 7 (dk_at dksX5_answerOn_4 15 rfl rfl)
theorem dX5_answerOn_111 : decode cX5_answerOn 111 = .ok (.aload_n 0, 1) := dk_42 (dk_at dksX5_answerOn_4 17 rfl rfl)
theorem dX5_answerOn_112 : decode cX5_answerOn 112 = .ok (.getfield 25, 3) := dk_180 0 25 (dk_at dksX5_answerOn_4 18 rfl rfl)
theorem dX5_answerOn_115 : decode cX5_answerOn 115 = .ok (.iconst 1, 1) := dk_4 (dk_at dksX5_answerOn_4 21 rfl rfl)
theorem dX5_answerOn_116 : decode cX5_answerOn 116 = .ok (.iaload, 1) := dk_46 (dk_at dksX5_answerOn_4 22 rfl rfl)
theorem dX5_answerOn_117 : decode cX5_answerOn 117 = .ok (.if_icmp .ge 29, 3) := dk_162 0 29 (dk_at dksX5_answerOn_5 0 rfl rfl)
theorem dX5_answerOn_120 : decode cX5_answerOn 120 = .ok (.iload 4, 2) := dk_21 4 (dk_at dksX5_answerOn_5 3 rfl rfl)
theorem dX5_answerOn_122 : decode cX5_answerOn 122 = .ok (.iload 7, 2) := dk_21 7 (dk_at dksX5_answerOn_5 5 rfl rfl)
theorem dX5_answerOn_124 : decode cX5_answerOn 124 = .ok (.ishr, 1) := dk_122 (dk_at dksX5_answerOn_5 7 rfl rfl)
theorem dX5_answerOn_125 : decode cX5_answerOn 125 = .ok (.iconst 1, 1) := dk_4 (dk_at dksX5_answerOn_5 8 rfl rfl)
theorem dX5_answerOn_126 : decode cX5_answerOn 126 = .ok (.iand, 1) := dk_126 (dk_at dksX5_answerOn_5 9 rfl rfl)
theorem dX5_answerOn_127 : decode cX5_answerOn 127 = .ok (.iconst 1, 1) := dk_4 (dk_at dksX5_answerOn_5 10 rfl rfl)
theorem dX5_answerOn_128 : decode cX5_answerOn 128 = .ok (.if_icmp .ne 12, 3) := dk_160 0 12 (dk_at dksX5_answerOn_5 11 rfl rfl)
theorem dX5_answerOn_131 : decode cX5_answerOn 131 = .ok (.aload_n 0, 1) := dk_42 (dk_at dksX5_answerOn_5 14 rfl rfl)
theorem dX5_answerOn_132 : decode cX5_answerOn 132 = .ok (.getfield 70, 3) := dk_180 0 70 (dk_at dksX5_answerOn_5 15 rfl rfl)
theorem dX5_answerOn_135 : decode cX5_answerOn 135 = .ok (.iload 7, 2) := dk_21 7 (dk_at dksX5_answerOn_5 18 rfl rfl)
theorem dX5_answerOn_137 : decode cX5_answerOn 137 = .ok (.iload 6, 2) := dk_21 6 (dk_at dksX5_answerOn_5 20 rfl rfl)
theorem dX5_answerOn_139 : decode cX5_answerOn 139 = .ok (.iastore, 1) := dk_79 (dk_at dksX5_answerOn_5 22 rfl rfl)
theorem dX5_answerOn_140 : decode cX5_answerOn 140 = .ok (.iinc 7 1, 3) := dk_132 7 1 (dk_at dksX5_answerOn_6 0 rfl rfl)
theorem dX5_answerOn_143 : decode cX5_answerOn 143 = .ok (.goto (-34), 3) := dk_167 255 222 (dk_at dksX5_answerOn_6 3 rfl rfl)
theorem dX5_answerOn_146 : decode cX5_answerOn 146 = .ok (.aload_n 0, 1) := dk_42 (dk_at dksX5_answerOn_6 6 rfl rfl)
theorem dX5_answerOn_147 : decode cX5_answerOn 147 = .ok (.getfield 70, 3) := dk_180 0 70 (dk_at dksX5_answerOn_6 7 rfl rfl)
theorem dX5_answerOn_150 : decode cX5_answerOn 150 = .ok (.bipush 12, 2) := dk_16 12 (dk_at dksX5_answerOn_6 10 rfl rfl)
theorem dX5_answerOn_152 : decode cX5_answerOn 152 = .ok (.iload_n 3, 1) := dk_29 (dk_at dksX5_answerOn_6 12 rfl rfl)
theorem dX5_answerOn_153 : decode cX5_answerOn 153 = .ok (.iadd, 1) := dk_96 (dk_at dksX5_answerOn_6 13 rfl rfl)
theorem dX5_answerOn_154 : decode cX5_answerOn 154 = .ok (.dup2, 1) := dk_92 (dk_at dksX5_answerOn_6 14 rfl rfl)
theorem dX5_answerOn_155 : decode cX5_answerOn 155 = .ok (.iaload, 1) := dk_46 (dk_at dksX5_answerOn_6 15 rfl rfl)
theorem dX5_answerOn_156 : decode cX5_answerOn 156 = .ok (.iload 5, 2) := dk_21 5 (dk_at dksX5_answerOn_6 16 rfl rfl)
theorem dX5_answerOn_158 : decode cX5_answerOn 158 = .ok (.isub, 1) := dk_100 (dk_at dksX5_answerOn_6 18 rfl rfl)
theorem dX5_answerOn_159 : decode cX5_answerOn 159 = .ok (.iastore, 1) := dk_79 (dk_at dksX5_answerOn_6 19 rfl rfl)
theorem dX5_answerOn_160 : decode cX5_answerOn 160 = .ok (.aload_n 0, 1) := dk_42 (dk_at dksX5_answerOn_6 20 rfl rfl)
theorem dX5_answerOn_161 : decode cX5_answerOn 161 = .ok (.getfield 70, 3) := dk_180 0 70 (dk_at dksX5_answerOn_6 21 rfl rfl)
theorem dX5_answerOn_164 : decode cX5_answerOn 164 = .ok (.bipush 12, 2) := dk_16 12 (dk_at dksX5_answerOn_7 0 rfl rfl)
theorem dX5_answerOn_166 : decode cX5_answerOn 166 = .ok (.iload 6, 2) := dk_21 6 (dk_at dksX5_answerOn_7 2 rfl rfl)
theorem dX5_answerOn_168 : decode cX5_answerOn 168 = .ok (.iadd, 1) := dk_96 (dk_at dksX5_answerOn_7 4 rfl rfl)
theorem dX5_answerOn_169 : decode cX5_answerOn 169 = .ok (.dup2, 1) := dk_92 (dk_at dksX5_answerOn_7 5 rfl rfl)
theorem dX5_answerOn_170 : decode cX5_answerOn 170 = .ok (.iaload, 1) := dk_46 (dk_at dksX5_answerOn_7 6 rfl rfl)
theorem dX5_answerOn_171 : decode cX5_answerOn 171 = .ok (.iload 5, 2) := dk_21 5 (dk_at dksX5_answerOn_7 7 rfl rfl)
theorem dX5_answerOn_173 : decode cX5_answerOn 173 = .ok (.iadd, 1) := dk_96 (dk_at dksX5_answerOn_7 9 rfl rfl)
theorem dX5_answerOn_174 : decode cX5_answerOn 174 = .ok (.iastore, 1) := dk_79 (dk_at dksX5_answerOn_7 10 rfl rfl)
theorem dX5_answerOn_175 : decode cX5_answerOn 175 = .ok (.iconst 0, 1) := dk_3 (dk_at dksX5_answerOn_7 11 rfl rfl)
theorem dX5_answerOn_176 : decode cX5_answerOn 176 = .ok (.istore 7, 2) := dk_54 7 (dk_at dksX5_answerOn_7 12 rfl rfl)
theorem dX5_answerOn_178 : decode cX5_answerOn 178 = .ok (.iload 7, 2) := dk_21 7 (dk_at dksX5_answerOn_7 14 rfl rfl)
theorem dX5_answerOn_180 : decode cX5_answerOn 180 = .ok (.bipush 30, 2) := dk_16 30 (dk_at dksX5_answerOn_7 16 rfl rfl)
theorem dX5_answerOn_182 : decode cX5_answerOn 182 = .ok (.if_icmp .ge 30, 3) := dk_162 0 30 (dk_at dksX5_answerOn_7 18 rfl rfl)
theorem dX5_answerOn_185 : decode cX5_answerOn 185 = .ok (.aload_n 0, 1) := dk_42 (dk_at dksX5_answerOn_7 21 rfl rfl)
theorem dX5_answerOn_186 : decode cX5_answerOn 186 = .ok (.getfield 67, 3) := dk_180 0 67 (dk_at dksX5_answerOn_8 0 rfl rfl)
theorem dX5_answerOn_189 : decode cX5_answerOn 189 = .ok (.bipush 30, 2) := dk_16 30 (dk_at dksX5_answerOn_8 3 rfl rfl)
theorem dX5_answerOn_191 : decode cX5_answerOn 191 = .ok (.iload_n 1, 1) := dk_27 (dk_at dksX5_answerOn_8 5 rfl rfl)
theorem dX5_answerOn_192 : decode cX5_answerOn 192 = .ok (.iconst 1, 1) := dk_4 (dk_at dksX5_answerOn_8 6 rfl rfl)
theorem dX5_answerOn_193 : decode cX5_answerOn 193 = .ok (.iadd, 1) := dk_96 (dk_at dksX5_answerOn_8 7 rfl rfl)
theorem dX5_answerOn_194 : decode cX5_answerOn 194 = .ok (.imul, 1) := dk_104 (dk_at dksX5_answerOn_8 8 rfl rfl)
theorem dX5_answerOn_195 : decode cX5_answerOn 195 = .ok (.iload 7, 2) := dk_21 7 (dk_at dksX5_answerOn_8 9 rfl rfl)
theorem dX5_answerOn_197 : decode cX5_answerOn 197 = .ok (.iadd, 1) := dk_96 (dk_at dksX5_answerOn_8 11 rfl rfl)
theorem dX5_answerOn_198 : decode cX5_answerOn 198 = .ok (.aload_n 0, 1) := dk_42 (dk_at dksX5_answerOn_8 12 rfl rfl)
theorem dX5_answerOn_199 : decode cX5_answerOn 199 = .ok (.getfield 70, 3) := dk_180 0 70 (dk_at dksX5_answerOn_8 13 rfl rfl)
theorem dX5_answerOn_202 : decode cX5_answerOn 202 = .ok (.iload 7, 2) := dk_21 7 (dk_at dksX5_answerOn_8 16 rfl rfl)
theorem dX5_answerOn_204 : decode cX5_answerOn 204 = .ok (.iaload, 1) := dk_46 (dk_at dksX5_answerOn_8 18 rfl rfl)
theorem dX5_answerOn_205 : decode cX5_answerOn 205 = .ok (.iastore, 1) := dk_79 (dk_at dksX5_answerOn_8 19 rfl rfl)
theorem dX5_answerOn_206 : decode cX5_answerOn 206 = .ok (.iinc 7 1, 3) := dk_132 7 1 (dk_at dksX5_answerOn_8 20 rfl rfl)
theorem dX5_answerOn_209 : decode cX5_answerOn 209 = .ok (.goto (-31), 3) := dk_167 255 225 (dk_at dksX5_answerOn_9 0 rfl rfl)
theorem dX5_answerOn_212 : decode cX5_answerOn 212 = .ok (.aload_n 0, 1) := dk_42 (dk_at dksX5_answerOn_9 3 rfl rfl)
theorem dX5_answerOn_213 : decode cX5_answerOn 213 = .ok (.iload_n 1, 1) := dk_27 (dk_at dksX5_answerOn_9 4 rfl rfl)
theorem dX5_answerOn_214 : decode cX5_answerOn 214 = .ok (.iconst 1, 1) := dk_4 (dk_at dksX5_answerOn_9 5 rfl rfl)
theorem dX5_answerOn_215 : decode cX5_answerOn 215 = .ok (.iadd, 1) := dk_96 (dk_at dksX5_answerOn_9 6 rfl rfl)
theorem dX5_answerOn_216 : decode cX5_answerOn 216 = .ok (.iload_n 2, 1) := dk_28 (dk_at dksX5_answerOn_9 7 rfl rfl)
theorem dX5_answerOn_217 : decode cX5_answerOn 217 = .ok (.iconst 1, 1) := dk_4 (dk_at dksX5_answerOn_9 8 rfl rfl)
theorem dX5_answerOn_218 : decode cX5_answerOn 218 = .ok (.iload_n 3, 1) := dk_29 (dk_at dksX5_answerOn_9 9 rfl rfl)
theorem dX5_answerOn_219 : decode cX5_answerOn 219 = .ok (.ishl, 1) := dk_120 (dk_at dksX5_answerOn_9 10 rfl rfl)
theorem dX5_answerOn_220 : decode cX5_answerOn 220 = .ok (.ior, 1) := dk_128 (dk_at dksX5_answerOn_9 11 rfl rfl)
theorem dX5_answerOn_221 : decode cX5_answerOn 221 = .ok (.invokevirtual 343, 3) := dk_182 1 87 (dk_at dksX5_answerOn_9 12 rfl rfl)
theorem dX5_answerOn_224 : decode cX5_answerOn 224 = .ok (.iinc 4 1, 3) := dk_132 4 1 (dk_at dksX5_answerOn_9 15 rfl rfl)
theorem dX5_answerOn_227 : decode cX5_answerOn 227 = .ok (.goto (-224), 3) := dk_167 255 32 (dk_at dksX5_answerOn_9 18 rfl rfl)
theorem dX5_answerOn_230 : decode cX5_answerOn 230 = .ok (.return_, 1) := dk_177 (dk_at dksX5_answerOn_9 21 rfl rfl)
abbrev cX5_loadRow : ByteArray := prog_16_method_50_code
def yX5_loadRow : MethodName := ⟨RX5, "loadRow", "(I)V"⟩
def dkwX5_loadRow_1 : List UInt8 := [79, 132, 2, 1, 167, 255, 230, 177]
abbrev dktX5_loadRow_1 : List UInt8 := dkwX5_loadRow_1 ++ []
def dkwX5_loadRow_0 : List UInt8 := [3, 61, 28, 16, 30, 162, 0, 26, 42, 180, 0, 70, 28, 42, 180, 0, 67, 16, 30, 27, 104, 28, 96, 46]
abbrev dktX5_loadRow_0 : List UInt8 := dkwX5_loadRow_0 ++ dktX5_loadRow_1
theorem dksX5_loadRow_0 : cX5_loadRow.data.toList.drop 0 = dktX5_loadRow_0 := by decide +kernel
theorem dksX5_loadRow_1 : cX5_loadRow.data.toList.drop 24 = dktX5_loadRow_1 := dk_seg dksX5_loadRow_0 24 rfl rfl
theorem dX5_loadRow_0 : decode cX5_loadRow 0 = .ok (.iconst 0, 1) := dk_3 (dk_at dksX5_loadRow_0 0 rfl rfl)
theorem dX5_loadRow_1 : decode cX5_loadRow 1 = .ok (.istore_n 2, 1) := dk_61 (dk_at dksX5_loadRow_0 1 rfl rfl)
theorem dX5_loadRow_2 : decode cX5_loadRow 2 = .ok (.iload_n 2, 1) := dk_28 (dk_at dksX5_loadRow_0 2 rfl rfl)
theorem dX5_loadRow_3 : decode cX5_loadRow 3 = .ok (.bipush 30, 2) := dk_16 30 (dk_at dksX5_loadRow_0 3 rfl rfl)
theorem dX5_loadRow_5 : decode cX5_loadRow 5 = .ok (.if_icmp .ge 26, 3) := dk_162 0 26 (dk_at dksX5_loadRow_0 5 rfl rfl)
theorem dX5_loadRow_8 : decode cX5_loadRow 8 = .ok (.aload_n 0, 1) := dk_42 (dk_at dksX5_loadRow_0 8 rfl rfl)
theorem dX5_loadRow_9 : decode cX5_loadRow 9 = .ok (.getfield 70, 3) := dk_180 0 70 (dk_at dksX5_loadRow_0 9 rfl rfl)
theorem dX5_loadRow_12 : decode cX5_loadRow 12 = .ok (.iload_n 2, 1) := dk_28 (dk_at dksX5_loadRow_0 12 rfl rfl)
theorem dX5_loadRow_13 : decode cX5_loadRow 13 = .ok (.aload_n 0, 1) := dk_42 (dk_at dksX5_loadRow_0 13 rfl rfl)
theorem dX5_loadRow_14 : decode cX5_loadRow 14 = .ok (.getfield 67, 3) := dk_180 0 67 (dk_at dksX5_loadRow_0 14 rfl rfl)
theorem dX5_loadRow_17 : decode cX5_loadRow 17 = .ok (.bipush 30, 2) := dk_16 30 (dk_at dksX5_loadRow_0 17 rfl rfl)
theorem dX5_loadRow_19 : decode cX5_loadRow 19 = .ok (.iload_n 1, 1) := dk_27 (dk_at dksX5_loadRow_0 19 rfl rfl)
theorem dX5_loadRow_20 : decode cX5_loadRow 20 = .ok (.imul, 1) := dk_104 (dk_at dksX5_loadRow_0 20 rfl rfl)
theorem dX5_loadRow_21 : decode cX5_loadRow 21 = .ok (.iload_n 2, 1) := dk_28 (dk_at dksX5_loadRow_0 21 rfl rfl)
theorem dX5_loadRow_22 : decode cX5_loadRow 22 = .ok (.iadd, 1) := dk_96 (dk_at dksX5_loadRow_0 22 rfl rfl)
theorem dX5_loadRow_23 : decode cX5_loadRow 23 = .ok (.iaload, 1) := dk_46 (dk_at dksX5_loadRow_0 23 rfl rfl)
theorem dX5_loadRow_24 : decode cX5_loadRow 24 = .ok (.iastore, 1) := dk_79 (dk_at dksX5_loadRow_1 0 rfl rfl)
theorem dX5_loadRow_25 : decode cX5_loadRow 25 = .ok (.iinc 2 1, 3) := dk_132 2 1 (dk_at dksX5_loadRow_1 1 rfl rfl)
theorem dX5_loadRow_28 : decode cX5_loadRow 28 = .ok (.goto (-26), 3) := dk_167 255 230 (dk_at dksX5_loadRow_1 4 rfl rfl)
theorem dX5_loadRow_31 : decode cX5_loadRow 31 = .ok (.return_, 1) := dk_177 (dk_at dksX5_loadRow_1 7 rfl rfl)
abbrev cX5_order : ByteArray := prog_16_method_54_code
def yX5_order : MethodName := ⟨RX5, "order", "(I)I"⟩
def dkwX5_order_1 : List UInt8 := [46, 167, 0, 8, 42, 4, 182, 0, 243, 172]
abbrev dktX5_order_1 : List UInt8 := dkwX5_order_1 ++ []
def dkwX5_order_0 : List UInt8 := [42, 3, 181, 0, 128, 27, 3, 42, 180, 0, 85, 4, 100, 184, 0, 131, 153, 0, 12, 42, 180, 0, 82, 27]
abbrev dktX5_order_0 : List UInt8 := dkwX5_order_0 ++ dktX5_order_1
theorem dksX5_order_0 : cX5_order.data.toList.drop 0 = dktX5_order_0 := by decide +kernel
theorem dksX5_order_1 : cX5_order.data.toList.drop 24 = dktX5_order_1 := dk_seg dksX5_order_0 24 rfl rfl
theorem dX5_order_0 : decode cX5_order 0 = .ok (.aload_n 0, 1) := dk_42 (dk_at dksX5_order_0 0 rfl rfl)
theorem dX5_order_1 : decode cX5_order 1 = .ok (.iconst 0, 1) := dk_3 (dk_at dksX5_order_0 1 rfl rfl)
theorem dX5_order_2 : decode cX5_order 2 = .ok (.putfield 128, 3) := dk_181 0 128 (dk_at dksX5_order_0 2 rfl rfl)
theorem dX5_order_5 : decode cX5_order 5 = .ok (.iload_n 1, 1) := dk_27 (dk_at dksX5_order_0 5 rfl rfl)
theorem dX5_order_6 : decode cX5_order 6 = .ok (.iconst 0, 1) := dk_3 (dk_at dksX5_order_0 6 rfl rfl)
theorem dX5_order_7 : decode cX5_order 7 = .ok (.aload_n 0, 1) := dk_42 (dk_at dksX5_order_0 7 rfl rfl)
theorem dX5_order_8 : decode cX5_order 8 = .ok (.getfield 85, 3) := dk_180 0 85 (dk_at dksX5_order_0 8 rfl rfl)
theorem dX5_order_11 : decode cX5_order 11 = .ok (.iconst 1, 1) := dk_4 (dk_at dksX5_order_0 11 rfl rfl)
theorem dX5_order_12 : decode cX5_order 12 = .ok (.isub, 1) := dk_100 (dk_at dksX5_order_0 12 rfl rfl)
theorem dX5_order_13 : decode cX5_order 13 = .ok (.invokestatic 131, 3) := dk_184 0 131 (dk_at dksX5_order_0 13 rfl rfl)
theorem dX5_order_16 : decode cX5_order 16 = .ok (.ifCond .eq 12, 3) := dk_153 0 12 (dk_at dksX5_order_0 16 rfl rfl)
theorem dX5_order_19 : decode cX5_order 19 = .ok (.aload_n 0, 1) := dk_42 (dk_at dksX5_order_0 19 rfl rfl)
theorem dX5_order_20 : decode cX5_order 20 = .ok (.getfield 82, 3) := dk_180 0 82 (dk_at dksX5_order_0 20 rfl rfl)
theorem dX5_order_23 : decode cX5_order 23 = .ok (.iload_n 1, 1) := dk_27 (dk_at dksX5_order_0 23 rfl rfl)
theorem dX5_order_24 : decode cX5_order 24 = .ok (.iaload, 1) := dk_46 (dk_at dksX5_order_1 0 rfl rfl)
theorem dX5_order_25 : decode cX5_order 25 = .ok (.goto 8, 3) := dk_167 0 8 (dk_at dksX5_order_1 1 rfl rfl)
theorem dX5_order_28 : decode cX5_order 28 = .ok (.aload_n 0, 1) := dk_42 (dk_at dksX5_order_1 4 rfl rfl)
theorem dX5_order_29 : decode cX5_order 29 = .ok (.iconst 1, 1) := dk_4 (dk_at dksX5_order_1 5 rfl rfl)
theorem dX5_order_30 : decode cX5_order 30 = .ok (.invokevirtual 243, 3) := dk_182 0 243 (dk_at dksX5_order_1 6 rfl rfl)
theorem dX5_order_33 : decode cX5_order 33 = .ok (.ireturn, 1) := dk_172 (dk_at dksX5_order_1 9 rfl rfl)
abbrev cX5_get : ByteArray := prog_16_method_60_code
def yX5_get : MethodName := ⟨RX5, "get", "(II)I"⟩
def dkwX5_get_9 : List UInt8 := [167, 0, 4, 29, 172]
abbrev dktX5_get_9 : List UInt8 := dkwX5_get_9 ++ []
def dkwX5_get_8 : List UInt8 := [182, 1, 112, 132, 5, 1, 167, 255, 219, 132, 4, 1, 167, 255, 128, 42, 180, 1, 102, 153, 0, 8, 16, 254]
abbrev dktX5_get_8 : List UInt8 := dkwX5_get_8 ++ dktX5_get_9
def dkwX5_get_7 : List UInt8 := [46, 162, 0, 32, 42, 180, 1, 102, 154, 0, 25, 42, 21, 5, 27, 42, 180, 0, 91, 21, 4, 46, 4, 96]
abbrev dktX5_get_7 : List UInt8 := dkwX5_get_7 ++ dktX5_get_8
def dkwX5_get_6 : List UInt8 := [180, 0, 91, 21, 4, 46, 167, 0, 4, 29, 62, 167, 0, 46, 3, 54, 5, 21, 5, 42, 180, 0, 25, 3]
abbrev dktX5_get_6 : List UInt8 := dkwX5_get_6 ++ dktX5_get_7
def dkwX5_get_5 : List UInt8 := [79, 132, 5, 1, 167, 255, 226, 42, 180, 0, 100, 28, 46, 27, 160, 0, 23, 29, 2, 160, 0, 13, 42]
abbrev dktX5_get_5 : List UInt8 := dkwX5_get_5 ++ dktX5_get_6
def dkwX5_get_4 : List UInt8 := [16, 30, 162, 0, 29, 42, 180, 0, 100, 21, 5, 42, 180, 0, 88, 16, 30, 21, 4, 104, 21, 5, 96, 46]
abbrev dktX5_get_4 : List UInt8 := dkwX5_get_4 ++ dktX5_get_5
def dkwX5_get_3 : List UInt8 := [3, 54, 4, 21, 4, 42, 180, 1, 99, 162, 0, 125, 42, 180, 1, 102, 154, 0, 118, 3, 54, 5, 21, 5]
abbrev dktX5_get_3 : List UInt8 := dkwX5_get_3 ++ dktX5_get_4
def dkwX5_get_2 : List UInt8 := [167, 255, 239, 42, 3, 181, 1, 99, 42, 3, 181, 1, 102, 42, 42, 180, 0, 41, 3, 182, 1, 105, 2, 62]
abbrev dktX5_get_2 : List UInt8 := dkwX5_get_2 ++ dktX5_get_3
def dkwX5_get_1 : List UInt8 := [182, 0, 243, 172, 3, 62, 29, 17, 16, 0, 162, 0, 16, 42, 180, 0, 97, 29, 2, 79, 132, 3, 1]
abbrev dktX5_get_1 : List UInt8 := dkwX5_get_1 ++ dktX5_get_2
def dkwX5_get_0 : List UInt8 := [42, 3, 181, 0, 128, 42, 27, 182, 1, 7, 153, 0, 11, 42, 28, 182, 1, 20, 154, 0, 9, 42, 4]
abbrev dktX5_get_0 : List UInt8 := dkwX5_get_0 ++ dktX5_get_1
theorem dksX5_get_0 : cX5_get.data.toList.drop 0 = dktX5_get_0 := by decide +kernel
theorem dksX5_get_1 : cX5_get.data.toList.drop 23 = dktX5_get_1 := dk_seg dksX5_get_0 23 rfl rfl
theorem dksX5_get_2 : cX5_get.data.toList.drop 46 = dktX5_get_2 := dk_seg dksX5_get_1 23 rfl rfl
theorem dksX5_get_3 : cX5_get.data.toList.drop 70 = dktX5_get_3 := dk_seg dksX5_get_2 24 rfl rfl
theorem dksX5_get_4 : cX5_get.data.toList.drop 94 = dktX5_get_4 := dk_seg dksX5_get_3 24 rfl rfl
theorem dksX5_get_5 : cX5_get.data.toList.drop 118 = dktX5_get_5 := dk_seg dksX5_get_4 24 rfl rfl
theorem dksX5_get_6 : cX5_get.data.toList.drop 141 = dktX5_get_6 := dk_seg dksX5_get_5 23 rfl rfl
theorem dksX5_get_7 : cX5_get.data.toList.drop 165 = dktX5_get_7 := dk_seg dksX5_get_6 24 rfl rfl
theorem dksX5_get_8 : cX5_get.data.toList.drop 189 = dktX5_get_8 := dk_seg dksX5_get_7 24 rfl rfl
theorem dksX5_get_9 : cX5_get.data.toList.drop 213 = dktX5_get_9 := dk_seg dksX5_get_8 24 rfl rfl
theorem dX5_get_0 : decode cX5_get 0 = .ok (.aload_n 0, 1) := dk_42 (dk_at dksX5_get_0 0 rfl rfl)
theorem dX5_get_1 : decode cX5_get 1 = .ok (.iconst 0, 1) := dk_3 (dk_at dksX5_get_0 1 rfl rfl)
theorem dX5_get_2 : decode cX5_get 2 = .ok (.putfield 128, 3) := dk_181 0 128 (dk_at dksX5_get_0 2 rfl rfl)
theorem dX5_get_5 : decode cX5_get 5 = .ok (.aload_n 0, 1) := dk_42 (dk_at dksX5_get_0 5 rfl rfl)
theorem dX5_get_6 : decode cX5_get 6 = .ok (.iload_n 1, 1) := dk_27 (dk_at dksX5_get_0 6 rfl rfl)
theorem dX5_get_7 : decode cX5_get 7 = .ok (.invokevirtual 263, 3) := dk_182 1 7 (dk_at dksX5_get_0 7 rfl rfl)
theorem dX5_get_10 : decode cX5_get 10 = .ok (.ifCond .eq 11, 3) := dk_153 0 11 (dk_at dksX5_get_0 10 rfl rfl)
theorem dX5_get_13 : decode cX5_get 13 = .ok (.aload_n 0, 1) := dk_42 (dk_at dksX5_get_0 13 rfl rfl)
theorem dX5_get_14 : decode cX5_get 14 = .ok (.iload_n 2, 1) := dk_28 (dk_at dksX5_get_0 14 rfl rfl)
theorem dX5_get_15 : decode cX5_get 15 = .ok (.invokevirtual 276, 3) := dk_182 1 20 (dk_at dksX5_get_0 15 rfl rfl)
theorem dX5_get_18 : decode cX5_get 18 = .ok (.ifCond .ne 9, 3) := dk_154 0 9 (dk_at dksX5_get_0 18 rfl rfl)
theorem dX5_get_21 : decode cX5_get 21 = .ok (.aload_n 0, 1) := dk_42 (dk_at dksX5_get_0 21 rfl rfl)
theorem dX5_get_22 : decode cX5_get 22 = .ok (.iconst 1, 1) := dk_4 (dk_at dksX5_get_0 22 rfl rfl)
theorem dX5_get_23 : decode cX5_get 23 = .ok (.invokevirtual 243, 3) := dk_182 0 243 (dk_at dksX5_get_1 0 rfl rfl)
theorem dX5_get_26 : decode cX5_get 26 = .ok (.ireturn, 1) := dk_172 (dk_at dksX5_get_1 3 rfl rfl)
theorem dX5_get_27 : decode cX5_get 27 = .ok (.iconst 0, 1) := dk_3 (dk_at dksX5_get_1 4 rfl rfl)
theorem dX5_get_28 : decode cX5_get 28 = .ok (.istore_n 3, 1) := dk_62 (dk_at dksX5_get_1 5 rfl rfl)
theorem dX5_get_29 : decode cX5_get 29 = .ok (.iload_n 3, 1) := dk_29 (dk_at dksX5_get_1 6 rfl rfl)
theorem dX5_get_30 : decode cX5_get 30 = .ok (.sipush 4096, 3) := dk_17 16 0 (dk_at dksX5_get_1 7 rfl rfl)
theorem dX5_get_33 : decode cX5_get 33 = .ok (.if_icmp .ge 16, 3) := dk_162 0 16 (dk_at dksX5_get_1 10 rfl rfl)
theorem dX5_get_36 : decode cX5_get 36 = .ok (.aload_n 0, 1) := dk_42 (dk_at dksX5_get_1 13 rfl rfl)
theorem dX5_get_37 : decode cX5_get 37 = .ok (.getfield 97, 3) := dk_180 0 97 (dk_at dksX5_get_1 14 rfl rfl)
theorem dX5_get_40 : decode cX5_get 40 = .ok (.iload_n 3, 1) := dk_29 (dk_at dksX5_get_1 17 rfl rfl)
theorem dX5_get_41 : decode cX5_get 41 = .ok (.iconst (-1), 1) := dk_2 (dk_at dksX5_get_1 18 rfl rfl)
theorem dX5_get_42 : decode cX5_get 42 = .ok (.iastore, 1) := dk_79 (dk_at dksX5_get_1 19 rfl rfl)
theorem dX5_get_43 : decode cX5_get 43 = .ok (.iinc 3 1, 3) := dk_132 3 1 (dk_at dksX5_get_1 20 rfl rfl)
theorem dX5_get_46 : decode cX5_get 46 = .ok (.goto (-17), 3) := dk_167 255 239 (dk_at dksX5_get_2 0 rfl rfl)
theorem dX5_get_49 : decode cX5_get 49 = .ok (.aload_n 0, 1) := dk_42 (dk_at dksX5_get_2 3 rfl rfl)
theorem dX5_get_50 : decode cX5_get 50 = .ok (.iconst 0, 1) := dk_3 (dk_at dksX5_get_2 4 rfl rfl)
theorem dX5_get_51 : decode cX5_get 51 = .ok (.putfield 355, 3) := dk_181 1 99 (dk_at dksX5_get_2 5 rfl rfl)
theorem dX5_get_54 : decode cX5_get 54 = .ok (.aload_n 0, 1) := dk_42 (dk_at dksX5_get_2 8 rfl rfl)
theorem dX5_get_55 : decode cX5_get 55 = .ok (.iconst 0, 1) := dk_3 (dk_at dksX5_get_2 9 rfl rfl)
theorem dX5_get_56 : decode cX5_get 56 = .ok (.putfield 358, 3) := dk_181 1 102 (dk_at dksX5_get_2 10 rfl rfl)
theorem dX5_get_59 : decode cX5_get 59 = .ok (.aload_n 0, 1) := dk_42 (dk_at dksX5_get_2 13 rfl rfl)
theorem dX5_get_60 : decode cX5_get 60 = .ok (.aload_n 0, 1) := dk_42 (dk_at dksX5_get_2 14 rfl rfl)
theorem dX5_get_61 : decode cX5_get 61 = .ok (.getfield 41, 3) := dk_180 0 41 (dk_at dksX5_get_2 15 rfl rfl)
theorem dX5_get_64 : decode cX5_get 64 = .ok (.iconst 0, 1) := dk_3 (dk_at dksX5_get_2 18 rfl rfl)
theorem dX5_get_65 : decode cX5_get 65 = .ok (.invokevirtual 361, 3) := dk_182 1 105 (dk_at dksX5_get_2 19 rfl rfl)
theorem dX5_get_68 : decode cX5_get 68 = .ok (.iconst (-1), 1) := dk_2 (dk_at dksX5_get_2 22 rfl rfl)
theorem dX5_get_69 : decode cX5_get 69 = .ok (.istore_n 3, 1) := dk_62 (dk_at dksX5_get_2 23 rfl rfl)
theorem dX5_get_70 : decode cX5_get 70 = .ok (.iconst 0, 1) := dk_3 (dk_at dksX5_get_3 0 rfl rfl)
theorem dX5_get_71 : decode cX5_get 71 = .ok (.istore 4, 2) := dk_54 4 (dk_at dksX5_get_3 1 rfl rfl)
theorem dX5_get_73 : decode cX5_get 73 = .ok (.iload 4, 2) := dk_21 4 (dk_at dksX5_get_3 3 rfl rfl)
theorem dX5_get_75 : decode cX5_get 75 = .ok (.aload_n 0, 1) := dk_42 (dk_at dksX5_get_3 5 rfl rfl)
theorem dX5_get_76 : decode cX5_get 76 = .ok (.getfield 355, 3) := dk_180 1 99 (dk_at dksX5_get_3 6 rfl rfl)
theorem dX5_get_79 : decode cX5_get 79 = .ok (.if_icmp .ge 125, 3) := dk_162 0 125 (dk_at dksX5_get_3 9 rfl rfl)
theorem dX5_get_82 : decode cX5_get 82 = .ok (.aload_n 0, 1) := dk_42 (dk_at dksX5_get_3 12 rfl rfl)
theorem dX5_get_83 : decode cX5_get 83 = .ok (.getfield 358, 3) := dk_180 1 102 (dk_at dksX5_get_3 13 rfl rfl)
theorem dX5_get_86 : decode cX5_get 86 = .ok (.ifCond .ne 118, 3) := dk_154 0 118 (dk_at dksX5_get_3 16 rfl rfl)
theorem dX5_get_89 : decode cX5_get 89 = .ok (.iconst 0, 1) := dk_3 (dk_at dksX5_get_3 19 rfl rfl)
theorem dX5_get_90 : decode cX5_get 90 = .ok (.istore 5, 2) := dk_54 5 (dk_at dksX5_get_3 20 rfl rfl)
theorem dX5_get_92 : decode cX5_get 92 = .ok (.iload 5, 2) := dk_21 5 (dk_at dksX5_get_3 22 rfl rfl)
theorem dX5_get_94 : decode cX5_get 94 = .ok (.bipush 30, 2) := dk_16 30 (dk_at dksX5_get_4 0 rfl rfl)
theorem dX5_get_96 : decode cX5_get 96 = .ok (.if_icmp .ge 29, 3) := dk_162 0 29 (dk_at dksX5_get_4 2 rfl rfl)
theorem dX5_get_99 : decode cX5_get 99 = .ok (.aload_n 0, 1) := dk_42 (dk_at dksX5_get_4 5 rfl rfl)
theorem dX5_get_100 : decode cX5_get 100 = .ok (.getfield 100, 3) := dk_180 0 100 (dk_at dksX5_get_4 6 rfl rfl)
theorem dX5_get_103 : decode cX5_get 103 = .ok (.iload 5, 2) := dk_21 5 (dk_at dksX5_get_4 9 rfl rfl)
theorem dX5_get_105 : decode cX5_get 105 = .ok (.aload_n 0, 1) := dk_42 (dk_at dksX5_get_4 11 rfl rfl)
theorem dX5_get_106 : decode cX5_get 106 = .ok (.getfield 88, 3) := dk_180 0 88 (dk_at dksX5_get_4 12 rfl rfl)
theorem dX5_get_109 : decode cX5_get 109 = .ok (.bipush 30, 2) := dk_16 30 (dk_at dksX5_get_4 15 rfl rfl)
theorem dX5_get_111 : decode cX5_get 111 = .ok (.iload 4, 2) := dk_21 4 (dk_at dksX5_get_4 17 rfl rfl)
theorem dX5_get_113 : decode cX5_get 113 = .ok (.imul, 1) := dk_104 (dk_at dksX5_get_4 19 rfl rfl)
theorem dX5_get_114 : decode cX5_get 114 = .ok (.iload 5, 2) := dk_21 5 (dk_at dksX5_get_4 20 rfl rfl)
theorem dX5_get_116 : decode cX5_get 116 = .ok (.iadd, 1) := dk_96 (dk_at dksX5_get_4 22 rfl rfl)
theorem dX5_get_117 : decode cX5_get 117 = .ok (.iaload, 1) := dk_46 (dk_at dksX5_get_4 23 rfl rfl)
theorem dX5_get_118 : decode cX5_get 118 = .ok (.iastore, 1) := dk_79 (dk_at dksX5_get_5 0 rfl rfl)
theorem dX5_get_119 : decode cX5_get 119 = .ok (.iinc 5 1, 3) := dk_132 5 1 (dk_at dksX5_get_5 1 rfl rfl)
theorem dX5_get_122 : decode cX5_get 122 = .ok (.goto (-30), 3) := dk_167 255 226 (dk_at dksX5_get_5 4 rfl rfl)
theorem dX5_get_125 : decode cX5_get 125 = .ok (.aload_n 0, 1) := dk_42 (dk_at dksX5_get_5 7 rfl rfl)
theorem dX5_get_126 : decode cX5_get 126 = .ok (.getfield 100, 3) := dk_180 0 100 (dk_at dksX5_get_5 8 rfl rfl)
theorem dX5_get_129 : decode cX5_get 129 = .ok (.iload_n 2, 1) := dk_28 (dk_at dksX5_get_5 11 rfl rfl)
theorem dX5_get_130 : decode cX5_get 130 = .ok (.iaload, 1) := dk_46 (dk_at dksX5_get_5 12 rfl rfl)
theorem dX5_get_131 : decode cX5_get 131 = .ok (.iload_n 1, 1) := dk_27 (dk_at dksX5_get_5 13 rfl rfl)
theorem dX5_get_132 : decode cX5_get 132 = .ok (.if_icmp .ne 23, 3) := dk_160 0 23 (dk_at dksX5_get_5 14 rfl rfl)
theorem dX5_get_135 : decode cX5_get 135 = .ok (.iload_n 3, 1) := dk_29 (dk_at dksX5_get_5 17 rfl rfl)
theorem dX5_get_136 : decode cX5_get 136 = .ok (.iconst (-1), 1) := dk_2 (dk_at dksX5_get_5 18 rfl rfl)
theorem dX5_get_137 : decode cX5_get 137 = .ok (.if_icmp .ne 13, 3) := dk_160 0 13 (dk_at dksX5_get_5 19 rfl rfl)
theorem dX5_get_140 : decode cX5_get 140 = .ok (.aload_n 0, 1) := dk_42 (dk_at dksX5_get_5 22 rfl rfl)
theorem dX5_get_141 : decode cX5_get 141 = .ok (.getfield 91, 3) := dk_180 0 91 (dk_at dksX5_get_6 0 rfl rfl)
theorem dX5_get_144 : decode cX5_get 144 = .ok (.iload 4, 2) := dk_21 4 (dk_at dksX5_get_6 3 rfl rfl)
theorem dX5_get_146 : decode cX5_get 146 = .ok (.iaload, 1) := dk_46 (dk_at dksX5_get_6 5 rfl rfl)
theorem dX5_get_147 : decode cX5_get 147 = .ok (.goto 4, 3) := dk_167 0 4 (dk_at dksX5_get_6 6 rfl rfl)
theorem dX5_get_150 : decode cX5_get 150 = .ok (.iload_n 3, 1) := dk_29 (dk_at dksX5_get_6 9 rfl rfl)
theorem dX5_get_151 : decode cX5_get 151 = .ok (.istore_n 3, 1) := dk_62 (dk_at dksX5_get_6 10 rfl rfl)
theorem dX5_get_152 : decode cX5_get 152 = .ok (.goto 46, 3) := dk_167 0 46 (dk_at dksX5_get_6 11 rfl rfl)
theorem dX5_get_155 : decode cX5_get 155 = .ok (.iconst 0, 1) := dk_3 (dk_at dksX5_get_6 14 rfl rfl)
theorem dX5_get_156 : decode cX5_get 156 = .ok (.istore 5, 2) := dk_54 5 (dk_at dksX5_get_6 15 rfl rfl)
theorem dX5_get_158 : decode cX5_get 158 = .ok (.iload 5, 2) := dk_21 5 (dk_at dksX5_get_6 17 rfl rfl)
theorem dX5_get_160 : decode cX5_get 160 = .ok (.aload_n 0, 1) := dk_42 (dk_at dksX5_get_6 19 rfl rfl)
theorem dX5_get_161 : decode cX5_get 161 = .ok (.getfield 25, 3) := dk_180 0 25 (dk_at dksX5_get_6 20 rfl rfl)
theorem dX5_get_164 : decode cX5_get 164 = .ok (.iconst 0, 1) := dk_3 (dk_at dksX5_get_6 23 rfl rfl)
theorem dX5_get_165 : decode cX5_get 165 = .ok (.iaload, 1) := dk_46 (dk_at dksX5_get_7 0 rfl rfl)
theorem dX5_get_166 : decode cX5_get 166 = .ok (.if_icmp .ge 32, 3) := dk_162 0 32 (dk_at dksX5_get_7 1 rfl rfl)
theorem dX5_get_169 : decode cX5_get 169 = .ok (.aload_n 0, 1) := dk_42 (dk_at dksX5_get_7 4 rfl rfl)
theorem dX5_get_170 : decode cX5_get 170 = .ok (.getfield 358, 3) := dk_180 1 102 (dk_at dksX5_get_7 5 rfl rfl)
theorem dX5_get_173 : decode cX5_get 173 = .ok (.ifCond .ne 25, 3) := dk_154 0 25 (dk_at dksX5_get_7 8 rfl rfl)
theorem dX5_get_176 : decode cX5_get 176 = .ok (.aload_n 0, 1) := dk_42 (dk_at dksX5_get_7 11 rfl rfl)
theorem dX5_get_177 : decode cX5_get 177 = .ok (.iload 5, 2) := dk_21 5 (dk_at dksX5_get_7 12 rfl rfl)
theorem dX5_get_179 : decode cX5_get 179 = .ok (.iload_n 1, 1) := dk_27 (dk_at dksX5_get_7 14 rfl rfl)
theorem dX5_get_180 : decode cX5_get 180 = .ok (.aload_n 0, 1) := dk_42 (dk_at dksX5_get_7 15 rfl rfl)
theorem dX5_get_181 : decode cX5_get 181 = .ok (.getfield 91, 3) := dk_180 0 91 (dk_at dksX5_get_7 16 rfl rfl)
theorem dX5_get_184 : decode cX5_get 184 = .ok (.iload 4, 2) := dk_21 4 (dk_at dksX5_get_7 19 rfl rfl)
theorem dX5_get_186 : decode cX5_get 186 = .ok (.iaload, 1) := dk_46 (dk_at dksX5_get_7 21 rfl rfl)
theorem dX5_get_187 : decode cX5_get 187 = .ok (.iconst 1, 1) := dk_4 (dk_at dksX5_get_7 22 rfl rfl)
theorem dX5_get_188 : decode cX5_get 188 = .ok (.iadd, 1) := dk_96 (dk_at dksX5_get_7 23 rfl rfl)
theorem dX5_get_189 : decode cX5_get 189 = .ok (.invokevirtual 368, 3) := dk_182 1 112 (dk_at dksX5_get_8 0 rfl rfl)
theorem dX5_get_192 : decode cX5_get 192 = .ok (.iinc 5 1, 3) := dk_132 5 1 (dk_at dksX5_get_8 3 rfl rfl)
theorem dX5_get_195 : decode cX5_get 195 = .ok (.goto (-37), 3) := dk_167 255 219 (dk_at dksX5_get_8 6 rfl rfl)
theorem dX5_get_198 : decode cX5_get 198 = .ok (.iinc 4 1, 3) := dk_132 4 1 (dk_at dksX5_get_8 9 rfl rfl)
theorem dX5_get_201 : decode cX5_get 201 = .ok (.goto (-128), 3) := dk_167 255 128 (dk_at dksX5_get_8 12 rfl rfl)
theorem dX5_get_204 : decode cX5_get 204 = .ok (.aload_n 0, 1) := dk_42 (dk_at dksX5_get_8 15 rfl rfl)
theorem dX5_get_205 : decode cX5_get 205 = .ok (.getfield 358, 3) := dk_180 1 102 (dk_at dksX5_get_8 16 rfl rfl)
theorem dX5_get_208 : decode cX5_get 208 = .ok (.ifCond .eq 8, 3) := dk_153 0 8 (dk_at dksX5_get_8 19 rfl rfl)
theorem dX5_get_211 : decode cX5_get 211 = .ok (.bipush (-2), 2) := dk_16 254 (dk_at dksX5_get_8 22 rfl rfl)
theorem dX5_get_213 : decode cX5_get 213 = .ok (.goto 4, 3) := dk_167 0 4 (dk_at dksX5_get_9 0 rfl rfl)
theorem dX5_get_216 : decode cX5_get 216 = .ok (.iload_n 3, 1) := dk_29 (dk_at dksX5_get_9 3 rfl rfl)
theorem dX5_get_217 : decode cX5_get 217 = .ok (.ireturn, 1) := dk_172 (dk_at dksX5_get_9 4 rfl rfl)
abbrev cX5_come : ByteArray := prog_16_method_57_code
def yX5_come : MethodName := ⟨RX5, "come", "([II)V"⟩
def dkwX5_come_5 : List UInt8 := [79, 42, 180, 0, 97, 29, 42, 180, 1, 99, 79, 42, 89, 180, 1, 99, 4, 96, 181, 1, 99, 177]
abbrev dktX5_come_5 : List UInt8 := dkwX5_come_5 ++ []
def dkwX5_come_4 : List UInt8 := [42, 180, 0, 91, 42, 180, 1, 99, 28, 79, 42, 180, 0, 94, 42, 180, 1, 99, 42, 180, 0, 97, 29, 46]
abbrev dktX5_come_4 : List UInt8 := dkwX5_come_4 ++ dktX5_come_5
def dkwX5_come_3 : List UInt8 := [180, 0, 88, 16, 30, 42, 180, 1, 99, 104, 21, 4, 96, 43, 21, 4, 46, 79, 132, 4, 1, 167, 255, 227]
abbrev dktX5_come_3 : List UInt8 := dkwX5_come_3 ++ dktX5_come_4
def dkwX5_come_2 : List UInt8 := [17, 3, 232, 160, 0, 9, 42, 4, 181, 1, 102, 177, 3, 54, 4, 21, 4, 16, 30, 162, 0, 28, 42]
abbrev dktX5_come_2 : List UInt8 := dkwX5_come_2 ++ dktX5_come_3
def dkwX5_come_1 : List UInt8 := [182, 1, 95, 153, 0, 4, 177, 42, 180, 0, 94, 21, 4, 46, 54, 4, 167, 255, 230, 42, 180, 1, 99]
abbrev dktX5_come_1 : List UInt8 := dkwX5_come_1 ++ dktX5_come_2
def dkwX5_come_0 : List UInt8 := [43, 184, 1, 91, 62, 42, 180, 0, 97, 29, 46, 54, 4, 21, 4, 2, 159, 0, 26, 42, 21, 4, 43]
abbrev dktX5_come_0 : List UInt8 := dkwX5_come_0 ++ dktX5_come_1
theorem dksX5_come_0 : cX5_come.data.toList.drop 0 = dktX5_come_0 := by decide +kernel
theorem dksX5_come_1 : cX5_come.data.toList.drop 23 = dktX5_come_1 := dk_seg dksX5_come_0 23 rfl rfl
theorem dksX5_come_2 : cX5_come.data.toList.drop 46 = dktX5_come_2 := dk_seg dksX5_come_1 23 rfl rfl
theorem dksX5_come_3 : cX5_come.data.toList.drop 69 = dktX5_come_3 := dk_seg dksX5_come_2 23 rfl rfl
theorem dksX5_come_4 : cX5_come.data.toList.drop 93 = dktX5_come_4 := dk_seg dksX5_come_3 24 rfl rfl
theorem dksX5_come_5 : cX5_come.data.toList.drop 117 = dktX5_come_5 := dk_seg dksX5_come_4 24 rfl rfl
theorem dX5_come_0 : decode cX5_come 0 = .ok (.aload_n 1, 1) := dk_43 (dk_at dksX5_come_0 0 rfl rfl)
theorem dX5_come_1 : decode cX5_come 1 = .ok (.invokestatic 347, 3) := dk_184 1 91 (dk_at dksX5_come_0 1 rfl rfl)
theorem dX5_come_4 : decode cX5_come 4 = .ok (.istore_n 3, 1) := dk_62 (dk_at dksX5_come_0 4 rfl rfl)
theorem dX5_come_5 : decode cX5_come 5 = .ok (.aload_n 0, 1) := dk_42 (dk_at dksX5_come_0 5 rfl rfl)
theorem dX5_come_6 : decode cX5_come 6 = .ok (.getfield 97, 3) := dk_180 0 97 (dk_at dksX5_come_0 6 rfl rfl)
theorem dX5_come_9 : decode cX5_come 9 = .ok (.iload_n 3, 1) := dk_29 (dk_at dksX5_come_0 9 rfl rfl)
theorem dX5_come_10 : decode cX5_come 10 = .ok (.iaload, 1) := dk_46 (dk_at dksX5_come_0 10 rfl rfl)
theorem dX5_come_11 : decode cX5_come 11 = .ok (.istore 4, 2) := dk_54 4 (dk_at dksX5_come_0 11 rfl rfl)
theorem dX5_come_13 : decode cX5_come 13 = .ok (.iload 4, 2) := dk_21 4 (dk_at dksX5_come_0 13 rfl rfl)
theorem dX5_come_15 : decode cX5_come 15 = .ok (.iconst (-1), 1) := dk_2 (dk_at dksX5_come_0 15 rfl rfl)
theorem dX5_come_16 : decode cX5_come 16 = .ok (.if_icmp .eq 26, 3) := dk_159 0 26 (dk_at dksX5_come_0 16 rfl rfl)
theorem dX5_come_19 : decode cX5_come 19 = .ok (.aload_n 0, 1) := dk_42 (dk_at dksX5_come_0 19 rfl rfl)
theorem dX5_come_20 : decode cX5_come 20 = .ok (.iload 4, 2) := dk_21 4 (dk_at dksX5_come_0 20 rfl rfl)
theorem dX5_come_22 : decode cX5_come 22 = .ok (.aload_n 1, 1) := dk_43 (dk_at dksX5_come_0 22 rfl rfl)
theorem dX5_come_23 : decode cX5_come 23 = .ok (.invokevirtual 351, 3) := dk_182 1 95 (dk_at dksX5_come_1 0 rfl rfl)
theorem dX5_come_26 : decode cX5_come 26 = .ok (.ifCond .eq 4, 3) := dk_153 0 4 (dk_at dksX5_come_1 3 rfl rfl)
theorem dX5_come_29 : decode cX5_come 29 = .ok (.return_, 1) := dk_177 (dk_at dksX5_come_1 6 rfl rfl)
theorem dX5_come_30 : decode cX5_come 30 = .ok (.aload_n 0, 1) := dk_42 (dk_at dksX5_come_1 7 rfl rfl)
theorem dX5_come_31 : decode cX5_come 31 = .ok (.getfield 94, 3) := dk_180 0 94 (dk_at dksX5_come_1 8 rfl rfl)
theorem dX5_come_34 : decode cX5_come 34 = .ok (.iload 4, 2) := dk_21 4 (dk_at dksX5_come_1 11 rfl rfl)
theorem dX5_come_36 : decode cX5_come 36 = .ok (.iaload, 1) := dk_46 (dk_at dksX5_come_1 13 rfl rfl)
theorem dX5_come_37 : decode cX5_come 37 = .ok (.istore 4, 2) := dk_54 4 (dk_at dksX5_come_1 14 rfl rfl)
theorem dX5_come_39 : decode cX5_come 39 = .ok (.goto (-26), 3) := dk_167 255 230 (dk_at dksX5_come_1 16 rfl rfl)
theorem dX5_come_42 : decode cX5_come 42 = .ok (.aload_n 0, 1) := dk_42 (dk_at dksX5_come_1 19 rfl rfl)
theorem dX5_come_43 : decode cX5_come 43 = .ok (.getfield 355, 3) := dk_180 1 99 (dk_at dksX5_come_1 20 rfl rfl)
theorem dX5_come_46 : decode cX5_come 46 = .ok (.sipush 1000, 3) := dk_17 3 232 (dk_at dksX5_come_2 0 rfl rfl)
theorem dX5_come_49 : decode cX5_come 49 = .ok (.if_icmp .ne 9, 3) := dk_160 0 9 (dk_at dksX5_come_2 3 rfl rfl)
theorem dX5_come_52 : decode cX5_come 52 = .ok (.aload_n 0, 1) := dk_42 (dk_at dksX5_come_2 6 rfl rfl)
theorem dX5_come_53 : decode cX5_come 53 = .ok (.iconst 1, 1) := dk_4 (dk_at dksX5_come_2 7 rfl rfl)
theorem dX5_come_54 : decode cX5_come 54 = .ok (.putfield 358, 3) := dk_181 1 102 (dk_at dksX5_come_2 8 rfl rfl)
theorem dX5_come_57 : decode cX5_come 57 = .ok (.return_, 1) := dk_177 (dk_at dksX5_come_2 11 rfl rfl)
theorem dX5_come_58 : decode cX5_come 58 = .ok (.iconst 0, 1) := dk_3 (dk_at dksX5_come_2 12 rfl rfl)
theorem dX5_come_59 : decode cX5_come 59 = .ok (.istore 4, 2) := dk_54 4 (dk_at dksX5_come_2 13 rfl rfl)
theorem dX5_come_61 : decode cX5_come 61 = .ok (.iload 4, 2) := dk_21 4 (dk_at dksX5_come_2 15 rfl rfl)
theorem dX5_come_63 : decode cX5_come 63 = .ok (.bipush 30, 2) := dk_16 30 (dk_at dksX5_come_2 17 rfl rfl)
theorem dX5_come_65 : decode cX5_come 65 = .ok (.if_icmp .ge 28, 3) := dk_162 0 28 (dk_at dksX5_come_2 19 rfl rfl)
theorem dX5_come_68 : decode cX5_come 68 = .ok (.aload_n 0, 1) := dk_42 (dk_at dksX5_come_2 22 rfl rfl)
theorem dX5_come_69 : decode cX5_come 69 = .ok (.getfield 88, 3) := dk_180 0 88 (dk_at dksX5_come_3 0 rfl rfl)
theorem dX5_come_72 : decode cX5_come 72 = .ok (.bipush 30, 2) := dk_16 30 (dk_at dksX5_come_3 3 rfl rfl)
theorem dX5_come_74 : decode cX5_come 74 = .ok (.aload_n 0, 1) := dk_42 (dk_at dksX5_come_3 5 rfl rfl)
theorem dX5_come_75 : decode cX5_come 75 = .ok (.getfield 355, 3) := dk_180 1 99 (dk_at dksX5_come_3 6 rfl rfl)
theorem dX5_come_78 : decode cX5_come 78 = .ok (.imul, 1) := dk_104 (dk_at dksX5_come_3 9 rfl rfl)
theorem dX5_come_79 : decode cX5_come 79 = .ok (.iload 4, 2) := dk_21 4 (dk_at dksX5_come_3 10 rfl rfl)
theorem dX5_come_81 : decode cX5_come 81 = .ok (.iadd, 1) := dk_96 (dk_at dksX5_come_3 12 rfl rfl)
theorem dX5_come_82 : decode cX5_come 82 = .ok (.aload_n 1, 1) := dk_43 (dk_at dksX5_come_3 13 rfl rfl)
theorem dX5_come_83 : decode cX5_come 83 = .ok (.iload 4, 2) := dk_21 4 (dk_at dksX5_come_3 14 rfl rfl)
theorem dX5_come_85 : decode cX5_come 85 = .ok (.iaload, 1) := dk_46 (dk_at dksX5_come_3 16 rfl rfl)
theorem dX5_come_86 : decode cX5_come 86 = .ok (.iastore, 1) := dk_79 (dk_at dksX5_come_3 17 rfl rfl)
theorem dX5_come_87 : decode cX5_come 87 = .ok (.iinc 4 1, 3) := dk_132 4 1 (dk_at dksX5_come_3 18 rfl rfl)
theorem dX5_come_90 : decode cX5_come 90 = .ok (.goto (-29), 3) := dk_167 255 227 (dk_at dksX5_come_3 21 rfl rfl)
theorem dX5_come_93 : decode cX5_come 93 = .ok (.aload_n 0, 1) := dk_42 (dk_at dksX5_come_4 0 rfl rfl)
theorem dX5_come_94 : decode cX5_come 94 = .ok (.getfield 91, 3) := dk_180 0 91 (dk_at dksX5_come_4 1 rfl rfl)
theorem dX5_come_97 : decode cX5_come 97 = .ok (.aload_n 0, 1) := dk_42 (dk_at dksX5_come_4 4 rfl rfl)
theorem dX5_come_98 : decode cX5_come 98 = .ok (.getfield 355, 3) := dk_180 1 99 (dk_at dksX5_come_4 5 rfl rfl)
theorem dX5_come_101 : decode cX5_come 101 = .ok (.iload_n 2, 1) := dk_28 (dk_at dksX5_come_4 8 rfl rfl)
theorem dX5_come_102 : decode cX5_come 102 = .ok (.iastore, 1) := dk_79 (dk_at dksX5_come_4 9 rfl rfl)
theorem dX5_come_103 : decode cX5_come 103 = .ok (.aload_n 0, 1) := dk_42 (dk_at dksX5_come_4 10 rfl rfl)
theorem dX5_come_104 : decode cX5_come 104 = .ok (.getfield 94, 3) := dk_180 0 94 (dk_at dksX5_come_4 11 rfl rfl)
theorem dX5_come_107 : decode cX5_come 107 = .ok (.aload_n 0, 1) := dk_42 (dk_at dksX5_come_4 14 rfl rfl)
theorem dX5_come_108 : decode cX5_come 108 = .ok (.getfield 355, 3) := dk_180 1 99 (dk_at dksX5_come_4 15 rfl rfl)
theorem dX5_come_111 : decode cX5_come 111 = .ok (.aload_n 0, 1) := dk_42 (dk_at dksX5_come_4 18 rfl rfl)
theorem dX5_come_112 : decode cX5_come 112 = .ok (.getfield 97, 3) := dk_180 0 97 (dk_at dksX5_come_4 19 rfl rfl)
theorem dX5_come_115 : decode cX5_come 115 = .ok (.iload_n 3, 1) := dk_29 (dk_at dksX5_come_4 22 rfl rfl)
theorem dX5_come_116 : decode cX5_come 116 = .ok (.iaload, 1) := dk_46 (dk_at dksX5_come_4 23 rfl rfl)
theorem dX5_come_117 : decode cX5_come 117 = .ok (.iastore, 1) := dk_79 (dk_at dksX5_come_5 0 rfl rfl)
theorem dX5_come_118 : decode cX5_come 118 = .ok (.aload_n 0, 1) := dk_42 (dk_at dksX5_come_5 1 rfl rfl)
theorem dX5_come_119 : decode cX5_come 119 = .ok (.getfield 97, 3) := dk_180 0 97 (dk_at dksX5_come_5 2 rfl rfl)
theorem dX5_come_122 : decode cX5_come 122 = .ok (.iload_n 3, 1) := dk_29 (dk_at dksX5_come_5 5 rfl rfl)
theorem dX5_come_123 : decode cX5_come 123 = .ok (.aload_n 0, 1) := dk_42 (dk_at dksX5_come_5 6 rfl rfl)
theorem dX5_come_124 : decode cX5_come 124 = .ok (.getfield 355, 3) := dk_180 1 99 (dk_at dksX5_come_5 7 rfl rfl)
theorem dX5_come_127 : decode cX5_come 127 = .ok (.iastore, 1) := dk_79 (dk_at dksX5_come_5 10 rfl rfl)
theorem dX5_come_128 : decode cX5_come 128 = .ok (.aload_n 0, 1) := dk_42 (dk_at dksX5_come_5 11 rfl rfl)
theorem dX5_come_129 : decode cX5_come 129 = .ok (.dup, 1) := dk_89 (dk_at dksX5_come_5 12 rfl rfl)
theorem dX5_come_130 : decode cX5_come 130 = .ok (.getfield 355, 3) := dk_180 1 99 (dk_at dksX5_come_5 13 rfl rfl)
theorem dX5_come_133 : decode cX5_come 133 = .ok (.iconst 1, 1) := dk_4 (dk_at dksX5_come_5 16 rfl rfl)
theorem dX5_come_134 : decode cX5_come 134 = .ok (.iadd, 1) := dk_96 (dk_at dksX5_come_5 17 rfl rfl)
theorem dX5_come_135 : decode cX5_come 135 = .ok (.putfield 355, 3) := dk_181 1 99 (dk_at dksX5_come_5 18 rfl rfl)
theorem dX5_come_138 : decode cX5_come 138 = .ok (.return_, 1) := dk_177 (dk_at dksX5_come_5 21 rfl rfl)
abbrev cX5_foldOf : ByteArray := prog_16_method_55_code
def yX5_foldOf : MethodName := ⟨RX5, "foldOf", "([I)I"⟩
def dkwX5_foldOf_1 : List UInt8 := [167, 255, 238, 27, 17, 15, 255, 126, 172]
abbrev dktX5_foldOf_1 : List UInt8 := dkwX5_foldOf_1 ++ []
def dkwX5_foldOf_0 : List UInt8 := [3, 60, 3, 61, 28, 16, 30, 162, 0, 18, 16, 31, 27, 104, 42, 28, 46, 96, 60, 132, 2, 1]
abbrev dktX5_foldOf_0 : List UInt8 := dkwX5_foldOf_0 ++ dktX5_foldOf_1
theorem dksX5_foldOf_0 : cX5_foldOf.data.toList.drop 0 = dktX5_foldOf_0 := by decide +kernel
theorem dksX5_foldOf_1 : cX5_foldOf.data.toList.drop 22 = dktX5_foldOf_1 := dk_seg dksX5_foldOf_0 22 rfl rfl
theorem dX5_foldOf_0 : decode cX5_foldOf 0 = .ok (.iconst 0, 1) := dk_3 (dk_at dksX5_foldOf_0 0 rfl rfl)
theorem dX5_foldOf_1 : decode cX5_foldOf 1 = .ok (.istore_n 1, 1) := dk_60 (dk_at dksX5_foldOf_0 1 rfl rfl)
theorem dX5_foldOf_2 : decode cX5_foldOf 2 = .ok (.iconst 0, 1) := dk_3 (dk_at dksX5_foldOf_0 2 rfl rfl)
theorem dX5_foldOf_3 : decode cX5_foldOf 3 = .ok (.istore_n 2, 1) := dk_61 (dk_at dksX5_foldOf_0 3 rfl rfl)
theorem dX5_foldOf_4 : decode cX5_foldOf 4 = .ok (.iload_n 2, 1) := dk_28 (dk_at dksX5_foldOf_0 4 rfl rfl)
theorem dX5_foldOf_5 : decode cX5_foldOf 5 = .ok (.bipush 30, 2) := dk_16 30 (dk_at dksX5_foldOf_0 5 rfl rfl)
theorem dX5_foldOf_7 : decode cX5_foldOf 7 = .ok (.if_icmp .ge 18, 3) := dk_162 0 18 (dk_at dksX5_foldOf_0 7 rfl rfl)
theorem dX5_foldOf_10 : decode cX5_foldOf 10 = .ok (.bipush 31, 2) := dk_16 31 (dk_at dksX5_foldOf_0 10 rfl rfl)
theorem dX5_foldOf_12 : decode cX5_foldOf 12 = .ok (.iload_n 1, 1) := dk_27 (dk_at dksX5_foldOf_0 12 rfl rfl)
theorem dX5_foldOf_13 : decode cX5_foldOf 13 = .ok (.imul, 1) := dk_104 (dk_at dksX5_foldOf_0 13 rfl rfl)
theorem dX5_foldOf_14 : decode cX5_foldOf 14 = .ok (.aload_n 0, 1) := dk_42 (dk_at dksX5_foldOf_0 14 rfl rfl)
theorem dX5_foldOf_15 : decode cX5_foldOf 15 = .ok (.iload_n 2, 1) := dk_28 (dk_at dksX5_foldOf_0 15 rfl rfl)
theorem dX5_foldOf_16 : decode cX5_foldOf 16 = .ok (.iaload, 1) := dk_46 (dk_at dksX5_foldOf_0 16 rfl rfl)
theorem dX5_foldOf_17 : decode cX5_foldOf 17 = .ok (.iadd, 1) := dk_96 (dk_at dksX5_foldOf_0 17 rfl rfl)
theorem dX5_foldOf_18 : decode cX5_foldOf 18 = .ok (.istore_n 1, 1) := dk_60 (dk_at dksX5_foldOf_0 18 rfl rfl)
theorem dX5_foldOf_19 : decode cX5_foldOf 19 = .ok (.iinc 2 1, 3) := dk_132 2 1 (dk_at dksX5_foldOf_0 19 rfl rfl)
theorem dX5_foldOf_22 : decode cX5_foldOf 22 = .ok (.goto (-18), 3) := dk_167 255 238 (dk_at dksX5_foldOf_1 0 rfl rfl)
theorem dX5_foldOf_25 : decode cX5_foldOf 25 = .ok (.iload_n 1, 1) := dk_27 (dk_at dksX5_foldOf_1 3 rfl rfl)
theorem dX5_foldOf_26 : decode cX5_foldOf 26 = .ok (.sipush 4095, 3) := dk_17 15 255 (dk_at dksX5_foldOf_1 4 rfl rfl)
theorem dX5_foldOf_29 : decode cX5_foldOf 29 = .ok (.iand, 1) := dk_126 (dk_at dksX5_foldOf_1 7 rfl rfl)
theorem dX5_foldOf_30 : decode cX5_foldOf 30 = .ok (.ireturn, 1) := dk_172 (dk_at dksX5_foldOf_1 8 rfl rfl)
abbrev cX5_isState : ByteArray := prog_16_method_56_code
def yX5_isState : MethodName := ⟨RX5, "isState", "(I[I)Z"⟩
def dkwX5_isState_1 : List UInt8 := [159, 0, 5, 3, 172, 132, 3, 1, 167, 255, 228, 4, 172]
abbrev dktX5_isState_1 : List UInt8 := dkwX5_isState_1 ++ []
def dkwX5_isState_0 : List UInt8 := [3, 62, 29, 16, 30, 162, 0, 28, 42, 180, 0, 88, 16, 30, 27, 104, 29, 96, 46, 44, 29, 46]
abbrev dktX5_isState_0 : List UInt8 := dkwX5_isState_0 ++ dktX5_isState_1
theorem dksX5_isState_0 : cX5_isState.data.toList.drop 0 = dktX5_isState_0 := by decide +kernel
theorem dksX5_isState_1 : cX5_isState.data.toList.drop 22 = dktX5_isState_1 := dk_seg dksX5_isState_0 22 rfl rfl
theorem dX5_isState_0 : decode cX5_isState 0 = .ok (.iconst 0, 1) := dk_3 (dk_at dksX5_isState_0 0 rfl rfl)
theorem dX5_isState_1 : decode cX5_isState 1 = .ok (.istore_n 3, 1) := dk_62 (dk_at dksX5_isState_0 1 rfl rfl)
theorem dX5_isState_2 : decode cX5_isState 2 = .ok (.iload_n 3, 1) := dk_29 (dk_at dksX5_isState_0 2 rfl rfl)
theorem dX5_isState_3 : decode cX5_isState 3 = .ok (.bipush 30, 2) := dk_16 30 (dk_at dksX5_isState_0 3 rfl rfl)
theorem dX5_isState_5 : decode cX5_isState 5 = .ok (.if_icmp .ge 28, 3) := dk_162 0 28 (dk_at dksX5_isState_0 5 rfl rfl)
theorem dX5_isState_8 : decode cX5_isState 8 = .ok (.aload_n 0, 1) := dk_42 (dk_at dksX5_isState_0 8 rfl rfl)
theorem dX5_isState_9 : decode cX5_isState 9 = .ok (.getfield 88, 3) := dk_180 0 88 (dk_at dksX5_isState_0 9 rfl rfl)
theorem dX5_isState_12 : decode cX5_isState 12 = .ok (.bipush 30, 2) := dk_16 30 (dk_at dksX5_isState_0 12 rfl rfl)
theorem dX5_isState_14 : decode cX5_isState 14 = .ok (.iload_n 1, 1) := dk_27 (dk_at dksX5_isState_0 14 rfl rfl)
theorem dX5_isState_15 : decode cX5_isState 15 = .ok (.imul, 1) := dk_104 (dk_at dksX5_isState_0 15 rfl rfl)
theorem dX5_isState_16 : decode cX5_isState 16 = .ok (.iload_n 3, 1) := dk_29 (dk_at dksX5_isState_0 16 rfl rfl)
theorem dX5_isState_17 : decode cX5_isState 17 = .ok (.iadd, 1) := dk_96 (dk_at dksX5_isState_0 17 rfl rfl)
theorem dX5_isState_18 : decode cX5_isState 18 = .ok (.iaload, 1) := dk_46 (dk_at dksX5_isState_0 18 rfl rfl)
theorem dX5_isState_19 : decode cX5_isState 19 = .ok (.aload_n 2, 1) := dk_44 (dk_at dksX5_isState_0 19 rfl rfl)
theorem dX5_isState_20 : decode cX5_isState 20 = .ok (.iload_n 3, 1) := dk_29 (dk_at dksX5_isState_0 20 rfl rfl)
theorem dX5_isState_21 : decode cX5_isState 21 = .ok (.iaload, 1) := dk_46 (dk_at dksX5_isState_0 21 rfl rfl)
theorem dX5_isState_22 : decode cX5_isState 22 = .ok (.if_icmp .eq 5, 3) := dk_159 0 5 (dk_at dksX5_isState_1 0 rfl rfl)
theorem dX5_isState_25 : decode cX5_isState 25 = .ok (.iconst 0, 1) := dk_3 (dk_at dksX5_isState_1 3 rfl rfl)
theorem dX5_isState_26 : decode cX5_isState 26 = .ok (.ireturn, 1) := dk_172 (dk_at dksX5_isState_1 4 rfl rfl)
theorem dX5_isState_27 : decode cX5_isState 27 = .ok (.iinc 3 1, 3) := dk_132 3 1 (dk_at dksX5_isState_1 5 rfl rfl)
theorem dX5_isState_30 : decode cX5_isState 30 = .ok (.goto (-28), 3) := dk_167 255 228 (dk_at dksX5_isState_1 8 rfl rfl)
theorem dX5_isState_33 : decode cX5_isState 33 = .ok (.iconst 1, 1) := dk_4 (dk_at dksX5_isState_1 11 rfl rfl)
theorem dX5_isState_34 : decode cX5_isState 34 = .ok (.ireturn, 1) := dk_172 (dk_at dksX5_isState_1 12 rfl rfl)
abbrev cX5_goOn : ByteArray := prog_16_method_59_code
def yX5_goOn : MethodName := ⟨RX5, "goOn", "(III)V"⟩
def dkwX5_goOn_7 : List UInt8 := [167, 255, 160, 177]
abbrev dktX5_goOn_7 : List UInt8 := dkwX5_goOn_7 ++ []
def dkwX5_goOn_6 : List UInt8 := [160, 0, 13, 42, 27, 21, 4, 21, 5, 29, 182, 1, 109, 132, 5, 1, 167, 255, 199, 132, 4, 1]
abbrev dktX5_goOn_6 : List UInt8 := dkwX5_goOn_6 ++ dktX5_goOn_7
def dkwX5_goOn_5 : List UInt8 := [180, 0, 100, 16, 24, 27, 96, 46, 2, 159, 0, 17, 42, 180, 0, 100, 16, 24, 27, 96, 46, 21, 5]
abbrev dktX5_goOn_5 : List UInt8 := dkwX5_goOn_5 ++ dktX5_goOn_6
def dkwX5_goOn_4 : List UInt8 := [167, 0, 66, 3, 54, 5, 21, 5, 42, 180, 0, 25, 3, 46, 162, 0, 52, 21, 5, 27, 159, 0, 40, 42]
abbrev dktX5_goOn_4 : List UInt8 := dkwX5_goOn_4 ++ dktX5_goOn_5
def dkwX5_goOn_3 : List UInt8 := [42, 180, 0, 25, 4, 46, 120, 162, 0, 89, 42, 42, 180, 0, 100, 27, 21, 4, 182, 1, 45, 154, 0, 6]
abbrev dktX5_goOn_3 : List UInt8 := dkwX5_goOn_3 ++ dktX5_goOn_4
def dkwX5_goOn_2 : List UInt8 := [27, 42, 180, 0, 100, 16, 24, 27, 96, 46, 182, 1, 59, 29, 182, 1, 109, 177, 3, 54, 4, 21, 4, 4]
abbrev dktX5_goOn_2 : List UInt8 := dkwX5_goOn_2 ++ dktX5_goOn_3
def dkwX5_goOn_1 : List UInt8 := [42, 180, 0, 253, 182, 1, 55, 54, 4, 21, 4, 2, 159, 0, 29, 42, 27, 21, 4, 42, 42, 180, 0, 100]
abbrev dktX5_goOn_1 : List UInt8 := dkwX5_goOn_1 ++ dktX5_goOn_2
def dkwX5_goOn_0 : List UInt8 := [42, 180, 0, 100, 16, 18, 27, 96, 46, 154, 0, 4, 177, 27, 28, 159, 0, 51, 42, 42, 180, 0, 100, 27]
abbrev dktX5_goOn_0 : List UInt8 := dkwX5_goOn_0 ++ dktX5_goOn_1
theorem dksX5_goOn_0 : cX5_goOn.data.toList.drop 0 = dktX5_goOn_0 := by decide +kernel
theorem dksX5_goOn_1 : cX5_goOn.data.toList.drop 24 = dktX5_goOn_1 := dk_seg dksX5_goOn_0 24 rfl rfl
theorem dksX5_goOn_2 : cX5_goOn.data.toList.drop 48 = dktX5_goOn_2 := dk_seg dksX5_goOn_1 24 rfl rfl
theorem dksX5_goOn_3 : cX5_goOn.data.toList.drop 72 = dktX5_goOn_3 := dk_seg dksX5_goOn_2 24 rfl rfl
theorem dksX5_goOn_4 : cX5_goOn.data.toList.drop 96 = dktX5_goOn_4 := dk_seg dksX5_goOn_3 24 rfl rfl
theorem dksX5_goOn_5 : cX5_goOn.data.toList.drop 120 = dktX5_goOn_5 := dk_seg dksX5_goOn_4 24 rfl rfl
theorem dksX5_goOn_6 : cX5_goOn.data.toList.drop 143 = dktX5_goOn_6 := dk_seg dksX5_goOn_5 23 rfl rfl
theorem dksX5_goOn_7 : cX5_goOn.data.toList.drop 165 = dktX5_goOn_7 := dk_seg dksX5_goOn_6 22 rfl rfl
theorem dX5_goOn_0 : decode cX5_goOn 0 = .ok (.aload_n 0, 1) := dk_42 (dk_at dksX5_goOn_0 0 rfl rfl)
theorem dX5_goOn_1 : decode cX5_goOn 1 = .ok (.getfield 100, 3) := dk_180 0 100 (dk_at dksX5_goOn_0 1 rfl rfl)
theorem dX5_goOn_4 : decode cX5_goOn 4 = .ok (.bipush 18, 2) := dk_16 18 (dk_at dksX5_goOn_0 4 rfl rfl)
theorem dX5_goOn_6 : decode cX5_goOn 6 = .ok (.iload_n 1, 1) := dk_27 (dk_at dksX5_goOn_0 6 rfl rfl)
theorem dX5_goOn_7 : decode cX5_goOn 7 = .ok (.iadd, 1) := dk_96 (dk_at dksX5_goOn_0 7 rfl rfl)
theorem dX5_goOn_8 : decode cX5_goOn 8 = .ok (.iaload, 1) := dk_46 (dk_at dksX5_goOn_0 8 rfl rfl)
theorem dX5_goOn_9 : decode cX5_goOn 9 = .ok (.ifCond .ne 4, 3) := dk_154 0 4 (dk_at dksX5_goOn_0 9 rfl rfl)
theorem dX5_goOn_12 : decode cX5_goOn 12 = .ok (.return_, 1) := dk_177 (dk_at dksX5_goOn_0 12 rfl rfl)
theorem dX5_goOn_13 : decode cX5_goOn 13 = .ok (.iload_n 1, 1) := dk_27 (dk_at dksX5_goOn_0 13 rfl rfl)
theorem dX5_goOn_14 : decode cX5_goOn 14 = .ok (.iload_n 2, 1) := dk_28 (dk_at dksX5_goOn_0 14 rfl rfl)
theorem dX5_goOn_15 : decode cX5_goOn 15 = .ok (.if_icmp .eq 51, 3) := dk_159 0 51 (dk_at dksX5_goOn_0 15 rfl rfl)
theorem dX5_goOn_18 : decode cX5_goOn 18 = .ok (.aload_n 0, 1) := dk_42 (dk_at dksX5_goOn_0 18 rfl rfl)
theorem dX5_goOn_19 : decode cX5_goOn 19 = .ok (.aload_n 0, 1) := dk_42 (dk_at dksX5_goOn_0 19 rfl rfl)
theorem dX5_goOn_20 : decode cX5_goOn 20 = .ok (.getfield 100, 3) := dk_180 0 100 (dk_at dksX5_goOn_0 20 rfl rfl)
theorem dX5_goOn_23 : decode cX5_goOn 23 = .ok (.iload_n 1, 1) := dk_27 (dk_at dksX5_goOn_0 23 rfl rfl)
theorem dX5_goOn_24 : decode cX5_goOn 24 = .ok (.aload_n 0, 1) := dk_42 (dk_at dksX5_goOn_1 0 rfl rfl)
theorem dX5_goOn_25 : decode cX5_goOn 25 = .ok (.getfield 253, 3) := dk_180 0 253 (dk_at dksX5_goOn_1 1 rfl rfl)
theorem dX5_goOn_28 : decode cX5_goOn 28 = .ok (.invokevirtual 311, 3) := dk_182 1 55 (dk_at dksX5_goOn_1 4 rfl rfl)
theorem dX5_goOn_31 : decode cX5_goOn 31 = .ok (.istore 4, 2) := dk_54 4 (dk_at dksX5_goOn_1 7 rfl rfl)
theorem dX5_goOn_33 : decode cX5_goOn 33 = .ok (.iload 4, 2) := dk_21 4 (dk_at dksX5_goOn_1 9 rfl rfl)
theorem dX5_goOn_35 : decode cX5_goOn 35 = .ok (.iconst (-1), 1) := dk_2 (dk_at dksX5_goOn_1 11 rfl rfl)
theorem dX5_goOn_36 : decode cX5_goOn 36 = .ok (.if_icmp .eq 29, 3) := dk_159 0 29 (dk_at dksX5_goOn_1 12 rfl rfl)
theorem dX5_goOn_39 : decode cX5_goOn 39 = .ok (.aload_n 0, 1) := dk_42 (dk_at dksX5_goOn_1 15 rfl rfl)
theorem dX5_goOn_40 : decode cX5_goOn 40 = .ok (.iload_n 1, 1) := dk_27 (dk_at dksX5_goOn_1 16 rfl rfl)
theorem dX5_goOn_41 : decode cX5_goOn 41 = .ok (.iload 4, 2) := dk_21 4 (dk_at dksX5_goOn_1 17 rfl rfl)
theorem dX5_goOn_43 : decode cX5_goOn 43 = .ok (.aload_n 0, 1) := dk_42 (dk_at dksX5_goOn_1 19 rfl rfl)
theorem dX5_goOn_44 : decode cX5_goOn 44 = .ok (.aload_n 0, 1) := dk_42 (dk_at dksX5_goOn_1 20 rfl rfl)
theorem dX5_goOn_45 : decode cX5_goOn 45 = .ok (.getfield 100, 3) := dk_180 0 100 (dk_at dksX5_goOn_1 21 rfl rfl)
theorem dX5_goOn_48 : decode cX5_goOn 48 = .ok (.iload_n 1, 1) := dk_27 (dk_at dksX5_goOn_2 0 rfl rfl)
theorem dX5_goOn_49 : decode cX5_goOn 49 = .ok (.aload_n 0, 1) := dk_42 (dk_at dksX5_goOn_2 1 rfl rfl)
theorem dX5_goOn_50 : decode cX5_goOn 50 = .ok (.getfield 100, 3) := dk_180 0 100 (dk_at dksX5_goOn_2 2 rfl rfl)
theorem dX5_goOn_53 : decode cX5_goOn 53 = .ok (.bipush 24, 2) := dk_16 24 (dk_at dksX5_goOn_2 5 rfl rfl)
theorem dX5_goOn_55 : decode cX5_goOn 55 = .ok (.iload_n 1, 1) := dk_27 (dk_at dksX5_goOn_2 7 rfl rfl)
theorem dX5_goOn_56 : decode cX5_goOn 56 = .ok (.iadd, 1) := dk_96 (dk_at dksX5_goOn_2 8 rfl rfl)
theorem dX5_goOn_57 : decode cX5_goOn 57 = .ok (.iaload, 1) := dk_46 (dk_at dksX5_goOn_2 9 rfl rfl)
theorem dX5_goOn_58 : decode cX5_goOn 58 = .ok (.invokevirtual 315, 3) := dk_182 1 59 (dk_at dksX5_goOn_2 10 rfl rfl)
theorem dX5_goOn_61 : decode cX5_goOn 61 = .ok (.iload_n 3, 1) := dk_29 (dk_at dksX5_goOn_2 13 rfl rfl)
theorem dX5_goOn_62 : decode cX5_goOn 62 = .ok (.invokevirtual 365, 3) := dk_182 1 109 (dk_at dksX5_goOn_2 14 rfl rfl)
theorem dX5_goOn_65 : decode cX5_goOn 65 = .ok (.return_, 1) := dk_177 (dk_at dksX5_goOn_2 17 rfl rfl)
theorem dX5_goOn_66 : decode cX5_goOn 66 = .ok (.iconst 0, 1) := dk_3 (dk_at dksX5_goOn_2 18 rfl rfl)
theorem dX5_goOn_67 : decode cX5_goOn 67 = .ok (.istore 4, 2) := dk_54 4 (dk_at dksX5_goOn_2 19 rfl rfl)
theorem dX5_goOn_69 : decode cX5_goOn 69 = .ok (.iload 4, 2) := dk_21 4 (dk_at dksX5_goOn_2 21 rfl rfl)
theorem dX5_goOn_71 : decode cX5_goOn 71 = .ok (.iconst 1, 1) := dk_4 (dk_at dksX5_goOn_2 23 rfl rfl)
theorem dX5_goOn_72 : decode cX5_goOn 72 = .ok (.aload_n 0, 1) := dk_42 (dk_at dksX5_goOn_3 0 rfl rfl)
theorem dX5_goOn_73 : decode cX5_goOn 73 = .ok (.getfield 25, 3) := dk_180 0 25 (dk_at dksX5_goOn_3 1 rfl rfl)
theorem dX5_goOn_76 : decode cX5_goOn 76 = .ok (.iconst 1, 1) := dk_4 (dk_at dksX5_goOn_3 4 rfl rfl)
theorem dX5_goOn_77 : decode cX5_goOn 77 = .ok (.iaload, 1) := dk_46 (dk_at dksX5_goOn_3 5 rfl rfl)
theorem dX5_goOn_78 : decode cX5_goOn 78 = .ok (.ishl, 1) := dk_120 (dk_at dksX5_goOn_3 6 rfl rfl)
theorem dX5_goOn_79 : decode cX5_goOn 79 = .ok (.if_icmp .ge 89, 3) := dk_162 0 89 (dk_at dksX5_goOn_3 7 rfl rfl)
theorem dX5_goOn_82 : decode cX5_goOn 82 = .ok (.aload_n 0, 1) := dk_42 (dk_at dksX5_goOn_3 10 rfl rfl)
theorem dX5_goOn_83 : decode cX5_goOn 83 = .ok (.aload_n 0, 1) := dk_42 (dk_at dksX5_goOn_3 11 rfl rfl)
theorem dX5_goOn_84 : decode cX5_goOn 84 = .ok (.getfield 100, 3) := dk_180 0 100 (dk_at dksX5_goOn_3 12 rfl rfl)
theorem dX5_goOn_87 : decode cX5_goOn 87 = .ok (.iload_n 1, 1) := dk_27 (dk_at dksX5_goOn_3 15 rfl rfl)
theorem dX5_goOn_88 : decode cX5_goOn 88 = .ok (.iload 4, 2) := dk_21 4 (dk_at dksX5_goOn_3 16 rfl rfl)
theorem dX5_goOn_90 : decode cX5_goOn 90 = .ok (.invokevirtual 301, 3) := dk_182 1 45 (dk_at dksX5_goOn_3 18 rfl rfl)
theorem dX5_goOn_93 : decode cX5_goOn 93 = .ok (.ifCond .ne 6, 3) := dk_154 0 6 (dk_at dksX5_goOn_3 21 rfl rfl)
theorem dX5_goOn_96 : decode cX5_goOn 96 = .ok (.goto 66, 3) := dk_167 0 66 (dk_at dksX5_goOn_4 0 rfl rfl)
theorem dX5_goOn_99 : decode cX5_goOn 99 = .ok (.iconst 0, 1) := dk_3 (dk_at dksX5_goOn_4 3 rfl rfl)
theorem dX5_goOn_100 : decode cX5_goOn 100 = .ok (.istore 5, 2) := dk_54 5 (dk_at dksX5_goOn_4 4 rfl rfl)
theorem dX5_goOn_102 : decode cX5_goOn 102 = .ok (.iload 5, 2) := dk_21 5 (dk_at dksX5_goOn_4 6 rfl rfl)
theorem dX5_goOn_104 : decode cX5_goOn 104 = .ok (.aload_n 0, 1) := dk_42 (dk_at dksX5_goOn_4 8 rfl rfl)
theorem dX5_goOn_105 : decode cX5_goOn 105 = .ok (.getfield 25, 3) := dk_180 0 25 (dk_at dksX5_goOn_4 9 rfl rfl)
theorem dX5_goOn_108 : decode cX5_goOn 108 = .ok (.iconst 0, 1) := dk_3 (dk_at dksX5_goOn_4 12 rfl rfl)
theorem dX5_goOn_109 : decode cX5_goOn 109 = .ok (.iaload, 1) := dk_46 (dk_at dksX5_goOn_4 13 rfl rfl)
theorem dX5_goOn_110 : decode cX5_goOn 110 = .ok (.if_icmp .ge 52, 3) := dk_162 0 52 (dk_at dksX5_goOn_4 14 rfl rfl)
theorem dX5_goOn_113 : decode cX5_goOn 113 = .ok (.iload 5, 2) := dk_21 5 (dk_at dksX5_goOn_4 17 rfl rfl)
theorem dX5_goOn_115 : decode cX5_goOn 115 = .ok (.iload_n 1, 1) := dk_27 (dk_at dksX5_goOn_4 19 rfl rfl)
theorem dX5_goOn_116 : decode cX5_goOn 116 = .ok (.if_icmp .eq 40, 3) := dk_159 0 40 (dk_at dksX5_goOn_4 20 rfl rfl)
theorem dX5_goOn_119 : decode cX5_goOn 119 = .ok (.aload_n 0, 1) := dk_42 (dk_at dksX5_goOn_4 23 rfl rfl)
theorem dX5_goOn_120 : decode cX5_goOn 120 = .ok (.getfield 100, 3) := dk_180 0 100 (dk_at dksX5_goOn_5 0 rfl rfl)
theorem dX5_goOn_123 : decode cX5_goOn 123 = .ok (.bipush 24, 2) := dk_16 24 (dk_at dksX5_goOn_5 3 rfl rfl)
theorem dX5_goOn_125 : decode cX5_goOn 125 = .ok (.iload_n 1, 1) := dk_27 (dk_at dksX5_goOn_5 5 rfl rfl)
theorem dX5_goOn_126 : decode cX5_goOn 126 = .ok (.iadd, 1) := dk_96 (dk_at dksX5_goOn_5 6 rfl rfl)
theorem dX5_goOn_127 : decode cX5_goOn 127 = .ok (.iaload, 1) := dk_46 (dk_at dksX5_goOn_5 7 rfl rfl)
theorem dX5_goOn_128 : decode cX5_goOn 128 = .ok (.iconst (-1), 1) := dk_2 (dk_at dksX5_goOn_5 8 rfl rfl)
theorem dX5_goOn_129 : decode cX5_goOn 129 = .ok (.if_icmp .eq 17, 3) := dk_159 0 17 (dk_at dksX5_goOn_5 9 rfl rfl)
theorem dX5_goOn_132 : decode cX5_goOn 132 = .ok (.aload_n 0, 1) := dk_42 (dk_at dksX5_goOn_5 12 rfl rfl)
theorem dX5_goOn_133 : decode cX5_goOn 133 = .ok (.getfield 100, 3) := dk_180 0 100 (dk_at dksX5_goOn_5 13 rfl rfl)
theorem dX5_goOn_136 : decode cX5_goOn 136 = .ok (.bipush 24, 2) := dk_16 24 (dk_at dksX5_goOn_5 16 rfl rfl)
theorem dX5_goOn_138 : decode cX5_goOn 138 = .ok (.iload_n 1, 1) := dk_27 (dk_at dksX5_goOn_5 18 rfl rfl)
theorem dX5_goOn_139 : decode cX5_goOn 139 = .ok (.iadd, 1) := dk_96 (dk_at dksX5_goOn_5 19 rfl rfl)
theorem dX5_goOn_140 : decode cX5_goOn 140 = .ok (.iaload, 1) := dk_46 (dk_at dksX5_goOn_5 20 rfl rfl)
theorem dX5_goOn_141 : decode cX5_goOn 141 = .ok (.iload 5, 2) := dk_21 5 (dk_at dksX5_goOn_5 21 rfl rfl)
theorem dX5_goOn_143 : decode cX5_goOn 143 = .ok (.if_icmp .ne 13, 3) := dk_160 0 13 (dk_at dksX5_goOn_6 0 rfl rfl)
theorem dX5_goOn_146 : decode cX5_goOn 146 = .ok (.aload_n 0, 1) := dk_42 (dk_at dksX5_goOn_6 3 rfl rfl)
theorem dX5_goOn_147 : decode cX5_goOn 147 = .ok (.iload_n 1, 1) := dk_27 (dk_at dksX5_goOn_6 4 rfl rfl)
theorem dX5_goOn_148 : decode cX5_goOn 148 = .ok (.iload 4, 2) := dk_21 4 (dk_at dksX5_goOn_6 5 rfl rfl)
theorem dX5_goOn_150 : decode cX5_goOn 150 = .ok (.iload 5, 2) := dk_21 5 (dk_at dksX5_goOn_6 7 rfl rfl)
theorem dX5_goOn_152 : decode cX5_goOn 152 = .ok (.iload_n 3, 1) := dk_29 (dk_at dksX5_goOn_6 9 rfl rfl)
theorem dX5_goOn_153 : decode cX5_goOn 153 = .ok (.invokevirtual 365, 3) := dk_182 1 109 (dk_at dksX5_goOn_6 10 rfl rfl)
theorem dX5_goOn_156 : decode cX5_goOn 156 = .ok (.iinc 5 1, 3) := dk_132 5 1 (dk_at dksX5_goOn_6 13 rfl rfl)
theorem dX5_goOn_159 : decode cX5_goOn 159 = .ok (.goto (-57), 3) := dk_167 255 199 (dk_at dksX5_goOn_6 16 rfl rfl)
theorem dX5_goOn_162 : decode cX5_goOn 162 = .ok (.iinc 4 1, 3) := dk_132 4 1 (dk_at dksX5_goOn_6 19 rfl rfl)
theorem dX5_goOn_165 : decode cX5_goOn 165 = .ok (.goto (-96), 3) := dk_167 255 160 (dk_at dksX5_goOn_7 0 rfl rfl)
theorem dX5_goOn_168 : decode cX5_goOn 168 = .ok (.return_, 1) := dk_177 (dk_at dksX5_goOn_7 3 rfl rfl)
abbrev cX5_giveOn : ByteArray := prog_16_method_58_code
def yX5_giveOn : MethodName := ⟨RX5, "giveOn", "(IIII)V"⟩
def dkwX5_giveOn_2 : List UInt8 := [21, 4, 182, 1, 105, 177]
abbrev dktX5_giveOn_2 : List UInt8 := dkwX5_giveOn_2 ++ []
def dkwX5_giveOn_1 : List UInt8 := [28, 42, 180, 0, 100, 16, 18, 27, 96, 46, 182, 1, 41, 29, 182, 1, 29, 87, 42, 42, 180, 0, 103]
abbrev dktX5_giveOn_1 : List UInt8 := dkwX5_giveOn_1 ++ dktX5_giveOn_2
def dkwX5_giveOn_0 : List UInt8 := [42, 180, 0, 100, 42, 180, 0, 103, 184, 0, 249, 42, 42, 180, 0, 103, 27, 28, 42, 42, 180, 0, 100, 27]
abbrev dktX5_giveOn_0 : List UInt8 := dkwX5_giveOn_0 ++ dktX5_giveOn_1
theorem dksX5_giveOn_0 : cX5_giveOn.data.toList.drop 0 = dktX5_giveOn_0 := by decide +kernel
theorem dksX5_giveOn_1 : cX5_giveOn.data.toList.drop 24 = dktX5_giveOn_1 := dk_seg dksX5_giveOn_0 24 rfl rfl
theorem dksX5_giveOn_2 : cX5_giveOn.data.toList.drop 47 = dktX5_giveOn_2 := dk_seg dksX5_giveOn_1 23 rfl rfl
theorem dX5_giveOn_0 : decode cX5_giveOn 0 = .ok (.aload_n 0, 1) := dk_42 (dk_at dksX5_giveOn_0 0 rfl rfl)
theorem dX5_giveOn_1 : decode cX5_giveOn 1 = .ok (.getfield 100, 3) := dk_180 0 100 (dk_at dksX5_giveOn_0 1 rfl rfl)
theorem dX5_giveOn_4 : decode cX5_giveOn 4 = .ok (.aload_n 0, 1) := dk_42 (dk_at dksX5_giveOn_0 4 rfl rfl)
theorem dX5_giveOn_5 : decode cX5_giveOn 5 = .ok (.getfield 103, 3) := dk_180 0 103 (dk_at dksX5_giveOn_0 5 rfl rfl)
theorem dX5_giveOn_8 : decode cX5_giveOn 8 = .ok (.invokestatic 249, 3) := dk_184 0 249 (dk_at dksX5_giveOn_0 8 rfl rfl)
theorem dX5_giveOn_11 : decode cX5_giveOn 11 = .ok (.aload_n 0, 1) := dk_42 (dk_at dksX5_giveOn_0 11 rfl rfl)
theorem dX5_giveOn_12 : decode cX5_giveOn 12 = .ok (.aload_n 0, 1) := dk_42 (dk_at dksX5_giveOn_0 12 rfl rfl)
theorem dX5_giveOn_13 : decode cX5_giveOn 13 = .ok (.getfield 103, 3) := dk_180 0 103 (dk_at dksX5_giveOn_0 13 rfl rfl)
theorem dX5_giveOn_16 : decode cX5_giveOn 16 = .ok (.iload_n 1, 1) := dk_27 (dk_at dksX5_giveOn_0 16 rfl rfl)
theorem dX5_giveOn_17 : decode cX5_giveOn 17 = .ok (.iload_n 2, 1) := dk_28 (dk_at dksX5_giveOn_0 17 rfl rfl)
theorem dX5_giveOn_18 : decode cX5_giveOn 18 = .ok (.aload_n 0, 1) := dk_42 (dk_at dksX5_giveOn_0 18 rfl rfl)
theorem dX5_giveOn_19 : decode cX5_giveOn 19 = .ok (.aload_n 0, 1) := dk_42 (dk_at dksX5_giveOn_0 19 rfl rfl)
theorem dX5_giveOn_20 : decode cX5_giveOn 20 = .ok (.getfield 100, 3) := dk_180 0 100 (dk_at dksX5_giveOn_0 20 rfl rfl)
theorem dX5_giveOn_23 : decode cX5_giveOn 23 = .ok (.iload_n 1, 1) := dk_27 (dk_at dksX5_giveOn_0 23 rfl rfl)
theorem dX5_giveOn_24 : decode cX5_giveOn 24 = .ok (.iload_n 2, 1) := dk_28 (dk_at dksX5_giveOn_1 0 rfl rfl)
theorem dX5_giveOn_25 : decode cX5_giveOn 25 = .ok (.aload_n 0, 1) := dk_42 (dk_at dksX5_giveOn_1 1 rfl rfl)
theorem dX5_giveOn_26 : decode cX5_giveOn 26 = .ok (.getfield 100, 3) := dk_180 0 100 (dk_at dksX5_giveOn_1 2 rfl rfl)
theorem dX5_giveOn_29 : decode cX5_giveOn 29 = .ok (.bipush 18, 2) := dk_16 18 (dk_at dksX5_giveOn_1 5 rfl rfl)
theorem dX5_giveOn_31 : decode cX5_giveOn 31 = .ok (.iload_n 1, 1) := dk_27 (dk_at dksX5_giveOn_1 7 rfl rfl)
theorem dX5_giveOn_32 : decode cX5_giveOn 32 = .ok (.iadd, 1) := dk_96 (dk_at dksX5_giveOn_1 8 rfl rfl)
theorem dX5_giveOn_33 : decode cX5_giveOn 33 = .ok (.iaload, 1) := dk_46 (dk_at dksX5_giveOn_1 9 rfl rfl)
theorem dX5_giveOn_34 : decode cX5_giveOn 34 = .ok (.invokevirtual 297, 3) := dk_182 1 41 (dk_at dksX5_giveOn_1 10 rfl rfl)
theorem dX5_giveOn_37 : decode cX5_giveOn 37 = .ok (.iload_n 3, 1) := dk_29 (dk_at dksX5_giveOn_1 13 rfl rfl)
theorem dX5_giveOn_38 : decode cX5_giveOn 38 = .ok (.invokevirtual 285, 3) := dk_182 1 29 (dk_at dksX5_giveOn_1 14 rfl rfl)
theorem dX5_giveOn_41 : decode cX5_giveOn 41 = .ok (.pop, 1) := dk_87 (dk_at dksX5_giveOn_1 17 rfl rfl)
theorem dX5_giveOn_42 : decode cX5_giveOn 42 = .ok (.aload_n 0, 1) := dk_42 (dk_at dksX5_giveOn_1 18 rfl rfl)
theorem dX5_giveOn_43 : decode cX5_giveOn 43 = .ok (.aload_n 0, 1) := dk_42 (dk_at dksX5_giveOn_1 19 rfl rfl)
theorem dX5_giveOn_44 : decode cX5_giveOn 44 = .ok (.getfield 103, 3) := dk_180 0 103 (dk_at dksX5_giveOn_1 20 rfl rfl)
theorem dX5_giveOn_47 : decode cX5_giveOn 47 = .ok (.iload 4, 2) := dk_21 4 (dk_at dksX5_giveOn_2 0 rfl rfl)
theorem dX5_giveOn_49 : decode cX5_giveOn 49 = .ok (.invokevirtual 361, 3) := dk_182 1 105 (dk_at dksX5_giveOn_2 2 rfl rfl)
theorem dX5_giveOn_52 : decode cX5_giveOn 52 = .ok (.return_, 1) := dk_177 (dk_at dksX5_giveOn_2 5 rfl rfl)
abbrev cX5_cut : ByteArray := prog_16_method_63_code
def yX5_cut : MethodName := ⟨RX5, "cut", "(II)I"⟩
def dkwX5_cut_8 : List UInt8 := [21, 4, 172]
abbrev dktX5_cut_8 : List UInt8 := dkwX5_cut_8 ++ []
def dkwX5_cut_7 : List UInt8 := [21, 4, 54, 4, 132, 7, 1, 167, 255, 169, 132, 6, 1, 167, 255, 144, 28, 154, 0, 7, 29, 167, 0, 5]
abbrev dktX5_cut_7 : List UInt8 := dkwX5_cut_7 ++ dktX5_cut_8
def dkwX5_cut_6 : List UInt8 := [167, 0, 27, 132, 3, 1, 21, 4, 2, 160, 0, 14, 16, 100, 21, 6, 104, 21, 7, 96, 167, 0, 5]
abbrev dktX5_cut_6 : List UInt8 := dkwX5_cut_6 ++ dktX5_cut_7
def dkwX5_cut_5 : List UInt8 := [154, 0, 26, 42, 27, 21, 6, 42, 180, 0, 47, 21, 6, 46, 21, 7, 100, 182, 1, 118, 154, 0, 6]
abbrev dktX5_cut_5 : List UInt8 := dkwX5_cut_5 ++ dktX5_cut_6
def dkwX5_cut_4 : List UInt8 := [163, 0, 79, 42, 180, 0, 41, 21, 6, 46, 27, 160, 0, 68, 42, 27, 21, 6, 21, 7, 182, 1, 118]
abbrev dktX5_cut_4 : List UInt8 := dkwX5_cut_4 ++ dktX5_cut_5
def dkwX5_cut_3 : List UInt8 := [162, 0, 107, 21, 5, 153, 0, 102, 4, 54, 7, 21, 7, 42, 180, 0, 47, 21, 6, 46, 5, 108]
abbrev dktX5_cut_3 : List UInt8 := dkwX5_cut_3 ++ dktX5_cut_4
def dkwX5_cut_2 : List UInt8 := [182, 1, 115, 154, 0, 7, 4, 167, 0, 4, 3, 54, 5, 3, 54, 6, 21, 6, 42, 180, 0, 25, 4, 46]
abbrev dktX5_cut_2 : List UInt8 := dkwX5_cut_2 ++ dktX5_cut_3
def dkwX5_cut_1 : List UInt8 := [182, 0, 243, 172, 3, 62, 2, 54, 4, 42, 180, 0, 41, 16, 18, 27, 96, 46, 158, 0, 15, 42, 27]
abbrev dktX5_cut_1 : List UInt8 := dkwX5_cut_1 ++ dktX5_cut_2
def dkwX5_cut_0 : List UInt8 := [42, 3, 181, 0, 128, 42, 27, 182, 1, 7, 153, 0, 12, 28, 155, 0, 8, 28, 4, 164, 0, 9, 42, 4]
abbrev dktX5_cut_0 : List UInt8 := dkwX5_cut_0 ++ dktX5_cut_1
theorem dksX5_cut_0 : cX5_cut.data.toList.drop 0 = dktX5_cut_0 := by decide +kernel
theorem dksX5_cut_1 : cX5_cut.data.toList.drop 24 = dktX5_cut_1 := dk_seg dksX5_cut_0 24 rfl rfl
theorem dksX5_cut_2 : cX5_cut.data.toList.drop 47 = dktX5_cut_2 := dk_seg dksX5_cut_1 23 rfl rfl
theorem dksX5_cut_3 : cX5_cut.data.toList.drop 71 = dktX5_cut_3 := dk_seg dksX5_cut_2 24 rfl rfl
theorem dksX5_cut_4 : cX5_cut.data.toList.drop 93 = dktX5_cut_4 := dk_seg dksX5_cut_3 22 rfl rfl
theorem dksX5_cut_5 : cX5_cut.data.toList.drop 116 = dktX5_cut_5 := dk_seg dksX5_cut_4 23 rfl rfl
theorem dksX5_cut_6 : cX5_cut.data.toList.drop 139 = dktX5_cut_6 := dk_seg dksX5_cut_5 23 rfl rfl
theorem dksX5_cut_7 : cX5_cut.data.toList.drop 162 = dktX5_cut_7 := dk_seg dksX5_cut_6 23 rfl rfl
theorem dksX5_cut_8 : cX5_cut.data.toList.drop 186 = dktX5_cut_8 := dk_seg dksX5_cut_7 24 rfl rfl
theorem dX5_cut_0 : decode cX5_cut 0 = .ok (.aload_n 0, 1) := dk_42 (dk_at dksX5_cut_0 0 rfl rfl)
theorem dX5_cut_1 : decode cX5_cut 1 = .ok (.iconst 0, 1) := dk_3 (dk_at dksX5_cut_0 1 rfl rfl)
theorem dX5_cut_2 : decode cX5_cut 2 = .ok (.putfield 128, 3) := dk_181 0 128 (dk_at dksX5_cut_0 2 rfl rfl)
theorem dX5_cut_5 : decode cX5_cut 5 = .ok (.aload_n 0, 1) := dk_42 (dk_at dksX5_cut_0 5 rfl rfl)
theorem dX5_cut_6 : decode cX5_cut 6 = .ok (.iload_n 1, 1) := dk_27 (dk_at dksX5_cut_0 6 rfl rfl)
theorem dX5_cut_7 : decode cX5_cut 7 = .ok (.invokevirtual 263, 3) := dk_182 1 7 (dk_at dksX5_cut_0 7 rfl rfl)
theorem dX5_cut_10 : decode cX5_cut 10 = .ok (.ifCond .eq 12, 3) := dk_153 0 12 (dk_at dksX5_cut_0 10 rfl rfl)
theorem dX5_cut_13 : decode cX5_cut 13 = .ok (.iload_n 2, 1) := dk_28 (dk_at dksX5_cut_0 13 rfl rfl)
theorem dX5_cut_14 : decode cX5_cut 14 = .ok (.ifCond .lt 8, 3) := dk_155 0 8 (dk_at dksX5_cut_0 14 rfl rfl)
theorem dX5_cut_17 : decode cX5_cut 17 = .ok (.iload_n 2, 1) := dk_28 (dk_at dksX5_cut_0 17 rfl rfl)
theorem dX5_cut_18 : decode cX5_cut 18 = .ok (.iconst 1, 1) := dk_4 (dk_at dksX5_cut_0 18 rfl rfl)
theorem dX5_cut_19 : decode cX5_cut 19 = .ok (.if_icmp .le 9, 3) := dk_164 0 9 (dk_at dksX5_cut_0 19 rfl rfl)
theorem dX5_cut_22 : decode cX5_cut 22 = .ok (.aload_n 0, 1) := dk_42 (dk_at dksX5_cut_0 22 rfl rfl)
theorem dX5_cut_23 : decode cX5_cut 23 = .ok (.iconst 1, 1) := dk_4 (dk_at dksX5_cut_0 23 rfl rfl)
theorem dX5_cut_24 : decode cX5_cut 24 = .ok (.invokevirtual 243, 3) := dk_182 0 243 (dk_at dksX5_cut_1 0 rfl rfl)
theorem dX5_cut_27 : decode cX5_cut 27 = .ok (.ireturn, 1) := dk_172 (dk_at dksX5_cut_1 3 rfl rfl)
theorem dX5_cut_28 : decode cX5_cut 28 = .ok (.iconst 0, 1) := dk_3 (dk_at dksX5_cut_1 4 rfl rfl)
theorem dX5_cut_29 : decode cX5_cut 29 = .ok (.istore_n 3, 1) := dk_62 (dk_at dksX5_cut_1 5 rfl rfl)
theorem dX5_cut_30 : decode cX5_cut 30 = .ok (.iconst (-1), 1) := dk_2 (dk_at dksX5_cut_1 6 rfl rfl)
theorem dX5_cut_31 : decode cX5_cut 31 = .ok (.istore 4, 2) := dk_54 4 (dk_at dksX5_cut_1 7 rfl rfl)
theorem dX5_cut_33 : decode cX5_cut 33 = .ok (.aload_n 0, 1) := dk_42 (dk_at dksX5_cut_1 9 rfl rfl)
theorem dX5_cut_34 : decode cX5_cut 34 = .ok (.getfield 41, 3) := dk_180 0 41 (dk_at dksX5_cut_1 10 rfl rfl)
theorem dX5_cut_37 : decode cX5_cut 37 = .ok (.bipush 18, 2) := dk_16 18 (dk_at dksX5_cut_1 13 rfl rfl)
theorem dX5_cut_39 : decode cX5_cut 39 = .ok (.iload_n 1, 1) := dk_27 (dk_at dksX5_cut_1 15 rfl rfl)
theorem dX5_cut_40 : decode cX5_cut 40 = .ok (.iadd, 1) := dk_96 (dk_at dksX5_cut_1 16 rfl rfl)
theorem dX5_cut_41 : decode cX5_cut 41 = .ok (.iaload, 1) := dk_46 (dk_at dksX5_cut_1 17 rfl rfl)
theorem dX5_cut_42 : decode cX5_cut 42 = .ok (.ifCond .le 15, 3) := dk_158 0 15 (dk_at dksX5_cut_1 18 rfl rfl)
theorem dX5_cut_45 : decode cX5_cut 45 = .ok (.aload_n 0, 1) := dk_42 (dk_at dksX5_cut_1 21 rfl rfl)
theorem dX5_cut_46 : decode cX5_cut 46 = .ok (.iload_n 1, 1) := dk_27 (dk_at dksX5_cut_1 22 rfl rfl)
theorem dX5_cut_47 : decode cX5_cut 47 = .ok (.invokevirtual 371, 3) := dk_182 1 115 (dk_at dksX5_cut_2 0 rfl rfl)
theorem dX5_cut_50 : decode cX5_cut 50 = .ok (.ifCond .ne 7, 3) := dk_154 0 7 (dk_at dksX5_cut_2 3 rfl rfl)
theorem dX5_cut_53 : decode cX5_cut 53 = .ok (.iconst 1, 1) := dk_4 (dk_at dksX5_cut_2 6 rfl rfl)
theorem dX5_cut_54 : decode cX5_cut 54 = .ok (.goto 4, 3) := dk_167 0 4 (dk_at dksX5_cut_2 7 rfl rfl)
theorem dX5_cut_57 : decode cX5_cut 57 = .ok (.iconst 0, 1) := dk_3 (dk_at dksX5_cut_2 10 rfl rfl)
theorem dX5_cut_58 : decode cX5_cut 58 = .ok (.istore 5, 2) := dk_54 5 (dk_at dksX5_cut_2 11 rfl rfl)
theorem dX5_cut_60 : decode cX5_cut 60 = .ok (.iconst 0, 1) := dk_3 (dk_at dksX5_cut_2 13 rfl rfl)
theorem dX5_cut_61 : decode cX5_cut 61 = .ok (.istore 6, 2) := dk_54 6 (dk_at dksX5_cut_2 14 rfl rfl)
theorem dX5_cut_63 : decode cX5_cut 63 = .ok (.iload 6, 2) := dk_21 6 (dk_at dksX5_cut_2 16 rfl rfl)
theorem dX5_cut_65 : decode cX5_cut 65 = .ok (.aload_n 0, 1) := dk_42 (dk_at dksX5_cut_2 18 rfl rfl)
theorem dX5_cut_66 : decode cX5_cut 66 = .ok (.getfield 25, 3) := dk_180 0 25 (dk_at dksX5_cut_2 19 rfl rfl)
theorem dX5_cut_69 : decode cX5_cut 69 = .ok (.iconst 1, 1) := dk_4 (dk_at dksX5_cut_2 22 rfl rfl)
theorem dX5_cut_70 : decode cX5_cut 70 = .ok (.iaload, 1) := dk_46 (dk_at dksX5_cut_2 23 rfl rfl)
theorem dX5_cut_71 : decode cX5_cut 71 = .ok (.if_icmp .ge 107, 3) := dk_162 0 107 (dk_at dksX5_cut_3 0 rfl rfl)
theorem dX5_cut_74 : decode cX5_cut 74 = .ok (.iload 5, 2) := dk_21 5 (dk_at dksX5_cut_3 3 rfl rfl)
theorem dX5_cut_76 : decode cX5_cut 76 = .ok (.ifCond .eq 102, 3) := dk_153 0 102 (dk_at dksX5_cut_3 5 rfl rfl)
theorem dX5_cut_79 : decode cX5_cut 79 = .ok (.iconst 1, 1) := dk_4 (dk_at dksX5_cut_3 8 rfl rfl)
theorem dX5_cut_80 : decode cX5_cut 80 = .ok (.istore 7, 2) := dk_54 7 (dk_at dksX5_cut_3 9 rfl rfl)
theorem dX5_cut_82 : decode cX5_cut 82 = .ok (.iload 7, 2) := dk_21 7 (dk_at dksX5_cut_3 11 rfl rfl)
theorem dX5_cut_84 : decode cX5_cut 84 = .ok (.aload_n 0, 1) := dk_42 (dk_at dksX5_cut_3 13 rfl rfl)
theorem dX5_cut_85 : decode cX5_cut 85 = .ok (.getfield 47, 3) := dk_180 0 47 (dk_at dksX5_cut_3 14 rfl rfl)
theorem dX5_cut_88 : decode cX5_cut 88 = .ok (.iload 6, 2) := dk_21 6 (dk_at dksX5_cut_3 17 rfl rfl)
theorem dX5_cut_90 : decode cX5_cut 90 = .ok (.iaload, 1) := dk_46 (dk_at dksX5_cut_3 19 rfl rfl)
theorem dX5_cut_91 : decode cX5_cut 91 = .ok (.iconst 2, 1) := dk_5 (dk_at dksX5_cut_3 20 rfl rfl)
theorem dX5_cut_92 : decode cX5_cut 92 = .ok (.idiv, 1) := dk_108 (dk_at dksX5_cut_3 21 rfl rfl)
theorem dX5_cut_93 : decode cX5_cut 93 = .ok (.if_icmp .gt 79, 3) := dk_163 0 79 (dk_at dksX5_cut_4 0 rfl rfl)
theorem dX5_cut_96 : decode cX5_cut 96 = .ok (.aload_n 0, 1) := dk_42 (dk_at dksX5_cut_4 3 rfl rfl)
theorem dX5_cut_97 : decode cX5_cut 97 = .ok (.getfield 41, 3) := dk_180 0 41 (dk_at dksX5_cut_4 4 rfl rfl)
theorem dX5_cut_100 : decode cX5_cut 100 = .ok (.iload 6, 2) := dk_21 6 (dk_at dksX5_cut_4 7 rfl rfl)
theorem dX5_cut_102 : decode cX5_cut 102 = .ok (.iaload, 1) := dk_46 (dk_at dksX5_cut_4 9 rfl rfl)
theorem dX5_cut_103 : decode cX5_cut 103 = .ok (.iload_n 1, 1) := dk_27 (dk_at dksX5_cut_4 10 rfl rfl)
theorem dX5_cut_104 : decode cX5_cut 104 = .ok (.if_icmp .ne 68, 3) := dk_160 0 68 (dk_at dksX5_cut_4 11 rfl rfl)
theorem dX5_cut_107 : decode cX5_cut 107 = .ok (.aload_n 0, 1) := dk_42 (dk_at dksX5_cut_4 14 rfl rfl)
theorem dX5_cut_108 : decode cX5_cut 108 = .ok (.iload_n 1, 1) := dk_27 (dk_at dksX5_cut_4 15 rfl rfl)
theorem dX5_cut_109 : decode cX5_cut 109 = .ok (.iload 6, 2) := dk_21 6 (dk_at dksX5_cut_4 16 rfl rfl)
theorem dX5_cut_111 : decode cX5_cut 111 = .ok (.iload 7, 2) := dk_21 7 (dk_at dksX5_cut_4 18 rfl rfl)
theorem dX5_cut_113 : decode cX5_cut 113 = .ok (.invokevirtual 374, 3) := dk_182 1 118 (dk_at dksX5_cut_4 20 rfl rfl)
theorem dX5_cut_116 : decode cX5_cut 116 = .ok (.ifCond .ne 26, 3) := dk_154 0 26 (dk_at dksX5_cut_5 0 rfl rfl)
theorem dX5_cut_119 : decode cX5_cut 119 = .ok (.aload_n 0, 1) := dk_42 (dk_at dksX5_cut_5 3 rfl rfl)
theorem dX5_cut_120 : decode cX5_cut 120 = .ok (.iload_n 1, 1) := dk_27 (dk_at dksX5_cut_5 4 rfl rfl)
theorem dX5_cut_121 : decode cX5_cut 121 = .ok (.iload 6, 2) := dk_21 6 (dk_at dksX5_cut_5 5 rfl rfl)
theorem dX5_cut_123 : decode cX5_cut 123 = .ok (.aload_n 0, 1) := dk_42 (dk_at dksX5_cut_5 7 rfl rfl)
theorem dX5_cut_124 : decode cX5_cut 124 = .ok (.getfield 47, 3) := dk_180 0 47 (dk_at dksX5_cut_5 8 rfl rfl)
theorem dX5_cut_127 : decode cX5_cut 127 = .ok (.iload 6, 2) := dk_21 6 (dk_at dksX5_cut_5 11 rfl rfl)
theorem dX5_cut_129 : decode cX5_cut 129 = .ok (.iaload, 1) := dk_46 (dk_at dksX5_cut_5 13 rfl rfl)
theorem dX5_cut_130 : decode cX5_cut 130 = .ok (.iload 7, 2) := dk_21 7 (dk_at dksX5_cut_5 14 rfl rfl)
theorem dX5_cut_132 : decode cX5_cut 132 = .ok (.isub, 1) := dk_100 (dk_at dksX5_cut_5 16 rfl rfl)
theorem dX5_cut_133 : decode cX5_cut 133 = .ok (.invokevirtual 374, 3) := dk_182 1 118 (dk_at dksX5_cut_5 17 rfl rfl)
theorem dX5_cut_136 : decode cX5_cut 136 = .ok (.ifCond .ne 6, 3) := dk_154 0 6 (dk_at dksX5_cut_5 20 rfl rfl)
theorem dX5_cut_139 : decode cX5_cut 139 = .ok (.goto 27, 3) := dk_167 0 27 (dk_at dksX5_cut_6 0 rfl rfl)
theorem dX5_cut_142 : decode cX5_cut 142 = .ok (.iinc 3 1, 3) := dk_132 3 1 (dk_at dksX5_cut_6 3 rfl rfl)
theorem dX5_cut_145 : decode cX5_cut 145 = .ok (.iload 4, 2) := dk_21 4 (dk_at dksX5_cut_6 6 rfl rfl)
theorem dX5_cut_147 : decode cX5_cut 147 = .ok (.iconst (-1), 1) := dk_2 (dk_at dksX5_cut_6 8 rfl rfl)
theorem dX5_cut_148 : decode cX5_cut 148 = .ok (.if_icmp .ne 14, 3) := dk_160 0 14 (dk_at dksX5_cut_6 9 rfl rfl)
theorem dX5_cut_151 : decode cX5_cut 151 = .ok (.bipush 100, 2) := dk_16 100 (dk_at dksX5_cut_6 12 rfl rfl)
theorem dX5_cut_153 : decode cX5_cut 153 = .ok (.iload 6, 2) := dk_21 6 (dk_at dksX5_cut_6 14 rfl rfl)
theorem dX5_cut_155 : decode cX5_cut 155 = .ok (.imul, 1) := dk_104 (dk_at dksX5_cut_6 16 rfl rfl)
theorem dX5_cut_156 : decode cX5_cut 156 = .ok (.iload 7, 2) := dk_21 7 (dk_at dksX5_cut_6 17 rfl rfl)
theorem dX5_cut_158 : decode cX5_cut 158 = .ok (.iadd, 1) := dk_96 (dk_at dksX5_cut_6 19 rfl rfl)
theorem dX5_cut_159 : decode cX5_cut 159 = .ok (.goto 5, 3) := dk_167 0 5 (dk_at dksX5_cut_6 20 rfl rfl)
theorem dX5_cut_162 : decode cX5_cut 162 = .ok (.iload 4, 2) := dk_21 4 (dk_at dksX5_cut_7 0 rfl rfl)
theorem dX5_cut_164 : decode cX5_cut 164 = .ok (.istore 4, 2) := dk_54 4 (dk_at dksX5_cut_7 2 rfl rfl)
theorem dX5_cut_166 : decode cX5_cut 166 = .ok (.iinc 7 1, 3) := dk_132 7 1 (dk_at dksX5_cut_7 4 rfl rfl)
theorem dX5_cut_169 : decode cX5_cut 169 = .ok (.goto (-87), 3) := dk_167 255 169 (dk_at dksX5_cut_7 7 rfl rfl)
theorem dX5_cut_172 : decode cX5_cut 172 = .ok (.iinc 6 1, 3) := dk_132 6 1 (dk_at dksX5_cut_7 10 rfl rfl)
theorem dX5_cut_175 : decode cX5_cut 175 = .ok (.goto (-112), 3) := dk_167 255 144 (dk_at dksX5_cut_7 13 rfl rfl)
theorem dX5_cut_178 : decode cX5_cut 178 = .ok (.iload_n 2, 1) := dk_28 (dk_at dksX5_cut_7 16 rfl rfl)
theorem dX5_cut_179 : decode cX5_cut 179 = .ok (.ifCond .ne 7, 3) := dk_154 0 7 (dk_at dksX5_cut_7 17 rfl rfl)
theorem dX5_cut_182 : decode cX5_cut 182 = .ok (.iload_n 3, 1) := dk_29 (dk_at dksX5_cut_7 20 rfl rfl)
theorem dX5_cut_183 : decode cX5_cut 183 = .ok (.goto 5, 3) := dk_167 0 5 (dk_at dksX5_cut_7 21 rfl rfl)
theorem dX5_cut_186 : decode cX5_cut 186 = .ok (.iload 4, 2) := dk_21 4 (dk_at dksX5_cut_8 0 rfl rfl)
theorem dX5_cut_188 : decode cX5_cut 188 = .ok (.ireturn, 1) := dk_172 (dk_at dksX5_cut_8 2 rfl rfl)
abbrev cX5_anyFits : ByteArray := prog_16_method_61_code
def yX5_anyFits : MethodName := ⟨RX5, "anyFits", "(I)Z"⟩
def dkwX5_anyFits_1 : List UInt8 := [153, 0, 5, 4, 172, 132, 2, 1, 167, 255, 226, 3, 172]
abbrev dktX5_anyFits_1 : List UInt8 := dkwX5_anyFits_1 ++ []
def dkwX5_anyFits_0 : List UInt8 := [3, 61, 28, 4, 42, 180, 0, 25, 4, 46, 120, 162, 0, 24, 42, 42, 180, 0, 41, 27, 28, 182, 1, 45]
abbrev dktX5_anyFits_0 : List UInt8 := dkwX5_anyFits_0 ++ dktX5_anyFits_1
theorem dksX5_anyFits_0 : cX5_anyFits.data.toList.drop 0 = dktX5_anyFits_0 := by decide +kernel
theorem dksX5_anyFits_1 : cX5_anyFits.data.toList.drop 24 = dktX5_anyFits_1 := dk_seg dksX5_anyFits_0 24 rfl rfl
theorem dX5_anyFits_0 : decode cX5_anyFits 0 = .ok (.iconst 0, 1) := dk_3 (dk_at dksX5_anyFits_0 0 rfl rfl)
theorem dX5_anyFits_1 : decode cX5_anyFits 1 = .ok (.istore_n 2, 1) := dk_61 (dk_at dksX5_anyFits_0 1 rfl rfl)
theorem dX5_anyFits_2 : decode cX5_anyFits 2 = .ok (.iload_n 2, 1) := dk_28 (dk_at dksX5_anyFits_0 2 rfl rfl)
theorem dX5_anyFits_3 : decode cX5_anyFits 3 = .ok (.iconst 1, 1) := dk_4 (dk_at dksX5_anyFits_0 3 rfl rfl)
theorem dX5_anyFits_4 : decode cX5_anyFits 4 = .ok (.aload_n 0, 1) := dk_42 (dk_at dksX5_anyFits_0 4 rfl rfl)
theorem dX5_anyFits_5 : decode cX5_anyFits 5 = .ok (.getfield 25, 3) := dk_180 0 25 (dk_at dksX5_anyFits_0 5 rfl rfl)
theorem dX5_anyFits_8 : decode cX5_anyFits 8 = .ok (.iconst 1, 1) := dk_4 (dk_at dksX5_anyFits_0 8 rfl rfl)
theorem dX5_anyFits_9 : decode cX5_anyFits 9 = .ok (.iaload, 1) := dk_46 (dk_at dksX5_anyFits_0 9 rfl rfl)
theorem dX5_anyFits_10 : decode cX5_anyFits 10 = .ok (.ishl, 1) := dk_120 (dk_at dksX5_anyFits_0 10 rfl rfl)
theorem dX5_anyFits_11 : decode cX5_anyFits 11 = .ok (.if_icmp .ge 24, 3) := dk_162 0 24 (dk_at dksX5_anyFits_0 11 rfl rfl)
theorem dX5_anyFits_14 : decode cX5_anyFits 14 = .ok (.aload_n 0, 1) := dk_42 (dk_at dksX5_anyFits_0 14 rfl rfl)
theorem dX5_anyFits_15 : decode cX5_anyFits 15 = .ok (.aload_n 0, 1) := dk_42 (dk_at dksX5_anyFits_0 15 rfl rfl)
theorem dX5_anyFits_16 : decode cX5_anyFits 16 = .ok (.getfield 41, 3) := dk_180 0 41 (dk_at dksX5_anyFits_0 16 rfl rfl)
theorem dX5_anyFits_19 : decode cX5_anyFits 19 = .ok (.iload_n 1, 1) := dk_27 (dk_at dksX5_anyFits_0 19 rfl rfl)
theorem dX5_anyFits_20 : decode cX5_anyFits 20 = .ok (.iload_n 2, 1) := dk_28 (dk_at dksX5_anyFits_0 20 rfl rfl)
theorem dX5_anyFits_21 : decode cX5_anyFits 21 = .ok (.invokevirtual 301, 3) := dk_182 1 45 (dk_at dksX5_anyFits_0 21 rfl rfl)
theorem dX5_anyFits_24 : decode cX5_anyFits 24 = .ok (.ifCond .eq 5, 3) := dk_153 0 5 (dk_at dksX5_anyFits_1 0 rfl rfl)
theorem dX5_anyFits_27 : decode cX5_anyFits 27 = .ok (.iconst 1, 1) := dk_4 (dk_at dksX5_anyFits_1 3 rfl rfl)
theorem dX5_anyFits_28 : decode cX5_anyFits 28 = .ok (.ireturn, 1) := dk_172 (dk_at dksX5_anyFits_1 4 rfl rfl)
theorem dX5_anyFits_29 : decode cX5_anyFits 29 = .ok (.iinc 2 1, 3) := dk_132 2 1 (dk_at dksX5_anyFits_1 5 rfl rfl)
theorem dX5_anyFits_32 : decode cX5_anyFits 32 = .ok (.goto (-30), 3) := dk_167 255 226 (dk_at dksX5_anyFits_1 8 rfl rfl)
theorem dX5_anyFits_35 : decode cX5_anyFits 35 = .ok (.iconst 0, 1) := dk_3 (dk_at dksX5_anyFits_1 11 rfl rfl)
theorem dX5_anyFits_36 : decode cX5_anyFits 36 = .ok (.ireturn, 1) := dk_172 (dk_at dksX5_anyFits_1 12 rfl rfl)
abbrev cX5_fitsWith : ByteArray := prog_16_method_62_code
def yX5_fitsWith : MethodName := ⟨RX5, "fitsWith", "(III)Z"⟩
def dkwX5_fitsWith_1 : List UInt8 := [180, 0, 47, 28, 21, 4, 79, 21, 5, 172]
abbrev dktX5_fitsWith_1 : List UInt8 := dkwX5_fitsWith_1 ++ []
def dkwX5_fitsWith_0 : List UInt8 := [42, 180, 0, 47, 28, 46, 54, 4, 42, 180, 0, 47, 28, 29, 79, 42, 27, 182, 1, 115, 54, 5, 42]
abbrev dktX5_fitsWith_0 : List UInt8 := dkwX5_fitsWith_0 ++ dktX5_fitsWith_1
theorem dksX5_fitsWith_0 : cX5_fitsWith.data.toList.drop 0 = dktX5_fitsWith_0 := by decide +kernel
theorem dksX5_fitsWith_1 : cX5_fitsWith.data.toList.drop 23 = dktX5_fitsWith_1 := dk_seg dksX5_fitsWith_0 23 rfl rfl
theorem dX5_fitsWith_0 : decode cX5_fitsWith 0 = .ok (.aload_n 0, 1) := dk_42 (dk_at dksX5_fitsWith_0 0 rfl rfl)
theorem dX5_fitsWith_1 : decode cX5_fitsWith 1 = .ok (.getfield 47, 3) := dk_180 0 47 (dk_at dksX5_fitsWith_0 1 rfl rfl)
theorem dX5_fitsWith_4 : decode cX5_fitsWith 4 = .ok (.iload_n 2, 1) := dk_28 (dk_at dksX5_fitsWith_0 4 rfl rfl)
theorem dX5_fitsWith_5 : decode cX5_fitsWith 5 = .ok (.iaload, 1) := dk_46 (dk_at dksX5_fitsWith_0 5 rfl rfl)
theorem dX5_fitsWith_6 : decode cX5_fitsWith 6 = .ok (.istore 4, 2) := dk_54 4 (dk_at dksX5_fitsWith_0 6 rfl rfl)
theorem dX5_fitsWith_8 : decode cX5_fitsWith 8 = .ok (.aload_n 0, 1) := dk_42 (dk_at dksX5_fitsWith_0 8 rfl rfl)
theorem dX5_fitsWith_9 : decode cX5_fitsWith 9 = .ok (.getfield 47, 3) := dk_180 0 47 (dk_at dksX5_fitsWith_0 9 rfl rfl)
theorem dX5_fitsWith_12 : decode cX5_fitsWith 12 = .ok (.iload_n 2, 1) := dk_28 (dk_at dksX5_fitsWith_0 12 rfl rfl)
theorem dX5_fitsWith_13 : decode cX5_fitsWith 13 = .ok (.iload_n 3, 1) := dk_29 (dk_at dksX5_fitsWith_0 13 rfl rfl)
theorem dX5_fitsWith_14 : decode cX5_fitsWith 14 = .ok (.iastore, 1) := dk_79 (dk_at dksX5_fitsWith_0 14 rfl rfl)
theorem dX5_fitsWith_15 : decode cX5_fitsWith 15 = .ok (.aload_n 0, 1) := dk_42 (dk_at dksX5_fitsWith_0 15 rfl rfl)
theorem dX5_fitsWith_16 : decode cX5_fitsWith 16 = .ok (.iload_n 1, 1) := dk_27 (dk_at dksX5_fitsWith_0 16 rfl rfl)
theorem dX5_fitsWith_17 : decode cX5_fitsWith 17 = .ok (.invokevirtual 371, 3) := dk_182 1 115 (dk_at dksX5_fitsWith_0 17 rfl rfl)
theorem dX5_fitsWith_20 : decode cX5_fitsWith 20 = .ok (.istore 5, 2) := dk_54 5 (dk_at dksX5_fitsWith_0 20 rfl rfl)
theorem dX5_fitsWith_22 : decode cX5_fitsWith 22 = .ok (.aload_n 0, 1) := dk_42 (dk_at dksX5_fitsWith_0 22 rfl rfl)
theorem dX5_fitsWith_23 : decode cX5_fitsWith 23 = .ok (.getfield 47, 3) := dk_180 0 47 (dk_at dksX5_fitsWith_1 0 rfl rfl)
theorem dX5_fitsWith_26 : decode cX5_fitsWith 26 = .ok (.iload_n 2, 1) := dk_28 (dk_at dksX5_fitsWith_1 3 rfl rfl)
theorem dX5_fitsWith_27 : decode cX5_fitsWith 27 = .ok (.iload 4, 2) := dk_21 4 (dk_at dksX5_fitsWith_1 4 rfl rfl)
theorem dX5_fitsWith_29 : decode cX5_fitsWith 29 = .ok (.iastore, 1) := dk_79 (dk_at dksX5_fitsWith_1 6 rfl rfl)
theorem dX5_fitsWith_30 : decode cX5_fitsWith 30 = .ok (.iload 5, 2) := dk_21 5 (dk_at dksX5_fitsWith_1 7 rfl rfl)
theorem dX5_fitsWith_32 : decode cX5_fitsWith 32 = .ok (.ireturn, 1) := dk_172 (dk_at dksX5_fitsWith_1 9 rfl rfl)
abbrev cX5_keep : ByteArray := prog_16_method_64_code
def yX5_keep : MethodName := ⟨RX5, "keep", "(II)I"⟩
def dkwX5_keep_3 : List UInt8 := [167, 255, 215, 28, 2, 160, 0, 7, 29, 167, 0, 8, 42, 4, 182, 0, 243, 172]
abbrev dktX5_keep_3 : List UInt8 := dkwX5_keep_3 ++ []
def dkwX5_keep_2 : List UInt8 := [28, 160, 0, 6, 21, 6, 172, 21, 4, 21, 6, 96, 54, 4, 132, 3, 1, 21, 5, 5, 104, 54, 5]
abbrev dktX5_keep_2 : List UInt8 := dkwX5_keep_2 ++ dktX5_keep_3
def dkwX5_keep_1 : List UInt8 := [3, 54, 4, 4, 54, 5, 21, 4, 27, 162, 0, 41, 21, 5, 27, 21, 4, 100, 184, 0, 165, 54, 6, 29]
abbrev dktX5_keep_1 : List UInt8 := dkwX5_keep_1 ++ dktX5_keep_2
def dkwX5_keep_0 : List UInt8 := [42, 3, 181, 0, 128, 27, 4, 17, 3, 231, 184, 0, 131, 154, 0, 9, 42, 5, 182, 0, 243, 172, 3, 62]
abbrev dktX5_keep_0 : List UInt8 := dkwX5_keep_0 ++ dktX5_keep_1
theorem dksX5_keep_0 : cX5_keep.data.toList.drop 0 = dktX5_keep_0 := by decide +kernel
theorem dksX5_keep_1 : cX5_keep.data.toList.drop 24 = dktX5_keep_1 := dk_seg dksX5_keep_0 24 rfl rfl
theorem dksX5_keep_2 : cX5_keep.data.toList.drop 48 = dktX5_keep_2 := dk_seg dksX5_keep_1 24 rfl rfl
theorem dksX5_keep_3 : cX5_keep.data.toList.drop 71 = dktX5_keep_3 := dk_seg dksX5_keep_2 23 rfl rfl
theorem dX5_keep_0 : decode cX5_keep 0 = .ok (.aload_n 0, 1) := dk_42 (dk_at dksX5_keep_0 0 rfl rfl)
theorem dX5_keep_1 : decode cX5_keep 1 = .ok (.iconst 0, 1) := dk_3 (dk_at dksX5_keep_0 1 rfl rfl)
theorem dX5_keep_2 : decode cX5_keep 2 = .ok (.putfield 128, 3) := dk_181 0 128 (dk_at dksX5_keep_0 2 rfl rfl)
theorem dX5_keep_5 : decode cX5_keep 5 = .ok (.iload_n 1, 1) := dk_27 (dk_at dksX5_keep_0 5 rfl rfl)
theorem dX5_keep_6 : decode cX5_keep 6 = .ok (.iconst 1, 1) := dk_4 (dk_at dksX5_keep_0 6 rfl rfl)
theorem dX5_keep_7 : decode cX5_keep 7 = .ok (.sipush 999, 3) := dk_17 3 231 (dk_at dksX5_keep_0 7 rfl rfl)
theorem dX5_keep_10 : decode cX5_keep 10 = .ok (.invokestatic 131, 3) := dk_184 0 131 (dk_at dksX5_keep_0 10 rfl rfl)
theorem dX5_keep_13 : decode cX5_keep 13 = .ok (.ifCond .ne 9, 3) := dk_154 0 9 (dk_at dksX5_keep_0 13 rfl rfl)
theorem dX5_keep_16 : decode cX5_keep 16 = .ok (.aload_n 0, 1) := dk_42 (dk_at dksX5_keep_0 16 rfl rfl)
theorem dX5_keep_17 : decode cX5_keep 17 = .ok (.iconst 2, 1) := dk_5 (dk_at dksX5_keep_0 17 rfl rfl)
theorem dX5_keep_18 : decode cX5_keep 18 = .ok (.invokevirtual 243, 3) := dk_182 0 243 (dk_at dksX5_keep_0 18 rfl rfl)
theorem dX5_keep_21 : decode cX5_keep 21 = .ok (.ireturn, 1) := dk_172 (dk_at dksX5_keep_0 21 rfl rfl)
theorem dX5_keep_22 : decode cX5_keep 22 = .ok (.iconst 0, 1) := dk_3 (dk_at dksX5_keep_0 22 rfl rfl)
theorem dX5_keep_23 : decode cX5_keep 23 = .ok (.istore_n 3, 1) := dk_62 (dk_at dksX5_keep_0 23 rfl rfl)
theorem dX5_keep_24 : decode cX5_keep 24 = .ok (.iconst 0, 1) := dk_3 (dk_at dksX5_keep_1 0 rfl rfl)
theorem dX5_keep_25 : decode cX5_keep 25 = .ok (.istore 4, 2) := dk_54 4 (dk_at dksX5_keep_1 1 rfl rfl)
theorem dX5_keep_27 : decode cX5_keep 27 = .ok (.iconst 1, 1) := dk_4 (dk_at dksX5_keep_1 3 rfl rfl)
theorem dX5_keep_28 : decode cX5_keep 28 = .ok (.istore 5, 2) := dk_54 5 (dk_at dksX5_keep_1 4 rfl rfl)
theorem dX5_keep_30 : decode cX5_keep 30 = .ok (.iload 4, 2) := dk_21 4 (dk_at dksX5_keep_1 6 rfl rfl)
theorem dX5_keep_32 : decode cX5_keep 32 = .ok (.iload_n 1, 1) := dk_27 (dk_at dksX5_keep_1 8 rfl rfl)
theorem dX5_keep_33 : decode cX5_keep 33 = .ok (.if_icmp .ge 41, 3) := dk_162 0 41 (dk_at dksX5_keep_1 9 rfl rfl)
theorem dX5_keep_36 : decode cX5_keep 36 = .ok (.iload 5, 2) := dk_21 5 (dk_at dksX5_keep_1 12 rfl rfl)
theorem dX5_keep_38 : decode cX5_keep 38 = .ok (.iload_n 1, 1) := dk_27 (dk_at dksX5_keep_1 14 rfl rfl)
theorem dX5_keep_39 : decode cX5_keep 39 = .ok (.iload 4, 2) := dk_21 4 (dk_at dksX5_keep_1 15 rfl rfl)
theorem dX5_keep_41 : decode cX5_keep 41 = .ok (.isub, 1) := dk_100 (dk_at dksX5_keep_1 17 rfl rfl)
theorem dX5_keep_42 : decode cX5_keep 42 = .ok (.invokestatic 165, 3) := dk_184 0 165 (dk_at dksX5_keep_1 18 rfl rfl)
theorem dX5_keep_45 : decode cX5_keep 45 = .ok (.istore 6, 2) := dk_54 6 (dk_at dksX5_keep_1 21 rfl rfl)
theorem dX5_keep_47 : decode cX5_keep 47 = .ok (.iload_n 3, 1) := dk_29 (dk_at dksX5_keep_1 23 rfl rfl)
theorem dX5_keep_48 : decode cX5_keep 48 = .ok (.iload_n 2, 1) := dk_28 (dk_at dksX5_keep_2 0 rfl rfl)
theorem dX5_keep_49 : decode cX5_keep 49 = .ok (.if_icmp .ne 6, 3) := dk_160 0 6 (dk_at dksX5_keep_2 1 rfl rfl)
theorem dX5_keep_52 : decode cX5_keep 52 = .ok (.iload 6, 2) := dk_21 6 (dk_at dksX5_keep_2 4 rfl rfl)
theorem dX5_keep_54 : decode cX5_keep 54 = .ok (.ireturn, 1) := dk_172 (dk_at dksX5_keep_2 6 rfl rfl)
theorem dX5_keep_55 : decode cX5_keep 55 = .ok (.iload 4, 2) := dk_21 4 (dk_at dksX5_keep_2 7 rfl rfl)
theorem dX5_keep_57 : decode cX5_keep 57 = .ok (.iload 6, 2) := dk_21 6 (dk_at dksX5_keep_2 9 rfl rfl)
theorem dX5_keep_59 : decode cX5_keep 59 = .ok (.iadd, 1) := dk_96 (dk_at dksX5_keep_2 11 rfl rfl)
theorem dX5_keep_60 : decode cX5_keep 60 = .ok (.istore 4, 2) := dk_54 4 (dk_at dksX5_keep_2 12 rfl rfl)
theorem dX5_keep_62 : decode cX5_keep 62 = .ok (.iinc 3 1, 3) := dk_132 3 1 (dk_at dksX5_keep_2 14 rfl rfl)
theorem dX5_keep_65 : decode cX5_keep 65 = .ok (.iload 5, 2) := dk_21 5 (dk_at dksX5_keep_2 17 rfl rfl)
theorem dX5_keep_67 : decode cX5_keep 67 = .ok (.iconst 2, 1) := dk_5 (dk_at dksX5_keep_2 19 rfl rfl)
theorem dX5_keep_68 : decode cX5_keep 68 = .ok (.imul, 1) := dk_104 (dk_at dksX5_keep_2 20 rfl rfl)
theorem dX5_keep_69 : decode cX5_keep 69 = .ok (.istore 5, 2) := dk_54 5 (dk_at dksX5_keep_2 21 rfl rfl)
theorem dX5_keep_71 : decode cX5_keep 71 = .ok (.goto (-41), 3) := dk_167 255 215 (dk_at dksX5_keep_3 0 rfl rfl)
theorem dX5_keep_74 : decode cX5_keep 74 = .ok (.iload_n 2, 1) := dk_28 (dk_at dksX5_keep_3 3 rfl rfl)
theorem dX5_keep_75 : decode cX5_keep 75 = .ok (.iconst (-1), 1) := dk_2 (dk_at dksX5_keep_3 4 rfl rfl)
theorem dX5_keep_76 : decode cX5_keep 76 = .ok (.if_icmp .ne 7, 3) := dk_160 0 7 (dk_at dksX5_keep_3 5 rfl rfl)
theorem dX5_keep_79 : decode cX5_keep 79 = .ok (.iload_n 3, 1) := dk_29 (dk_at dksX5_keep_3 8 rfl rfl)
theorem dX5_keep_80 : decode cX5_keep 80 = .ok (.goto 8, 3) := dk_167 0 8 (dk_at dksX5_keep_3 9 rfl rfl)
theorem dX5_keep_83 : decode cX5_keep 83 = .ok (.aload_n 0, 1) := dk_42 (dk_at dksX5_keep_3 12 rfl rfl)
theorem dX5_keep_84 : decode cX5_keep 84 = .ok (.iconst 1, 1) := dk_4 (dk_at dksX5_keep_3 13 rfl rfl)
theorem dX5_keep_85 : decode cX5_keep 85 = .ok (.invokevirtual 243, 3) := dk_182 0 243 (dk_at dksX5_keep_3 14 rfl rfl)
theorem dX5_keep_88 : decode cX5_keep 88 = .ok (.ireturn, 1) := dk_172 (dk_at dksX5_keep_3 17 rfl rfl)
abbrev cX5_fewest : ByteArray := prog_16_method_67_code
def yX5_fewest : MethodName := ⟨RX5, "fewest", "(I)I"⟩
def dkwX5_fewest_3 : List UInt8 := [42, 27, 182, 1, 124, 27, 160, 0, 5, 29, 61, 132, 3, 1, 167, 255, 196, 28, 172]
abbrev dktX5_fewest_3 : List UInt8 := dkwX5_fewest_3 ++ []
def dkwX5_fewest_2 : List UInt8 := [2, 159, 0, 17, 29, 184, 1, 49, 28, 184, 1, 49, 161, 0, 6, 167, 0, 20, 42, 29, 3, 182, 1, 121]
abbrev dktX5_fewest_2 : List UInt8 := dkwX5_fewest_2 ++ dktX5_fewest_3
def dkwX5_fewest_1 : List UInt8 := [3, 62, 29, 4, 42, 180, 0, 25, 4, 46, 120, 162, 0, 54, 42, 29, 182, 1, 17, 27, 161, 0, 39, 28]
abbrev dktX5_fewest_1 : List UInt8 := dkwX5_fewest_1 ++ dktX5_fewest_2
def dkwX5_fewest_0 : List UInt8 := [42, 3, 181, 0, 128, 27, 4, 17, 3, 231, 184, 0, 131, 154, 0, 9, 42, 4, 182, 0, 243, 172, 2, 61]
abbrev dktX5_fewest_0 : List UInt8 := dkwX5_fewest_0 ++ dktX5_fewest_1
theorem dksX5_fewest_0 : cX5_fewest.data.toList.drop 0 = dktX5_fewest_0 := by decide +kernel
theorem dksX5_fewest_1 : cX5_fewest.data.toList.drop 24 = dktX5_fewest_1 := dk_seg dksX5_fewest_0 24 rfl rfl
theorem dksX5_fewest_2 : cX5_fewest.data.toList.drop 48 = dktX5_fewest_2 := dk_seg dksX5_fewest_1 24 rfl rfl
theorem dksX5_fewest_3 : cX5_fewest.data.toList.drop 72 = dktX5_fewest_3 := dk_seg dksX5_fewest_2 24 rfl rfl
theorem dX5_fewest_0 : decode cX5_fewest 0 = .ok (.aload_n 0, 1) := dk_42 (dk_at dksX5_fewest_0 0 rfl rfl)
theorem dX5_fewest_1 : decode cX5_fewest 1 = .ok (.iconst 0, 1) := dk_3 (dk_at dksX5_fewest_0 1 rfl rfl)
theorem dX5_fewest_2 : decode cX5_fewest 2 = .ok (.putfield 128, 3) := dk_181 0 128 (dk_at dksX5_fewest_0 2 rfl rfl)
theorem dX5_fewest_5 : decode cX5_fewest 5 = .ok (.iload_n 1, 1) := dk_27 (dk_at dksX5_fewest_0 5 rfl rfl)
theorem dX5_fewest_6 : decode cX5_fewest 6 = .ok (.iconst 1, 1) := dk_4 (dk_at dksX5_fewest_0 6 rfl rfl)
theorem dX5_fewest_7 : decode cX5_fewest 7 = .ok (.sipush 999, 3) := dk_17 3 231 (dk_at dksX5_fewest_0 7 rfl rfl)
theorem dX5_fewest_10 : decode cX5_fewest 10 = .ok (.invokestatic 131, 3) := dk_184 0 131 (dk_at dksX5_fewest_0 10 rfl rfl)
theorem dX5_fewest_13 : decode cX5_fewest 13 = .ok (.ifCond .ne 9, 3) := dk_154 0 9 (dk_at dksX5_fewest_0 13 rfl rfl)
theorem dX5_fewest_16 : decode cX5_fewest 16 = .ok (.aload_n 0, 1) := dk_42 (dk_at dksX5_fewest_0 16 rfl rfl)
theorem dX5_fewest_17 : decode cX5_fewest 17 = .ok (.iconst 1, 1) := dk_4 (dk_at dksX5_fewest_0 17 rfl rfl)
theorem dX5_fewest_18 : decode cX5_fewest 18 = .ok (.invokevirtual 243, 3) := dk_182 0 243 (dk_at dksX5_fewest_0 18 rfl rfl)
theorem dX5_fewest_21 : decode cX5_fewest 21 = .ok (.ireturn, 1) := dk_172 (dk_at dksX5_fewest_0 21 rfl rfl)
theorem dX5_fewest_22 : decode cX5_fewest 22 = .ok (.iconst (-1), 1) := dk_2 (dk_at dksX5_fewest_0 22 rfl rfl)
theorem dX5_fewest_23 : decode cX5_fewest 23 = .ok (.istore_n 2, 1) := dk_61 (dk_at dksX5_fewest_0 23 rfl rfl)
theorem dX5_fewest_24 : decode cX5_fewest 24 = .ok (.iconst 0, 1) := dk_3 (dk_at dksX5_fewest_1 0 rfl rfl)
theorem dX5_fewest_25 : decode cX5_fewest 25 = .ok (.istore_n 3, 1) := dk_62 (dk_at dksX5_fewest_1 1 rfl rfl)
theorem dX5_fewest_26 : decode cX5_fewest 26 = .ok (.iload_n 3, 1) := dk_29 (dk_at dksX5_fewest_1 2 rfl rfl)
theorem dX5_fewest_27 : decode cX5_fewest 27 = .ok (.iconst 1, 1) := dk_4 (dk_at dksX5_fewest_1 3 rfl rfl)
theorem dX5_fewest_28 : decode cX5_fewest 28 = .ok (.aload_n 0, 1) := dk_42 (dk_at dksX5_fewest_1 4 rfl rfl)
theorem dX5_fewest_29 : decode cX5_fewest 29 = .ok (.getfield 25, 3) := dk_180 0 25 (dk_at dksX5_fewest_1 5 rfl rfl)
theorem dX5_fewest_32 : decode cX5_fewest 32 = .ok (.iconst 1, 1) := dk_4 (dk_at dksX5_fewest_1 8 rfl rfl)
theorem dX5_fewest_33 : decode cX5_fewest 33 = .ok (.iaload, 1) := dk_46 (dk_at dksX5_fewest_1 9 rfl rfl)
theorem dX5_fewest_34 : decode cX5_fewest 34 = .ok (.ishl, 1) := dk_120 (dk_at dksX5_fewest_1 10 rfl rfl)
theorem dX5_fewest_35 : decode cX5_fewest 35 = .ok (.if_icmp .ge 54, 3) := dk_162 0 54 (dk_at dksX5_fewest_1 11 rfl rfl)
theorem dX5_fewest_38 : decode cX5_fewest 38 = .ok (.aload_n 0, 1) := dk_42 (dk_at dksX5_fewest_1 14 rfl rfl)
theorem dX5_fewest_39 : decode cX5_fewest 39 = .ok (.iload_n 3, 1) := dk_29 (dk_at dksX5_fewest_1 15 rfl rfl)
theorem dX5_fewest_40 : decode cX5_fewest 40 = .ok (.invokevirtual 273, 3) := dk_182 1 17 (dk_at dksX5_fewest_1 16 rfl rfl)
theorem dX5_fewest_43 : decode cX5_fewest 43 = .ok (.iload_n 1, 1) := dk_27 (dk_at dksX5_fewest_1 19 rfl rfl)
theorem dX5_fewest_44 : decode cX5_fewest 44 = .ok (.if_icmp .lt 39, 3) := dk_161 0 39 (dk_at dksX5_fewest_1 20 rfl rfl)
theorem dX5_fewest_47 : decode cX5_fewest 47 = .ok (.iload_n 2, 1) := dk_28 (dk_at dksX5_fewest_1 23 rfl rfl)
theorem dX5_fewest_48 : decode cX5_fewest 48 = .ok (.iconst (-1), 1) := dk_2 (dk_at dksX5_fewest_2 0 rfl rfl)
theorem dX5_fewest_49 : decode cX5_fewest 49 = .ok (.if_icmp .eq 17, 3) := dk_159 0 17 (dk_at dksX5_fewest_2 1 rfl rfl)
theorem dX5_fewest_52 : decode cX5_fewest 52 = .ok (.iload_n 3, 1) := dk_29 (dk_at dksX5_fewest_2 4 rfl rfl)
theorem dX5_fewest_53 : decode cX5_fewest 53 = .ok (.invokestatic 305, 3) := dk_184 1 49 (dk_at dksX5_fewest_2 5 rfl rfl)
theorem dX5_fewest_56 : decode cX5_fewest 56 = .ok (.iload_n 2, 1) := dk_28 (dk_at dksX5_fewest_2 8 rfl rfl)
theorem dX5_fewest_57 : decode cX5_fewest 57 = .ok (.invokestatic 305, 3) := dk_184 1 49 (dk_at dksX5_fewest_2 9 rfl rfl)
theorem dX5_fewest_60 : decode cX5_fewest 60 = .ok (.if_icmp .lt 6, 3) := dk_161 0 6 (dk_at dksX5_fewest_2 12 rfl rfl)
theorem dX5_fewest_63 : decode cX5_fewest 63 = .ok (.goto 20, 3) := dk_167 0 20 (dk_at dksX5_fewest_2 15 rfl rfl)
theorem dX5_fewest_66 : decode cX5_fewest 66 = .ok (.aload_n 0, 1) := dk_42 (dk_at dksX5_fewest_2 18 rfl rfl)
theorem dX5_fewest_67 : decode cX5_fewest 67 = .ok (.iload_n 3, 1) := dk_29 (dk_at dksX5_fewest_2 19 rfl rfl)
theorem dX5_fewest_68 : decode cX5_fewest 68 = .ok (.iconst 0, 1) := dk_3 (dk_at dksX5_fewest_2 20 rfl rfl)
theorem dX5_fewest_69 : decode cX5_fewest 69 = .ok (.invokevirtual 377, 3) := dk_182 1 121 (dk_at dksX5_fewest_2 21 rfl rfl)
theorem dX5_fewest_72 : decode cX5_fewest 72 = .ok (.aload_n 0, 1) := dk_42 (dk_at dksX5_fewest_3 0 rfl rfl)
theorem dX5_fewest_73 : decode cX5_fewest 73 = .ok (.iload_n 1, 1) := dk_27 (dk_at dksX5_fewest_3 1 rfl rfl)
theorem dX5_fewest_74 : decode cX5_fewest 74 = .ok (.invokevirtual 380, 3) := dk_182 1 124 (dk_at dksX5_fewest_3 2 rfl rfl)
theorem dX5_fewest_77 : decode cX5_fewest 77 = .ok (.iload_n 1, 1) := dk_27 (dk_at dksX5_fewest_3 5 rfl rfl)
theorem dX5_fewest_78 : decode cX5_fewest 78 = .ok (.if_icmp .ne 5, 3) := dk_160 0 5 (dk_at dksX5_fewest_3 6 rfl rfl)
theorem dX5_fewest_81 : decode cX5_fewest 81 = .ok (.iload_n 3, 1) := dk_29 (dk_at dksX5_fewest_3 9 rfl rfl)
theorem dX5_fewest_82 : decode cX5_fewest 82 = .ok (.istore_n 2, 1) := dk_61 (dk_at dksX5_fewest_3 10 rfl rfl)
theorem dX5_fewest_83 : decode cX5_fewest 83 = .ok (.iinc 3 1, 3) := dk_132 3 1 (dk_at dksX5_fewest_3 11 rfl rfl)
theorem dX5_fewest_86 : decode cX5_fewest 86 = .ok (.goto (-60), 3) := dk_167 255 196 (dk_at dksX5_fewest_3 14 rfl rfl)
theorem dX5_fewest_89 : decode cX5_fewest 89 = .ok (.iload_n 2, 1) := dk_28 (dk_at dksX5_fewest_3 17 rfl rfl)
theorem dX5_fewest_90 : decode cX5_fewest 90 = .ok (.ireturn, 1) := dk_172 (dk_at dksX5_fewest_3 18 rfl rfl)
abbrev cX5_tellWeights : ByteArray := prog_16_method_65_code
def yX5_tellWeights : MethodName := ⟨RX5, "tellWeights", "(II)V"⟩
def dkwX5_tellWeights_4 : List UInt8 := [180, 0, 47, 29, 46, 100, 51, 128, 84, 132, 4, 255, 167, 255, 218, 132, 3, 1, 167, 255, 182, 177]
abbrev dktX5_tellWeights_4 : List UInt8 := dkwX5_tellWeights_4 ++ []
def dkwX5_tellWeights_3 : List UInt8 := [180, 0, 47, 29, 46, 161, 0, 33, 42, 180, 0, 106, 21, 4, 92, 51, 42, 180, 0, 106, 21, 4, 42]
abbrev dktX5_tellWeights_3 : List UInt8 := dkwX5_tellWeights_3 ++ dktX5_tellWeights_4
def dkwX5_tellWeights_2 : List UInt8 := [29, 122, 4, 126, 154, 0, 6, 167, 0, 53, 42, 180, 0, 106, 190, 4, 100, 54, 4, 21, 4, 42]
abbrev dktX5_tellWeights_2 : List UInt8 := dkwX5_tellWeights_2 ++ dktX5_tellWeights_3
def dkwX5_tellWeights_1 : List UInt8 := [167, 0, 4, 3, 84, 132, 3, 1, 167, 255, 228, 3, 62, 29, 42, 180, 0, 25, 4, 46, 162, 0, 70, 27]
abbrev dktX5_tellWeights_1 : List UInt8 := dkwX5_tellWeights_1 ++ dktX5_tellWeights_2
def dkwX5_tellWeights_0 : List UInt8 := [3, 62, 29, 42, 180, 0, 106, 190, 162, 0, 25, 42, 180, 0, 106, 29, 29, 28, 163, 0, 7, 4]
abbrev dktX5_tellWeights_0 : List UInt8 := dkwX5_tellWeights_0 ++ dktX5_tellWeights_1
theorem dksX5_tellWeights_0 : cX5_tellWeights.data.toList.drop 0 = dktX5_tellWeights_0 := by decide +kernel
theorem dksX5_tellWeights_1 : cX5_tellWeights.data.toList.drop 22 = dktX5_tellWeights_1 := dk_seg dksX5_tellWeights_0 22 rfl rfl
theorem dksX5_tellWeights_2 : cX5_tellWeights.data.toList.drop 46 = dktX5_tellWeights_2 := dk_seg dksX5_tellWeights_1 24 rfl rfl
theorem dksX5_tellWeights_3 : cX5_tellWeights.data.toList.drop 68 = dktX5_tellWeights_3 := dk_seg dksX5_tellWeights_2 22 rfl rfl
theorem dksX5_tellWeights_4 : cX5_tellWeights.data.toList.drop 91 = dktX5_tellWeights_4 := dk_seg dksX5_tellWeights_3 23 rfl rfl
theorem dX5_tellWeights_0 : decode cX5_tellWeights 0 = .ok (.iconst 0, 1) := dk_3 (dk_at dksX5_tellWeights_0 0 rfl rfl)
theorem dX5_tellWeights_1 : decode cX5_tellWeights 1 = .ok (.istore_n 3, 1) := dk_62 (dk_at dksX5_tellWeights_0 1 rfl rfl)
theorem dX5_tellWeights_2 : decode cX5_tellWeights 2 = .ok (.iload_n 3, 1) := dk_29 (dk_at dksX5_tellWeights_0 2 rfl rfl)
theorem dX5_tellWeights_3 : decode cX5_tellWeights 3 = .ok (.aload_n 0, 1) := dk_42 (dk_at dksX5_tellWeights_0 3 rfl rfl)
theorem dX5_tellWeights_4 : decode cX5_tellWeights 4 = .ok (.getfield 106, 3) := dk_180 0 106 (dk_at dksX5_tellWeights_0 4 rfl rfl)
theorem dX5_tellWeights_7 : decode cX5_tellWeights 7 = .ok (.arraylength, 1) := dk_190 (dk_at dksX5_tellWeights_0 7 rfl rfl)
theorem dX5_tellWeights_8 : decode cX5_tellWeights 8 = .ok (.if_icmp .ge 25, 3) := dk_162 0 25 (dk_at dksX5_tellWeights_0 8 rfl rfl)
theorem dX5_tellWeights_11 : decode cX5_tellWeights 11 = .ok (.aload_n 0, 1) := dk_42 (dk_at dksX5_tellWeights_0 11 rfl rfl)
theorem dX5_tellWeights_12 : decode cX5_tellWeights 12 = .ok (.getfield 106, 3) := dk_180 0 106 (dk_at dksX5_tellWeights_0 12 rfl rfl)
theorem dX5_tellWeights_15 : decode cX5_tellWeights 15 = .ok (.iload_n 3, 1) := dk_29 (dk_at dksX5_tellWeights_0 15 rfl rfl)
theorem dX5_tellWeights_16 : decode cX5_tellWeights 16 = .ok (.iload_n 3, 1) := dk_29 (dk_at dksX5_tellWeights_0 16 rfl rfl)
theorem dX5_tellWeights_17 : decode cX5_tellWeights 17 = .ok (.iload_n 2, 1) := dk_28 (dk_at dksX5_tellWeights_0 17 rfl rfl)
theorem dX5_tellWeights_18 : decode cX5_tellWeights 18 = .ok (.if_icmp .gt 7, 3) := dk_163 0 7 (dk_at dksX5_tellWeights_0 18 rfl rfl)
theorem dX5_tellWeights_21 : decode cX5_tellWeights 21 = .ok (.iconst 1, 1) := dk_4 (dk_at dksX5_tellWeights_0 21 rfl rfl)
theorem dX5_tellWeights_22 : decode cX5_tellWeights 22 = .ok (.goto 4, 3) := dk_167 0 4 (dk_at dksX5_tellWeights_1 0 rfl rfl)
theorem dX5_tellWeights_25 : decode cX5_tellWeights 25 = .ok (.iconst 0, 1) := dk_3 (dk_at dksX5_tellWeights_1 3 rfl rfl)
theorem dX5_tellWeights_26 : decode cX5_tellWeights 26 = .ok (.bastore, 1) := dk_84 (dk_at dksX5_tellWeights_1 4 rfl rfl)
theorem dX5_tellWeights_27 : decode cX5_tellWeights 27 = .ok (.iinc 3 1, 3) := dk_132 3 1 (dk_at dksX5_tellWeights_1 5 rfl rfl)
theorem dX5_tellWeights_30 : decode cX5_tellWeights 30 = .ok (.goto (-28), 3) := dk_167 255 228 (dk_at dksX5_tellWeights_1 8 rfl rfl)
theorem dX5_tellWeights_33 : decode cX5_tellWeights 33 = .ok (.iconst 0, 1) := dk_3 (dk_at dksX5_tellWeights_1 11 rfl rfl)
theorem dX5_tellWeights_34 : decode cX5_tellWeights 34 = .ok (.istore_n 3, 1) := dk_62 (dk_at dksX5_tellWeights_1 12 rfl rfl)
theorem dX5_tellWeights_35 : decode cX5_tellWeights 35 = .ok (.iload_n 3, 1) := dk_29 (dk_at dksX5_tellWeights_1 13 rfl rfl)
theorem dX5_tellWeights_36 : decode cX5_tellWeights 36 = .ok (.aload_n 0, 1) := dk_42 (dk_at dksX5_tellWeights_1 14 rfl rfl)
theorem dX5_tellWeights_37 : decode cX5_tellWeights 37 = .ok (.getfield 25, 3) := dk_180 0 25 (dk_at dksX5_tellWeights_1 15 rfl rfl)
theorem dX5_tellWeights_40 : decode cX5_tellWeights 40 = .ok (.iconst 1, 1) := dk_4 (dk_at dksX5_tellWeights_1 18 rfl rfl)
theorem dX5_tellWeights_41 : decode cX5_tellWeights 41 = .ok (.iaload, 1) := dk_46 (dk_at dksX5_tellWeights_1 19 rfl rfl)
theorem dX5_tellWeights_42 : decode cX5_tellWeights 42 = .ok (.if_icmp .ge 70, 3) := dk_162 0 70 (dk_at dksX5_tellWeights_1 20 rfl rfl)
theorem dX5_tellWeights_45 : decode cX5_tellWeights 45 = .ok (.iload_n 1, 1) := dk_27 (dk_at dksX5_tellWeights_1 23 rfl rfl)
theorem dX5_tellWeights_46 : decode cX5_tellWeights 46 = .ok (.iload_n 3, 1) := dk_29 (dk_at dksX5_tellWeights_2 0 rfl rfl)
theorem dX5_tellWeights_47 : decode cX5_tellWeights 47 = .ok (.ishr, 1) := dk_122 (dk_at dksX5_tellWeights_2 1 rfl rfl)
theorem dX5_tellWeights_48 : decode cX5_tellWeights 48 = .ok (.iconst 1, 1) := dk_4 (dk_at dksX5_tellWeights_2 2 rfl rfl)
theorem dX5_tellWeights_49 : decode cX5_tellWeights 49 = .ok (.iand, 1) := dk_126 (dk_at dksX5_tellWeights_2 3 rfl rfl)
theorem dX5_tellWeights_50 : decode cX5_tellWeights 50 = .ok (.ifCond .ne 6, 3) := dk_154 0 6 (dk_at dksX5_tellWeights_2 4 rfl rfl)
theorem dX5_tellWeights_53 : decode cX5_tellWeights 53 = .ok (.goto 53, 3) := dk_167 0 53 (dk_at dksX5_tellWeights_2 7 rfl rfl)
theorem dX5_tellWeights_56 : decode cX5_tellWeights 56 = .ok (.aload_n 0, 1) := dk_42 (dk_at dksX5_tellWeights_2 10 rfl rfl)
theorem dX5_tellWeights_57 : decode cX5_tellWeights 57 = .ok (.getfield 106, 3) := dk_180 0 106 (dk_at dksX5_tellWeights_2 11 rfl rfl)
theorem dX5_tellWeights_60 : decode cX5_tellWeights 60 = .ok (.arraylength, 1) := dk_190 (dk_at dksX5_tellWeights_2 14 rfl rfl)
theorem dX5_tellWeights_61 : decode cX5_tellWeights 61 = .ok (.iconst 1, 1) := dk_4 (dk_at dksX5_tellWeights_2 15 rfl rfl)
theorem dX5_tellWeights_62 : decode cX5_tellWeights 62 = .ok (.isub, 1) := dk_100 (dk_at dksX5_tellWeights_2 16 rfl rfl)
theorem dX5_tellWeights_63 : decode cX5_tellWeights 63 = .ok (.istore 4, 2) := dk_54 4 (dk_at dksX5_tellWeights_2 17 rfl rfl)
theorem dX5_tellWeights_65 : decode cX5_tellWeights 65 = .ok (.iload 4, 2) := dk_21 4 (dk_at dksX5_tellWeights_2 19 rfl rfl)
theorem dX5_tellWeights_67 : decode cX5_tellWeights 67 = .ok (.aload_n 0, 1) := dk_42 (dk_at dksX5_tellWeights_2 21 rfl rfl)
theorem dX5_tellWeights_68 : decode cX5_tellWeights 68 = .ok (.getfield 47, 3) := dk_180 0 47 (dk_at dksX5_tellWeights_3 0 rfl rfl)
theorem dX5_tellWeights_71 : decode cX5_tellWeights 71 = .ok (.iload_n 3, 1) := dk_29 (dk_at dksX5_tellWeights_3 3 rfl rfl)
theorem dX5_tellWeights_72 : decode cX5_tellWeights 72 = .ok (.iaload, 1) := dk_46 (dk_at dksX5_tellWeights_3 4 rfl rfl)
theorem dX5_tellWeights_73 : decode cX5_tellWeights 73 = .ok (.if_icmp .lt 33, 3) := dk_161 0 33 (dk_at dksX5_tellWeights_3 5 rfl rfl)
theorem dX5_tellWeights_76 : decode cX5_tellWeights 76 = .ok (.aload_n 0, 1) := dk_42 (dk_at dksX5_tellWeights_3 8 rfl rfl)
theorem dX5_tellWeights_77 : decode cX5_tellWeights 77 = .ok (.getfield 106, 3) := dk_180 0 106 (dk_at dksX5_tellWeights_3 9 rfl rfl)
theorem dX5_tellWeights_80 : decode cX5_tellWeights 80 = .ok (.iload 4, 2) := dk_21 4 (dk_at dksX5_tellWeights_3 12 rfl rfl)
theorem dX5_tellWeights_82 : decode cX5_tellWeights 82 = .ok (.dup2, 1) := dk_92 (dk_at dksX5_tellWeights_3 14 rfl rfl)
theorem dX5_tellWeights_83 : decode cX5_tellWeights 83 = .ok (.baload, 1) := dk_51 (dk_at dksX5_tellWeights_3 15 rfl rfl)
theorem dX5_tellWeights_84 : decode cX5_tellWeights 84 = .ok (.aload_n 0, 1) := dk_42 (dk_at dksX5_tellWeights_3 16 rfl rfl)
theorem dX5_tellWeights_85 : decode cX5_tellWeights 85 = .ok (.getfield 106, 3) := dk_180 0 106 (dk_at dksX5_tellWeights_3 17 rfl rfl)
theorem dX5_tellWeights_88 : decode cX5_tellWeights 88 = .ok (.iload 4, 2) := dk_21 4 (dk_at dksX5_tellWeights_3 20 rfl rfl)
theorem dX5_tellWeights_90 : decode cX5_tellWeights 90 = .ok (.aload_n 0, 1) := dk_42 (dk_at dksX5_tellWeights_3 22 rfl rfl)
theorem dX5_tellWeights_91 : decode cX5_tellWeights 91 = .ok (.getfield 47, 3) := dk_180 0 47 (dk_at dksX5_tellWeights_4 0 rfl rfl)
theorem dX5_tellWeights_94 : decode cX5_tellWeights 94 = .ok (.iload_n 3, 1) := dk_29 (dk_at dksX5_tellWeights_4 3 rfl rfl)
theorem dX5_tellWeights_95 : decode cX5_tellWeights 95 = .ok (.iaload, 1) := dk_46 (dk_at dksX5_tellWeights_4 4 rfl rfl)
theorem dX5_tellWeights_96 : decode cX5_tellWeights 96 = .ok (.isub, 1) := dk_100 (dk_at dksX5_tellWeights_4 5 rfl rfl)
theorem dX5_tellWeights_97 : decode cX5_tellWeights 97 = .ok (.baload, 1) := dk_51 (dk_at dksX5_tellWeights_4 6 rfl rfl)
theorem dX5_tellWeights_98 : decode cX5_tellWeights 98 = .ok (.ior, 1) := dk_128 (dk_at dksX5_tellWeights_4 7 rfl rfl)
theorem dX5_tellWeights_99 : decode cX5_tellWeights 99 = .ok (.bastore, 1) := dk_84 (dk_at dksX5_tellWeights_4 8 rfl rfl)
theorem dX5_tellWeights_100 : decode cX5_tellWeights 100 = .ok (.iinc 4 (-1), 3) := dk_132 4 255 (dk_at dksX5_tellWeights_4 9 rfl rfl)
theorem dX5_tellWeights_103 : decode cX5_tellWeights 103 = .ok (.goto (-38), 3) := dk_167 255 218 (dk_at dksX5_tellWeights_4 12 rfl rfl)
theorem dX5_tellWeights_106 : decode cX5_tellWeights 106 = .ok (.iinc 3 1, 3) := dk_132 3 1 (dk_at dksX5_tellWeights_4 15 rfl rfl)
theorem dX5_tellWeights_109 : decode cX5_tellWeights 109 = .ok (.goto (-74), 3) := dk_167 255 182 (dk_at dksX5_tellWeights_4 18 rfl rfl)
theorem dX5_tellWeights_112 : decode cX5_tellWeights 112 = .ok (.return_, 1) := dk_177 (dk_at dksX5_tellWeights_4 21 rfl rfl)
abbrev cX5_madeUpTo : ByteArray := prog_16_method_66_code
def yX5_madeUpTo : MethodName := ⟨RX5, "madeUpTo", "(I)I"⟩
def dkwX5_madeUpTo_1 : List UInt8 := [96, 61, 132, 3, 1, 167, 255, 231, 28, 172]
abbrev dktX5_madeUpTo_1 : List UInt8 := dkwX5_madeUpTo_1 ++ []
def dkwX5_madeUpTo_0 : List UInt8 := [3, 61, 4, 62, 29, 27, 163, 0, 26, 28, 42, 180, 0, 106, 29, 51, 153, 0, 7, 4, 167, 0, 4, 3]
abbrev dktX5_madeUpTo_0 : List UInt8 := dkwX5_madeUpTo_0 ++ dktX5_madeUpTo_1
theorem dksX5_madeUpTo_0 : cX5_madeUpTo.data.toList.drop 0 = dktX5_madeUpTo_0 := by decide +kernel
theorem dksX5_madeUpTo_1 : cX5_madeUpTo.data.toList.drop 24 = dktX5_madeUpTo_1 := dk_seg dksX5_madeUpTo_0 24 rfl rfl
theorem dX5_madeUpTo_0 : decode cX5_madeUpTo 0 = .ok (.iconst 0, 1) := dk_3 (dk_at dksX5_madeUpTo_0 0 rfl rfl)
theorem dX5_madeUpTo_1 : decode cX5_madeUpTo 1 = .ok (.istore_n 2, 1) := dk_61 (dk_at dksX5_madeUpTo_0 1 rfl rfl)
theorem dX5_madeUpTo_2 : decode cX5_madeUpTo 2 = .ok (.iconst 1, 1) := dk_4 (dk_at dksX5_madeUpTo_0 2 rfl rfl)
theorem dX5_madeUpTo_3 : decode cX5_madeUpTo 3 = .ok (.istore_n 3, 1) := dk_62 (dk_at dksX5_madeUpTo_0 3 rfl rfl)
theorem dX5_madeUpTo_4 : decode cX5_madeUpTo 4 = .ok (.iload_n 3, 1) := dk_29 (dk_at dksX5_madeUpTo_0 4 rfl rfl)
theorem dX5_madeUpTo_5 : decode cX5_madeUpTo 5 = .ok (.iload_n 1, 1) := dk_27 (dk_at dksX5_madeUpTo_0 5 rfl rfl)
theorem dX5_madeUpTo_6 : decode cX5_madeUpTo 6 = .ok (.if_icmp .gt 26, 3) := dk_163 0 26 (dk_at dksX5_madeUpTo_0 6 rfl rfl)
theorem dX5_madeUpTo_9 : decode cX5_madeUpTo 9 = .ok (.iload_n 2, 1) := dk_28 (dk_at dksX5_madeUpTo_0 9 rfl rfl)
theorem dX5_madeUpTo_10 : decode cX5_madeUpTo 10 = .ok (.aload_n 0, 1) := dk_42 (dk_at dksX5_madeUpTo_0 10 rfl rfl)
theorem dX5_madeUpTo_11 : decode cX5_madeUpTo 11 = .ok (.getfield 106, 3) := dk_180 0 106 (dk_at dksX5_madeUpTo_0 11 rfl rfl)
theorem dX5_madeUpTo_14 : decode cX5_madeUpTo 14 = .ok (.iload_n 3, 1) := dk_29 (dk_at dksX5_madeUpTo_0 14 rfl rfl)
theorem dX5_madeUpTo_15 : decode cX5_madeUpTo 15 = .ok (.baload, 1) := dk_51 (dk_at dksX5_madeUpTo_0 15 rfl rfl)
theorem dX5_madeUpTo_16 : decode cX5_madeUpTo 16 = .ok (.ifCond .eq 7, 3) := dk_153 0 7 (dk_at dksX5_madeUpTo_0 16 rfl rfl)
theorem dX5_madeUpTo_19 : decode cX5_madeUpTo 19 = .ok (.iconst 1, 1) := dk_4 (dk_at dksX5_madeUpTo_0 19 rfl rfl)
theorem dX5_madeUpTo_20 : decode cX5_madeUpTo 20 = .ok (.goto 4, 3) := dk_167 0 4 (dk_at dksX5_madeUpTo_0 20 rfl rfl)
theorem dX5_madeUpTo_23 : decode cX5_madeUpTo 23 = .ok (.iconst 0, 1) := dk_3 (dk_at dksX5_madeUpTo_0 23 rfl rfl)
theorem dX5_madeUpTo_24 : decode cX5_madeUpTo 24 = .ok (.iadd, 1) := dk_96 (dk_at dksX5_madeUpTo_1 0 rfl rfl)
theorem dX5_madeUpTo_25 : decode cX5_madeUpTo 25 = .ok (.istore_n 2, 1) := dk_61 (dk_at dksX5_madeUpTo_1 1 rfl rfl)
theorem dX5_madeUpTo_26 : decode cX5_madeUpTo 26 = .ok (.iinc 3 1, 3) := dk_132 3 1 (dk_at dksX5_madeUpTo_1 2 rfl rfl)
theorem dX5_madeUpTo_29 : decode cX5_madeUpTo 29 = .ok (.goto (-25), 3) := dk_167 255 231 (dk_at dksX5_madeUpTo_1 5 rfl rfl)
theorem dX5_madeUpTo_32 : decode cX5_madeUpTo 32 = .ok (.iload_n 2, 1) := dk_28 (dk_at dksX5_madeUpTo_1 8 rfl rfl)
theorem dX5_madeUpTo_33 : decode cX5_madeUpTo 33 = .ok (.ireturn, 1) := dk_172 (dk_at dksX5_madeUpTo_1 9 rfl rfl)
abbrev cX5_answers : ByteArray := prog_16_method_68_code
def yX5_answers : MethodName := ⟨RX5, "answers", "(IIZ)I"⟩
def dkwX5_answers_3 : List UInt8 := [172]
abbrev dktX5_answers_3 : List UInt8 := dkwX5_answers_3 ++ []
def dkwX5_answers_2 : List UInt8 := [153, 0, 15, 42, 180, 0, 41, 16, 12, 27, 96, 46, 167, 0, 4, 3, 182, 1, 121, 42, 28, 182, 1, 124]
abbrev dktX5_answers_2 : List UInt8 := dkwX5_answers_2 ++ dktX5_answers_3
def dkwX5_answers_1 : List UInt8 := [184, 0, 131, 154, 0, 9, 42, 5, 182, 0, 243, 172, 42, 42, 42, 180, 0, 41, 27, 182, 1, 10, 29]
abbrev dktX5_answers_1 : List UInt8 := dkwX5_answers_1 ++ dktX5_answers_2
def dkwX5_answers_0 : List UInt8 := [42, 3, 181, 0, 128, 42, 27, 182, 1, 7, 154, 0, 9, 42, 4, 182, 0, 243, 172, 28, 4, 17, 3, 231]
abbrev dktX5_answers_0 : List UInt8 := dkwX5_answers_0 ++ dktX5_answers_1
theorem dksX5_answers_0 : cX5_answers.data.toList.drop 0 = dktX5_answers_0 := by decide +kernel
theorem dksX5_answers_1 : cX5_answers.data.toList.drop 24 = dktX5_answers_1 := dk_seg dksX5_answers_0 24 rfl rfl
theorem dksX5_answers_2 : cX5_answers.data.toList.drop 47 = dktX5_answers_2 := dk_seg dksX5_answers_1 23 rfl rfl
theorem dksX5_answers_3 : cX5_answers.data.toList.drop 71 = dktX5_answers_3 := dk_seg dksX5_answers_2 24 rfl rfl
theorem dX5_answers_0 : decode cX5_answers 0 = .ok (.aload_n 0, 1) := dk_42 (dk_at dksX5_answers_0 0 rfl rfl)
theorem dX5_answers_1 : decode cX5_answers 1 = .ok (.iconst 0, 1) := dk_3 (dk_at dksX5_answers_0 1 rfl rfl)
theorem dX5_answers_2 : decode cX5_answers 2 = .ok (.putfield 128, 3) := dk_181 0 128 (dk_at dksX5_answers_0 2 rfl rfl)
theorem dX5_answers_5 : decode cX5_answers 5 = .ok (.aload_n 0, 1) := dk_42 (dk_at dksX5_answers_0 5 rfl rfl)
theorem dX5_answers_6 : decode cX5_answers 6 = .ok (.iload_n 1, 1) := dk_27 (dk_at dksX5_answers_0 6 rfl rfl)
theorem dX5_answers_7 : decode cX5_answers 7 = .ok (.invokevirtual 263, 3) := dk_182 1 7 (dk_at dksX5_answers_0 7 rfl rfl)
theorem dX5_answers_10 : decode cX5_answers 10 = .ok (.ifCond .ne 9, 3) := dk_154 0 9 (dk_at dksX5_answers_0 10 rfl rfl)
theorem dX5_answers_13 : decode cX5_answers 13 = .ok (.aload_n 0, 1) := dk_42 (dk_at dksX5_answers_0 13 rfl rfl)
theorem dX5_answers_14 : decode cX5_answers 14 = .ok (.iconst 1, 1) := dk_4 (dk_at dksX5_answers_0 14 rfl rfl)
theorem dX5_answers_15 : decode cX5_answers 15 = .ok (.invokevirtual 243, 3) := dk_182 0 243 (dk_at dksX5_answers_0 15 rfl rfl)
theorem dX5_answers_18 : decode cX5_answers 18 = .ok (.ireturn, 1) := dk_172 (dk_at dksX5_answers_0 18 rfl rfl)
theorem dX5_answers_19 : decode cX5_answers 19 = .ok (.iload_n 2, 1) := dk_28 (dk_at dksX5_answers_0 19 rfl rfl)
theorem dX5_answers_20 : decode cX5_answers 20 = .ok (.iconst 1, 1) := dk_4 (dk_at dksX5_answers_0 20 rfl rfl)
theorem dX5_answers_21 : decode cX5_answers 21 = .ok (.sipush 999, 3) := dk_17 3 231 (dk_at dksX5_answers_0 21 rfl rfl)
theorem dX5_answers_24 : decode cX5_answers 24 = .ok (.invokestatic 131, 3) := dk_184 0 131 (dk_at dksX5_answers_1 0 rfl rfl)
theorem dX5_answers_27 : decode cX5_answers 27 = .ok (.ifCond .ne 9, 3) := dk_154 0 9 (dk_at dksX5_answers_1 3 rfl rfl)
theorem dX5_answers_30 : decode cX5_answers 30 = .ok (.aload_n 0, 1) := dk_42 (dk_at dksX5_answers_1 6 rfl rfl)
theorem dX5_answers_31 : decode cX5_answers 31 = .ok (.iconst 2, 1) := dk_5 (dk_at dksX5_answers_1 7 rfl rfl)
theorem dX5_answers_32 : decode cX5_answers 32 = .ok (.invokevirtual 243, 3) := dk_182 0 243 (dk_at dksX5_answers_1 8 rfl rfl)
theorem dX5_answers_35 : decode cX5_answers 35 = .ok (.ireturn, 1) := dk_172 (dk_at dksX5_answers_1 11 rfl rfl)
theorem dX5_answers_36 : decode cX5_answers 36 = .ok (.aload_n 0, 1) := dk_42 (dk_at dksX5_answers_1 12 rfl rfl)
theorem dX5_answers_37 : decode cX5_answers 37 = .ok (.aload_n 0, 1) := dk_42 (dk_at dksX5_answers_1 13 rfl rfl)
theorem dX5_answers_38 : decode cX5_answers 38 = .ok (.aload_n 0, 1) := dk_42 (dk_at dksX5_answers_1 14 rfl rfl)
theorem dX5_answers_39 : decode cX5_answers 39 = .ok (.getfield 41, 3) := dk_180 0 41 (dk_at dksX5_answers_1 15 rfl rfl)
theorem dX5_answers_42 : decode cX5_answers 42 = .ok (.iload_n 1, 1) := dk_27 (dk_at dksX5_answers_1 18 rfl rfl)
theorem dX5_answers_43 : decode cX5_answers 43 = .ok (.invokevirtual 266, 3) := dk_182 1 10 (dk_at dksX5_answers_1 19 rfl rfl)
theorem dX5_answers_46 : decode cX5_answers 46 = .ok (.iload_n 3, 1) := dk_29 (dk_at dksX5_answers_1 22 rfl rfl)
theorem dX5_answers_47 : decode cX5_answers 47 = .ok (.ifCond .eq 15, 3) := dk_153 0 15 (dk_at dksX5_answers_2 0 rfl rfl)
theorem dX5_answers_50 : decode cX5_answers 50 = .ok (.aload_n 0, 1) := dk_42 (dk_at dksX5_answers_2 3 rfl rfl)
theorem dX5_answers_51 : decode cX5_answers 51 = .ok (.getfield 41, 3) := dk_180 0 41 (dk_at dksX5_answers_2 4 rfl rfl)
theorem dX5_answers_54 : decode cX5_answers 54 = .ok (.bipush 12, 2) := dk_16 12 (dk_at dksX5_answers_2 7 rfl rfl)
theorem dX5_answers_56 : decode cX5_answers 56 = .ok (.iload_n 1, 1) := dk_27 (dk_at dksX5_answers_2 9 rfl rfl)
theorem dX5_answers_57 : decode cX5_answers 57 = .ok (.iadd, 1) := dk_96 (dk_at dksX5_answers_2 10 rfl rfl)
theorem dX5_answers_58 : decode cX5_answers 58 = .ok (.iaload, 1) := dk_46 (dk_at dksX5_answers_2 11 rfl rfl)
theorem dX5_answers_59 : decode cX5_answers 59 = .ok (.goto 4, 3) := dk_167 0 4 (dk_at dksX5_answers_2 12 rfl rfl)
theorem dX5_answers_62 : decode cX5_answers 62 = .ok (.iconst 0, 1) := dk_3 (dk_at dksX5_answers_2 15 rfl rfl)
theorem dX5_answers_63 : decode cX5_answers 63 = .ok (.invokevirtual 377, 3) := dk_182 1 121 (dk_at dksX5_answers_2 16 rfl rfl)
theorem dX5_answers_66 : decode cX5_answers 66 = .ok (.aload_n 0, 1) := dk_42 (dk_at dksX5_answers_2 19 rfl rfl)
theorem dX5_answers_67 : decode cX5_answers 67 = .ok (.iload_n 2, 1) := dk_28 (dk_at dksX5_answers_2 20 rfl rfl)
theorem dX5_answers_68 : decode cX5_answers 68 = .ok (.invokevirtual 380, 3) := dk_182 1 124 (dk_at dksX5_answers_2 21 rfl rfl)
theorem dX5_answers_71 : decode cX5_answers 71 = .ok (.ireturn, 1) := dk_172 (dk_at dksX5_answers_3 0 rfl rfl)
abbrev cX5_round : ByteArray := prog_16_method_69_code
def yX5_round : MethodName := ⟨RX5, "round", "(II)I"⟩
def dkwX5_round_9 : List UInt8 := [172]
abbrev dktX5_round_9 : List UInt8 := dkwX5_round_9 ++ []
def dkwX5_round_8 : List UInt8 := [180, 0, 100, 27, 182, 1, 10, 182, 1, 14, 42, 42, 42, 180, 0, 41, 27, 182, 1, 10, 182, 1, 14, 100]
abbrev dktX5_round_8 : List UInt8 := dkwX5_round_8 ++ dktX5_round_9
def dkwX5_round_7 : List UInt8 := [167, 255, 152, 28, 154, 0, 7, 29, 167, 0, 40, 28, 4, 160, 0, 8, 21, 4, 167, 0, 30, 42, 42, 42]
abbrev dktX5_round_7 : List UInt8 := dkwX5_round_7 ++ dktX5_round_8
def dkwX5_round_6 : List UInt8 := [27, 160, 0, 7, 2, 167, 0, 17, 42, 42, 180, 0, 100, 21, 4, 42, 180, 0, 253, 182, 1, 55, 54, 5]
abbrev dktX5_round_6 : List UInt8 := dkwX5_round_6 ++ dktX5_round_7
def dkwX5_round_5 : List UInt8 := [16, 18, 21, 4, 96, 46, 182, 1, 41, 21, 6, 182, 1, 29, 87, 21, 6, 54, 4, 132, 3, 1, 21, 4]
abbrev dktX5_round_5 : List UInt8 := dkwX5_round_5 ++ dktX5_round_6
def dkwX5_round_4 : List UInt8 := [54, 6, 42, 42, 180, 0, 100, 21, 4, 21, 5, 42, 42, 180, 0, 100, 21, 4, 21, 5, 42, 180, 0, 100]
abbrev dktX5_round_4 : List UInt8 := dkwX5_round_4 ++ dktX5_round_5
def dkwX5_round_3 : List UInt8 := [162, 0, 98, 42, 42, 180, 0, 100, 21, 4, 42, 180, 0, 100, 16, 24, 21, 4, 96, 46, 182, 1, 59]
abbrev dktX5_round_3 : List UInt8 := dkwX5_round_3 ++ dktX5_round_4
def dkwX5_round_2 : List UInt8 := [180, 0, 100, 27, 42, 180, 0, 253, 182, 1, 55, 54, 5, 21, 5, 2, 159, 0, 104, 29, 16, 20]
abbrev dktX5_round_2 : List UInt8 := dkwX5_round_2 ++ dktX5_round_3
def dkwX5_round_1 : List UInt8 := [182, 0, 243, 172, 42, 180, 0, 41, 42, 180, 0, 100, 184, 0, 249, 3, 62, 27, 54, 4, 42, 42]
abbrev dktX5_round_1 : List UInt8 := dkwX5_round_1 ++ dktX5_round_2
def dkwX5_round_0 : List UInt8 := [42, 3, 181, 0, 128, 42, 27, 182, 1, 7, 153, 0, 12, 28, 3, 5, 184, 0, 131, 154, 0, 9, 42, 4]
abbrev dktX5_round_0 : List UInt8 := dkwX5_round_0 ++ dktX5_round_1
theorem dksX5_round_0 : cX5_round.data.toList.drop 0 = dktX5_round_0 := by decide +kernel
theorem dksX5_round_1 : cX5_round.data.toList.drop 24 = dktX5_round_1 := dk_seg dksX5_round_0 24 rfl rfl
theorem dksX5_round_2 : cX5_round.data.toList.drop 46 = dktX5_round_2 := dk_seg dksX5_round_1 22 rfl rfl
theorem dksX5_round_3 : cX5_round.data.toList.drop 68 = dktX5_round_3 := dk_seg dksX5_round_2 22 rfl rfl
theorem dksX5_round_4 : cX5_round.data.toList.drop 91 = dktX5_round_4 := dk_seg dksX5_round_3 23 rfl rfl
theorem dksX5_round_5 : cX5_round.data.toList.drop 115 = dktX5_round_5 := dk_seg dksX5_round_4 24 rfl rfl
theorem dksX5_round_6 : cX5_round.data.toList.drop 139 = dktX5_round_6 := dk_seg dksX5_round_5 24 rfl rfl
theorem dksX5_round_7 : cX5_round.data.toList.drop 163 = dktX5_round_7 := dk_seg dksX5_round_6 24 rfl rfl
theorem dksX5_round_8 : cX5_round.data.toList.drop 187 = dktX5_round_8 := dk_seg dksX5_round_7 24 rfl rfl
theorem dksX5_round_9 : cX5_round.data.toList.drop 211 = dktX5_round_9 := dk_seg dksX5_round_8 24 rfl rfl
theorem dX5_round_0 : decode cX5_round 0 = .ok (.aload_n 0, 1) := dk_42 (dk_at dksX5_round_0 0 rfl rfl)
theorem dX5_round_1 : decode cX5_round 1 = .ok (.iconst 0, 1) := dk_3 (dk_at dksX5_round_0 1 rfl rfl)
theorem dX5_round_2 : decode cX5_round 2 = .ok (.putfield 128, 3) := dk_181 0 128 (dk_at dksX5_round_0 2 rfl rfl)
theorem dX5_round_5 : decode cX5_round 5 = .ok (.aload_n 0, 1) := dk_42 (dk_at dksX5_round_0 5 rfl rfl)
theorem dX5_round_6 : decode cX5_round 6 = .ok (.iload_n 1, 1) := dk_27 (dk_at dksX5_round_0 6 rfl rfl)
theorem dX5_round_7 : decode cX5_round 7 = .ok (.invokevirtual 263, 3) := dk_182 1 7 (dk_at dksX5_round_0 7 rfl rfl)
theorem dX5_round_10 : decode cX5_round 10 = .ok (.ifCond .eq 12, 3) := dk_153 0 12 (dk_at dksX5_round_0 10 rfl rfl)
theorem dX5_round_13 : decode cX5_round 13 = .ok (.iload_n 2, 1) := dk_28 (dk_at dksX5_round_0 13 rfl rfl)
theorem dX5_round_14 : decode cX5_round 14 = .ok (.iconst 0, 1) := dk_3 (dk_at dksX5_round_0 14 rfl rfl)
theorem dX5_round_15 : decode cX5_round 15 = .ok (.iconst 2, 1) := dk_5 (dk_at dksX5_round_0 15 rfl rfl)
theorem dX5_round_16 : decode cX5_round 16 = .ok (.invokestatic 131, 3) := dk_184 0 131 (dk_at dksX5_round_0 16 rfl rfl)
theorem dX5_round_19 : decode cX5_round 19 = .ok (.ifCond .ne 9, 3) := dk_154 0 9 (dk_at dksX5_round_0 19 rfl rfl)
theorem dX5_round_22 : decode cX5_round 22 = .ok (.aload_n 0, 1) := dk_42 (dk_at dksX5_round_0 22 rfl rfl)
theorem dX5_round_23 : decode cX5_round 23 = .ok (.iconst 1, 1) := dk_4 (dk_at dksX5_round_0 23 rfl rfl)
theorem dX5_round_24 : decode cX5_round 24 = .ok (.invokevirtual 243, 3) := dk_182 0 243 (dk_at dksX5_round_1 0 rfl rfl)
theorem dX5_round_27 : decode cX5_round 27 = .ok (.ireturn, 1) := dk_172 (dk_at dksX5_round_1 3 rfl rfl)
theorem dX5_round_28 : decode cX5_round 28 = .ok (.aload_n 0, 1) := dk_42 (dk_at dksX5_round_1 4 rfl rfl)
theorem dX5_round_29 : decode cX5_round 29 = .ok (.getfield 41, 3) := dk_180 0 41 (dk_at dksX5_round_1 5 rfl rfl)
theorem dX5_round_32 : decode cX5_round 32 = .ok (.aload_n 0, 1) := dk_42 (dk_at dksX5_round_1 8 rfl rfl)
theorem dX5_round_33 : decode cX5_round 33 = .ok (.getfield 100, 3) := dk_180 0 100 (dk_at dksX5_round_1 9 rfl rfl)
theorem dX5_round_36 : decode cX5_round 36 = .ok (.invokestatic 249, 3) := dk_184 0 249 (dk_at dksX5_round_1 12 rfl rfl)
theorem dX5_round_39 : decode cX5_round 39 = .ok (.iconst 0, 1) := dk_3 (dk_at dksX5_round_1 15 rfl rfl)
theorem dX5_round_40 : decode cX5_round 40 = .ok (.istore_n 3, 1) := dk_62 (dk_at dksX5_round_1 16 rfl rfl)
theorem dX5_round_41 : decode cX5_round 41 = .ok (.iload_n 1, 1) := dk_27 (dk_at dksX5_round_1 17 rfl rfl)
theorem dX5_round_42 : decode cX5_round 42 = .ok (.istore 4, 2) := dk_54 4 (dk_at dksX5_round_1 18 rfl rfl)
theorem dX5_round_44 : decode cX5_round 44 = .ok (.aload_n 0, 1) := dk_42 (dk_at dksX5_round_1 20 rfl rfl)
theorem dX5_round_45 : decode cX5_round 45 = .ok (.aload_n 0, 1) := dk_42 (dk_at dksX5_round_1 21 rfl rfl)
theorem dX5_round_46 : decode cX5_round 46 = .ok (.getfield 100, 3) := dk_180 0 100 (dk_at dksX5_round_2 0 rfl rfl)
theorem dX5_round_49 : decode cX5_round 49 = .ok (.iload_n 1, 1) := dk_27 (dk_at dksX5_round_2 3 rfl rfl)
theorem dX5_round_50 : decode cX5_round 50 = .ok (.aload_n 0, 1) := dk_42 (dk_at dksX5_round_2 4 rfl rfl)
theorem dX5_round_51 : decode cX5_round 51 = .ok (.getfield 253, 3) := dk_180 0 253 (dk_at dksX5_round_2 5 rfl rfl)
theorem dX5_round_54 : decode cX5_round 54 = .ok (.invokevirtual 311, 3) := dk_182 1 55 (dk_at dksX5_round_2 8 rfl rfl)
theorem dX5_round_57 : decode cX5_round 57 = .ok (.istore 5, 2) := dk_54 5 (dk_at dksX5_round_2 11 rfl rfl)
theorem dX5_round_59 : decode cX5_round 59 = .ok (.iload 5, 2) := dk_21 5 (dk_at dksX5_round_2 13 rfl rfl)
theorem dX5_round_61 : decode cX5_round 61 = .ok (.iconst (-1), 1) := dk_2 (dk_at dksX5_round_2 15 rfl rfl)
theorem dX5_round_62 : decode cX5_round 62 = .ok (.if_icmp .eq 104, 3) := dk_159 0 104 (dk_at dksX5_round_2 16 rfl rfl)
theorem dX5_round_65 : decode cX5_round 65 = .ok (.iload_n 3, 1) := dk_29 (dk_at dksX5_round_2 19 rfl rfl)
theorem dX5_round_66 : decode cX5_round 66 = .ok (.bipush 20, 2) := dk_16 20 (dk_at dksX5_round_2 20 rfl rfl)
theorem dX5_round_68 : decode cX5_round 68 = .ok (.if_icmp .ge 98, 3) := dk_162 0 98 (dk_at dksX5_round_3 0 rfl rfl)
theorem dX5_round_71 : decode cX5_round 71 = .ok (.aload_n 0, 1) := dk_42 (dk_at dksX5_round_3 3 rfl rfl)
theorem dX5_round_72 : decode cX5_round 72 = .ok (.aload_n 0, 1) := dk_42 (dk_at dksX5_round_3 4 rfl rfl)
theorem dX5_round_73 : decode cX5_round 73 = .ok (.getfield 100, 3) := dk_180 0 100 (dk_at dksX5_round_3 5 rfl rfl)
theorem dX5_round_76 : decode cX5_round 76 = .ok (.iload 4, 2) := dk_21 4 (dk_at dksX5_round_3 8 rfl rfl)
theorem dX5_round_78 : decode cX5_round 78 = .ok (.aload_n 0, 1) := dk_42 (dk_at dksX5_round_3 10 rfl rfl)
theorem dX5_round_79 : decode cX5_round 79 = .ok (.getfield 100, 3) := dk_180 0 100 (dk_at dksX5_round_3 11 rfl rfl)
theorem dX5_round_82 : decode cX5_round 82 = .ok (.bipush 24, 2) := dk_16 24 (dk_at dksX5_round_3 14 rfl rfl)
theorem dX5_round_84 : decode cX5_round 84 = .ok (.iload 4, 2) := dk_21 4 (dk_at dksX5_round_3 16 rfl rfl)
theorem dX5_round_86 : decode cX5_round 86 = .ok (.iadd, 1) := dk_96 (dk_at dksX5_round_3 18 rfl rfl)
theorem dX5_round_87 : decode cX5_round 87 = .ok (.iaload, 1) := dk_46 (dk_at dksX5_round_3 19 rfl rfl)
theorem dX5_round_88 : decode cX5_round 88 = .ok (.invokevirtual 315, 3) := dk_182 1 59 (dk_at dksX5_round_3 20 rfl rfl)
theorem dX5_round_91 : decode cX5_round 91 = .ok (.istore 6, 2) := dk_54 6 (dk_at dksX5_round_4 0 rfl rfl)
theorem dX5_round_93 : decode cX5_round 93 = .ok (.aload_n 0, 1) := dk_42 (dk_at dksX5_round_4 2 rfl rfl)
theorem dX5_round_94 : decode cX5_round 94 = .ok (.aload_n 0, 1) := dk_42 (dk_at dksX5_round_4 3 rfl rfl)
theorem dX5_round_95 : decode cX5_round 95 = .ok (.getfield 100, 3) := dk_180 0 100 (dk_at dksX5_round_4 4 rfl rfl)
theorem dX5_round_98 : decode cX5_round 98 = .ok (.iload 4, 2) := dk_21 4 (dk_at dksX5_round_4 7 rfl rfl)
theorem dX5_round_100 : decode cX5_round 100 = .ok (.iload 5, 2) := dk_21 5 (dk_at dksX5_round_4 9 rfl rfl)
theorem dX5_round_102 : decode cX5_round 102 = .ok (.aload_n 0, 1) := dk_42 (dk_at dksX5_round_4 11 rfl rfl)
theorem dX5_round_103 : decode cX5_round 103 = .ok (.aload_n 0, 1) := dk_42 (dk_at dksX5_round_4 12 rfl rfl)
theorem dX5_round_104 : decode cX5_round 104 = .ok (.getfield 100, 3) := dk_180 0 100 (dk_at dksX5_round_4 13 rfl rfl)
theorem dX5_round_107 : decode cX5_round 107 = .ok (.iload 4, 2) := dk_21 4 (dk_at dksX5_round_4 16 rfl rfl)
theorem dX5_round_109 : decode cX5_round 109 = .ok (.iload 5, 2) := dk_21 5 (dk_at dksX5_round_4 18 rfl rfl)
theorem dX5_round_111 : decode cX5_round 111 = .ok (.aload_n 0, 1) := dk_42 (dk_at dksX5_round_4 20 rfl rfl)
theorem dX5_round_112 : decode cX5_round 112 = .ok (.getfield 100, 3) := dk_180 0 100 (dk_at dksX5_round_4 21 rfl rfl)
theorem dX5_round_115 : decode cX5_round 115 = .ok (.bipush 18, 2) := dk_16 18 (dk_at dksX5_round_5 0 rfl rfl)
theorem dX5_round_117 : decode cX5_round 117 = .ok (.iload 4, 2) := dk_21 4 (dk_at dksX5_round_5 2 rfl rfl)
theorem dX5_round_119 : decode cX5_round 119 = .ok (.iadd, 1) := dk_96 (dk_at dksX5_round_5 4 rfl rfl)
theorem dX5_round_120 : decode cX5_round 120 = .ok (.iaload, 1) := dk_46 (dk_at dksX5_round_5 5 rfl rfl)
theorem dX5_round_121 : decode cX5_round 121 = .ok (.invokevirtual 297, 3) := dk_182 1 41 (dk_at dksX5_round_5 6 rfl rfl)
theorem dX5_round_124 : decode cX5_round 124 = .ok (.iload 6, 2) := dk_21 6 (dk_at dksX5_round_5 9 rfl rfl)
theorem dX5_round_126 : decode cX5_round 126 = .ok (.invokevirtual 285, 3) := dk_182 1 29 (dk_at dksX5_round_5 11 rfl rfl)
theorem dX5_round_129 : decode cX5_round 129 = .ok (.pop, 1) := dk_87 (dk_at dksX5_round_5 14 rfl rfl)
theorem dX5_round_130 : decode cX5_round 130 = .ok (.iload 6, 2) := dk_21 6 (dk_at dksX5_round_5 15 rfl rfl)
theorem dX5_round_132 : decode cX5_round 132 = .ok (.istore 4, 2) := dk_54 4 (dk_at dksX5_round_5 17 rfl rfl)
theorem dX5_round_134 : decode cX5_round 134 = .ok (.iinc 3 1, 3) := dk_132 3 1 (dk_at dksX5_round_5 19 rfl rfl)
theorem dX5_round_137 : decode cX5_round 137 = .ok (.iload 4, 2) := dk_21 4 (dk_at dksX5_round_5 22 rfl rfl)
theorem dX5_round_139 : decode cX5_round 139 = .ok (.iload_n 1, 1) := dk_27 (dk_at dksX5_round_6 0 rfl rfl)
theorem dX5_round_140 : decode cX5_round 140 = .ok (.if_icmp .ne 7, 3) := dk_160 0 7 (dk_at dksX5_round_6 1 rfl rfl)
theorem dX5_round_143 : decode cX5_round 143 = .ok (.iconst (-1), 1) := dk_2 (dk_at dksX5_round_6 4 rfl rfl)
theorem dX5_round_144 : decode cX5_round 144 = .ok (.goto 17, 3) := dk_167 0 17 (dk_at dksX5_round_6 5 rfl rfl)
theorem dX5_round_147 : decode cX5_round 147 = .ok (.aload_n 0, 1) := dk_42 (dk_at dksX5_round_6 8 rfl rfl)
theorem dX5_round_148 : decode cX5_round 148 = .ok (.aload_n 0, 1) := dk_42 (dk_at dksX5_round_6 9 rfl rfl)
theorem dX5_round_149 : decode cX5_round 149 = .ok (.getfield 100, 3) := dk_180 0 100 (dk_at dksX5_round_6 10 rfl rfl)
theorem dX5_round_152 : decode cX5_round 152 = .ok (.iload 4, 2) := dk_21 4 (dk_at dksX5_round_6 13 rfl rfl)
theorem dX5_round_154 : decode cX5_round 154 = .ok (.aload_n 0, 1) := dk_42 (dk_at dksX5_round_6 15 rfl rfl)
theorem dX5_round_155 : decode cX5_round 155 = .ok (.getfield 253, 3) := dk_180 0 253 (dk_at dksX5_round_6 16 rfl rfl)
theorem dX5_round_158 : decode cX5_round 158 = .ok (.invokevirtual 311, 3) := dk_182 1 55 (dk_at dksX5_round_6 19 rfl rfl)
theorem dX5_round_161 : decode cX5_round 161 = .ok (.istore 5, 2) := dk_54 5 (dk_at dksX5_round_6 22 rfl rfl)
theorem dX5_round_163 : decode cX5_round 163 = .ok (.goto (-104), 3) := dk_167 255 152 (dk_at dksX5_round_7 0 rfl rfl)
theorem dX5_round_166 : decode cX5_round 166 = .ok (.iload_n 2, 1) := dk_28 (dk_at dksX5_round_7 3 rfl rfl)
theorem dX5_round_167 : decode cX5_round 167 = .ok (.ifCond .ne 7, 3) := dk_154 0 7 (dk_at dksX5_round_7 4 rfl rfl)
theorem dX5_round_170 : decode cX5_round 170 = .ok (.iload_n 3, 1) := dk_29 (dk_at dksX5_round_7 7 rfl rfl)
theorem dX5_round_171 : decode cX5_round 171 = .ok (.goto 40, 3) := dk_167 0 40 (dk_at dksX5_round_7 8 rfl rfl)
theorem dX5_round_174 : decode cX5_round 174 = .ok (.iload_n 2, 1) := dk_28 (dk_at dksX5_round_7 11 rfl rfl)
theorem dX5_round_175 : decode cX5_round 175 = .ok (.iconst 1, 1) := dk_4 (dk_at dksX5_round_7 12 rfl rfl)
theorem dX5_round_176 : decode cX5_round 176 = .ok (.if_icmp .ne 8, 3) := dk_160 0 8 (dk_at dksX5_round_7 13 rfl rfl)
theorem dX5_round_179 : decode cX5_round 179 = .ok (.iload 4, 2) := dk_21 4 (dk_at dksX5_round_7 16 rfl rfl)
theorem dX5_round_181 : decode cX5_round 181 = .ok (.goto 30, 3) := dk_167 0 30 (dk_at dksX5_round_7 18 rfl rfl)
theorem dX5_round_184 : decode cX5_round 184 = .ok (.aload_n 0, 1) := dk_42 (dk_at dksX5_round_7 21 rfl rfl)
theorem dX5_round_185 : decode cX5_round 185 = .ok (.aload_n 0, 1) := dk_42 (dk_at dksX5_round_7 22 rfl rfl)
theorem dX5_round_186 : decode cX5_round 186 = .ok (.aload_n 0, 1) := dk_42 (dk_at dksX5_round_7 23 rfl rfl)
theorem dX5_round_187 : decode cX5_round 187 = .ok (.getfield 100, 3) := dk_180 0 100 (dk_at dksX5_round_8 0 rfl rfl)
theorem dX5_round_190 : decode cX5_round 190 = .ok (.iload_n 1, 1) := dk_27 (dk_at dksX5_round_8 3 rfl rfl)
theorem dX5_round_191 : decode cX5_round 191 = .ok (.invokevirtual 266, 3) := dk_182 1 10 (dk_at dksX5_round_8 4 rfl rfl)
theorem dX5_round_194 : decode cX5_round 194 = .ok (.invokevirtual 270, 3) := dk_182 1 14 (dk_at dksX5_round_8 7 rfl rfl)
theorem dX5_round_197 : decode cX5_round 197 = .ok (.aload_n 0, 1) := dk_42 (dk_at dksX5_round_8 10 rfl rfl)
theorem dX5_round_198 : decode cX5_round 198 = .ok (.aload_n 0, 1) := dk_42 (dk_at dksX5_round_8 11 rfl rfl)
theorem dX5_round_199 : decode cX5_round 199 = .ok (.aload_n 0, 1) := dk_42 (dk_at dksX5_round_8 12 rfl rfl)
theorem dX5_round_200 : decode cX5_round 200 = .ok (.getfield 41, 3) := dk_180 0 41 (dk_at dksX5_round_8 13 rfl rfl)
theorem dX5_round_203 : decode cX5_round 203 = .ok (.iload_n 1, 1) := dk_27 (dk_at dksX5_round_8 16 rfl rfl)
theorem dX5_round_204 : decode cX5_round 204 = .ok (.invokevirtual 266, 3) := dk_182 1 10 (dk_at dksX5_round_8 17 rfl rfl)
theorem dX5_round_207 : decode cX5_round 207 = .ok (.invokevirtual 270, 3) := dk_182 1 14 (dk_at dksX5_round_8 20 rfl rfl)
theorem dX5_round_210 : decode cX5_round 210 = .ok (.isub, 1) := dk_100 (dk_at dksX5_round_8 23 rfl rfl)
theorem dX5_round_211 : decode cX5_round 211 = .ok (.ireturn, 1) := dk_172 (dk_at dksX5_round_9 0 rfl rfl)
abbrev cX5_days : ByteArray := prog_16_method_71_code
def yX5_days : MethodName := ⟨RX5, "days", "(I)I"⟩
def dkwX5_days_6 : List UInt8 := [182, 1, 127, 42, 89, 180, 0, 253, 4, 96, 181, 0, 253, 132, 3, 1, 167, 255, 126, 28, 172]
abbrev dktX5_days_6 : List UInt8 := dkwX5_days_6 ++ []
def dkwX5_days_5 : List UInt8 := [16, 24, 21, 4, 96, 46, 182, 1, 59, 182, 1, 37, 132, 2, 1, 132, 4, 1, 167, 255, 154, 42]
abbrev dktX5_days_5 : List UInt8 := dkwX5_days_5 ++ dktX5_days_6
def dkwX5_days_4 : List UInt8 := [180, 0, 41, 16, 18, 21, 4, 96, 46, 182, 1, 41, 42, 42, 180, 0, 41, 21, 4, 42, 180, 0, 41]
abbrev dktX5_days_4 : List UInt8 := dkwX5_days_4 ++ dktX5_days_5
def dkwX5_days_3 : List UInt8 := [17, 0, 200, 160, 0, 6, 167, 0, 56, 42, 21, 4, 21, 5, 42, 42, 180, 0, 41, 21, 4, 21, 5, 42]
abbrev dktX5_days_3 : List UInt8 := dkwX5_days_3 ++ dktX5_days_4
def dkwX5_days_2 : List UInt8 := [180, 0, 41, 21, 4, 42, 180, 0, 253, 182, 1, 55, 54, 5, 21, 5, 2, 159, 0, 69, 42, 180, 1, 0]
abbrev dktX5_days_2 : List UInt8 := dkwX5_days_2 ++ dktX5_days_3
def dkwX5_days_1 : List UInt8 := [62, 29, 27, 162, 0, 131, 3, 54, 4, 21, 4, 42, 180, 0, 25, 3, 46, 162, 0, 97, 42, 42]
abbrev dktX5_days_1 : List UInt8 := dkwX5_days_1 ++ dktX5_days_2
def dkwX5_days_0 : List UInt8 := [42, 3, 181, 0, 128, 27, 3, 16, 60, 184, 0, 131, 154, 0, 9, 42, 4, 182, 0, 243, 172, 3, 61, 3]
abbrev dktX5_days_0 : List UInt8 := dkwX5_days_0 ++ dktX5_days_1
theorem dksX5_days_0 : cX5_days.data.toList.drop 0 = dktX5_days_0 := by decide +kernel
theorem dksX5_days_1 : cX5_days.data.toList.drop 24 = dktX5_days_1 := dk_seg dksX5_days_0 24 rfl rfl
theorem dksX5_days_2 : cX5_days.data.toList.drop 46 = dktX5_days_2 := dk_seg dksX5_days_1 22 rfl rfl
theorem dksX5_days_3 : cX5_days.data.toList.drop 70 = dktX5_days_3 := dk_seg dksX5_days_2 24 rfl rfl
theorem dksX5_days_4 : cX5_days.data.toList.drop 94 = dktX5_days_4 := dk_seg dksX5_days_3 24 rfl rfl
theorem dksX5_days_5 : cX5_days.data.toList.drop 117 = dktX5_days_5 := dk_seg dksX5_days_4 23 rfl rfl
theorem dksX5_days_6 : cX5_days.data.toList.drop 139 = dktX5_days_6 := dk_seg dksX5_days_5 22 rfl rfl
theorem dX5_days_0 : decode cX5_days 0 = .ok (.aload_n 0, 1) := dk_42 (dk_at dksX5_days_0 0 rfl rfl)
theorem dX5_days_1 : decode cX5_days 1 = .ok (.iconst 0, 1) := dk_3 (dk_at dksX5_days_0 1 rfl rfl)
theorem dX5_days_2 : decode cX5_days 2 = .ok (.putfield 128, 3) := dk_181 0 128 (dk_at dksX5_days_0 2 rfl rfl)
theorem dX5_days_5 : decode cX5_days 5 = .ok (.iload_n 1, 1) := dk_27 (dk_at dksX5_days_0 5 rfl rfl)
theorem dX5_days_6 : decode cX5_days 6 = .ok (.iconst 0, 1) := dk_3 (dk_at dksX5_days_0 6 rfl rfl)
theorem dX5_days_7 : decode cX5_days 7 = .ok (.bipush 60, 2) := dk_16 60 (dk_at dksX5_days_0 7 rfl rfl)
theorem dX5_days_9 : decode cX5_days 9 = .ok (.invokestatic 131, 3) := dk_184 0 131 (dk_at dksX5_days_0 9 rfl rfl)
theorem dX5_days_12 : decode cX5_days 12 = .ok (.ifCond .ne 9, 3) := dk_154 0 9 (dk_at dksX5_days_0 12 rfl rfl)
theorem dX5_days_15 : decode cX5_days 15 = .ok (.aload_n 0, 1) := dk_42 (dk_at dksX5_days_0 15 rfl rfl)
theorem dX5_days_16 : decode cX5_days 16 = .ok (.iconst 1, 1) := dk_4 (dk_at dksX5_days_0 16 rfl rfl)
theorem dX5_days_17 : decode cX5_days 17 = .ok (.invokevirtual 243, 3) := dk_182 0 243 (dk_at dksX5_days_0 17 rfl rfl)
theorem dX5_days_20 : decode cX5_days 20 = .ok (.ireturn, 1) := dk_172 (dk_at dksX5_days_0 20 rfl rfl)
theorem dX5_days_21 : decode cX5_days 21 = .ok (.iconst 0, 1) := dk_3 (dk_at dksX5_days_0 21 rfl rfl)
theorem dX5_days_22 : decode cX5_days 22 = .ok (.istore_n 2, 1) := dk_61 (dk_at dksX5_days_0 22 rfl rfl)
theorem dX5_days_23 : decode cX5_days 23 = .ok (.iconst 0, 1) := dk_3 (dk_at dksX5_days_0 23 rfl rfl)
theorem dX5_days_24 : decode cX5_days 24 = .ok (.istore_n 3, 1) := dk_62 (dk_at dksX5_days_1 0 rfl rfl)
theorem dX5_days_25 : decode cX5_days 25 = .ok (.iload_n 3, 1) := dk_29 (dk_at dksX5_days_1 1 rfl rfl)
theorem dX5_days_26 : decode cX5_days 26 = .ok (.iload_n 1, 1) := dk_27 (dk_at dksX5_days_1 2 rfl rfl)
theorem dX5_days_27 : decode cX5_days 27 = .ok (.if_icmp .ge 131, 3) := dk_162 0 131 (dk_at dksX5_days_1 3 rfl rfl)
theorem dX5_days_30 : decode cX5_days 30 = .ok (.iconst 0, 1) := dk_3 (dk_at dksX5_days_1 6 rfl rfl)
theorem dX5_days_31 : decode cX5_days 31 = .ok (.istore 4, 2) := dk_54 4 (dk_at dksX5_days_1 7 rfl rfl)
theorem dX5_days_33 : decode cX5_days 33 = .ok (.iload 4, 2) := dk_21 4 (dk_at dksX5_days_1 9 rfl rfl)
theorem dX5_days_35 : decode cX5_days 35 = .ok (.aload_n 0, 1) := dk_42 (dk_at dksX5_days_1 11 rfl rfl)
theorem dX5_days_36 : decode cX5_days 36 = .ok (.getfield 25, 3) := dk_180 0 25 (dk_at dksX5_days_1 12 rfl rfl)
theorem dX5_days_39 : decode cX5_days 39 = .ok (.iconst 0, 1) := dk_3 (dk_at dksX5_days_1 15 rfl rfl)
theorem dX5_days_40 : decode cX5_days 40 = .ok (.iaload, 1) := dk_46 (dk_at dksX5_days_1 16 rfl rfl)
theorem dX5_days_41 : decode cX5_days 41 = .ok (.if_icmp .ge 97, 3) := dk_162 0 97 (dk_at dksX5_days_1 17 rfl rfl)
theorem dX5_days_44 : decode cX5_days 44 = .ok (.aload_n 0, 1) := dk_42 (dk_at dksX5_days_1 20 rfl rfl)
theorem dX5_days_45 : decode cX5_days 45 = .ok (.aload_n 0, 1) := dk_42 (dk_at dksX5_days_1 21 rfl rfl)
theorem dX5_days_46 : decode cX5_days 46 = .ok (.getfield 41, 3) := dk_180 0 41 (dk_at dksX5_days_2 0 rfl rfl)
theorem dX5_days_49 : decode cX5_days 49 = .ok (.iload 4, 2) := dk_21 4 (dk_at dksX5_days_2 3 rfl rfl)
theorem dX5_days_51 : decode cX5_days 51 = .ok (.aload_n 0, 1) := dk_42 (dk_at dksX5_days_2 5 rfl rfl)
theorem dX5_days_52 : decode cX5_days 52 = .ok (.getfield 253, 3) := dk_180 0 253 (dk_at dksX5_days_2 6 rfl rfl)
theorem dX5_days_55 : decode cX5_days 55 = .ok (.invokevirtual 311, 3) := dk_182 1 55 (dk_at dksX5_days_2 9 rfl rfl)
theorem dX5_days_58 : decode cX5_days 58 = .ok (.istore 5, 2) := dk_54 5 (dk_at dksX5_days_2 12 rfl rfl)
theorem dX5_days_60 : decode cX5_days 60 = .ok (.iload 5, 2) := dk_21 5 (dk_at dksX5_days_2 14 rfl rfl)
theorem dX5_days_62 : decode cX5_days 62 = .ok (.iconst (-1), 1) := dk_2 (dk_at dksX5_days_2 16 rfl rfl)
theorem dX5_days_63 : decode cX5_days 63 = .ok (.if_icmp .eq 69, 3) := dk_159 0 69 (dk_at dksX5_days_2 17 rfl rfl)
theorem dX5_days_66 : decode cX5_days 66 = .ok (.aload_n 0, 1) := dk_42 (dk_at dksX5_days_2 20 rfl rfl)
theorem dX5_days_67 : decode cX5_days 67 = .ok (.getfield 256, 3) := dk_180 1 0 (dk_at dksX5_days_2 21 rfl rfl)
theorem dX5_days_70 : decode cX5_days 70 = .ok (.sipush 200, 3) := dk_17 0 200 (dk_at dksX5_days_3 0 rfl rfl)
theorem dX5_days_73 : decode cX5_days 73 = .ok (.if_icmp .ne 6, 3) := dk_160 0 6 (dk_at dksX5_days_3 3 rfl rfl)
theorem dX5_days_76 : decode cX5_days 76 = .ok (.goto 56, 3) := dk_167 0 56 (dk_at dksX5_days_3 6 rfl rfl)
theorem dX5_days_79 : decode cX5_days 79 = .ok (.aload_n 0, 1) := dk_42 (dk_at dksX5_days_3 9 rfl rfl)
theorem dX5_days_80 : decode cX5_days 80 = .ok (.iload 4, 2) := dk_21 4 (dk_at dksX5_days_3 10 rfl rfl)
theorem dX5_days_82 : decode cX5_days 82 = .ok (.iload 5, 2) := dk_21 5 (dk_at dksX5_days_3 12 rfl rfl)
theorem dX5_days_84 : decode cX5_days 84 = .ok (.aload_n 0, 1) := dk_42 (dk_at dksX5_days_3 14 rfl rfl)
theorem dX5_days_85 : decode cX5_days 85 = .ok (.aload_n 0, 1) := dk_42 (dk_at dksX5_days_3 15 rfl rfl)
theorem dX5_days_86 : decode cX5_days 86 = .ok (.getfield 41, 3) := dk_180 0 41 (dk_at dksX5_days_3 16 rfl rfl)
theorem dX5_days_89 : decode cX5_days 89 = .ok (.iload 4, 2) := dk_21 4 (dk_at dksX5_days_3 19 rfl rfl)
theorem dX5_days_91 : decode cX5_days 91 = .ok (.iload 5, 2) := dk_21 5 (dk_at dksX5_days_3 21 rfl rfl)
theorem dX5_days_93 : decode cX5_days 93 = .ok (.aload_n 0, 1) := dk_42 (dk_at dksX5_days_3 23 rfl rfl)
theorem dX5_days_94 : decode cX5_days 94 = .ok (.getfield 41, 3) := dk_180 0 41 (dk_at dksX5_days_4 0 rfl rfl)
theorem dX5_days_97 : decode cX5_days 97 = .ok (.bipush 18, 2) := dk_16 18 (dk_at dksX5_days_4 3 rfl rfl)
theorem dX5_days_99 : decode cX5_days 99 = .ok (.iload 4, 2) := dk_21 4 (dk_at dksX5_days_4 5 rfl rfl)
theorem dX5_days_101 : decode cX5_days 101 = .ok (.iadd, 1) := dk_96 (dk_at dksX5_days_4 7 rfl rfl)
theorem dX5_days_102 : decode cX5_days 102 = .ok (.iaload, 1) := dk_46 (dk_at dksX5_days_4 8 rfl rfl)
theorem dX5_days_103 : decode cX5_days 103 = .ok (.invokevirtual 297, 3) := dk_182 1 41 (dk_at dksX5_days_4 9 rfl rfl)
theorem dX5_days_106 : decode cX5_days 106 = .ok (.aload_n 0, 1) := dk_42 (dk_at dksX5_days_4 12 rfl rfl)
theorem dX5_days_107 : decode cX5_days 107 = .ok (.aload_n 0, 1) := dk_42 (dk_at dksX5_days_4 13 rfl rfl)
theorem dX5_days_108 : decode cX5_days 108 = .ok (.getfield 41, 3) := dk_180 0 41 (dk_at dksX5_days_4 14 rfl rfl)
theorem dX5_days_111 : decode cX5_days 111 = .ok (.iload 4, 2) := dk_21 4 (dk_at dksX5_days_4 17 rfl rfl)
theorem dX5_days_113 : decode cX5_days 113 = .ok (.aload_n 0, 1) := dk_42 (dk_at dksX5_days_4 19 rfl rfl)
theorem dX5_days_114 : decode cX5_days 114 = .ok (.getfield 41, 3) := dk_180 0 41 (dk_at dksX5_days_4 20 rfl rfl)
theorem dX5_days_117 : decode cX5_days 117 = .ok (.bipush 24, 2) := dk_16 24 (dk_at dksX5_days_5 0 rfl rfl)
theorem dX5_days_119 : decode cX5_days 119 = .ok (.iload 4, 2) := dk_21 4 (dk_at dksX5_days_5 2 rfl rfl)
theorem dX5_days_121 : decode cX5_days 121 = .ok (.iadd, 1) := dk_96 (dk_at dksX5_days_5 4 rfl rfl)
theorem dX5_days_122 : decode cX5_days 122 = .ok (.iaload, 1) := dk_46 (dk_at dksX5_days_5 5 rfl rfl)
theorem dX5_days_123 : decode cX5_days 123 = .ok (.invokevirtual 315, 3) := dk_182 1 59 (dk_at dksX5_days_5 6 rfl rfl)
theorem dX5_days_126 : decode cX5_days 126 = .ok (.invokevirtual 293, 3) := dk_182 1 37 (dk_at dksX5_days_5 9 rfl rfl)
theorem dX5_days_129 : decode cX5_days 129 = .ok (.iinc 2 1, 3) := dk_132 2 1 (dk_at dksX5_days_5 12 rfl rfl)
theorem dX5_days_132 : decode cX5_days 132 = .ok (.iinc 4 1, 3) := dk_132 4 1 (dk_at dksX5_days_5 15 rfl rfl)
theorem dX5_days_135 : decode cX5_days 135 = .ok (.goto (-102), 3) := dk_167 255 154 (dk_at dksX5_days_5 18 rfl rfl)
theorem dX5_days_138 : decode cX5_days 138 = .ok (.aload_n 0, 1) := dk_42 (dk_at dksX5_days_5 21 rfl rfl)
theorem dX5_days_139 : decode cX5_days 139 = .ok (.invokevirtual 383, 3) := dk_182 1 127 (dk_at dksX5_days_6 0 rfl rfl)
theorem dX5_days_142 : decode cX5_days 142 = .ok (.aload_n 0, 1) := dk_42 (dk_at dksX5_days_6 3 rfl rfl)
theorem dX5_days_143 : decode cX5_days 143 = .ok (.dup, 1) := dk_89 (dk_at dksX5_days_6 4 rfl rfl)
theorem dX5_days_144 : decode cX5_days 144 = .ok (.getfield 253, 3) := dk_180 0 253 (dk_at dksX5_days_6 5 rfl rfl)
theorem dX5_days_147 : decode cX5_days 147 = .ok (.iconst 1, 1) := dk_4 (dk_at dksX5_days_6 8 rfl rfl)
theorem dX5_days_148 : decode cX5_days 148 = .ok (.iadd, 1) := dk_96 (dk_at dksX5_days_6 9 rfl rfl)
theorem dX5_days_149 : decode cX5_days 149 = .ok (.putfield 253, 3) := dk_181 0 253 (dk_at dksX5_days_6 10 rfl rfl)
theorem dX5_days_152 : decode cX5_days 152 = .ok (.iinc 3 1, 3) := dk_132 3 1 (dk_at dksX5_days_6 13 rfl rfl)
theorem dX5_days_155 : decode cX5_days 155 = .ok (.goto (-130), 3) := dk_167 255 126 (dk_at dksX5_days_6 16 rfl rfl)
theorem dX5_days_158 : decode cX5_days 158 = .ok (.iload_n 2, 1) := dk_28 (dk_at dksX5_days_6 19 rfl rfl)
theorem dX5_days_159 : decode cX5_days 159 = .ok (.ireturn, 1) := dk_172 (dk_at dksX5_days_6 20 rfl rfl)
abbrev cX5_dry : ByteArray := prog_16_method_70_code
def yX5_dry : MethodName := ⟨RX5, "dry", "()V"⟩
def dkwX5_dry_2 : List UInt8 := [167, 255, 214, 177]
abbrev dktX5_dry_2 : List UInt8 := dkwX5_dry_2 ++ []
def dkwX5_dry_1 : List UInt8 := [180, 0, 47, 27, 46, 4, 164, 0, 13, 42, 180, 0, 47, 27, 92, 46, 4, 100, 79, 132, 1, 1]
abbrev dktX5_dry_1 : List UInt8 := dkwX5_dry_1 ++ dktX5_dry_2
def dkwX5_dry_0 : List UInt8 := [3, 60, 27, 42, 180, 0, 25, 4, 46, 162, 0, 38, 42, 180, 0, 53, 27, 51, 153, 0, 23, 42]
abbrev dktX5_dry_0 : List UInt8 := dkwX5_dry_0 ++ dktX5_dry_1
theorem dksX5_dry_0 : cX5_dry.data.toList.drop 0 = dktX5_dry_0 := by decide +kernel
theorem dksX5_dry_1 : cX5_dry.data.toList.drop 22 = dktX5_dry_1 := dk_seg dksX5_dry_0 22 rfl rfl
theorem dksX5_dry_2 : cX5_dry.data.toList.drop 44 = dktX5_dry_2 := dk_seg dksX5_dry_1 22 rfl rfl
theorem dX5_dry_0 : decode cX5_dry 0 = .ok (.iconst 0, 1) := dk_3 (dk_at dksX5_dry_0 0 rfl rfl)
theorem dX5_dry_1 : decode cX5_dry 1 = .ok (.istore_n 1, 1) := dk_60 (dk_at dksX5_dry_0 1 rfl rfl)
theorem dX5_dry_2 : decode cX5_dry 2 = .ok (.iload_n 1, 1) := dk_27 (dk_at dksX5_dry_0 2 rfl rfl)
theorem dX5_dry_3 : decode cX5_dry 3 = .ok (.aload_n 0, 1) := dk_42 (dk_at dksX5_dry_0 3 rfl rfl)
theorem dX5_dry_4 : decode cX5_dry 4 = .ok (.getfield 25, 3) := dk_180 0 25 (dk_at dksX5_dry_0 4 rfl rfl)
theorem dX5_dry_7 : decode cX5_dry 7 = .ok (.iconst 1, 1) := dk_4 (dk_at dksX5_dry_0 7 rfl rfl)
theorem dX5_dry_8 : decode cX5_dry 8 = .ok (.iaload, 1) := dk_46 (dk_at dksX5_dry_0 8 rfl rfl)
theorem dX5_dry_9 : decode cX5_dry 9 = .ok (.if_icmp .ge 38, 3) := dk_162 0 38 (dk_at dksX5_dry_0 9 rfl rfl)
theorem dX5_dry_12 : decode cX5_dry 12 = .ok (.aload_n 0, 1) := dk_42 (dk_at dksX5_dry_0 12 rfl rfl)
theorem dX5_dry_13 : decode cX5_dry 13 = .ok (.getfield 53, 3) := dk_180 0 53 (dk_at dksX5_dry_0 13 rfl rfl)
theorem dX5_dry_16 : decode cX5_dry 16 = .ok (.iload_n 1, 1) := dk_27 (dk_at dksX5_dry_0 16 rfl rfl)
theorem dX5_dry_17 : decode cX5_dry 17 = .ok (.baload, 1) := dk_51 (dk_at dksX5_dry_0 17 rfl rfl)
theorem dX5_dry_18 : decode cX5_dry 18 = .ok (.ifCond .eq 23, 3) := dk_153 0 23 (dk_at dksX5_dry_0 18 rfl rfl)
theorem dX5_dry_21 : decode cX5_dry 21 = .ok (.aload_n 0, 1) := dk_42 (dk_at dksX5_dry_0 21 rfl rfl)
theorem dX5_dry_22 : decode cX5_dry 22 = .ok (.getfield 47, 3) := dk_180 0 47 (dk_at dksX5_dry_1 0 rfl rfl)
theorem dX5_dry_25 : decode cX5_dry 25 = .ok (.iload_n 1, 1) := dk_27 (dk_at dksX5_dry_1 3 rfl rfl)
theorem dX5_dry_26 : decode cX5_dry 26 = .ok (.iaload, 1) := dk_46 (dk_at dksX5_dry_1 4 rfl rfl)
theorem dX5_dry_27 : decode cX5_dry 27 = .ok (.iconst 1, 1) := dk_4 (dk_at dksX5_dry_1 5 rfl rfl)
theorem dX5_dry_28 : decode cX5_dry 28 = .ok (.if_icmp .le 13, 3) := dk_164 0 13 (dk_at dksX5_dry_1 6 rfl rfl)
theorem dX5_dry_31 : decode cX5_dry 31 = .ok (.aload_n 0, 1) := dk_42 (dk_at dksX5_dry_1 9 rfl rfl)
theorem dX5_dry_32 : decode cX5_dry 32 = .ok (.getfield 47, 3) := dk_180 0 47 (dk_at dksX5_dry_1 10 rfl rfl)
theorem dX5_dry_35 : decode cX5_dry 35 = .ok (.iload_n 1, 1) := dk_27 (dk_at dksX5_dry_1 13 rfl rfl)
theorem dX5_dry_36 : decode cX5_dry 36 = .ok (.dup2, 1) := dk_92 (dk_at dksX5_dry_1 14 rfl rfl)
theorem dX5_dry_37 : decode cX5_dry 37 = .ok (.iaload, 1) := dk_46 (dk_at dksX5_dry_1 15 rfl rfl)
theorem dX5_dry_38 : decode cX5_dry 38 = .ok (.iconst 1, 1) := dk_4 (dk_at dksX5_dry_1 16 rfl rfl)
theorem dX5_dry_39 : decode cX5_dry 39 = .ok (.isub, 1) := dk_100 (dk_at dksX5_dry_1 17 rfl rfl)
theorem dX5_dry_40 : decode cX5_dry 40 = .ok (.iastore, 1) := dk_79 (dk_at dksX5_dry_1 18 rfl rfl)
theorem dX5_dry_41 : decode cX5_dry 41 = .ok (.iinc 1 1, 3) := dk_132 1 1 (dk_at dksX5_dry_1 19 rfl rfl)
theorem dX5_dry_44 : decode cX5_dry 44 = .ok (.goto (-42), 3) := dk_167 255 214 (dk_at dksX5_dry_2 0 rfl rfl)
theorem dX5_dry_47 : decode cX5_dry 47 = .ok (.return_, 1) := dk_177 (dk_at dksX5_dry_2 3 rfl rfl)
abbrev cX5_still : ByteArray := prog_16_method_74_code
def yX5_still : MethodName := ⟨RX5, "still", "()I"⟩
def dkwX5_still_3 : List UInt8 := [167, 255, 235, 27, 172]
abbrev dktX5_still_3 : List UInt8 := dkwX5_still_3 ++ []
def dkwX5_still_2 : List UInt8 := [61, 28, 16, 12, 162, 0, 21, 42, 180, 0, 47, 28, 42, 180, 0, 109, 28, 46, 79, 132, 2, 1]
abbrev dktX5_still_2 : List UInt8 := dkwX5_still_2 ++ dktX5_still_3
def dkwX5_still_1 : List UInt8 := [42, 180, 0, 109, 27, 42, 180, 0, 47, 27, 46, 79, 132, 1, 1, 167, 255, 235, 42, 182, 1, 134, 60, 3]
abbrev dktX5_still_1 : List UInt8 := dkwX5_still_1 ++ dktX5_still_2
def dkwX5_still_0 : List UInt8 := [42, 3, 181, 0, 128, 42, 180, 0, 41, 42, 180, 0, 100, 184, 0, 249, 3, 60, 27, 16, 12, 162, 0, 21]
abbrev dktX5_still_0 : List UInt8 := dkwX5_still_0 ++ dktX5_still_1
theorem dksX5_still_0 : cX5_still.data.toList.drop 0 = dktX5_still_0 := by decide +kernel
theorem dksX5_still_1 : cX5_still.data.toList.drop 24 = dktX5_still_1 := dk_seg dksX5_still_0 24 rfl rfl
theorem dksX5_still_2 : cX5_still.data.toList.drop 48 = dktX5_still_2 := dk_seg dksX5_still_1 24 rfl rfl
theorem dksX5_still_3 : cX5_still.data.toList.drop 70 = dktX5_still_3 := dk_seg dksX5_still_2 22 rfl rfl
theorem dX5_still_0 : decode cX5_still 0 = .ok (.aload_n 0, 1) := dk_42 (dk_at dksX5_still_0 0 rfl rfl)
theorem dX5_still_1 : decode cX5_still 1 = .ok (.iconst 0, 1) := dk_3 (dk_at dksX5_still_0 1 rfl rfl)
theorem dX5_still_2 : decode cX5_still 2 = .ok (.putfield 128, 3) := dk_181 0 128 (dk_at dksX5_still_0 2 rfl rfl)
theorem dX5_still_5 : decode cX5_still 5 = .ok (.aload_n 0, 1) := dk_42 (dk_at dksX5_still_0 5 rfl rfl)
theorem dX5_still_6 : decode cX5_still 6 = .ok (.getfield 41, 3) := dk_180 0 41 (dk_at dksX5_still_0 6 rfl rfl)
theorem dX5_still_9 : decode cX5_still 9 = .ok (.aload_n 0, 1) := dk_42 (dk_at dksX5_still_0 9 rfl rfl)
theorem dX5_still_10 : decode cX5_still 10 = .ok (.getfield 100, 3) := dk_180 0 100 (dk_at dksX5_still_0 10 rfl rfl)
theorem dX5_still_13 : decode cX5_still 13 = .ok (.invokestatic 249, 3) := dk_184 0 249 (dk_at dksX5_still_0 13 rfl rfl)
theorem dX5_still_16 : decode cX5_still 16 = .ok (.iconst 0, 1) := dk_3 (dk_at dksX5_still_0 16 rfl rfl)
theorem dX5_still_17 : decode cX5_still 17 = .ok (.istore_n 1, 1) := dk_60 (dk_at dksX5_still_0 17 rfl rfl)
theorem dX5_still_18 : decode cX5_still 18 = .ok (.iload_n 1, 1) := dk_27 (dk_at dksX5_still_0 18 rfl rfl)
theorem dX5_still_19 : decode cX5_still 19 = .ok (.bipush 12, 2) := dk_16 12 (dk_at dksX5_still_0 19 rfl rfl)
theorem dX5_still_21 : decode cX5_still 21 = .ok (.if_icmp .ge 21, 3) := dk_162 0 21 (dk_at dksX5_still_0 21 rfl rfl)
theorem dX5_still_24 : decode cX5_still 24 = .ok (.aload_n 0, 1) := dk_42 (dk_at dksX5_still_1 0 rfl rfl)
theorem dX5_still_25 : decode cX5_still 25 = .ok (.getfield 109, 3) := dk_180 0 109 (dk_at dksX5_still_1 1 rfl rfl)
theorem dX5_still_28 : decode cX5_still 28 = .ok (.iload_n 1, 1) := dk_27 (dk_at dksX5_still_1 4 rfl rfl)
theorem dX5_still_29 : decode cX5_still 29 = .ok (.aload_n 0, 1) := dk_42 (dk_at dksX5_still_1 5 rfl rfl)
theorem dX5_still_30 : decode cX5_still 30 = .ok (.getfield 47, 3) := dk_180 0 47 (dk_at dksX5_still_1 6 rfl rfl)
theorem dX5_still_33 : decode cX5_still 33 = .ok (.iload_n 1, 1) := dk_27 (dk_at dksX5_still_1 9 rfl rfl)
theorem dX5_still_34 : decode cX5_still 34 = .ok (.iaload, 1) := dk_46 (dk_at dksX5_still_1 10 rfl rfl)
theorem dX5_still_35 : decode cX5_still 35 = .ok (.iastore, 1) := dk_79 (dk_at dksX5_still_1 11 rfl rfl)
theorem dX5_still_36 : decode cX5_still 36 = .ok (.iinc 1 1, 3) := dk_132 1 1 (dk_at dksX5_still_1 12 rfl rfl)
theorem dX5_still_39 : decode cX5_still 39 = .ok (.goto (-21), 3) := dk_167 255 235 (dk_at dksX5_still_1 15 rfl rfl)
theorem dX5_still_42 : decode cX5_still 42 = .ok (.aload_n 0, 1) := dk_42 (dk_at dksX5_still_1 18 rfl rfl)
theorem dX5_still_43 : decode cX5_still 43 = .ok (.invokevirtual 390, 3) := dk_182 1 134 (dk_at dksX5_still_1 19 rfl rfl)
theorem dX5_still_46 : decode cX5_still 46 = .ok (.istore_n 1, 1) := dk_60 (dk_at dksX5_still_1 22 rfl rfl)
theorem dX5_still_47 : decode cX5_still 47 = .ok (.iconst 0, 1) := dk_3 (dk_at dksX5_still_1 23 rfl rfl)
theorem dX5_still_48 : decode cX5_still 48 = .ok (.istore_n 2, 1) := dk_61 (dk_at dksX5_still_2 0 rfl rfl)
theorem dX5_still_49 : decode cX5_still 49 = .ok (.iload_n 2, 1) := dk_28 (dk_at dksX5_still_2 1 rfl rfl)
theorem dX5_still_50 : decode cX5_still 50 = .ok (.bipush 12, 2) := dk_16 12 (dk_at dksX5_still_2 2 rfl rfl)
theorem dX5_still_52 : decode cX5_still 52 = .ok (.if_icmp .ge 21, 3) := dk_162 0 21 (dk_at dksX5_still_2 4 rfl rfl)
theorem dX5_still_55 : decode cX5_still 55 = .ok (.aload_n 0, 1) := dk_42 (dk_at dksX5_still_2 7 rfl rfl)
theorem dX5_still_56 : decode cX5_still 56 = .ok (.getfield 47, 3) := dk_180 0 47 (dk_at dksX5_still_2 8 rfl rfl)
theorem dX5_still_59 : decode cX5_still 59 = .ok (.iload_n 2, 1) := dk_28 (dk_at dksX5_still_2 11 rfl rfl)
theorem dX5_still_60 : decode cX5_still 60 = .ok (.aload_n 0, 1) := dk_42 (dk_at dksX5_still_2 12 rfl rfl)
theorem dX5_still_61 : decode cX5_still 61 = .ok (.getfield 109, 3) := dk_180 0 109 (dk_at dksX5_still_2 13 rfl rfl)
theorem dX5_still_64 : decode cX5_still 64 = .ok (.iload_n 2, 1) := dk_28 (dk_at dksX5_still_2 16 rfl rfl)
theorem dX5_still_65 : decode cX5_still 65 = .ok (.iaload, 1) := dk_46 (dk_at dksX5_still_2 17 rfl rfl)
theorem dX5_still_66 : decode cX5_still 66 = .ok (.iastore, 1) := dk_79 (dk_at dksX5_still_2 18 rfl rfl)
theorem dX5_still_67 : decode cX5_still 67 = .ok (.iinc 2 1, 3) := dk_132 2 1 (dk_at dksX5_still_2 19 rfl rfl)
theorem dX5_still_70 : decode cX5_still 70 = .ok (.goto (-21), 3) := dk_167 255 235 (dk_at dksX5_still_3 0 rfl rfl)
theorem dX5_still_73 : decode cX5_still 73 = .ok (.iload_n 1, 1) := dk_27 (dk_at dksX5_still_3 3 rfl rfl)
theorem dX5_still_74 : decode cX5_still 74 = .ok (.ireturn, 1) := dk_172 (dk_at dksX5_still_3 4 rfl rfl)
abbrev cX5_stillFrom : ByteArray := prog_16_method_73_code
def yX5_stillFrom : MethodName := ⟨RX5, "stillFrom", "()I"⟩
def dkwX5_stillFrom_5 : List UInt8 := [180, 0, 100, 27, 182, 1, 130, 153, 0, 5, 27, 172, 42, 182, 1, 127, 132, 1, 1, 167, 255, 127, 2, 172]
abbrev dktX5_stillFrom_5 : List UInt8 := dkwX5_stillFrom_5 ++ []
def dkwX5_stillFrom_4 : List UInt8 := [96, 46, 182, 1, 59, 182, 1, 29, 87, 4, 61, 132, 3, 1, 167, 255, 170, 28, 154, 0, 17, 42, 42]
abbrev dktX5_stillFrom_4 : List UInt8 := dkwX5_stillFrom_4 ++ dktX5_stillFrom_5
def dkwX5_stillFrom_3 : List UInt8 := [180, 0, 100, 16, 18, 29, 96, 46, 182, 1, 41, 42, 42, 180, 0, 100, 29, 42, 180, 0, 100, 16, 24, 29]
abbrev dktX5_stillFrom_3 : List UInt8 := dkwX5_stillFrom_3 ++ dktX5_stillFrom_4
def dkwX5_stillFrom_2 : List UInt8 := [160, 0, 6, 167, 0, 55, 42, 42, 180, 0, 100, 29, 21, 4, 42, 42, 180, 0, 100, 29, 21, 4, 42]
abbrev dktX5_stillFrom_2 : List UInt8 := dkwX5_stillFrom_2 ++ dktX5_stillFrom_3
def dkwX5_stillFrom_1 : List UInt8 := [180, 0, 25, 3, 46, 162, 0, 82, 42, 42, 180, 0, 100, 29, 27, 182, 1, 55, 54, 4, 21, 4, 2]
abbrev dktX5_stillFrom_1 : List UInt8 := dkwX5_stillFrom_1 ++ dktX5_stillFrom_2
def dkwX5_stillFrom_0 : List UInt8 := [42, 180, 0, 253, 60, 27, 42, 180, 0, 253, 16, 100, 96, 162, 0, 124, 3, 61, 3, 62, 29, 42]
abbrev dktX5_stillFrom_0 : List UInt8 := dkwX5_stillFrom_0 ++ dktX5_stillFrom_1
theorem dksX5_stillFrom_0 : cX5_stillFrom.data.toList.drop 0 = dktX5_stillFrom_0 := by decide +kernel
theorem dksX5_stillFrom_1 : cX5_stillFrom.data.toList.drop 22 = dktX5_stillFrom_1 := dk_seg dksX5_stillFrom_0 22 rfl rfl
theorem dksX5_stillFrom_2 : cX5_stillFrom.data.toList.drop 45 = dktX5_stillFrom_2 := dk_seg dksX5_stillFrom_1 23 rfl rfl
theorem dksX5_stillFrom_3 : cX5_stillFrom.data.toList.drop 68 = dktX5_stillFrom_3 := dk_seg dksX5_stillFrom_2 23 rfl rfl
theorem dksX5_stillFrom_4 : cX5_stillFrom.data.toList.drop 92 = dktX5_stillFrom_4 := dk_seg dksX5_stillFrom_3 24 rfl rfl
theorem dksX5_stillFrom_5 : cX5_stillFrom.data.toList.drop 115 = dktX5_stillFrom_5 := dk_seg dksX5_stillFrom_4 23 rfl rfl
theorem dX5_stillFrom_0 : decode cX5_stillFrom 0 = .ok (.aload_n 0, 1) := dk_42 (dk_at dksX5_stillFrom_0 0 rfl rfl)
theorem dX5_stillFrom_1 : decode cX5_stillFrom 1 = .ok (.getfield 253, 3) := dk_180 0 253 (dk_at dksX5_stillFrom_0 1 rfl rfl)
theorem dX5_stillFrom_4 : decode cX5_stillFrom 4 = .ok (.istore_n 1, 1) := dk_60 (dk_at dksX5_stillFrom_0 4 rfl rfl)
theorem dX5_stillFrom_5 : decode cX5_stillFrom 5 = .ok (.iload_n 1, 1) := dk_27 (dk_at dksX5_stillFrom_0 5 rfl rfl)
theorem dX5_stillFrom_6 : decode cX5_stillFrom 6 = .ok (.aload_n 0, 1) := dk_42 (dk_at dksX5_stillFrom_0 6 rfl rfl)
theorem dX5_stillFrom_7 : decode cX5_stillFrom 7 = .ok (.getfield 253, 3) := dk_180 0 253 (dk_at dksX5_stillFrom_0 7 rfl rfl)
theorem dX5_stillFrom_10 : decode cX5_stillFrom 10 = .ok (.bipush 100, 2) := dk_16 100 (dk_at dksX5_stillFrom_0 10 rfl rfl)
theorem dX5_stillFrom_12 : decode cX5_stillFrom 12 = .ok (.iadd, 1) := dk_96 (dk_at dksX5_stillFrom_0 12 rfl rfl)
theorem dX5_stillFrom_13 : decode cX5_stillFrom 13 = .ok (.if_icmp .ge 124, 3) := dk_162 0 124 (dk_at dksX5_stillFrom_0 13 rfl rfl)
theorem dX5_stillFrom_16 : decode cX5_stillFrom 16 = .ok (.iconst 0, 1) := dk_3 (dk_at dksX5_stillFrom_0 16 rfl rfl)
theorem dX5_stillFrom_17 : decode cX5_stillFrom 17 = .ok (.istore_n 2, 1) := dk_61 (dk_at dksX5_stillFrom_0 17 rfl rfl)
theorem dX5_stillFrom_18 : decode cX5_stillFrom 18 = .ok (.iconst 0, 1) := dk_3 (dk_at dksX5_stillFrom_0 18 rfl rfl)
theorem dX5_stillFrom_19 : decode cX5_stillFrom 19 = .ok (.istore_n 3, 1) := dk_62 (dk_at dksX5_stillFrom_0 19 rfl rfl)
theorem dX5_stillFrom_20 : decode cX5_stillFrom 20 = .ok (.iload_n 3, 1) := dk_29 (dk_at dksX5_stillFrom_0 20 rfl rfl)
theorem dX5_stillFrom_21 : decode cX5_stillFrom 21 = .ok (.aload_n 0, 1) := dk_42 (dk_at dksX5_stillFrom_0 21 rfl rfl)
theorem dX5_stillFrom_22 : decode cX5_stillFrom 22 = .ok (.getfield 25, 3) := dk_180 0 25 (dk_at dksX5_stillFrom_1 0 rfl rfl)
theorem dX5_stillFrom_25 : decode cX5_stillFrom 25 = .ok (.iconst 0, 1) := dk_3 (dk_at dksX5_stillFrom_1 3 rfl rfl)
theorem dX5_stillFrom_26 : decode cX5_stillFrom 26 = .ok (.iaload, 1) := dk_46 (dk_at dksX5_stillFrom_1 4 rfl rfl)
theorem dX5_stillFrom_27 : decode cX5_stillFrom 27 = .ok (.if_icmp .ge 82, 3) := dk_162 0 82 (dk_at dksX5_stillFrom_1 5 rfl rfl)
theorem dX5_stillFrom_30 : decode cX5_stillFrom 30 = .ok (.aload_n 0, 1) := dk_42 (dk_at dksX5_stillFrom_1 8 rfl rfl)
theorem dX5_stillFrom_31 : decode cX5_stillFrom 31 = .ok (.aload_n 0, 1) := dk_42 (dk_at dksX5_stillFrom_1 9 rfl rfl)
theorem dX5_stillFrom_32 : decode cX5_stillFrom 32 = .ok (.getfield 100, 3) := dk_180 0 100 (dk_at dksX5_stillFrom_1 10 rfl rfl)
theorem dX5_stillFrom_35 : decode cX5_stillFrom 35 = .ok (.iload_n 3, 1) := dk_29 (dk_at dksX5_stillFrom_1 13 rfl rfl)
theorem dX5_stillFrom_36 : decode cX5_stillFrom 36 = .ok (.iload_n 1, 1) := dk_27 (dk_at dksX5_stillFrom_1 14 rfl rfl)
theorem dX5_stillFrom_37 : decode cX5_stillFrom 37 = .ok (.invokevirtual 311, 3) := dk_182 1 55 (dk_at dksX5_stillFrom_1 15 rfl rfl)
theorem dX5_stillFrom_40 : decode cX5_stillFrom 40 = .ok (.istore 4, 2) := dk_54 4 (dk_at dksX5_stillFrom_1 18 rfl rfl)
theorem dX5_stillFrom_42 : decode cX5_stillFrom 42 = .ok (.iload 4, 2) := dk_21 4 (dk_at dksX5_stillFrom_1 20 rfl rfl)
theorem dX5_stillFrom_44 : decode cX5_stillFrom 44 = .ok (.iconst (-1), 1) := dk_2 (dk_at dksX5_stillFrom_1 22 rfl rfl)
theorem dX5_stillFrom_45 : decode cX5_stillFrom 45 = .ok (.if_icmp .ne 6, 3) := dk_160 0 6 (dk_at dksX5_stillFrom_2 0 rfl rfl)
theorem dX5_stillFrom_48 : decode cX5_stillFrom 48 = .ok (.goto 55, 3) := dk_167 0 55 (dk_at dksX5_stillFrom_2 3 rfl rfl)
theorem dX5_stillFrom_51 : decode cX5_stillFrom 51 = .ok (.aload_n 0, 1) := dk_42 (dk_at dksX5_stillFrom_2 6 rfl rfl)
theorem dX5_stillFrom_52 : decode cX5_stillFrom 52 = .ok (.aload_n 0, 1) := dk_42 (dk_at dksX5_stillFrom_2 7 rfl rfl)
theorem dX5_stillFrom_53 : decode cX5_stillFrom 53 = .ok (.getfield 100, 3) := dk_180 0 100 (dk_at dksX5_stillFrom_2 8 rfl rfl)
theorem dX5_stillFrom_56 : decode cX5_stillFrom 56 = .ok (.iload_n 3, 1) := dk_29 (dk_at dksX5_stillFrom_2 11 rfl rfl)
theorem dX5_stillFrom_57 : decode cX5_stillFrom 57 = .ok (.iload 4, 2) := dk_21 4 (dk_at dksX5_stillFrom_2 12 rfl rfl)
theorem dX5_stillFrom_59 : decode cX5_stillFrom 59 = .ok (.aload_n 0, 1) := dk_42 (dk_at dksX5_stillFrom_2 14 rfl rfl)
theorem dX5_stillFrom_60 : decode cX5_stillFrom 60 = .ok (.aload_n 0, 1) := dk_42 (dk_at dksX5_stillFrom_2 15 rfl rfl)
theorem dX5_stillFrom_61 : decode cX5_stillFrom 61 = .ok (.getfield 100, 3) := dk_180 0 100 (dk_at dksX5_stillFrom_2 16 rfl rfl)
theorem dX5_stillFrom_64 : decode cX5_stillFrom 64 = .ok (.iload_n 3, 1) := dk_29 (dk_at dksX5_stillFrom_2 19 rfl rfl)
theorem dX5_stillFrom_65 : decode cX5_stillFrom 65 = .ok (.iload 4, 2) := dk_21 4 (dk_at dksX5_stillFrom_2 20 rfl rfl)
theorem dX5_stillFrom_67 : decode cX5_stillFrom 67 = .ok (.aload_n 0, 1) := dk_42 (dk_at dksX5_stillFrom_2 22 rfl rfl)
theorem dX5_stillFrom_68 : decode cX5_stillFrom 68 = .ok (.getfield 100, 3) := dk_180 0 100 (dk_at dksX5_stillFrom_3 0 rfl rfl)
theorem dX5_stillFrom_71 : decode cX5_stillFrom 71 = .ok (.bipush 18, 2) := dk_16 18 (dk_at dksX5_stillFrom_3 3 rfl rfl)
theorem dX5_stillFrom_73 : decode cX5_stillFrom 73 = .ok (.iload_n 3, 1) := dk_29 (dk_at dksX5_stillFrom_3 5 rfl rfl)
theorem dX5_stillFrom_74 : decode cX5_stillFrom 74 = .ok (.iadd, 1) := dk_96 (dk_at dksX5_stillFrom_3 6 rfl rfl)
theorem dX5_stillFrom_75 : decode cX5_stillFrom 75 = .ok (.iaload, 1) := dk_46 (dk_at dksX5_stillFrom_3 7 rfl rfl)
theorem dX5_stillFrom_76 : decode cX5_stillFrom 76 = .ok (.invokevirtual 297, 3) := dk_182 1 41 (dk_at dksX5_stillFrom_3 8 rfl rfl)
theorem dX5_stillFrom_79 : decode cX5_stillFrom 79 = .ok (.aload_n 0, 1) := dk_42 (dk_at dksX5_stillFrom_3 11 rfl rfl)
theorem dX5_stillFrom_80 : decode cX5_stillFrom 80 = .ok (.aload_n 0, 1) := dk_42 (dk_at dksX5_stillFrom_3 12 rfl rfl)
theorem dX5_stillFrom_81 : decode cX5_stillFrom 81 = .ok (.getfield 100, 3) := dk_180 0 100 (dk_at dksX5_stillFrom_3 13 rfl rfl)
theorem dX5_stillFrom_84 : decode cX5_stillFrom 84 = .ok (.iload_n 3, 1) := dk_29 (dk_at dksX5_stillFrom_3 16 rfl rfl)
theorem dX5_stillFrom_85 : decode cX5_stillFrom 85 = .ok (.aload_n 0, 1) := dk_42 (dk_at dksX5_stillFrom_3 17 rfl rfl)
theorem dX5_stillFrom_86 : decode cX5_stillFrom 86 = .ok (.getfield 100, 3) := dk_180 0 100 (dk_at dksX5_stillFrom_3 18 rfl rfl)
theorem dX5_stillFrom_89 : decode cX5_stillFrom 89 = .ok (.bipush 24, 2) := dk_16 24 (dk_at dksX5_stillFrom_3 21 rfl rfl)
theorem dX5_stillFrom_91 : decode cX5_stillFrom 91 = .ok (.iload_n 3, 1) := dk_29 (dk_at dksX5_stillFrom_3 23 rfl rfl)
theorem dX5_stillFrom_92 : decode cX5_stillFrom 92 = .ok (.iadd, 1) := dk_96 (dk_at dksX5_stillFrom_4 0 rfl rfl)
theorem dX5_stillFrom_93 : decode cX5_stillFrom 93 = .ok (.iaload, 1) := dk_46 (dk_at dksX5_stillFrom_4 1 rfl rfl)
theorem dX5_stillFrom_94 : decode cX5_stillFrom 94 = .ok (.invokevirtual 315, 3) := dk_182 1 59 (dk_at dksX5_stillFrom_4 2 rfl rfl)
theorem dX5_stillFrom_97 : decode cX5_stillFrom 97 = .ok (.invokevirtual 285, 3) := dk_182 1 29 (dk_at dksX5_stillFrom_4 5 rfl rfl)
theorem dX5_stillFrom_100 : decode cX5_stillFrom 100 = .ok (.pop, 1) := dk_87 (dk_at dksX5_stillFrom_4 8 rfl rfl)
theorem dX5_stillFrom_101 : decode cX5_stillFrom 101 = .ok (.iconst 1, 1) := dk_4 (dk_at dksX5_stillFrom_4 9 rfl rfl)
theorem dX5_stillFrom_102 : decode cX5_stillFrom 102 = .ok (.istore_n 2, 1) := dk_61 (dk_at dksX5_stillFrom_4 10 rfl rfl)
theorem dX5_stillFrom_103 : decode cX5_stillFrom 103 = .ok (.iinc 3 1, 3) := dk_132 3 1 (dk_at dksX5_stillFrom_4 11 rfl rfl)
theorem dX5_stillFrom_106 : decode cX5_stillFrom 106 = .ok (.goto (-86), 3) := dk_167 255 170 (dk_at dksX5_stillFrom_4 14 rfl rfl)
theorem dX5_stillFrom_109 : decode cX5_stillFrom 109 = .ok (.iload_n 2, 1) := dk_28 (dk_at dksX5_stillFrom_4 17 rfl rfl)
theorem dX5_stillFrom_110 : decode cX5_stillFrom 110 = .ok (.ifCond .ne 17, 3) := dk_154 0 17 (dk_at dksX5_stillFrom_4 18 rfl rfl)
theorem dX5_stillFrom_113 : decode cX5_stillFrom 113 = .ok (.aload_n 0, 1) := dk_42 (dk_at dksX5_stillFrom_4 21 rfl rfl)
theorem dX5_stillFrom_114 : decode cX5_stillFrom 114 = .ok (.aload_n 0, 1) := dk_42 (dk_at dksX5_stillFrom_4 22 rfl rfl)
theorem dX5_stillFrom_115 : decode cX5_stillFrom 115 = .ok (.getfield 100, 3) := dk_180 0 100 (dk_at dksX5_stillFrom_5 0 rfl rfl)
theorem dX5_stillFrom_118 : decode cX5_stillFrom 118 = .ok (.iload_n 1, 1) := dk_27 (dk_at dksX5_stillFrom_5 3 rfl rfl)
theorem dX5_stillFrom_119 : decode cX5_stillFrom 119 = .ok (.invokevirtual 386, 3) := dk_182 1 130 (dk_at dksX5_stillFrom_5 4 rfl rfl)
theorem dX5_stillFrom_122 : decode cX5_stillFrom 122 = .ok (.ifCond .eq 5, 3) := dk_153 0 5 (dk_at dksX5_stillFrom_5 7 rfl rfl)
theorem dX5_stillFrom_125 : decode cX5_stillFrom 125 = .ok (.iload_n 1, 1) := dk_27 (dk_at dksX5_stillFrom_5 10 rfl rfl)
theorem dX5_stillFrom_126 : decode cX5_stillFrom 126 = .ok (.ireturn, 1) := dk_172 (dk_at dksX5_stillFrom_5 11 rfl rfl)
theorem dX5_stillFrom_127 : decode cX5_stillFrom 127 = .ok (.aload_n 0, 1) := dk_42 (dk_at dksX5_stillFrom_5 12 rfl rfl)
theorem dX5_stillFrom_128 : decode cX5_stillFrom 128 = .ok (.invokevirtual 383, 3) := dk_182 1 127 (dk_at dksX5_stillFrom_5 13 rfl rfl)
theorem dX5_stillFrom_131 : decode cX5_stillFrom 131 = .ok (.iinc 1 1, 3) := dk_132 1 1 (dk_at dksX5_stillFrom_5 16 rfl rfl)
theorem dX5_stillFrom_134 : decode cX5_stillFrom 134 = .ok (.goto (-129), 3) := dk_167 255 127 (dk_at dksX5_stillFrom_5 19 rfl rfl)
theorem dX5_stillFrom_137 : decode cX5_stillFrom 137 = .ok (.iconst (-1), 1) := dk_2 (dk_at dksX5_stillFrom_5 22 rfl rfl)
theorem dX5_stillFrom_138 : decode cX5_stillFrom 138 = .ok (.ireturn, 1) := dk_172 (dk_at dksX5_stillFrom_5 23 rfl rfl)
abbrev cX5_isStill : ByteArray := prog_16_method_72_code
def yX5_isStill : MethodName := ⟨RX5, "isStill", "([II)Z"⟩
def dkwX5_isStill_3 : List UInt8 := [42, 180, 0, 47, 29, 46, 4, 164, 0, 5, 3, 172, 132, 3, 1, 167, 255, 222, 4, 172]
abbrev dktX5_isStill_3 : List UInt8 := dkwX5_isStill_3 ++ []
def dkwX5_isStill_2 : List UInt8 := [167, 255, 212, 3, 62, 29, 42, 180, 0, 25, 4, 46, 162, 0, 30, 42, 180, 0, 53, 29, 51, 153, 0, 15]
abbrev dktX5_isStill_2 : List UInt8 := dkwX5_isStill_2 ++ dktX5_isStill_3
def dkwX5_isStill_1 : List UInt8 := [180, 0, 32, 29, 46, 162, 0, 14, 43, 16, 18, 29, 96, 46, 158, 0, 5, 3, 172, 132, 3, 1]
abbrev dktX5_isStill_1 : List UInt8 := dkwX5_isStill_1 ++ dktX5_isStill_2
def dkwX5_isStill_0 : List UInt8 := [3, 62, 29, 42, 180, 0, 25, 3, 46, 162, 0, 40, 42, 180, 0, 29, 29, 46, 7, 160, 0, 24, 28, 42]
abbrev dktX5_isStill_0 : List UInt8 := dkwX5_isStill_0 ++ dktX5_isStill_1
theorem dksX5_isStill_0 : cX5_isStill.data.toList.drop 0 = dktX5_isStill_0 := by decide +kernel
theorem dksX5_isStill_1 : cX5_isStill.data.toList.drop 24 = dktX5_isStill_1 := dk_seg dksX5_isStill_0 24 rfl rfl
theorem dksX5_isStill_2 : cX5_isStill.data.toList.drop 46 = dktX5_isStill_2 := dk_seg dksX5_isStill_1 22 rfl rfl
theorem dksX5_isStill_3 : cX5_isStill.data.toList.drop 70 = dktX5_isStill_3 := dk_seg dksX5_isStill_2 24 rfl rfl
theorem dX5_isStill_0 : decode cX5_isStill 0 = .ok (.iconst 0, 1) := dk_3 (dk_at dksX5_isStill_0 0 rfl rfl)
theorem dX5_isStill_1 : decode cX5_isStill 1 = .ok (.istore_n 3, 1) := dk_62 (dk_at dksX5_isStill_0 1 rfl rfl)
theorem dX5_isStill_2 : decode cX5_isStill 2 = .ok (.iload_n 3, 1) := dk_29 (dk_at dksX5_isStill_0 2 rfl rfl)
theorem dX5_isStill_3 : decode cX5_isStill 3 = .ok (.aload_n 0, 1) := dk_42 (dk_at dksX5_isStill_0 3 rfl rfl)
theorem dX5_isStill_4 : decode cX5_isStill 4 = .ok (.getfield 25, 3) := dk_180 0 25 (dk_at dksX5_isStill_0 4 rfl rfl)
theorem dX5_isStill_7 : decode cX5_isStill 7 = .ok (.iconst 0, 1) := dk_3 (dk_at dksX5_isStill_0 7 rfl rfl)
theorem dX5_isStill_8 : decode cX5_isStill 8 = .ok (.iaload, 1) := dk_46 (dk_at dksX5_isStill_0 8 rfl rfl)
theorem dX5_isStill_9 : decode cX5_isStill 9 = .ok (.if_icmp .ge 40, 3) := dk_162 0 40 (dk_at dksX5_isStill_0 9 rfl rfl)
theorem dX5_isStill_12 : decode cX5_isStill 12 = .ok (.aload_n 0, 1) := dk_42 (dk_at dksX5_isStill_0 12 rfl rfl)
theorem dX5_isStill_13 : decode cX5_isStill 13 = .ok (.getfield 29, 3) := dk_180 0 29 (dk_at dksX5_isStill_0 13 rfl rfl)
theorem dX5_isStill_16 : decode cX5_isStill 16 = .ok (.iload_n 3, 1) := dk_29 (dk_at dksX5_isStill_0 16 rfl rfl)
theorem dX5_isStill_17 : decode cX5_isStill 17 = .ok (.iaload, 1) := dk_46 (dk_at dksX5_isStill_0 17 rfl rfl)
theorem dX5_isStill_18 : decode cX5_isStill 18 = .ok (.iconst 4, 1) := dk_7 (dk_at dksX5_isStill_0 18 rfl rfl)
theorem dX5_isStill_19 : decode cX5_isStill 19 = .ok (.if_icmp .ne 24, 3) := dk_160 0 24 (dk_at dksX5_isStill_0 19 rfl rfl)
theorem dX5_isStill_22 : decode cX5_isStill 22 = .ok (.iload_n 2, 1) := dk_28 (dk_at dksX5_isStill_0 22 rfl rfl)
theorem dX5_isStill_23 : decode cX5_isStill 23 = .ok (.aload_n 0, 1) := dk_42 (dk_at dksX5_isStill_0 23 rfl rfl)
theorem dX5_isStill_24 : decode cX5_isStill 24 = .ok (.getfield 32, 3) := dk_180 0 32 (dk_at dksX5_isStill_1 0 rfl rfl)
theorem dX5_isStill_27 : decode cX5_isStill 27 = .ok (.iload_n 3, 1) := dk_29 (dk_at dksX5_isStill_1 3 rfl rfl)
theorem dX5_isStill_28 : decode cX5_isStill 28 = .ok (.iaload, 1) := dk_46 (dk_at dksX5_isStill_1 4 rfl rfl)
theorem dX5_isStill_29 : decode cX5_isStill 29 = .ok (.if_icmp .ge 14, 3) := dk_162 0 14 (dk_at dksX5_isStill_1 5 rfl rfl)
theorem dX5_isStill_32 : decode cX5_isStill 32 = .ok (.aload_n 1, 1) := dk_43 (dk_at dksX5_isStill_1 8 rfl rfl)
theorem dX5_isStill_33 : decode cX5_isStill 33 = .ok (.bipush 18, 2) := dk_16 18 (dk_at dksX5_isStill_1 9 rfl rfl)
theorem dX5_isStill_35 : decode cX5_isStill 35 = .ok (.iload_n 3, 1) := dk_29 (dk_at dksX5_isStill_1 11 rfl rfl)
theorem dX5_isStill_36 : decode cX5_isStill 36 = .ok (.iadd, 1) := dk_96 (dk_at dksX5_isStill_1 12 rfl rfl)
theorem dX5_isStill_37 : decode cX5_isStill 37 = .ok (.iaload, 1) := dk_46 (dk_at dksX5_isStill_1 13 rfl rfl)
theorem dX5_isStill_38 : decode cX5_isStill 38 = .ok (.ifCond .le 5, 3) := dk_158 0 5 (dk_at dksX5_isStill_1 14 rfl rfl)
theorem dX5_isStill_41 : decode cX5_isStill 41 = .ok (.iconst 0, 1) := dk_3 (dk_at dksX5_isStill_1 17 rfl rfl)
theorem dX5_isStill_42 : decode cX5_isStill 42 = .ok (.ireturn, 1) := dk_172 (dk_at dksX5_isStill_1 18 rfl rfl)
theorem dX5_isStill_43 : decode cX5_isStill 43 = .ok (.iinc 3 1, 3) := dk_132 3 1 (dk_at dksX5_isStill_1 19 rfl rfl)
theorem dX5_isStill_46 : decode cX5_isStill 46 = .ok (.goto (-44), 3) := dk_167 255 212 (dk_at dksX5_isStill_2 0 rfl rfl)
theorem dX5_isStill_49 : decode cX5_isStill 49 = .ok (.iconst 0, 1) := dk_3 (dk_at dksX5_isStill_2 3 rfl rfl)
theorem dX5_isStill_50 : decode cX5_isStill 50 = .ok (.istore_n 3, 1) := dk_62 (dk_at dksX5_isStill_2 4 rfl rfl)
theorem dX5_isStill_51 : decode cX5_isStill 51 = .ok (.iload_n 3, 1) := dk_29 (dk_at dksX5_isStill_2 5 rfl rfl)
theorem dX5_isStill_52 : decode cX5_isStill 52 = .ok (.aload_n 0, 1) := dk_42 (dk_at dksX5_isStill_2 6 rfl rfl)
theorem dX5_isStill_53 : decode cX5_isStill 53 = .ok (.getfield 25, 3) := dk_180 0 25 (dk_at dksX5_isStill_2 7 rfl rfl)
theorem dX5_isStill_56 : decode cX5_isStill 56 = .ok (.iconst 1, 1) := dk_4 (dk_at dksX5_isStill_2 10 rfl rfl)
theorem dX5_isStill_57 : decode cX5_isStill 57 = .ok (.iaload, 1) := dk_46 (dk_at dksX5_isStill_2 11 rfl rfl)
theorem dX5_isStill_58 : decode cX5_isStill 58 = .ok (.if_icmp .ge 30, 3) := dk_162 0 30 (dk_at dksX5_isStill_2 12 rfl rfl)
theorem dX5_isStill_61 : decode cX5_isStill 61 = .ok (.aload_n 0, 1) := dk_42 (dk_at dksX5_isStill_2 15 rfl rfl)
theorem dX5_isStill_62 : decode cX5_isStill 62 = .ok (.getfield 53, 3) := dk_180 0 53 (dk_at dksX5_isStill_2 16 rfl rfl)
theorem dX5_isStill_65 : decode cX5_isStill 65 = .ok (.iload_n 3, 1) := dk_29 (dk_at dksX5_isStill_2 19 rfl rfl)
theorem dX5_isStill_66 : decode cX5_isStill 66 = .ok (.baload, 1) := dk_51 (dk_at dksX5_isStill_2 20 rfl rfl)
theorem dX5_isStill_67 : decode cX5_isStill 67 = .ok (.ifCond .eq 15, 3) := dk_153 0 15 (dk_at dksX5_isStill_2 21 rfl rfl)
theorem dX5_isStill_70 : decode cX5_isStill 70 = .ok (.aload_n 0, 1) := dk_42 (dk_at dksX5_isStill_3 0 rfl rfl)
theorem dX5_isStill_71 : decode cX5_isStill 71 = .ok (.getfield 47, 3) := dk_180 0 47 (dk_at dksX5_isStill_3 1 rfl rfl)
theorem dX5_isStill_74 : decode cX5_isStill 74 = .ok (.iload_n 3, 1) := dk_29 (dk_at dksX5_isStill_3 4 rfl rfl)
theorem dX5_isStill_75 : decode cX5_isStill 75 = .ok (.iaload, 1) := dk_46 (dk_at dksX5_isStill_3 5 rfl rfl)
theorem dX5_isStill_76 : decode cX5_isStill 76 = .ok (.iconst 1, 1) := dk_4 (dk_at dksX5_isStill_3 6 rfl rfl)
theorem dX5_isStill_77 : decode cX5_isStill 77 = .ok (.if_icmp .le 5, 3) := dk_164 0 5 (dk_at dksX5_isStill_3 7 rfl rfl)
theorem dX5_isStill_80 : decode cX5_isStill 80 = .ok (.iconst 0, 1) := dk_3 (dk_at dksX5_isStill_3 10 rfl rfl)
theorem dX5_isStill_81 : decode cX5_isStill 81 = .ok (.ireturn, 1) := dk_172 (dk_at dksX5_isStill_3 11 rfl rfl)
theorem dX5_isStill_82 : decode cX5_isStill 82 = .ok (.iinc 3 1, 3) := dk_132 3 1 (dk_at dksX5_isStill_3 12 rfl rfl)
theorem dX5_isStill_85 : decode cX5_isStill 85 = .ok (.goto (-34), 3) := dk_167 255 222 (dk_at dksX5_isStill_3 15 rfl rfl)
theorem dX5_isStill_88 : decode cX5_isStill 88 = .ok (.iconst 1, 1) := dk_4 (dk_at dksX5_isStill_3 18 rfl rfl)
theorem dX5_isStill_89 : decode cX5_isStill 89 = .ok (.ireturn, 1) := dk_172 (dk_at dksX5_isStill_3 19 rfl rfl)
abbrev cX5_image : ByteArray := prog_16_method_75_code
def yX5_image : MethodName := ⟨RX5, "image", "()V"⟩
def dkwX5_image_5 : List UInt8 := [4, 46, 79, 177]
abbrev dktX5_image_5 : List UInt8 := dkwX5_image_5 ++ []
def dkwX5_image_4 : List UInt8 := [167, 255, 230, 42, 180, 0, 121, 3, 42, 180, 0, 38, 3, 46, 79, 42, 180, 0, 121, 4, 42, 180, 0, 38]
abbrev dktX5_image_4 : List UInt8 := dkwX5_image_4 ++ dktX5_image_5
def dkwX5_image_3 : List UInt8 := [180, 1, 0, 104, 162, 0, 21, 42, 180, 0, 118, 27, 42, 180, 0, 64, 27, 46, 79, 132, 1, 1]
abbrev dktX5_image_3 : List UInt8 := dkwX5_image_3 ++ dktX5_image_4
def dkwX5_image_2 : List UInt8 := [180, 0, 115, 27, 42, 180, 0, 47, 27, 46, 79, 132, 1, 1, 167, 255, 235, 3, 60, 27, 16, 9, 42]
abbrev dktX5_image_2 : List UInt8 := dkwX5_image_2 ++ dktX5_image_3
def dkwX5_image_1 : List UInt8 := [181, 1, 140, 42, 180, 0, 41, 42, 180, 0, 112, 184, 0, 249, 3, 60, 27, 16, 12, 162, 0, 21, 42]
abbrev dktX5_image_1 : List UInt8 := dkwX5_image_1 ++ dktX5_image_2
def dkwX5_image_0 : List UInt8 := [42, 3, 181, 0, 128, 42, 4, 181, 1, 3, 42, 42, 180, 1, 0, 181, 1, 137, 42, 42, 180, 0, 253]
abbrev dktX5_image_0 : List UInt8 := dkwX5_image_0 ++ dktX5_image_1
theorem dksX5_image_0 : cX5_image.data.toList.drop 0 = dktX5_image_0 := by decide +kernel
theorem dksX5_image_1 : cX5_image.data.toList.drop 23 = dktX5_image_1 := dk_seg dksX5_image_0 23 rfl rfl
theorem dksX5_image_2 : cX5_image.data.toList.drop 46 = dktX5_image_2 := dk_seg dksX5_image_1 23 rfl rfl
theorem dksX5_image_3 : cX5_image.data.toList.drop 69 = dktX5_image_3 := dk_seg dksX5_image_2 23 rfl rfl
theorem dksX5_image_4 : cX5_image.data.toList.drop 91 = dktX5_image_4 := dk_seg dksX5_image_3 22 rfl rfl
theorem dksX5_image_5 : cX5_image.data.toList.drop 115 = dktX5_image_5 := dk_seg dksX5_image_4 24 rfl rfl
theorem dX5_image_0 : decode cX5_image 0 = .ok (.aload_n 0, 1) := dk_42 (dk_at dksX5_image_0 0 rfl rfl)
theorem dX5_image_1 : decode cX5_image 1 = .ok (.iconst 0, 1) := dk_3 (dk_at dksX5_image_0 1 rfl rfl)
theorem dX5_image_2 : decode cX5_image 2 = .ok (.putfield 128, 3) := dk_181 0 128 (dk_at dksX5_image_0 2 rfl rfl)
theorem dX5_image_5 : decode cX5_image 5 = .ok (.aload_n 0, 1) := dk_42 (dk_at dksX5_image_0 5 rfl rfl)
theorem dX5_image_6 : decode cX5_image 6 = .ok (.iconst 1, 1) := dk_4 (dk_at dksX5_image_0 6 rfl rfl)
theorem dX5_image_7 : decode cX5_image 7 = .ok (.putfield 259, 3) := dk_181 1 3 (dk_at dksX5_image_0 7 rfl rfl)
theorem dX5_image_10 : decode cX5_image 10 = .ok (.aload_n 0, 1) := dk_42 (dk_at dksX5_image_0 10 rfl rfl)
theorem dX5_image_11 : decode cX5_image 11 = .ok (.aload_n 0, 1) := dk_42 (dk_at dksX5_image_0 11 rfl rfl)
theorem dX5_image_12 : decode cX5_image 12 = .ok (.getfield 256, 3) := dk_180 1 0 (dk_at dksX5_image_0 12 rfl rfl)
theorem dX5_image_15 : decode cX5_image 15 = .ok (.putfield 393, 3) := dk_181 1 137 (dk_at dksX5_image_0 15 rfl rfl)
theorem dX5_image_18 : decode cX5_image 18 = .ok (.aload_n 0, 1) := dk_42 (dk_at dksX5_image_0 18 rfl rfl)
theorem dX5_image_19 : decode cX5_image 19 = .ok (.aload_n 0, 1) := dk_42 (dk_at dksX5_image_0 19 rfl rfl)
theorem dX5_image_20 : decode cX5_image 20 = .ok (.getfield 253, 3) := dk_180 0 253 (dk_at dksX5_image_0 20 rfl rfl)
theorem dX5_image_23 : decode cX5_image 23 = .ok (.putfield 396, 3) := dk_181 1 140 (dk_at dksX5_image_1 0 rfl rfl)
theorem dX5_image_26 : decode cX5_image 26 = .ok (.aload_n 0, 1) := dk_42 (dk_at dksX5_image_1 3 rfl rfl)
theorem dX5_image_27 : decode cX5_image 27 = .ok (.getfield 41, 3) := dk_180 0 41 (dk_at dksX5_image_1 4 rfl rfl)
theorem dX5_image_30 : decode cX5_image 30 = .ok (.aload_n 0, 1) := dk_42 (dk_at dksX5_image_1 7 rfl rfl)
theorem dX5_image_31 : decode cX5_image 31 = .ok (.getfield 112, 3) := dk_180 0 112 (dk_at dksX5_image_1 8 rfl rfl)
theorem dX5_image_34 : decode cX5_image 34 = .ok (.invokestatic 249, 3) := dk_184 0 249 (dk_at dksX5_image_1 11 rfl rfl)
theorem dX5_image_37 : decode cX5_image 37 = .ok (.iconst 0, 1) := dk_3 (dk_at dksX5_image_1 14 rfl rfl)
theorem dX5_image_38 : decode cX5_image 38 = .ok (.istore_n 1, 1) := dk_60 (dk_at dksX5_image_1 15 rfl rfl)
theorem dX5_image_39 : decode cX5_image 39 = .ok (.iload_n 1, 1) := dk_27 (dk_at dksX5_image_1 16 rfl rfl)
theorem dX5_image_40 : decode cX5_image 40 = .ok (.bipush 12, 2) := dk_16 12 (dk_at dksX5_image_1 17 rfl rfl)
theorem dX5_image_42 : decode cX5_image 42 = .ok (.if_icmp .ge 21, 3) := dk_162 0 21 (dk_at dksX5_image_1 19 rfl rfl)
theorem dX5_image_45 : decode cX5_image 45 = .ok (.aload_n 0, 1) := dk_42 (dk_at dksX5_image_1 22 rfl rfl)
theorem dX5_image_46 : decode cX5_image 46 = .ok (.getfield 115, 3) := dk_180 0 115 (dk_at dksX5_image_2 0 rfl rfl)
theorem dX5_image_49 : decode cX5_image 49 = .ok (.iload_n 1, 1) := dk_27 (dk_at dksX5_image_2 3 rfl rfl)
theorem dX5_image_50 : decode cX5_image 50 = .ok (.aload_n 0, 1) := dk_42 (dk_at dksX5_image_2 4 rfl rfl)
theorem dX5_image_51 : decode cX5_image 51 = .ok (.getfield 47, 3) := dk_180 0 47 (dk_at dksX5_image_2 5 rfl rfl)
theorem dX5_image_54 : decode cX5_image 54 = .ok (.iload_n 1, 1) := dk_27 (dk_at dksX5_image_2 8 rfl rfl)
theorem dX5_image_55 : decode cX5_image 55 = .ok (.iaload, 1) := dk_46 (dk_at dksX5_image_2 9 rfl rfl)
theorem dX5_image_56 : decode cX5_image 56 = .ok (.iastore, 1) := dk_79 (dk_at dksX5_image_2 10 rfl rfl)
theorem dX5_image_57 : decode cX5_image 57 = .ok (.iinc 1 1, 3) := dk_132 1 1 (dk_at dksX5_image_2 11 rfl rfl)
theorem dX5_image_60 : decode cX5_image 60 = .ok (.goto (-21), 3) := dk_167 255 235 (dk_at dksX5_image_2 14 rfl rfl)
theorem dX5_image_63 : decode cX5_image 63 = .ok (.iconst 0, 1) := dk_3 (dk_at dksX5_image_2 17 rfl rfl)
theorem dX5_image_64 : decode cX5_image 64 = .ok (.istore_n 1, 1) := dk_60 (dk_at dksX5_image_2 18 rfl rfl)
theorem dX5_image_65 : decode cX5_image 65 = .ok (.iload_n 1, 1) := dk_27 (dk_at dksX5_image_2 19 rfl rfl)
theorem dX5_image_66 : decode cX5_image 66 = .ok (.bipush 9, 2) := dk_16 9 (dk_at dksX5_image_2 20 rfl rfl)
theorem dX5_image_68 : decode cX5_image 68 = .ok (.aload_n 0, 1) := dk_42 (dk_at dksX5_image_2 22 rfl rfl)
theorem dX5_image_69 : decode cX5_image 69 = .ok (.getfield 256, 3) := dk_180 1 0 (dk_at dksX5_image_3 0 rfl rfl)
theorem dX5_image_72 : decode cX5_image 72 = .ok (.imul, 1) := dk_104 (dk_at dksX5_image_3 3 rfl rfl)
theorem dX5_image_73 : decode cX5_image 73 = .ok (.if_icmp .ge 21, 3) := dk_162 0 21 (dk_at dksX5_image_3 4 rfl rfl)
theorem dX5_image_76 : decode cX5_image 76 = .ok (.aload_n 0, 1) := dk_42 (dk_at dksX5_image_3 7 rfl rfl)
theorem dX5_image_77 : decode cX5_image 77 = .ok (.getfield 118, 3) := dk_180 0 118 (dk_at dksX5_image_3 8 rfl rfl)
theorem dX5_image_80 : decode cX5_image 80 = .ok (.iload_n 1, 1) := dk_27 (dk_at dksX5_image_3 11 rfl rfl)
theorem dX5_image_81 : decode cX5_image 81 = .ok (.aload_n 0, 1) := dk_42 (dk_at dksX5_image_3 12 rfl rfl)
theorem dX5_image_82 : decode cX5_image 82 = .ok (.getfield 64, 3) := dk_180 0 64 (dk_at dksX5_image_3 13 rfl rfl)
theorem dX5_image_85 : decode cX5_image 85 = .ok (.iload_n 1, 1) := dk_27 (dk_at dksX5_image_3 16 rfl rfl)
theorem dX5_image_86 : decode cX5_image 86 = .ok (.iaload, 1) := dk_46 (dk_at dksX5_image_3 17 rfl rfl)
theorem dX5_image_87 : decode cX5_image 87 = .ok (.iastore, 1) := dk_79 (dk_at dksX5_image_3 18 rfl rfl)
theorem dX5_image_88 : decode cX5_image 88 = .ok (.iinc 1 1, 3) := dk_132 1 1 (dk_at dksX5_image_3 19 rfl rfl)
theorem dX5_image_91 : decode cX5_image 91 = .ok (.goto (-26), 3) := dk_167 255 230 (dk_at dksX5_image_4 0 rfl rfl)
theorem dX5_image_94 : decode cX5_image 94 = .ok (.aload_n 0, 1) := dk_42 (dk_at dksX5_image_4 3 rfl rfl)
theorem dX5_image_95 : decode cX5_image 95 = .ok (.getfield 121, 3) := dk_180 0 121 (dk_at dksX5_image_4 4 rfl rfl)
theorem dX5_image_98 : decode cX5_image 98 = .ok (.iconst 0, 1) := dk_3 (dk_at dksX5_image_4 7 rfl rfl)
theorem dX5_image_99 : decode cX5_image 99 = .ok (.aload_n 0, 1) := dk_42 (dk_at dksX5_image_4 8 rfl rfl)
theorem dX5_image_100 : decode cX5_image 100 = .ok (.getfield 38, 3) := dk_180 0 38 (dk_at dksX5_image_4 9 rfl rfl)
theorem dX5_image_103 : decode cX5_image 103 = .ok (.iconst 0, 1) := dk_3 (dk_at dksX5_image_4 12 rfl rfl)
theorem dX5_image_104 : decode cX5_image 104 = .ok (.iaload, 1) := dk_46 (dk_at dksX5_image_4 13 rfl rfl)
theorem dX5_image_105 : decode cX5_image 105 = .ok (.iastore, 1) := dk_79 (dk_at dksX5_image_4 14 rfl rfl)
theorem dX5_image_106 : decode cX5_image 106 = .ok (.aload_n 0, 1) := dk_42 (dk_at dksX5_image_4 15 rfl rfl)
theorem dX5_image_107 : decode cX5_image 107 = .ok (.getfield 121, 3) := dk_180 0 121 (dk_at dksX5_image_4 16 rfl rfl)
theorem dX5_image_110 : decode cX5_image 110 = .ok (.iconst 1, 1) := dk_4 (dk_at dksX5_image_4 19 rfl rfl)
theorem dX5_image_111 : decode cX5_image 111 = .ok (.aload_n 0, 1) := dk_42 (dk_at dksX5_image_4 20 rfl rfl)
theorem dX5_image_112 : decode cX5_image 112 = .ok (.getfield 38, 3) := dk_180 0 38 (dk_at dksX5_image_4 21 rfl rfl)
theorem dX5_image_115 : decode cX5_image 115 = .ok (.iconst 1, 1) := dk_4 (dk_at dksX5_image_5 0 rfl rfl)
theorem dX5_image_116 : decode cX5_image 116 = .ok (.iaload, 1) := dk_46 (dk_at dksX5_image_5 1 rfl rfl)
theorem dX5_image_117 : decode cX5_image 117 = .ok (.iastore, 1) := dk_79 (dk_at dksX5_image_5 2 rfl rfl)
theorem dX5_image_118 : decode cX5_image 118 = .ok (.return_, 1) := dk_177 (dk_at dksX5_image_5 3 rfl rfl)
abbrev cX5_restore : ByteArray := prog_16_method_76_code
def yX5_restore : MethodName := ⟨RX5, "restore", "()Z"⟩
def dkwX5_restore_5 : List UInt8 := [180, 0, 121, 4, 46, 79, 4, 172]
abbrev dktX5_restore_5 : List UInt8 := dkwX5_restore_5 ++ []
def dkwX5_restore_4 : List UInt8 := [132, 1, 1, 167, 255, 230, 42, 180, 0, 38, 3, 42, 180, 0, 121, 3, 46, 79, 42, 180, 0, 38, 4, 42]
abbrev dktX5_restore_4 : List UInt8 := dkwX5_restore_4 ++ dktX5_restore_5
def dkwX5_restore_3 : List UInt8 := [16, 9, 42, 180, 1, 0, 104, 162, 0, 21, 42, 180, 0, 64, 27, 42, 180, 0, 118, 27, 46, 79]
abbrev dktX5_restore_3 : List UInt8 := dkwX5_restore_3 ++ dktX5_restore_4
def dkwX5_restore_2 : List UInt8 := [162, 0, 21, 42, 180, 0, 47, 27, 42, 180, 0, 115, 27, 46, 79, 132, 1, 1, 167, 255, 235, 3, 60, 27]
abbrev dktX5_restore_2 : List UInt8 := dkwX5_restore_2 ++ dktX5_restore_3
def dkwX5_restore_1 : List UInt8 := [180, 1, 140, 181, 0, 253, 42, 180, 0, 112, 42, 180, 0, 41, 184, 0, 249, 3, 60, 27, 16, 12]
abbrev dktX5_restore_1 : List UInt8 := dkwX5_restore_1 ++ dktX5_restore_2
def dkwX5_restore_0 : List UInt8 := [42, 3, 181, 0, 128, 42, 180, 1, 3, 154, 0, 5, 3, 172, 42, 42, 180, 1, 137, 181, 1, 0, 42, 42]
abbrev dktX5_restore_0 : List UInt8 := dkwX5_restore_0 ++ dktX5_restore_1
theorem dksX5_restore_0 : cX5_restore.data.toList.drop 0 = dktX5_restore_0 := by decide +kernel
theorem dksX5_restore_1 : cX5_restore.data.toList.drop 24 = dktX5_restore_1 := dk_seg dksX5_restore_0 24 rfl rfl
theorem dksX5_restore_2 : cX5_restore.data.toList.drop 46 = dktX5_restore_2 := dk_seg dksX5_restore_1 22 rfl rfl
theorem dksX5_restore_3 : cX5_restore.data.toList.drop 70 = dktX5_restore_3 := dk_seg dksX5_restore_2 24 rfl rfl
theorem dksX5_restore_4 : cX5_restore.data.toList.drop 92 = dktX5_restore_4 := dk_seg dksX5_restore_3 22 rfl rfl
theorem dksX5_restore_5 : cX5_restore.data.toList.drop 116 = dktX5_restore_5 := dk_seg dksX5_restore_4 24 rfl rfl
theorem dX5_restore_0 : decode cX5_restore 0 = .ok (.aload_n 0, 1) := dk_42 (dk_at dksX5_restore_0 0 rfl rfl)
theorem dX5_restore_1 : decode cX5_restore 1 = .ok (.iconst 0, 1) := dk_3 (dk_at dksX5_restore_0 1 rfl rfl)
theorem dX5_restore_2 : decode cX5_restore 2 = .ok (.putfield 128, 3) := dk_181 0 128 (dk_at dksX5_restore_0 2 rfl rfl)
theorem dX5_restore_5 : decode cX5_restore 5 = .ok (.aload_n 0, 1) := dk_42 (dk_at dksX5_restore_0 5 rfl rfl)
theorem dX5_restore_6 : decode cX5_restore 6 = .ok (.getfield 259, 3) := dk_180 1 3 (dk_at dksX5_restore_0 6 rfl rfl)
theorem dX5_restore_9 : decode cX5_restore 9 = .ok (.ifCond .ne 5, 3) := dk_154 0 5 (dk_at dksX5_restore_0 9 rfl rfl)
theorem dX5_restore_12 : decode cX5_restore 12 = .ok (.iconst 0, 1) := dk_3 (dk_at dksX5_restore_0 12 rfl rfl)
theorem dX5_restore_13 : decode cX5_restore 13 = .ok (.ireturn, 1) := dk_172 (dk_at dksX5_restore_0 13 rfl rfl)
theorem dX5_restore_14 : decode cX5_restore 14 = .ok (.aload_n 0, 1) := dk_42 (dk_at dksX5_restore_0 14 rfl rfl)
theorem dX5_restore_15 : decode cX5_restore 15 = .ok (.aload_n 0, 1) := dk_42 (dk_at dksX5_restore_0 15 rfl rfl)
theorem dX5_restore_16 : decode cX5_restore 16 = .ok (.getfield 393, 3) := dk_180 1 137 (dk_at dksX5_restore_0 16 rfl rfl)
theorem dX5_restore_19 : decode cX5_restore 19 = .ok (.putfield 256, 3) := dk_181 1 0 (dk_at dksX5_restore_0 19 rfl rfl)
theorem dX5_restore_22 : decode cX5_restore 22 = .ok (.aload_n 0, 1) := dk_42 (dk_at dksX5_restore_0 22 rfl rfl)
theorem dX5_restore_23 : decode cX5_restore 23 = .ok (.aload_n 0, 1) := dk_42 (dk_at dksX5_restore_0 23 rfl rfl)
theorem dX5_restore_24 : decode cX5_restore 24 = .ok (.getfield 396, 3) := dk_180 1 140 (dk_at dksX5_restore_1 0 rfl rfl)
theorem dX5_restore_27 : decode cX5_restore 27 = .ok (.putfield 253, 3) := dk_181 0 253 (dk_at dksX5_restore_1 3 rfl rfl)
theorem dX5_restore_30 : decode cX5_restore 30 = .ok (.aload_n 0, 1) := dk_42 (dk_at dksX5_restore_1 6 rfl rfl)
theorem dX5_restore_31 : decode cX5_restore 31 = .ok (.getfield 112, 3) := dk_180 0 112 (dk_at dksX5_restore_1 7 rfl rfl)
theorem dX5_restore_34 : decode cX5_restore 34 = .ok (.aload_n 0, 1) := dk_42 (dk_at dksX5_restore_1 10 rfl rfl)
theorem dX5_restore_35 : decode cX5_restore 35 = .ok (.getfield 41, 3) := dk_180 0 41 (dk_at dksX5_restore_1 11 rfl rfl)
theorem dX5_restore_38 : decode cX5_restore 38 = .ok (.invokestatic 249, 3) := dk_184 0 249 (dk_at dksX5_restore_1 14 rfl rfl)
theorem dX5_restore_41 : decode cX5_restore 41 = .ok (.iconst 0, 1) := dk_3 (dk_at dksX5_restore_1 17 rfl rfl)
theorem dX5_restore_42 : decode cX5_restore 42 = .ok (.istore_n 1, 1) := dk_60 (dk_at dksX5_restore_1 18 rfl rfl)
theorem dX5_restore_43 : decode cX5_restore 43 = .ok (.iload_n 1, 1) := dk_27 (dk_at dksX5_restore_1 19 rfl rfl)
theorem dX5_restore_44 : decode cX5_restore 44 = .ok (.bipush 12, 2) := dk_16 12 (dk_at dksX5_restore_1 20 rfl rfl)
theorem dX5_restore_46 : decode cX5_restore 46 = .ok (.if_icmp .ge 21, 3) := dk_162 0 21 (dk_at dksX5_restore_2 0 rfl rfl)
theorem dX5_restore_49 : decode cX5_restore 49 = .ok (.aload_n 0, 1) := dk_42 (dk_at dksX5_restore_2 3 rfl rfl)
theorem dX5_restore_50 : decode cX5_restore 50 = .ok (.getfield 47, 3) := dk_180 0 47 (dk_at dksX5_restore_2 4 rfl rfl)
theorem dX5_restore_53 : decode cX5_restore 53 = .ok (.iload_n 1, 1) := dk_27 (dk_at dksX5_restore_2 7 rfl rfl)
theorem dX5_restore_54 : decode cX5_restore 54 = .ok (.aload_n 0, 1) := dk_42 (dk_at dksX5_restore_2 8 rfl rfl)
theorem dX5_restore_55 : decode cX5_restore 55 = .ok (.getfield 115, 3) := dk_180 0 115 (dk_at dksX5_restore_2 9 rfl rfl)
theorem dX5_restore_58 : decode cX5_restore 58 = .ok (.iload_n 1, 1) := dk_27 (dk_at dksX5_restore_2 12 rfl rfl)
theorem dX5_restore_59 : decode cX5_restore 59 = .ok (.iaload, 1) := dk_46 (dk_at dksX5_restore_2 13 rfl rfl)
theorem dX5_restore_60 : decode cX5_restore 60 = .ok (.iastore, 1) := dk_79 (dk_at dksX5_restore_2 14 rfl rfl)
theorem dX5_restore_61 : decode cX5_restore 61 = .ok (.iinc 1 1, 3) := dk_132 1 1 (dk_at dksX5_restore_2 15 rfl rfl)
theorem dX5_restore_64 : decode cX5_restore 64 = .ok (.goto (-21), 3) := dk_167 255 235 (dk_at dksX5_restore_2 18 rfl rfl)
theorem dX5_restore_67 : decode cX5_restore 67 = .ok (.iconst 0, 1) := dk_3 (dk_at dksX5_restore_2 21 rfl rfl)
theorem dX5_restore_68 : decode cX5_restore 68 = .ok (.istore_n 1, 1) := dk_60 (dk_at dksX5_restore_2 22 rfl rfl)
theorem dX5_restore_69 : decode cX5_restore 69 = .ok (.iload_n 1, 1) := dk_27 (dk_at dksX5_restore_2 23 rfl rfl)
theorem dX5_restore_70 : decode cX5_restore 70 = .ok (.bipush 9, 2) := dk_16 9 (dk_at dksX5_restore_3 0 rfl rfl)
theorem dX5_restore_72 : decode cX5_restore 72 = .ok (.aload_n 0, 1) := dk_42 (dk_at dksX5_restore_3 2 rfl rfl)
theorem dX5_restore_73 : decode cX5_restore 73 = .ok (.getfield 256, 3) := dk_180 1 0 (dk_at dksX5_restore_3 3 rfl rfl)
theorem dX5_restore_76 : decode cX5_restore 76 = .ok (.imul, 1) := dk_104 (dk_at dksX5_restore_3 6 rfl rfl)
theorem dX5_restore_77 : decode cX5_restore 77 = .ok (.if_icmp .ge 21, 3) := dk_162 0 21 (dk_at dksX5_restore_3 7 rfl rfl)
theorem dX5_restore_80 : decode cX5_restore 80 = .ok (.aload_n 0, 1) := dk_42 (dk_at dksX5_restore_3 10 rfl rfl)
theorem dX5_restore_81 : decode cX5_restore 81 = .ok (.getfield 64, 3) := dk_180 0 64 (dk_at dksX5_restore_3 11 rfl rfl)
theorem dX5_restore_84 : decode cX5_restore 84 = .ok (.iload_n 1, 1) := dk_27 (dk_at dksX5_restore_3 14 rfl rfl)
theorem dX5_restore_85 : decode cX5_restore 85 = .ok (.aload_n 0, 1) := dk_42 (dk_at dksX5_restore_3 15 rfl rfl)
theorem dX5_restore_86 : decode cX5_restore 86 = .ok (.getfield 118, 3) := dk_180 0 118 (dk_at dksX5_restore_3 16 rfl rfl)
theorem dX5_restore_89 : decode cX5_restore 89 = .ok (.iload_n 1, 1) := dk_27 (dk_at dksX5_restore_3 19 rfl rfl)
theorem dX5_restore_90 : decode cX5_restore 90 = .ok (.iaload, 1) := dk_46 (dk_at dksX5_restore_3 20 rfl rfl)
theorem dX5_restore_91 : decode cX5_restore 91 = .ok (.iastore, 1) := dk_79 (dk_at dksX5_restore_3 21 rfl rfl)
theorem dX5_restore_92 : decode cX5_restore 92 = .ok (.iinc 1 1, 3) := dk_132 1 1 (dk_at dksX5_restore_4 0 rfl rfl)
theorem dX5_restore_95 : decode cX5_restore 95 = .ok (.goto (-26), 3) := dk_167 255 230 (dk_at dksX5_restore_4 3 rfl rfl)
theorem dX5_restore_98 : decode cX5_restore 98 = .ok (.aload_n 0, 1) := dk_42 (dk_at dksX5_restore_4 6 rfl rfl)
theorem dX5_restore_99 : decode cX5_restore 99 = .ok (.getfield 38, 3) := dk_180 0 38 (dk_at dksX5_restore_4 7 rfl rfl)
theorem dX5_restore_102 : decode cX5_restore 102 = .ok (.iconst 0, 1) := dk_3 (dk_at dksX5_restore_4 10 rfl rfl)
theorem dX5_restore_103 : decode cX5_restore 103 = .ok (.aload_n 0, 1) := dk_42 (dk_at dksX5_restore_4 11 rfl rfl)
theorem dX5_restore_104 : decode cX5_restore 104 = .ok (.getfield 121, 3) := dk_180 0 121 (dk_at dksX5_restore_4 12 rfl rfl)
theorem dX5_restore_107 : decode cX5_restore 107 = .ok (.iconst 0, 1) := dk_3 (dk_at dksX5_restore_4 15 rfl rfl)
theorem dX5_restore_108 : decode cX5_restore 108 = .ok (.iaload, 1) := dk_46 (dk_at dksX5_restore_4 16 rfl rfl)
theorem dX5_restore_109 : decode cX5_restore 109 = .ok (.iastore, 1) := dk_79 (dk_at dksX5_restore_4 17 rfl rfl)
theorem dX5_restore_110 : decode cX5_restore 110 = .ok (.aload_n 0, 1) := dk_42 (dk_at dksX5_restore_4 18 rfl rfl)
theorem dX5_restore_111 : decode cX5_restore 111 = .ok (.getfield 38, 3) := dk_180 0 38 (dk_at dksX5_restore_4 19 rfl rfl)
theorem dX5_restore_114 : decode cX5_restore 114 = .ok (.iconst 1, 1) := dk_4 (dk_at dksX5_restore_4 22 rfl rfl)
theorem dX5_restore_115 : decode cX5_restore 115 = .ok (.aload_n 0, 1) := dk_42 (dk_at dksX5_restore_4 23 rfl rfl)
theorem dX5_restore_116 : decode cX5_restore 116 = .ok (.getfield 121, 3) := dk_180 0 121 (dk_at dksX5_restore_5 0 rfl rfl)
theorem dX5_restore_119 : decode cX5_restore 119 = .ok (.iconst 1, 1) := dk_4 (dk_at dksX5_restore_5 3 rfl rfl)
theorem dX5_restore_120 : decode cX5_restore 120 = .ok (.iaload, 1) := dk_46 (dk_at dksX5_restore_5 4 rfl rfl)
theorem dX5_restore_121 : decode cX5_restore 121 = .ok (.iastore, 1) := dk_79 (dk_at dksX5_restore_5 5 rfl rfl)
theorem dX5_restore_122 : decode cX5_restore 122 = .ok (.iconst 1, 1) := dk_4 (dk_at dksX5_restore_5 6 rfl rfl)
theorem dX5_restore_123 : decode cX5_restore 123 = .ok (.ireturn, 1) := dk_172 (dk_at dksX5_restore_5 7 rfl rfl)
theorem q99 : (Jvm.Cond.initialized "HeavyGiftsModel") ∈ lw_all := lw_g (lw_at lw_m1 24 rfl) rfl
theorem q745 : (Jvm.Cond.selects "HeavyGiftsModel" ({ cls := "java/lang/Object", name := "getClass", desc := "()Ljava/lang/Class;" } : Jvm.MethodName) ({ cls := "java/lang/Object", name := "getClass", desc := "()Ljava/lang/Class;" } : Jvm.MethodName)) ∈ lw_all := lw_g (lw_at lw_m3 190 rfl) rfl
theorem q1353 : (Jvm.Cond.instantiable "HeavyGiftsModel" (55 : Nat)) ∈ lw_all := lw_g (lw_at lw_m6 78 rfl) rfl
theorem q1355 : (Jvm.Cond.instanceMethod ({ cls := "HeavyGiftsModel", name := "<init>", desc := "()V" } : Jvm.MethodName)) ∈ lw_all := lw_g (lw_at lw_m6 80 rfl) rfl
theorem q1356 : (Jvm.Cond.code ({ cls := "HeavyGiftsModel", name := "<init>", desc := "()V" } : Jvm.MethodName) prog_16_method_1_code (1 : Nat) (Option.none : Option Jvm.ClassFile.FieldType)) ∈ lw_all := lw_g (lw_at lw_m6 81 rfl) rfl
theorem q1357 : (Jvm.Cond.methodLink "HeavyGiftsModel" (1 : Nat) ({ cls := "java/lang/Object", name := "<init>", desc := "()V" } : Jvm.MethodName)) ∈ lw_all := lw_g (lw_at lw_m6 82 rfl) rfl
theorem q1358 : (Jvm.Cond.classLink "HeavyGiftsModel" (7 : Nat) "java/lang/String") ∈ lw_all := lw_g (lw_at lw_m6 83 rfl) rfl
theorem q1360 : (Jvm.Cond.stringRef "HeavyGiftsModel" (9 : Nat) "plain") ∈ lw_tbl := lw_at lw_m6 85 rfl
theorem q1361 : (Jvm.Cond.stringRef "HeavyGiftsModel" (11 : Nat) "least") ∈ lw_tbl := lw_at lw_m6 86 rfl
theorem q1362 : (Jvm.Cond.stringRef "HeavyGiftsModel" (13 : Nat) "fewest") ∈ lw_tbl := lw_at lw_m6 87 rfl
theorem q1363 : (Jvm.Cond.stringRef "HeavyGiftsModel" (15 : Nat) "aim") ∈ lw_tbl := lw_at lw_m6 88 rfl
theorem q1364 : (Jvm.Cond.stringRef "HeavyGiftsModel" (17 : Nat) "wait") ∈ lw_tbl := lw_at lw_m6 89 rfl
theorem q1365 : (Jvm.Cond.methodLink "HeavyGiftsModel" (124 : Nat) ({ cls := "HeavyGiftsModel", name := "begin", desc := "([I)V" } : Jvm.MethodName)) ∈ lw_all := lw_g (lw_at lw_m6 90 rfl) rfl
theorem q1366 : (Jvm.Cond.static ({ cls := "HeavyGiftsModel", name := "begin", desc := "([I)V" } : Jvm.MethodName)) ∈ lw_all := lw_g (lw_at lw_m6 91 rfl) rfl
theorem q1367 : (Jvm.Cond.code ({ cls := "HeavyGiftsModel", name := "begin", desc := "([I)V" } : Jvm.MethodName) prog_16_method_5_code (2 : Nat) (Option.none : Option Jvm.ClassFile.FieldType)) ∈ lw_all := lw_g (lw_at lw_m6 92 rfl) rfl
theorem q1368 : (Jvm.Cond.fieldLink "HeavyGiftsModel" (19 : Nat) "HeavyGiftsModel" "kinds" "[Ljava/lang/String;") ∈ lw_all := lw_g (lw_at lw_m6 93 rfl) rfl
theorem q1369 : (Jvm.Cond.fieldLink "HeavyGiftsModel" (128 : Nat) "HeavyGiftsModel" "code" "I") ∈ lw_all := lw_g (lw_at lw_m6 94 rfl) rfl
theorem q1370 : (Jvm.Cond.fieldLink "HeavyGiftsModel" (25 : Nat) "HeavyGiftsModel" "told" "[I") ∈ lw_all := lw_g (lw_at lw_m6 95 rfl) rfl
theorem q1371 : (Jvm.Cond.fieldLink "HeavyGiftsModel" (29 : Nat) "HeavyGiftsModel" "kind" "[I") ∈ lw_all := lw_g (lw_at lw_m6 96 rfl) rfl
theorem q1372 : (Jvm.Cond.fieldLink "HeavyGiftsModel" (32 : Nat) "HeavyGiftsModel" "kindBy" "[I") ∈ lw_all := lw_g (lw_at lw_m6 97 rfl) rfl
theorem q1373 : (Jvm.Cond.fieldLink "HeavyGiftsModel" (35 : Nat) "HeavyGiftsModel" "worth" "[I") ∈ lw_all := lw_g (lw_at lw_m6 98 rfl) rfl
theorem q1374 : (Jvm.Cond.fieldLink "HeavyGiftsModel" (38 : Nat) "HeavyGiftsModel" "status" "[I") ∈ lw_all := lw_g (lw_at lw_m6 99 rfl) rfl
theorem q1375 : (Jvm.Cond.fieldLink "HeavyGiftsModel" (41 : Nat) "HeavyGiftsModel" "now" "[I") ∈ lw_all := lw_g (lw_at lw_m6 100 rfl) rfl
theorem q1376 : (Jvm.Cond.fieldLink "HeavyGiftsModel" (44 : Nat) "HeavyGiftsModel" "read" "[I") ∈ lw_all := lw_g (lw_at lw_m6 101 rfl) rfl
theorem q1377 : (Jvm.Cond.fieldLink "HeavyGiftsModel" (47 : Nat) "HeavyGiftsModel" "weight" "[I") ∈ lw_all := lw_g (lw_at lw_m6 102 rfl) rfl
theorem q1378 : (Jvm.Cond.fieldLink "HeavyGiftsModel" (50 : Nat) "HeavyGiftsModel" "readWeight" "[I") ∈ lw_all := lw_g (lw_at lw_m6 103 rfl) rfl
theorem q1379 : (Jvm.Cond.fieldLink "HeavyGiftsModel" (53 : Nat) "HeavyGiftsModel" "isWet" "[Z") ∈ lw_all := lw_g (lw_at lw_m6 104 rfl) rfl
theorem q1380 : (Jvm.Cond.fieldLink "HeavyGiftsModel" (253 : Nat) "HeavyGiftsModel" "day" "I") ∈ lw_all := lw_g (lw_at lw_m6 105 rfl) rfl
theorem q1381 : (Jvm.Cond.fieldLink "HeavyGiftsModel" (57 : Nat) "HeavyGiftsModel" "tape" "[I") ∈ lw_all := lw_g (lw_at lw_m6 106 rfl) rfl
theorem q1382 : (Jvm.Cond.fieldLink "HeavyGiftsModel" (135 : Nat) "HeavyGiftsModel" "taped" "I") ∈ lw_all := lw_g (lw_at lw_m6 107 rfl) rfl
theorem q1383 : (Jvm.Cond.fieldLink "HeavyGiftsModel" (141 : Nat) "HeavyGiftsModel" "at" "I") ∈ lw_all := lw_g (lw_at lw_m6 108 rfl) rfl
theorem q1384 : (Jvm.Cond.fieldLink "HeavyGiftsModel" (138 : Nat) "HeavyGiftsModel" "size" "I") ∈ lw_all := lw_g (lw_at lw_m6 109 rfl) rfl
theorem q1385 : (Jvm.Cond.fieldLink "HeavyGiftsModel" (151 : Nat) "HeavyGiftsModel" "token" "I") ∈ lw_all := lw_g (lw_at lw_m6 110 rfl) rfl
theorem q1386 : (Jvm.Cond.fieldLink "HeavyGiftsModel" (161 : Nat) "HeavyGiftsModel" "number" "I") ∈ lw_all := lw_g (lw_at lw_m6 111 rfl) rfl
theorem q1387 : (Jvm.Cond.fieldLink "HeavyGiftsModel" (148 : Nat) "HeavyGiftsModel" "begins" "I") ∈ lw_all := lw_g (lw_at lw_m6 112 rfl) rfl
theorem q1388 : (Jvm.Cond.fieldLink "HeavyGiftsModel" (171 : Nat) "HeavyGiftsModel" "ends" "I") ∈ lw_all := lw_g (lw_at lw_m6 113 rfl) rfl
theorem q1389 : (Jvm.Cond.fieldLink "HeavyGiftsModel" (174 : Nat) "HeavyGiftsModel" "bad" "I") ∈ lw_all := lw_g (lw_at lw_m6 114 rfl) rfl
theorem q1390 : (Jvm.Cond.fieldLink "HeavyGiftsModel" (177 : Nat) "HeavyGiftsModel" "badPlace" "I") ∈ lw_all := lw_g (lw_at lw_m6 115 rfl) rfl
theorem q1391 : (Jvm.Cond.fieldLink "HeavyGiftsModel" (60 : Nat) "HeavyGiftsModel" "faultPlace" "I") ∈ lw_all := lw_g (lw_at lw_m6 116 rfl) rfl
theorem q1392 : (Jvm.Cond.fieldLink "HeavyGiftsModel" (256 : Nat) "HeavyGiftsModel" "gifts" "I") ∈ lw_all := lw_g (lw_at lw_m6 117 rfl) rfl
theorem q1393 : (Jvm.Cond.fieldLink "HeavyGiftsModel" (64 : Nat) "HeavyGiftsModel" "book" "[I") ∈ lw_all := lw_g (lw_at lw_m6 118 rfl) rfl
theorem q1394 : (Jvm.Cond.fieldLink "HeavyGiftsModel" (67 : Nat) "HeavyGiftsModel" "weekRows" "[I") ∈ lw_all := lw_g (lw_at lw_m6 119 rfl) rfl
theorem q1395 : (Jvm.Cond.fieldLink "HeavyGiftsModel" (70 : Nat) "HeavyGiftsModel" "weekRow" "[I") ∈ lw_all := lw_g (lw_at lw_m6 120 rfl) rfl
theorem q1396 : (Jvm.Cond.fieldLink "HeavyGiftsModel" (73 : Nat) "HeavyGiftsModel" "weekOwes" "[I") ∈ lw_all := lw_g (lw_at lw_m6 121 rfl) rfl
theorem q1397 : (Jvm.Cond.fieldLink "HeavyGiftsModel" (76 : Nat) "HeavyGiftsModel" "weekTo" "[I") ∈ lw_all := lw_g (lw_at lw_m6 122 rfl) rfl
theorem q1398 : (Jvm.Cond.fieldLink "HeavyGiftsModel" (79 : Nat) "HeavyGiftsModel" "orderTry" "[I") ∈ lw_all := lw_g (lw_at lw_m6 123 rfl) rfl
theorem q1399 : (Jvm.Cond.fieldLink "HeavyGiftsModel" (82 : Nat) "HeavyGiftsModel" "order" "[I") ∈ lw_all := lw_g (lw_at lw_m6 124 rfl) rfl
theorem q1400 : (Jvm.Cond.fieldLink "HeavyGiftsModel" (85 : Nat) "HeavyGiftsModel" "orderMany" "I") ∈ lw_all := lw_g (lw_at lw_m6 125 rfl) rfl
theorem q1401 : (Jvm.Cond.fieldLink "HeavyGiftsModel" (324 : Nat) "HeavyGiftsModel" "weekMany" "I") ∈ lw_all := lw_g (lw_at lw_m6 126 rfl) rfl
theorem q1402 : (Jvm.Cond.fieldLink "HeavyGiftsModel" (340 : Nat) "HeavyGiftsModel" "tries" "I") ∈ lw_all := lw_g (lw_at lw_m6 127 rfl) rfl
theorem q1403 : (Jvm.Cond.fieldLink "HeavyGiftsModel" (321 : Nat) "HeavyGiftsModel" "mostAnswered" "I") ∈ lw_all := lw_g (lw_at lw_m6 128 rfl) rfl
theorem q1404 : (Jvm.Cond.fieldLink "HeavyGiftsModel" (330 : Nat) "HeavyGiftsModel" "isSpent" "Z") ∈ lw_all := lw_g (lw_at lw_m6 129 rfl) rfl
theorem q1405 : (Jvm.Cond.fieldLink "HeavyGiftsModel" (327 : Nat) "HeavyGiftsModel" "isAll" "Z") ∈ lw_all := lw_g (lw_at lw_m6 130 rfl) rfl
theorem q1406 : (Jvm.Cond.fieldLink "HeavyGiftsModel" (88 : Nat) "HeavyGiftsModel" "states" "[I") ∈ lw_all := lw_g (lw_at lw_m6 131 rfl) rfl
theorem q1407 : (Jvm.Cond.fieldLink "HeavyGiftsModel" (91 : Nat) "HeavyGiftsModel" "steps" "[I") ∈ lw_all := lw_g (lw_at lw_m6 132 rfl) rfl
theorem q1408 : (Jvm.Cond.fieldLink "HeavyGiftsModel" (94 : Nat) "HeavyGiftsModel" "next" "[I") ∈ lw_all := lw_g (lw_at lw_m6 133 rfl) rfl
theorem q1409 : (Jvm.Cond.fieldLink "HeavyGiftsModel" (97 : Nat) "HeavyGiftsModel" "heads" "[I") ∈ lw_all := lw_g (lw_at lw_m6 134 rfl) rfl
theorem q1410 : (Jvm.Cond.fieldLink "HeavyGiftsModel" (100 : Nat) "HeavyGiftsModel" "row" "[I") ∈ lw_all := lw_g (lw_at lw_m6 135 rfl) rfl
theorem q1411 : (Jvm.Cond.fieldLink "HeavyGiftsModel" (103 : Nat) "HeavyGiftsModel" "then" "[I") ∈ lw_all := lw_g (lw_at lw_m6 136 rfl) rfl
theorem q1412 : (Jvm.Cond.fieldLink "HeavyGiftsModel" (355 : Nat) "HeavyGiftsModel" "stateMany" "I") ∈ lw_all := lw_g (lw_at lw_m6 137 rfl) rfl
theorem q1413 : (Jvm.Cond.fieldLink "HeavyGiftsModel" (358 : Nat) "HeavyGiftsModel" "isTooMany" "Z") ∈ lw_all := lw_g (lw_at lw_m6 138 rfl) rfl
theorem q1414 : (Jvm.Cond.fieldLink "HeavyGiftsModel" (106 : Nat) "HeavyGiftsModel" "canMake" "[Z") ∈ lw_all := lw_g (lw_at lw_m6 139 rfl) rfl
theorem q1415 : (Jvm.Cond.fieldLink "HeavyGiftsModel" (109 : Nat) "HeavyGiftsModel" "weightNow" "[I") ∈ lw_all := lw_g (lw_at lw_m6 140 rfl) rfl
theorem q1416 : (Jvm.Cond.fieldLink "HeavyGiftsModel" (259 : Nat) "HeavyGiftsModel" "hasImage" "Z") ∈ lw_all := lw_g (lw_at lw_m6 141 rfl) rfl
theorem q1417 : (Jvm.Cond.fieldLink "HeavyGiftsModel" (393 : Nat) "HeavyGiftsModel" "giftsThen" "I") ∈ lw_all := lw_g (lw_at lw_m6 142 rfl) rfl
theorem q1418 : (Jvm.Cond.fieldLink "HeavyGiftsModel" (396 : Nat) "HeavyGiftsModel" "dayThen" "I") ∈ lw_all := lw_g (lw_at lw_m6 143 rfl) rfl
theorem q1419 : (Jvm.Cond.fieldLink "HeavyGiftsModel" (112 : Nat) "HeavyGiftsModel" "nowThen" "[I") ∈ lw_all := lw_g (lw_at lw_m6 144 rfl) rfl
theorem q1420 : (Jvm.Cond.fieldLink "HeavyGiftsModel" (115 : Nat) "HeavyGiftsModel" "weightThen" "[I") ∈ lw_all := lw_g (lw_at lw_m6 145 rfl) rfl
theorem q1421 : (Jvm.Cond.fieldLink "HeavyGiftsModel" (118 : Nat) "HeavyGiftsModel" "bookThen" "[I") ∈ lw_all := lw_g (lw_at lw_m6 146 rfl) rfl
theorem q1422 : (Jvm.Cond.fieldLink "HeavyGiftsModel" (121 : Nat) "HeavyGiftsModel" "statusThen" "[I") ∈ lw_all := lw_g (lw_at lw_m6 147 rfl) rfl
theorem q1423 : (Jvm.Cond.laysFinal "HeavyGiftsModel" "HeavyGiftsModel" "kinds" "[Ljava/lang/String;") ∈ lw_all := lw_g (lw_at lw_m6 148 rfl) rfl
theorem q1424 : (Jvm.Cond.soleField "HeavyGiftsModel" "kinds") ∈ lw_all := lw_g (lw_at lw_m6 149 rfl) rfl
theorem q1425 : (Jvm.Cond.lays "HeavyGiftsModel" "HeavyGiftsModel" "code" "I") ∈ lw_all := lw_g (lw_at lw_m6 150 rfl) rfl
theorem q1426 : (Jvm.Cond.soleField "HeavyGiftsModel" "code") ∈ lw_all := lw_g (lw_at lw_m6 151 rfl) rfl
theorem q1427 : (Jvm.Cond.laysFinal "HeavyGiftsModel" "HeavyGiftsModel" "told" "[I") ∈ lw_all := lw_g (lw_at lw_m6 152 rfl) rfl
theorem q1428 : (Jvm.Cond.soleField "HeavyGiftsModel" "told") ∈ lw_all := lw_g (lw_at lw_m6 153 rfl) rfl
theorem q1429 : (Jvm.Cond.laysFinal "HeavyGiftsModel" "HeavyGiftsModel" "kind" "[I") ∈ lw_all := lw_g (lw_at lw_m6 154 rfl) rfl
theorem q1430 : (Jvm.Cond.soleField "HeavyGiftsModel" "kind") ∈ lw_all := lw_g (lw_at lw_m6 155 rfl) rfl
theorem q1431 : (Jvm.Cond.laysFinal "HeavyGiftsModel" "HeavyGiftsModel" "kindBy" "[I") ∈ lw_all := lw_g (lw_at lw_m6 156 rfl) rfl
theorem q1432 : (Jvm.Cond.soleField "HeavyGiftsModel" "kindBy") ∈ lw_all := lw_g (lw_at lw_m6 157 rfl) rfl
theorem q1433 : (Jvm.Cond.laysFinal "HeavyGiftsModel" "HeavyGiftsModel" "worth" "[I") ∈ lw_all := lw_g (lw_at lw_m6 158 rfl) rfl
theorem q1434 : (Jvm.Cond.soleField "HeavyGiftsModel" "worth") ∈ lw_all := lw_g (lw_at lw_m6 159 rfl) rfl
theorem q1435 : (Jvm.Cond.laysFinal "HeavyGiftsModel" "HeavyGiftsModel" "status" "[I") ∈ lw_all := lw_g (lw_at lw_m6 160 rfl) rfl
theorem q1436 : (Jvm.Cond.soleField "HeavyGiftsModel" "status") ∈ lw_all := lw_g (lw_at lw_m6 161 rfl) rfl
theorem q1437 : (Jvm.Cond.laysFinal "HeavyGiftsModel" "HeavyGiftsModel" "now" "[I") ∈ lw_all := lw_g (lw_at lw_m6 162 rfl) rfl
theorem q1438 : (Jvm.Cond.soleField "HeavyGiftsModel" "now") ∈ lw_all := lw_g (lw_at lw_m6 163 rfl) rfl
theorem q1439 : (Jvm.Cond.laysFinal "HeavyGiftsModel" "HeavyGiftsModel" "read" "[I") ∈ lw_all := lw_g (lw_at lw_m6 164 rfl) rfl
theorem q1440 : (Jvm.Cond.soleField "HeavyGiftsModel" "read") ∈ lw_all := lw_g (lw_at lw_m6 165 rfl) rfl
theorem q1441 : (Jvm.Cond.laysFinal "HeavyGiftsModel" "HeavyGiftsModel" "weight" "[I") ∈ lw_all := lw_g (lw_at lw_m6 166 rfl) rfl
theorem q1442 : (Jvm.Cond.soleField "HeavyGiftsModel" "weight") ∈ lw_all := lw_g (lw_at lw_m6 167 rfl) rfl
theorem q1443 : (Jvm.Cond.laysFinal "HeavyGiftsModel" "HeavyGiftsModel" "readWeight" "[I") ∈ lw_all := lw_g (lw_at lw_m6 168 rfl) rfl
theorem q1444 : (Jvm.Cond.soleField "HeavyGiftsModel" "readWeight") ∈ lw_all := lw_g (lw_at lw_m6 169 rfl) rfl
theorem q1445 : (Jvm.Cond.laysFinal "HeavyGiftsModel" "HeavyGiftsModel" "isWet" "[Z") ∈ lw_all := lw_g (lw_at lw_m6 170 rfl) rfl
theorem q1446 : (Jvm.Cond.soleField "HeavyGiftsModel" "isWet") ∈ lw_all := lw_g (lw_at lw_m6 171 rfl) rfl
theorem q1447 : (Jvm.Cond.lays "HeavyGiftsModel" "HeavyGiftsModel" "day" "I") ∈ lw_all := lw_g (lw_at lw_m6 172 rfl) rfl
theorem q1448 : (Jvm.Cond.soleField "HeavyGiftsModel" "day") ∈ lw_all := lw_g (lw_at lw_m6 173 rfl) rfl
theorem q1449 : (Jvm.Cond.laysFinal "HeavyGiftsModel" "HeavyGiftsModel" "tape" "[I") ∈ lw_all := lw_g (lw_at lw_m6 174 rfl) rfl
theorem q1450 : (Jvm.Cond.soleField "HeavyGiftsModel" "tape") ∈ lw_all := lw_g (lw_at lw_m6 175 rfl) rfl
theorem q1451 : (Jvm.Cond.lays "HeavyGiftsModel" "HeavyGiftsModel" "taped" "I") ∈ lw_all := lw_g (lw_at lw_m6 176 rfl) rfl
theorem q1452 : (Jvm.Cond.soleField "HeavyGiftsModel" "taped") ∈ lw_all := lw_g (lw_at lw_m6 177 rfl) rfl
theorem q1453 : (Jvm.Cond.lays "HeavyGiftsModel" "HeavyGiftsModel" "at" "I") ∈ lw_all := lw_g (lw_at lw_m6 178 rfl) rfl
theorem q1454 : (Jvm.Cond.soleField "HeavyGiftsModel" "at") ∈ lw_all := lw_g (lw_at lw_m6 179 rfl) rfl
theorem q1455 : (Jvm.Cond.lays "HeavyGiftsModel" "HeavyGiftsModel" "size" "I") ∈ lw_all := lw_g (lw_at lw_m6 180 rfl) rfl
theorem q1456 : (Jvm.Cond.soleField "HeavyGiftsModel" "size") ∈ lw_all := lw_g (lw_at lw_m6 181 rfl) rfl
theorem q1457 : (Jvm.Cond.lays "HeavyGiftsModel" "HeavyGiftsModel" "token" "I") ∈ lw_all := lw_g (lw_at lw_m6 182 rfl) rfl
theorem q1458 : (Jvm.Cond.soleField "HeavyGiftsModel" "token") ∈ lw_all := lw_g (lw_at lw_m6 183 rfl) rfl
theorem q1459 : (Jvm.Cond.lays "HeavyGiftsModel" "HeavyGiftsModel" "number" "I") ∈ lw_all := lw_g (lw_at lw_m6 184 rfl) rfl
theorem q1460 : (Jvm.Cond.soleField "HeavyGiftsModel" "number") ∈ lw_all := lw_g (lw_at lw_m6 185 rfl) rfl
theorem q1461 : (Jvm.Cond.lays "HeavyGiftsModel" "HeavyGiftsModel" "begins" "I") ∈ lw_all := lw_g (lw_at lw_m6 186 rfl) rfl
theorem q1462 : (Jvm.Cond.soleField "HeavyGiftsModel" "begins") ∈ lw_all := lw_g (lw_at lw_m6 187 rfl) rfl
theorem q1463 : (Jvm.Cond.lays "HeavyGiftsModel" "HeavyGiftsModel" "ends" "I") ∈ lw_all := lw_g (lw_at lw_m6 188 rfl) rfl
theorem q1464 : (Jvm.Cond.soleField "HeavyGiftsModel" "ends") ∈ lw_all := lw_g (lw_at lw_m6 189 rfl) rfl
theorem q1465 : (Jvm.Cond.lays "HeavyGiftsModel" "HeavyGiftsModel" "bad" "I") ∈ lw_all := lw_g (lw_at lw_m6 190 rfl) rfl
theorem q1466 : (Jvm.Cond.soleField "HeavyGiftsModel" "bad") ∈ lw_all := lw_g (lw_at lw_m6 191 rfl) rfl
theorem q1467 : (Jvm.Cond.lays "HeavyGiftsModel" "HeavyGiftsModel" "badPlace" "I") ∈ lw_all := lw_g (lw_at lw_m6 192 rfl) rfl
theorem q1468 : (Jvm.Cond.soleField "HeavyGiftsModel" "badPlace") ∈ lw_all := lw_g (lw_at lw_m6 193 rfl) rfl
theorem q1469 : (Jvm.Cond.lays "HeavyGiftsModel" "HeavyGiftsModel" "faultPlace" "I") ∈ lw_all := lw_g (lw_at lw_m6 194 rfl) rfl
theorem q1470 : (Jvm.Cond.soleField "HeavyGiftsModel" "faultPlace") ∈ lw_all := lw_g (lw_at lw_m6 195 rfl) rfl
theorem q1471 : (Jvm.Cond.lays "HeavyGiftsModel" "HeavyGiftsModel" "gifts" "I") ∈ lw_all := lw_g (lw_at lw_m6 196 rfl) rfl
theorem q1472 : (Jvm.Cond.soleField "HeavyGiftsModel" "gifts") ∈ lw_all := lw_g (lw_at lw_m6 197 rfl) rfl
theorem q1473 : (Jvm.Cond.laysFinal "HeavyGiftsModel" "HeavyGiftsModel" "book" "[I") ∈ lw_all := lw_g (lw_at lw_m6 198 rfl) rfl
theorem q1474 : (Jvm.Cond.soleField "HeavyGiftsModel" "book") ∈ lw_all := lw_g (lw_at lw_m6 199 rfl) rfl
theorem q1475 : (Jvm.Cond.laysFinal "HeavyGiftsModel" "HeavyGiftsModel" "weekRows" "[I") ∈ lw_all := lw_g (lw_at lw_m6 200 rfl) rfl
theorem q1476 : (Jvm.Cond.soleField "HeavyGiftsModel" "weekRows") ∈ lw_all := lw_g (lw_at lw_m6 201 rfl) rfl
theorem q1477 : (Jvm.Cond.laysFinal "HeavyGiftsModel" "HeavyGiftsModel" "weekRow" "[I") ∈ lw_all := lw_g (lw_at lw_m6 202 rfl) rfl
theorem q1478 : (Jvm.Cond.soleField "HeavyGiftsModel" "weekRow") ∈ lw_all := lw_g (lw_at lw_m6 203 rfl) rfl
theorem q1479 : (Jvm.Cond.laysFinal "HeavyGiftsModel" "HeavyGiftsModel" "weekOwes" "[I") ∈ lw_all := lw_g (lw_at lw_m6 204 rfl) rfl
theorem q1480 : (Jvm.Cond.soleField "HeavyGiftsModel" "weekOwes") ∈ lw_all := lw_g (lw_at lw_m6 205 rfl) rfl
theorem q1481 : (Jvm.Cond.laysFinal "HeavyGiftsModel" "HeavyGiftsModel" "weekTo" "[I") ∈ lw_all := lw_g (lw_at lw_m6 206 rfl) rfl
theorem q1482 : (Jvm.Cond.soleField "HeavyGiftsModel" "weekTo") ∈ lw_all := lw_g (lw_at lw_m6 207 rfl) rfl
theorem q1483 : (Jvm.Cond.laysFinal "HeavyGiftsModel" "HeavyGiftsModel" "orderTry" "[I") ∈ lw_all := lw_g (lw_at lw_m6 208 rfl) rfl
theorem q1484 : (Jvm.Cond.soleField "HeavyGiftsModel" "orderTry") ∈ lw_all := lw_g (lw_at lw_m6 209 rfl) rfl
theorem q1485 : (Jvm.Cond.laysFinal "HeavyGiftsModel" "HeavyGiftsModel" "order" "[I") ∈ lw_all := lw_g (lw_at lw_m6 210 rfl) rfl
theorem q1486 : (Jvm.Cond.soleField "HeavyGiftsModel" "order") ∈ lw_all := lw_g (lw_at lw_m6 211 rfl) rfl
theorem q1487 : (Jvm.Cond.lays "HeavyGiftsModel" "HeavyGiftsModel" "orderMany" "I") ∈ lw_all := lw_g (lw_at lw_m6 212 rfl) rfl
theorem q1488 : (Jvm.Cond.soleField "HeavyGiftsModel" "orderMany") ∈ lw_all := lw_g (lw_at lw_m6 213 rfl) rfl
theorem q1489 : (Jvm.Cond.lays "HeavyGiftsModel" "HeavyGiftsModel" "weekMany" "I") ∈ lw_all := lw_g (lw_at lw_m6 214 rfl) rfl
theorem q1490 : (Jvm.Cond.soleField "HeavyGiftsModel" "weekMany") ∈ lw_all := lw_g (lw_at lw_m6 215 rfl) rfl
theorem q1491 : (Jvm.Cond.lays "HeavyGiftsModel" "HeavyGiftsModel" "tries" "I") ∈ lw_all := lw_g (lw_at lw_m6 216 rfl) rfl
theorem q1492 : (Jvm.Cond.soleField "HeavyGiftsModel" "tries") ∈ lw_all := lw_g (lw_at lw_m6 217 rfl) rfl
theorem q1493 : (Jvm.Cond.lays "HeavyGiftsModel" "HeavyGiftsModel" "mostAnswered" "I") ∈ lw_all := lw_g (lw_at lw_m6 218 rfl) rfl
theorem q1494 : (Jvm.Cond.soleField "HeavyGiftsModel" "mostAnswered") ∈ lw_all := lw_g (lw_at lw_m6 219 rfl) rfl
theorem q1495 : (Jvm.Cond.lays "HeavyGiftsModel" "HeavyGiftsModel" "isSpent" "Z") ∈ lw_all := lw_g (lw_at lw_m6 220 rfl) rfl
theorem q1496 : (Jvm.Cond.soleField "HeavyGiftsModel" "isSpent") ∈ lw_all := lw_g (lw_at lw_m6 221 rfl) rfl
theorem q1497 : (Jvm.Cond.lays "HeavyGiftsModel" "HeavyGiftsModel" "isAll" "Z") ∈ lw_all := lw_g (lw_at lw_m6 222 rfl) rfl
theorem q1498 : (Jvm.Cond.soleField "HeavyGiftsModel" "isAll") ∈ lw_all := lw_g (lw_at lw_m6 223 rfl) rfl
theorem q1499 : (Jvm.Cond.laysFinal "HeavyGiftsModel" "HeavyGiftsModel" "states" "[I") ∈ lw_all := lw_g (lw_at lw_m6 224 rfl) rfl
theorem q1500 : (Jvm.Cond.soleField "HeavyGiftsModel" "states") ∈ lw_all := lw_g (lw_at lw_m6 225 rfl) rfl
theorem q1501 : (Jvm.Cond.laysFinal "HeavyGiftsModel" "HeavyGiftsModel" "steps" "[I") ∈ lw_all := lw_g (lw_at lw_m6 226 rfl) rfl
theorem q1502 : (Jvm.Cond.soleField "HeavyGiftsModel" "steps") ∈ lw_all := lw_g (lw_at lw_m6 227 rfl) rfl
theorem q1503 : (Jvm.Cond.laysFinal "HeavyGiftsModel" "HeavyGiftsModel" "next" "[I") ∈ lw_all := lw_g (lw_at lw_m6 228 rfl) rfl
theorem q1504 : (Jvm.Cond.soleField "HeavyGiftsModel" "next") ∈ lw_all := lw_g (lw_at lw_m6 229 rfl) rfl
theorem q1505 : (Jvm.Cond.laysFinal "HeavyGiftsModel" "HeavyGiftsModel" "heads" "[I") ∈ lw_all := lw_g (lw_at lw_m6 230 rfl) rfl
theorem q1506 : (Jvm.Cond.soleField "HeavyGiftsModel" "heads") ∈ lw_all := lw_g (lw_at lw_m6 231 rfl) rfl
theorem q1507 : (Jvm.Cond.laysFinal "HeavyGiftsModel" "HeavyGiftsModel" "row" "[I") ∈ lw_all := lw_g (lw_at lw_m6 232 rfl) rfl
theorem q1508 : (Jvm.Cond.soleField "HeavyGiftsModel" "row") ∈ lw_all := lw_g (lw_at lw_m6 233 rfl) rfl
theorem q1509 : (Jvm.Cond.laysFinal "HeavyGiftsModel" "HeavyGiftsModel" "then" "[I") ∈ lw_all := lw_g (lw_at lw_m6 234 rfl) rfl
theorem q1510 : (Jvm.Cond.soleField "HeavyGiftsModel" "then") ∈ lw_all := lw_g (lw_at lw_m6 235 rfl) rfl
theorem q1511 : (Jvm.Cond.lays "HeavyGiftsModel" "HeavyGiftsModel" "stateMany" "I") ∈ lw_all := lw_g (lw_at lw_m6 236 rfl) rfl
theorem q1512 : (Jvm.Cond.soleField "HeavyGiftsModel" "stateMany") ∈ lw_all := lw_g (lw_at lw_m6 237 rfl) rfl
theorem q1513 : (Jvm.Cond.lays "HeavyGiftsModel" "HeavyGiftsModel" "isTooMany" "Z") ∈ lw_all := lw_g (lw_at lw_m6 238 rfl) rfl
theorem q1514 : (Jvm.Cond.soleField "HeavyGiftsModel" "isTooMany") ∈ lw_all := lw_g (lw_at lw_m6 239 rfl) rfl
theorem q1515 : (Jvm.Cond.laysFinal "HeavyGiftsModel" "HeavyGiftsModel" "canMake" "[Z") ∈ lw_all := lw_g (lw_at lw_m7 0 rfl) rfl
theorem q1516 : (Jvm.Cond.soleField "HeavyGiftsModel" "canMake") ∈ lw_all := lw_g (lw_at lw_m7 1 rfl) rfl
theorem q1517 : (Jvm.Cond.laysFinal "HeavyGiftsModel" "HeavyGiftsModel" "weightNow" "[I") ∈ lw_all := lw_g (lw_at lw_m7 2 rfl) rfl
theorem q1518 : (Jvm.Cond.soleField "HeavyGiftsModel" "weightNow") ∈ lw_all := lw_g (lw_at lw_m7 3 rfl) rfl
theorem q1519 : (Jvm.Cond.lays "HeavyGiftsModel" "HeavyGiftsModel" "hasImage" "Z") ∈ lw_all := lw_g (lw_at lw_m7 4 rfl) rfl
theorem q1520 : (Jvm.Cond.soleField "HeavyGiftsModel" "hasImage") ∈ lw_all := lw_g (lw_at lw_m7 5 rfl) rfl
theorem q1521 : (Jvm.Cond.lays "HeavyGiftsModel" "HeavyGiftsModel" "giftsThen" "I") ∈ lw_all := lw_g (lw_at lw_m7 6 rfl) rfl
theorem q1522 : (Jvm.Cond.soleField "HeavyGiftsModel" "giftsThen") ∈ lw_all := lw_g (lw_at lw_m7 7 rfl) rfl
theorem q1523 : (Jvm.Cond.lays "HeavyGiftsModel" "HeavyGiftsModel" "dayThen" "I") ∈ lw_all := lw_g (lw_at lw_m7 8 rfl) rfl
theorem q1524 : (Jvm.Cond.soleField "HeavyGiftsModel" "dayThen") ∈ lw_all := lw_g (lw_at lw_m7 9 rfl) rfl
theorem q1525 : (Jvm.Cond.laysFinal "HeavyGiftsModel" "HeavyGiftsModel" "nowThen" "[I") ∈ lw_all := lw_g (lw_at lw_m7 10 rfl) rfl
theorem q1526 : (Jvm.Cond.soleField "HeavyGiftsModel" "nowThen") ∈ lw_all := lw_g (lw_at lw_m7 11 rfl) rfl
theorem q1527 : (Jvm.Cond.laysFinal "HeavyGiftsModel" "HeavyGiftsModel" "weightThen" "[I") ∈ lw_all := lw_g (lw_at lw_m7 12 rfl) rfl
theorem q1528 : (Jvm.Cond.soleField "HeavyGiftsModel" "weightThen") ∈ lw_all := lw_g (lw_at lw_m7 13 rfl) rfl
theorem q1529 : (Jvm.Cond.laysFinal "HeavyGiftsModel" "HeavyGiftsModel" "bookThen" "[I") ∈ lw_all := lw_g (lw_at lw_m7 14 rfl) rfl
theorem q1530 : (Jvm.Cond.soleField "HeavyGiftsModel" "bookThen") ∈ lw_all := lw_g (lw_at lw_m7 15 rfl) rfl
theorem q1531 : (Jvm.Cond.laysFinal "HeavyGiftsModel" "HeavyGiftsModel" "statusThen" "[I") ∈ lw_all := lw_g (lw_at lw_m7 16 rfl) rfl
theorem q1532 : (Jvm.Cond.soleField "HeavyGiftsModel" "statusThen") ∈ lw_all := lw_g (lw_at lw_m7 17 rfl) rfl
theorem q1533 : (Jvm.Cond.superclass "HeavyGiftsModel" "java/lang/Object") ∈ lw_all := lw_g (lw_at lw_m7 18 rfl) rfl
theorem q1536 : (Jvm.Cond.instanceMethod ({ cls := "HeavyGiftsModel", name := "thrown", desc := "()I" } : Jvm.MethodName)) ∈ lw_all := lw_g (lw_at lw_m7 21 rfl) rfl
theorem q1537 : (Jvm.Cond.selects "HeavyGiftsModel" ({ cls := "HeavyGiftsModel", name := "thrown", desc := "()I" } : Jvm.MethodName) ({ cls := "HeavyGiftsModel", name := "thrown", desc := "()I" } : Jvm.MethodName)) ∈ lw_all := lw_g (lw_at lw_m7 22 rfl) rfl
theorem q1538 : (Jvm.Cond.code ({ cls := "HeavyGiftsModel", name := "thrown", desc := "()I" } : Jvm.MethodName) prog_16_method_2_code (1 : Nat) (Option.some Jvm.ClassFile.FieldType.int)) ∈ lw_all := lw_g (lw_at lw_m7 23 rfl) rfl
theorem q1540 : (Jvm.Cond.instanceMethod ({ cls := "HeavyGiftsModel", name := "feed", desc := "(IIIII)I" } : Jvm.MethodName)) ∈ lw_all := lw_g (lw_at lw_m7 25 rfl) rfl
theorem q1541 : (Jvm.Cond.selects "HeavyGiftsModel" ({ cls := "HeavyGiftsModel", name := "feed", desc := "(IIIII)I" } : Jvm.MethodName) ({ cls := "HeavyGiftsModel", name := "feed", desc := "(IIIII)I" } : Jvm.MethodName)) ∈ lw_all := lw_g (lw_at lw_m7 26 rfl) rfl
theorem q1542 : (Jvm.Cond.code ({ cls := "HeavyGiftsModel", name := "feed", desc := "(IIIII)I" } : Jvm.MethodName) prog_16_method_8_code (8 : Nat) (Option.some Jvm.ClassFile.FieldType.int)) ∈ lw_all := lw_g (lw_at lw_m7 27 rfl) rfl
theorem q1544 : (Jvm.Cond.instanceMethod ({ cls := "HeavyGiftsModel", name := "town", desc := "(I)I" } : Jvm.MethodName)) ∈ lw_all := lw_g (lw_at lw_m7 29 rfl) rfl
theorem q1545 : (Jvm.Cond.selects "HeavyGiftsModel" ({ cls := "HeavyGiftsModel", name := "town", desc := "(I)I" } : Jvm.MethodName) ({ cls := "HeavyGiftsModel", name := "town", desc := "(I)I" } : Jvm.MethodName)) ∈ lw_all := lw_g (lw_at lw_m7 30 rfl) rfl
theorem q1546 : (Jvm.Cond.code ({ cls := "HeavyGiftsModel", name := "town", desc := "(I)I" } : Jvm.MethodName) prog_16_method_24_code (4 : Nat) (Option.some Jvm.ClassFile.FieldType.int)) ∈ lw_all := lw_g (lw_at lw_m7 31 rfl) rfl
theorem q1547 : (Jvm.Cond.methodLink "HeavyGiftsModel" (243 : Nat) ({ cls := "HeavyGiftsModel", name := "fail", desc := "(I)I" } : Jvm.MethodName)) ∈ lw_all := lw_g (lw_at lw_m7 32 rfl) rfl
theorem q1548 : (Jvm.Cond.privateMethod ({ cls := "HeavyGiftsModel", name := "fail", desc := "(I)I" } : Jvm.MethodName)) ∈ lw_tbl := lw_at lw_m7 33 rfl
theorem q1549 : (Jvm.Cond.instanceMethod ({ cls := "HeavyGiftsModel", name := "fail", desc := "(I)I" } : Jvm.MethodName)) ∈ lw_all := lw_g (lw_at lw_m7 34 rfl) rfl
theorem q1550 : (Jvm.Cond.code ({ cls := "HeavyGiftsModel", name := "fail", desc := "(I)I" } : Jvm.MethodName) prog_16_method_3_code (2 : Nat) (Option.some Jvm.ClassFile.FieldType.int)) ∈ lw_all := lw_g (lw_at lw_m7 35 rfl) rfl
theorem q1551 : (Jvm.Cond.methodLink "HeavyGiftsModel" (192 : Nat) ({ cls := "HeavyGiftsModel", name := "stepOn", desc := "()V" } : Jvm.MethodName)) ∈ lw_all := lw_g (lw_at lw_m7 36 rfl) rfl
theorem q1552 : (Jvm.Cond.privateMethod ({ cls := "HeavyGiftsModel", name := "stepOn", desc := "()V" } : Jvm.MethodName)) ∈ lw_tbl := lw_at lw_m7 37 rfl
theorem q1553 : (Jvm.Cond.instanceMethod ({ cls := "HeavyGiftsModel", name := "stepOn", desc := "()V" } : Jvm.MethodName)) ∈ lw_all := lw_g (lw_at lw_m7 38 rfl) rfl
theorem q1554 : (Jvm.Cond.code ({ cls := "HeavyGiftsModel", name := "stepOn", desc := "()V" } : Jvm.MethodName) prog_16_method_12_code (2 : Nat) (Option.none : Option Jvm.ClassFile.FieldType)) ∈ lw_all := lw_g (lw_at lw_m7 39 rfl) rfl
theorem q1555 : (Jvm.Cond.methodLink "HeavyGiftsModel" (144 : Nat) ({ cls := "HeavyGiftsModel", name := "byteAt", desc := "(I)I" } : Jvm.MethodName)) ∈ lw_all := lw_g (lw_at lw_m7 40 rfl) rfl
theorem q1556 : (Jvm.Cond.privateMethod ({ cls := "HeavyGiftsModel", name := "byteAt", desc := "(I)I" } : Jvm.MethodName)) ∈ lw_tbl := lw_at lw_m7 41 rfl
theorem q1557 : (Jvm.Cond.instanceMethod ({ cls := "HeavyGiftsModel", name := "byteAt", desc := "(I)I" } : Jvm.MethodName)) ∈ lw_all := lw_g (lw_at lw_m7 42 rfl) rfl
theorem q1558 : (Jvm.Cond.code ({ cls := "HeavyGiftsModel", name := "byteAt", desc := "(I)I" } : Jvm.MethodName) prog_16_method_9_code (2 : Nat) (Option.some Jvm.ClassFile.FieldType.int)) ∈ lw_all := lw_g (lw_at lw_m7 43 rfl) rfl
theorem q1559 : (Jvm.Cond.methodLink "HeavyGiftsModel" (154 : Nat) ({ cls := "HeavyGiftsModel", name := "isLetter", desc := "(I)Z" } : Jvm.MethodName)) ∈ lw_all := lw_g (lw_at lw_m7 44 rfl) rfl
theorem q1560 : (Jvm.Cond.static ({ cls := "HeavyGiftsModel", name := "isLetter", desc := "(I)Z" } : Jvm.MethodName)) ∈ lw_all := lw_g (lw_at lw_m7 45 rfl) rfl
theorem q1561 : (Jvm.Cond.code ({ cls := "HeavyGiftsModel", name := "isLetter", desc := "(I)Z" } : Jvm.MethodName) prog_16_method_10_code (1 : Nat) (Option.some Jvm.ClassFile.FieldType.boolean)) ∈ lw_all := lw_g (lw_at lw_m7 46 rfl) rfl
theorem q1562 : (Jvm.Cond.methodLink "HeavyGiftsModel" (158 : Nat) ({ cls := "HeavyGiftsModel", name := "isDigit", desc := "(I)Z" } : Jvm.MethodName)) ∈ lw_all := lw_g (lw_at lw_m7 47 rfl) rfl
theorem q1563 : (Jvm.Cond.static ({ cls := "HeavyGiftsModel", name := "isDigit", desc := "(I)Z" } : Jvm.MethodName)) ∈ lw_all := lw_g (lw_at lw_m7 48 rfl) rfl
theorem q1564 : (Jvm.Cond.code ({ cls := "HeavyGiftsModel", name := "isDigit", desc := "(I)Z" } : Jvm.MethodName) prog_16_method_11_code (1 : Nat) (Option.some Jvm.ClassFile.FieldType.boolean)) ∈ lw_all := lw_g (lw_at lw_m7 49 rfl) rfl
theorem q1565 : (Jvm.Cond.constant "HeavyGiftsModel" (164 : Nat) (100000 : Int32)) ∈ lw_all := lw_g (lw_at lw_m7 50 rfl) rfl
theorem q1566 : (Jvm.Cond.methodLink "HeavyGiftsModel" (165 : Nat) ({ cls := "java/lang/Math", name := "min", desc := "(II)I" } : Jvm.MethodName)) ∈ lw_all := lw_g (lw_at lw_m7 51 rfl) rfl
theorem q1567 : (Jvm.Cond.methodLink "HeavyGiftsModel" (246 : Nat) ({ cls := "HeavyGiftsModel", name := "readLine", desc := "(I)I" } : Jvm.MethodName)) ∈ lw_all := lw_g (lw_at lw_m7 52 rfl) rfl
theorem q1568 : (Jvm.Cond.privateMethod ({ cls := "HeavyGiftsModel", name := "readLine", desc := "(I)I" } : Jvm.MethodName)) ∈ lw_tbl := lw_at lw_m7 53 rfl
theorem q1569 : (Jvm.Cond.instanceMethod ({ cls := "HeavyGiftsModel", name := "readLine", desc := "(I)I" } : Jvm.MethodName)) ∈ lw_all := lw_g (lw_at lw_m7 54 rfl) rfl
theorem q1570 : (Jvm.Cond.code ({ cls := "HeavyGiftsModel", name := "readLine", desc := "(I)I" } : Jvm.MethodName) prog_16_method_23_code (3 : Nat) (Option.some Jvm.ClassFile.FieldType.int)) ∈ lw_all := lw_g (lw_at lw_m7 55 rfl) rfl
theorem q1571 : (Jvm.Cond.stringRef "HeavyGiftsModel" (221 : Nat) "law") ∈ lw_tbl := lw_at lw_m7 56 rfl
theorem q1572 : (Jvm.Cond.methodLink "HeavyGiftsModel" (188 : Nat) ({ cls := "HeavyGiftsModel", name := "is", desc := "(Ljava/lang/String;)Z" } : Jvm.MethodName)) ∈ lw_all := lw_g (lw_at lw_m7 57 rfl) rfl
theorem q1573 : (Jvm.Cond.privateMethod ({ cls := "HeavyGiftsModel", name := "is", desc := "(Ljava/lang/String;)Z" } : Jvm.MethodName)) ∈ lw_tbl := lw_at lw_m7 58 rfl
theorem q1574 : (Jvm.Cond.instanceMethod ({ cls := "HeavyGiftsModel", name := "is", desc := "(Ljava/lang/String;)Z" } : Jvm.MethodName)) ∈ lw_all := lw_g (lw_at lw_m7 59 rfl) rfl
theorem q1575 : (Jvm.Cond.code ({ cls := "HeavyGiftsModel", name := "is", desc := "(Ljava/lang/String;)Z" } : Jvm.MethodName) prog_16_method_14_code (4 : Nat) (Option.some Jvm.ClassFile.FieldType.boolean)) ∈ lw_all := lw_g (lw_at lw_m7 60 rfl) rfl
theorem q1576 : (Jvm.Cond.methodLink "HeavyGiftsModel" (180 : Nat) ({ cls := "java/lang/String", name := "length", desc := "()I" } : Jvm.MethodName)) ∈ lw_all := lw_g (lw_at lw_m7 61 rfl) rfl
theorem q1577 : (Jvm.Cond.methodLink "HeavyGiftsModel" (184 : Nat) ({ cls := "java/lang/String", name := "charAt", desc := "(I)C" } : Jvm.MethodName)) ∈ lw_all := lw_g (lw_at lw_m7 62 rfl) rfl
theorem q1592 : (Jvm.Cond.stringRef "HeavyGiftsModel" (223 : Nat) "within") ∈ lw_tbl := lw_at lw_m7 77 rfl
theorem q1593 : (Jvm.Cond.methodLink "HeavyGiftsModel" (195 : Nat) ({ cls := "HeavyGiftsModel", name := "wrong", desc := "(I)V" } : Jvm.MethodName)) ∈ lw_all := lw_g (lw_at lw_m7 78 rfl) rfl
theorem q1594 : (Jvm.Cond.privateMethod ({ cls := "HeavyGiftsModel", name := "wrong", desc := "(I)V" } : Jvm.MethodName)) ∈ lw_tbl := lw_at lw_m7 79 rfl
theorem q1595 : (Jvm.Cond.instanceMethod ({ cls := "HeavyGiftsModel", name := "wrong", desc := "(I)V" } : Jvm.MethodName)) ∈ lw_all := lw_g (lw_at lw_m7 80 rfl) rfl
theorem q1596 : (Jvm.Cond.code ({ cls := "HeavyGiftsModel", name := "wrong", desc := "(I)V" } : Jvm.MethodName) prog_16_method_13_code (2 : Nat) (Option.none : Option Jvm.ClassFile.FieldType)) ∈ lw_all := lw_g (lw_at lw_m7 81 rfl) rfl
theorem q1597 : (Jvm.Cond.stringRef "HeavyGiftsModel" (225 : Nat) "person") ∈ lw_tbl := lw_at lw_m7 82 rfl
theorem q1598 : (Jvm.Cond.methodLink "HeavyGiftsModel" (227 : Nat) ({ cls := "HeavyGiftsModel", name := "readOne", desc := "()V" } : Jvm.MethodName)) ∈ lw_all := lw_g (lw_at lw_m7 83 rfl) rfl
theorem q1599 : (Jvm.Cond.privateMethod ({ cls := "HeavyGiftsModel", name := "readOne", desc := "()V" } : Jvm.MethodName)) ∈ lw_tbl := lw_at lw_m7 84 rfl
theorem q1600 : (Jvm.Cond.instanceMethod ({ cls := "HeavyGiftsModel", name := "readOne", desc := "()V" } : Jvm.MethodName)) ∈ lw_all := lw_g (lw_at lw_m7 85 rfl) rfl
theorem q1601 : (Jvm.Cond.code ({ cls := "HeavyGiftsModel", name := "readOne", desc := "()V" } : Jvm.MethodName) prog_16_method_19_code (4 : Nat) (Option.none : Option Jvm.ClassFile.FieldType)) ∈ lw_all := lw_g (lw_at lw_m7 86 rfl) rfl
theorem q1602 : (Jvm.Cond.stringRef "HeavyGiftsModel" (202 : Nat) "sand") ∈ lw_tbl := lw_at lw_m7 87 rfl
theorem q1603 : (Jvm.Cond.methodLink "HeavyGiftsModel" (204 : Nat) ({ cls := "HeavyGiftsModel", name := "passes", desc := "(Ljava/lang/String;)Z" } : Jvm.MethodName)) ∈ lw_all := lw_g (lw_at lw_m7 88 rfl) rfl
theorem q1604 : (Jvm.Cond.privateMethod ({ cls := "HeavyGiftsModel", name := "passes", desc := "(Ljava/lang/String;)Z" } : Jvm.MethodName)) ∈ lw_tbl := lw_at lw_m7 89 rfl
theorem q1605 : (Jvm.Cond.instanceMethod ({ cls := "HeavyGiftsModel", name := "passes", desc := "(Ljava/lang/String;)Z" } : Jvm.MethodName)) ∈ lw_all := lw_g (lw_at lw_m7 90 rfl) rfl
theorem q1606 : (Jvm.Cond.code ({ cls := "HeavyGiftsModel", name := "passes", desc := "(Ljava/lang/String;)Z" } : Jvm.MethodName) prog_16_method_15_code (3 : Nat) (Option.some Jvm.ClassFile.FieldType.boolean)) ∈ lw_all := lw_g (lw_at lw_m7 91 rfl) rfl
theorem q1607 : (Jvm.Cond.methodLink "HeavyGiftsModel" (207 : Nat) ({ cls := "HeavyGiftsModel", name := "readNumber", desc := "(II)I" } : Jvm.MethodName)) ∈ lw_all := lw_g (lw_at lw_m7 92 rfl) rfl
theorem q1608 : (Jvm.Cond.privateMethod ({ cls := "HeavyGiftsModel", name := "readNumber", desc := "(II)I" } : Jvm.MethodName)) ∈ lw_tbl := lw_at lw_m7 93 rfl
theorem q1609 : (Jvm.Cond.instanceMethod ({ cls := "HeavyGiftsModel", name := "readNumber", desc := "(II)I" } : Jvm.MethodName)) ∈ lw_all := lw_g (lw_at lw_m7 94 rfl) rfl
theorem q1610 : (Jvm.Cond.code ({ cls := "HeavyGiftsModel", name := "readNumber", desc := "(II)I" } : Jvm.MethodName) prog_16_method_16_code (4 : Nat) (Option.some Jvm.ClassFile.FieldType.int)) ∈ lw_all := lw_g (lw_at lw_m7 95 rfl) rfl
theorem q1611 : (Jvm.Cond.stringRef "HeavyGiftsModel" (230 : Nat) "thing") ∈ lw_tbl := lw_at lw_m7 96 rfl
theorem q1612 : (Jvm.Cond.methodLink "HeavyGiftsModel" (232 : Nat) ({ cls := "HeavyGiftsModel", name := "readThing", desc := "()V" } : Jvm.MethodName)) ∈ lw_all := lw_g (lw_at lw_m7 97 rfl) rfl
theorem q1613 : (Jvm.Cond.privateMethod ({ cls := "HeavyGiftsModel", name := "readThing", desc := "()V" } : Jvm.MethodName)) ∈ lw_tbl := lw_at lw_m7 98 rfl
theorem q1614 : (Jvm.Cond.instanceMethod ({ cls := "HeavyGiftsModel", name := "readThing", desc := "()V" } : Jvm.MethodName)) ∈ lw_all := lw_g (lw_at lw_m7 99 rfl) rfl
theorem q1615 : (Jvm.Cond.code ({ cls := "HeavyGiftsModel", name := "readThing", desc := "()V" } : Jvm.MethodName) prog_16_method_20_code (2 : Nat) (Option.none : Option Jvm.ClassFile.FieldType)) ∈ lw_all := lw_g (lw_at lw_m7 100 rfl) rfl
theorem q1616 : (Jvm.Cond.methodLink "HeavyGiftsModel" (210 : Nat) ({ cls := "HeavyGiftsModel", name := "readPerson", desc := "()I" } : Jvm.MethodName)) ∈ lw_all := lw_g (lw_at lw_m7 101 rfl) rfl
theorem q1617 : (Jvm.Cond.privateMethod ({ cls := "HeavyGiftsModel", name := "readPerson", desc := "()I" } : Jvm.MethodName)) ∈ lw_tbl := lw_at lw_m7 102 rfl
theorem q1618 : (Jvm.Cond.instanceMethod ({ cls := "HeavyGiftsModel", name := "readPerson", desc := "()I" } : Jvm.MethodName)) ∈ lw_all := lw_g (lw_at lw_m7 103 rfl) rfl
theorem q1619 : (Jvm.Cond.code ({ cls := "HeavyGiftsModel", name := "readPerson", desc := "()I" } : Jvm.MethodName) prog_16_method_18_code (2 : Nat) (Option.some Jvm.ClassFile.FieldType.int)) ∈ lw_all := lw_g (lw_at lw_m7 104 rfl) rfl
theorem q1620 : (Jvm.Cond.methodLink "HeavyGiftsModel" (199 : Nat) ({ cls := "HeavyGiftsModel", name := "personNow", desc := "()I" } : Jvm.MethodName)) ∈ lw_all := lw_g (lw_at lw_m7 105 rfl) rfl
theorem q1621 : (Jvm.Cond.privateMethod ({ cls := "HeavyGiftsModel", name := "personNow", desc := "()I" } : Jvm.MethodName)) ∈ lw_tbl := lw_at lw_m7 106 rfl
theorem q1622 : (Jvm.Cond.instanceMethod ({ cls := "HeavyGiftsModel", name := "personNow", desc := "()I" } : Jvm.MethodName)) ∈ lw_all := lw_g (lw_at lw_m7 107 rfl) rfl
theorem q1623 : (Jvm.Cond.code ({ cls := "HeavyGiftsModel", name := "personNow", desc := "()I" } : Jvm.MethodName) prog_16_method_17_code (1 : Nat) (Option.some Jvm.ClassFile.FieldType.int)) ∈ lw_all := lw_g (lw_at lw_m7 108 rfl) rfl
theorem q1624 : (Jvm.Cond.stringRef "HeavyGiftsModel" (213 : Nat) "wet") ∈ lw_tbl := lw_at lw_m7 109 rfl
theorem q1625 : (Jvm.Cond.stringRef "HeavyGiftsModel" (235 : Nat) "owes") ∈ lw_tbl := lw_at lw_m7 110 rfl
theorem q1626 : (Jvm.Cond.methodLink "HeavyGiftsModel" (237 : Nat) ({ cls := "HeavyGiftsModel", name := "readOwes", desc := "()V" } : Jvm.MethodName)) ∈ lw_all := lw_g (lw_at lw_m7 111 rfl) rfl
theorem q1627 : (Jvm.Cond.privateMethod ({ cls := "HeavyGiftsModel", name := "readOwes", desc := "()V" } : Jvm.MethodName)) ∈ lw_tbl := lw_at lw_m7 112 rfl
theorem q1628 : (Jvm.Cond.instanceMethod ({ cls := "HeavyGiftsModel", name := "readOwes", desc := "()V" } : Jvm.MethodName)) ∈ lw_all := lw_g (lw_at lw_m7 113 rfl) rfl
theorem q1629 : (Jvm.Cond.code ({ cls := "HeavyGiftsModel", name := "readOwes", desc := "()V" } : Jvm.MethodName) prog_16_method_21_code (3 : Nat) (Option.none : Option Jvm.ClassFile.FieldType)) ∈ lw_all := lw_g (lw_at lw_m7 114 rfl) rfl
theorem q1630 : (Jvm.Cond.stringRef "HeavyGiftsModel" (215 : Nat) "to") ∈ lw_tbl := lw_at lw_m7 115 rfl
theorem q1631 : (Jvm.Cond.methodLink "HeavyGiftsModel" (240 : Nat) ({ cls := "HeavyGiftsModel", name := "readLaw", desc := "()V" } : Jvm.MethodName)) ∈ lw_all := lw_g (lw_at lw_m7 116 rfl) rfl
theorem q1632 : (Jvm.Cond.privateMethod ({ cls := "HeavyGiftsModel", name := "readLaw", desc := "()V" } : Jvm.MethodName)) ∈ lw_tbl := lw_at lw_m7 117 rfl
theorem q1633 : (Jvm.Cond.instanceMethod ({ cls := "HeavyGiftsModel", name := "readLaw", desc := "()V" } : Jvm.MethodName)) ∈ lw_all := lw_g (lw_at lw_m7 118 rfl) rfl
theorem q1634 : (Jvm.Cond.code ({ cls := "HeavyGiftsModel", name := "readLaw", desc := "()V" } : Jvm.MethodName) prog_16_method_22_code (2 : Nat) (Option.none : Option Jvm.ClassFile.FieldType)) ∈ lw_all := lw_g (lw_at lw_m7 119 rfl) rfl
theorem q1635 : (Jvm.Cond.stringRef "HeavyGiftsModel" (217 : Nat) "giver") ∈ lw_tbl := lw_at lw_m7 120 rfl
theorem q1636 : (Jvm.Cond.stringRef "HeavyGiftsModel" (219 : Nat) "anyone") ∈ lw_tbl := lw_at lw_m7 121 rfl
theorem q1637 : (Jvm.Cond.methodLink "HeavyGiftsModel" (249 : Nat) ({ cls := "HeavyGiftsModel", name := "copy", desc := "([I[I)V" } : Jvm.MethodName)) ∈ lw_all := lw_g (lw_at lw_m7 122 rfl) rfl
theorem q1638 : (Jvm.Cond.static ({ cls := "HeavyGiftsModel", name := "copy", desc := "([I[I)V" } : Jvm.MethodName)) ∈ lw_all := lw_g (lw_at lw_m7 123 rfl) rfl
theorem q1639 : (Jvm.Cond.code ({ cls := "HeavyGiftsModel", name := "copy", desc := "([I[I)V" } : Jvm.MethodName) prog_16_method_25_code (3 : Nat) (Option.none : Option Jvm.ClassFile.FieldType)) ∈ lw_all := lw_g (lw_at lw_m7 124 rfl) rfl
theorem q1641 : (Jvm.Cond.instanceMethod ({ cls := "HeavyGiftsModel", name := "fault", desc := "()I" } : Jvm.MethodName)) ∈ lw_all := lw_g (lw_at lw_m7 126 rfl) rfl
theorem q1642 : (Jvm.Cond.selects "HeavyGiftsModel" ({ cls := "HeavyGiftsModel", name := "fault", desc := "()I" } : Jvm.MethodName) ({ cls := "HeavyGiftsModel", name := "fault", desc := "()I" } : Jvm.MethodName)) ∈ lw_all := lw_g (lw_at lw_m7 127 rfl) rfl
theorem q1643 : (Jvm.Cond.code ({ cls := "HeavyGiftsModel", name := "fault", desc := "()I" } : Jvm.MethodName) prog_16_method_26_code (1 : Nat) (Option.some Jvm.ClassFile.FieldType.int)) ∈ lw_all := lw_g (lw_at lw_m7 128 rfl) rfl
theorem q1645 : (Jvm.Cond.instanceMethod ({ cls := "HeavyGiftsModel", name := "count", desc := "(I)I" } : Jvm.MethodName)) ∈ lw_all := lw_g (lw_at lw_m7 130 rfl) rfl
theorem q1646 : (Jvm.Cond.selects "HeavyGiftsModel" ({ cls := "HeavyGiftsModel", name := "count", desc := "(I)I" } : Jvm.MethodName) ({ cls := "HeavyGiftsModel", name := "count", desc := "(I)I" } : Jvm.MethodName)) ∈ lw_all := lw_g (lw_at lw_m7 131 rfl) rfl
theorem q1647 : (Jvm.Cond.code ({ cls := "HeavyGiftsModel", name := "count", desc := "(I)I" } : Jvm.MethodName) prog_16_method_27_code (2 : Nat) (Option.some Jvm.ClassFile.FieldType.int)) ∈ lw_all := lw_g (lw_at lw_m7 132 rfl) rfl
theorem q1648 : (Jvm.Cond.methodLink "HeavyGiftsModel" (131 : Nat) ({ cls := "HeavyGiftsModel", name := "isIn", desc := "(III)Z" } : Jvm.MethodName)) ∈ lw_all := lw_g (lw_at lw_m7 133 rfl) rfl
theorem q1649 : (Jvm.Cond.static ({ cls := "HeavyGiftsModel", name := "isIn", desc := "(III)Z" } : Jvm.MethodName)) ∈ lw_all := lw_g (lw_at lw_m7 134 rfl) rfl
theorem q1650 : (Jvm.Cond.code ({ cls := "HeavyGiftsModel", name := "isIn", desc := "(III)Z" } : Jvm.MethodName) prog_16_method_4_code (3 : Nat) (Option.some Jvm.ClassFile.FieldType.boolean)) ∈ lw_all := lw_g (lw_at lw_m7 135 rfl) rfl
theorem q1652 : (Jvm.Cond.instanceMethod ({ cls := "HeavyGiftsModel", name := "person", desc := "(II)I" } : Jvm.MethodName)) ∈ lw_all := lw_g (lw_at lw_m7 137 rfl) rfl
theorem q1653 : (Jvm.Cond.selects "HeavyGiftsModel" ({ cls := "HeavyGiftsModel", name := "person", desc := "(II)I" } : Jvm.MethodName) ({ cls := "HeavyGiftsModel", name := "person", desc := "(II)I" } : Jvm.MethodName)) ∈ lw_all := lw_g (lw_at lw_m7 138 rfl) rfl
theorem q1654 : (Jvm.Cond.code ({ cls := "HeavyGiftsModel", name := "person", desc := "(II)I" } : Jvm.MethodName) prog_16_method_31_code (3 : Nat) (Option.some Jvm.ClassFile.FieldType.int)) ∈ lw_all := lw_g (lw_at lw_m7 139 rfl) rfl
theorem q1655 : (Jvm.Cond.methodLink "HeavyGiftsModel" (263 : Nat) ({ cls := "HeavyGiftsModel", name := "isPerson", desc := "(I)Z" } : Jvm.MethodName)) ∈ lw_all := lw_g (lw_at lw_m7 140 rfl) rfl
theorem q1656 : (Jvm.Cond.privateMethod ({ cls := "HeavyGiftsModel", name := "isPerson", desc := "(I)Z" } : Jvm.MethodName)) ∈ lw_tbl := lw_at lw_m7 141 rfl
theorem q1657 : (Jvm.Cond.instanceMethod ({ cls := "HeavyGiftsModel", name := "isPerson", desc := "(I)Z" } : Jvm.MethodName)) ∈ lw_all := lw_g (lw_at lw_m7 142 rfl) rfl
theorem q1658 : (Jvm.Cond.code ({ cls := "HeavyGiftsModel", name := "isPerson", desc := "(I)Z" } : Jvm.MethodName) prog_16_method_6_code (2 : Nat) (Option.some Jvm.ClassFile.FieldType.boolean)) ∈ lw_all := lw_g (lw_at lw_m7 143 rfl) rfl
theorem q1659 : (Jvm.Cond.methodLink "HeavyGiftsModel" (266 : Nat) ({ cls := "HeavyGiftsModel", name := "hasOf", desc := "([II)I" } : Jvm.MethodName)) ∈ lw_all := lw_g (lw_at lw_m7 144 rfl) rfl
theorem q1660 : (Jvm.Cond.privateMethod ({ cls := "HeavyGiftsModel", name := "hasOf", desc := "([II)I" } : Jvm.MethodName)) ∈ lw_tbl := lw_at lw_m7 145 rfl
theorem q1661 : (Jvm.Cond.instanceMethod ({ cls := "HeavyGiftsModel", name := "hasOf", desc := "([II)I" } : Jvm.MethodName)) ∈ lw_all := lw_g (lw_at lw_m7 146 rfl) rfl
theorem q1662 : (Jvm.Cond.code ({ cls := "HeavyGiftsModel", name := "hasOf", desc := "([II)I" } : Jvm.MethodName) prog_16_method_28_code (5 : Nat) (Option.some Jvm.ClassFile.FieldType.int)) ∈ lw_all := lw_g (lw_at lw_m7 147 rfl) rfl
theorem q1663 : (Jvm.Cond.methodLink "HeavyGiftsModel" (270 : Nat) ({ cls := "HeavyGiftsModel", name := "worthOf", desc := "(I)I" } : Jvm.MethodName)) ∈ lw_all := lw_g (lw_at lw_m7 148 rfl) rfl
theorem q1664 : (Jvm.Cond.privateMethod ({ cls := "HeavyGiftsModel", name := "worthOf", desc := "(I)I" } : Jvm.MethodName)) ∈ lw_tbl := lw_at lw_m7 149 rfl
theorem q1665 : (Jvm.Cond.instanceMethod ({ cls := "HeavyGiftsModel", name := "worthOf", desc := "(I)I" } : Jvm.MethodName)) ∈ lw_all := lw_g (lw_at lw_m7 150 rfl) rfl
theorem q1666 : (Jvm.Cond.code ({ cls := "HeavyGiftsModel", name := "worthOf", desc := "(I)I" } : Jvm.MethodName) prog_16_method_30_code (4 : Nat) (Option.some Jvm.ClassFile.FieldType.int)) ∈ lw_all := lw_g (lw_at lw_m7 151 rfl) rfl
theorem q1667 : (Jvm.Cond.methodLink "HeavyGiftsModel" (273 : Nat) ({ cls := "HeavyGiftsModel", name := "weightOf", desc := "(I)I" } : Jvm.MethodName)) ∈ lw_all := lw_g (lw_at lw_m7 152 rfl) rfl
theorem q1668 : (Jvm.Cond.privateMethod ({ cls := "HeavyGiftsModel", name := "weightOf", desc := "(I)I" } : Jvm.MethodName)) ∈ lw_tbl := lw_at lw_m7 153 rfl
theorem q1669 : (Jvm.Cond.instanceMethod ({ cls := "HeavyGiftsModel", name := "weightOf", desc := "(I)I" } : Jvm.MethodName)) ∈ lw_all := lw_g (lw_at lw_m7 154 rfl) rfl
theorem q1670 : (Jvm.Cond.code ({ cls := "HeavyGiftsModel", name := "weightOf", desc := "(I)I" } : Jvm.MethodName) prog_16_method_29_code (4 : Nat) (Option.some Jvm.ClassFile.FieldType.int)) ∈ lw_all := lw_g (lw_at lw_m7 155 rfl) rfl
theorem q1672 : (Jvm.Cond.instanceMethod ({ cls := "HeavyGiftsModel", name := "thing", desc := "(II)I" } : Jvm.MethodName)) ∈ lw_all := lw_g (lw_at lw_m7 157 rfl) rfl
theorem q1673 : (Jvm.Cond.selects "HeavyGiftsModel" ({ cls := "HeavyGiftsModel", name := "thing", desc := "(II)I" } : Jvm.MethodName) ({ cls := "HeavyGiftsModel", name := "thing", desc := "(II)I" } : Jvm.MethodName)) ∈ lw_all := lw_g (lw_at lw_m7 158 rfl) rfl
theorem q1674 : (Jvm.Cond.code ({ cls := "HeavyGiftsModel", name := "thing", desc := "(II)I" } : Jvm.MethodName) prog_16_method_32_code (3 : Nat) (Option.some Jvm.ClassFile.FieldType.int)) ∈ lw_all := lw_g (lw_at lw_m7 159 rfl) rfl
theorem q1675 : (Jvm.Cond.methodLink "HeavyGiftsModel" (276 : Nat) ({ cls := "HeavyGiftsModel", name := "isThing", desc := "(I)Z" } : Jvm.MethodName)) ∈ lw_all := lw_g (lw_at lw_m7 160 rfl) rfl
theorem q1676 : (Jvm.Cond.privateMethod ({ cls := "HeavyGiftsModel", name := "isThing", desc := "(I)Z" } : Jvm.MethodName)) ∈ lw_tbl := lw_at lw_m7 161 rfl
theorem q1677 : (Jvm.Cond.instanceMethod ({ cls := "HeavyGiftsModel", name := "isThing", desc := "(I)Z" } : Jvm.MethodName)) ∈ lw_all := lw_g (lw_at lw_m7 162 rfl) rfl
theorem q1678 : (Jvm.Cond.code ({ cls := "HeavyGiftsModel", name := "isThing", desc := "(I)Z" } : Jvm.MethodName) prog_16_method_7_code (2 : Nat) (Option.some Jvm.ClassFile.FieldType.boolean)) ∈ lw_all := lw_g (lw_at lw_m7 163 rfl) rfl
theorem q1680 : (Jvm.Cond.instanceMethod ({ cls := "HeavyGiftsModel", name := "judge", desc := "(IIII)I" } : Jvm.MethodName)) ∈ lw_all := lw_g (lw_at lw_m7 165 rfl) rfl
theorem q1681 : (Jvm.Cond.selects "HeavyGiftsModel" ({ cls := "HeavyGiftsModel", name := "judge", desc := "(IIII)I" } : Jvm.MethodName) ({ cls := "HeavyGiftsModel", name := "judge", desc := "(IIII)I" } : Jvm.MethodName)) ∈ lw_all := lw_g (lw_at lw_m7 166 rfl) rfl
theorem q1682 : (Jvm.Cond.code ({ cls := "HeavyGiftsModel", name := "judge", desc := "(IIII)I" } : Jvm.MethodName) prog_16_method_37_code (5 : Nat) (Option.some Jvm.ClassFile.FieldType.int)) ∈ lw_all := lw_g (lw_at lw_m7 167 rfl) rfl
theorem q1683 : (Jvm.Cond.methodLink "HeavyGiftsModel" (289 : Nat) ({ cls := "HeavyGiftsModel", name := "troubleOf", desc := "(IIII)I" } : Jvm.MethodName)) ∈ lw_all := lw_g (lw_at lw_m7 168 rfl) rfl
theorem q1684 : (Jvm.Cond.privateMethod ({ cls := "HeavyGiftsModel", name := "troubleOf", desc := "(IIII)I" } : Jvm.MethodName)) ∈ lw_tbl := lw_at lw_m7 169 rfl
theorem q1685 : (Jvm.Cond.instanceMethod ({ cls := "HeavyGiftsModel", name := "troubleOf", desc := "(IIII)I" } : Jvm.MethodName)) ∈ lw_all := lw_g (lw_at lw_m7 170 rfl) rfl
theorem q1686 : (Jvm.Cond.code ({ cls := "HeavyGiftsModel", name := "troubleOf", desc := "(IIII)I" } : Jvm.MethodName) prog_16_method_33_code (6 : Nat) (Option.some Jvm.ClassFile.FieldType.int)) ∈ lw_all := lw_g (lw_at lw_m7 171 rfl) rfl
theorem q1687 : (Jvm.Cond.methodLink "HeavyGiftsModel" (279 : Nat) ({ cls := "HeavyGiftsModel", name := "lightest", desc := "(I)I" } : Jvm.MethodName)) ∈ lw_all := lw_g (lw_at lw_m7 172 rfl) rfl
theorem q1688 : (Jvm.Cond.privateMethod ({ cls := "HeavyGiftsModel", name := "lightest", desc := "(I)I" } : Jvm.MethodName)) ∈ lw_tbl := lw_at lw_m7 173 rfl
theorem q1689 : (Jvm.Cond.instanceMethod ({ cls := "HeavyGiftsModel", name := "lightest", desc := "(I)I" } : Jvm.MethodName)) ∈ lw_all := lw_g (lw_at lw_m7 174 rfl) rfl
theorem q1690 : (Jvm.Cond.code ({ cls := "HeavyGiftsModel", name := "lightest", desc := "(I)I" } : Jvm.MethodName) prog_16_method_34_code (2 : Nat) (Option.some Jvm.ClassFile.FieldType.int)) ∈ lw_all := lw_g (lw_at lw_m7 175 rfl) rfl
theorem q1691 : (Jvm.Cond.methodLink "HeavyGiftsModel" (282 : Nat) ({ cls := "java/lang/Math", name := "max", desc := "(II)I" } : Jvm.MethodName)) ∈ lw_all := lw_g (lw_at lw_m7 176 rfl) rfl
theorem q1693 : (Jvm.Cond.instanceMethod ({ cls := "HeavyGiftsModel", name := "give", desc := "(IIII)I" } : Jvm.MethodName)) ∈ lw_all := lw_g (lw_at lw_m7 178 rfl) rfl
theorem q1694 : (Jvm.Cond.selects "HeavyGiftsModel" ({ cls := "HeavyGiftsModel", name := "give", desc := "(IIII)I" } : Jvm.MethodName) ({ cls := "HeavyGiftsModel", name := "give", desc := "(IIII)I" } : Jvm.MethodName)) ∈ lw_all := lw_g (lw_at lw_m7 179 rfl) rfl
theorem q1695 : (Jvm.Cond.code ({ cls := "HeavyGiftsModel", name := "give", desc := "(IIII)I" } : Jvm.MethodName) prog_16_method_38_code (6 : Nat) (Option.some Jvm.ClassFile.FieldType.int)) ∈ lw_all := lw_g (lw_at lw_m7 180 rfl) rfl
theorem q1696 : (Jvm.Cond.methodLink "HeavyGiftsModel" (293 : Nat) ({ cls := "HeavyGiftsModel", name := "makeNow", desc := "(IIII)V" } : Jvm.MethodName)) ∈ lw_all := lw_g (lw_at lw_m7 181 rfl) rfl
theorem q1697 : (Jvm.Cond.privateMethod ({ cls := "HeavyGiftsModel", name := "makeNow", desc := "(IIII)V" } : Jvm.MethodName)) ∈ lw_tbl := lw_at lw_m7 182 rfl
theorem q1698 : (Jvm.Cond.instanceMethod ({ cls := "HeavyGiftsModel", name := "makeNow", desc := "(IIII)V" } : Jvm.MethodName)) ∈ lw_all := lw_g (lw_at lw_m7 183 rfl) rfl
theorem q1699 : (Jvm.Cond.code ({ cls := "HeavyGiftsModel", name := "makeNow", desc := "(IIII)V" } : Jvm.MethodName) prog_16_method_36_code (6 : Nat) (Option.none : Option Jvm.ClassFile.FieldType)) ∈ lw_all := lw_g (lw_at lw_m7 184 rfl) rfl
theorem q1700 : (Jvm.Cond.methodLink "HeavyGiftsModel" (285 : Nat) ({ cls := "HeavyGiftsModel", name := "make", desc := "([IIIII)I" } : Jvm.MethodName)) ∈ lw_all := lw_g (lw_at lw_m7 185 rfl) rfl
theorem q1701 : (Jvm.Cond.privateMethod ({ cls := "HeavyGiftsModel", name := "make", desc := "([IIIII)I" } : Jvm.MethodName)) ∈ lw_tbl := lw_at lw_m7 186 rfl
theorem q1702 : (Jvm.Cond.instanceMethod ({ cls := "HeavyGiftsModel", name := "make", desc := "([IIIII)I" } : Jvm.MethodName)) ∈ lw_all := lw_g (lw_at lw_m7 187 rfl) rfl
theorem q1703 : (Jvm.Cond.code ({ cls := "HeavyGiftsModel", name := "make", desc := "([IIIII)I" } : Jvm.MethodName) prog_16_method_35_code (8 : Nat) (Option.some Jvm.ClassFile.FieldType.int)) ∈ lw_all := lw_g (lw_at lw_m7 188 rfl) rfl
theorem q1705 : (Jvm.Cond.instanceMethod ({ cls := "HeavyGiftsModel", name := "undo", desc := "()I" } : Jvm.MethodName)) ∈ lw_all := lw_g (lw_at lw_m7 190 rfl) rfl
theorem q1706 : (Jvm.Cond.selects "HeavyGiftsModel" ({ cls := "HeavyGiftsModel", name := "undo", desc := "()I" } : Jvm.MethodName) ({ cls := "HeavyGiftsModel", name := "undo", desc := "()I" } : Jvm.MethodName)) ∈ lw_all := lw_g (lw_at lw_m7 191 rfl) rfl
theorem q1707 : (Jvm.Cond.code ({ cls := "HeavyGiftsModel", name := "undo", desc := "()I" } : Jvm.MethodName) prog_16_method_39_code (5 : Nat) (Option.some Jvm.ClassFile.FieldType.int)) ∈ lw_all := lw_g (lw_at lw_m7 192 rfl) rfl
theorem q1709 : (Jvm.Cond.instanceMethod ({ cls := "HeavyGiftsModel", name := "gift", desc := "(II)I" } : Jvm.MethodName)) ∈ lw_all := lw_g (lw_at lw_m7 194 rfl) rfl
theorem q1710 : (Jvm.Cond.selects "HeavyGiftsModel" ({ cls := "HeavyGiftsModel", name := "gift", desc := "(II)I" } : Jvm.MethodName) ({ cls := "HeavyGiftsModel", name := "gift", desc := "(II)I" } : Jvm.MethodName)) ∈ lw_all := lw_g (lw_at lw_m7 195 rfl) rfl
theorem q1711 : (Jvm.Cond.code ({ cls := "HeavyGiftsModel", name := "gift", desc := "(II)I" } : Jvm.MethodName) prog_16_method_40_code (3 : Nat) (Option.some Jvm.ClassFile.FieldType.int)) ∈ lw_all := lw_g (lw_at lw_m7 196 rfl) rfl
theorem q1713 : (Jvm.Cond.instanceMethod ({ cls := "HeavyGiftsModel", name := "sets", desc := "(I)I" } : Jvm.MethodName)) ∈ lw_all := lw_g (lw_at lw_m7 198 rfl) rfl
theorem q1714 : (Jvm.Cond.selects "HeavyGiftsModel" ({ cls := "HeavyGiftsModel", name := "sets", desc := "(I)I" } : Jvm.MethodName) ({ cls := "HeavyGiftsModel", name := "sets", desc := "(I)I" } : Jvm.MethodName)) ∈ lw_all := lw_g (lw_at lw_m7 199 rfl) rfl
theorem q1715 : (Jvm.Cond.code ({ cls := "HeavyGiftsModel", name := "sets", desc := "(I)I" } : Jvm.MethodName) prog_16_method_43_code (4 : Nat) (Option.some Jvm.ClassFile.FieldType.int)) ∈ lw_all := lw_g (lw_at lw_m7 200 rfl) rfl
theorem q1716 : (Jvm.Cond.methodLink "HeavyGiftsModel" (301 : Nat) ({ cls := "HeavyGiftsModel", name := "fits", desc := "([III)Z" } : Jvm.MethodName)) ∈ lw_all := lw_g (lw_at lw_m7 201 rfl) rfl
theorem q1717 : (Jvm.Cond.privateMethod ({ cls := "HeavyGiftsModel", name := "fits", desc := "([III)Z" } : Jvm.MethodName)) ∈ lw_tbl := lw_at lw_m7 202 rfl
theorem q1718 : (Jvm.Cond.instanceMethod ({ cls := "HeavyGiftsModel", name := "fits", desc := "([III)Z" } : Jvm.MethodName)) ∈ lw_all := lw_g (lw_at lw_m7 203 rfl) rfl
theorem q1719 : (Jvm.Cond.code ({ cls := "HeavyGiftsModel", name := "fits", desc := "([III)Z" } : Jvm.MethodName) prog_16_method_42_code (4 : Nat) (Option.some Jvm.ClassFile.FieldType.boolean)) ∈ lw_all := lw_g (lw_at lw_m7 204 rfl) rfl
theorem q1720 : (Jvm.Cond.methodLink "HeavyGiftsModel" (297 : Nat) ({ cls := "HeavyGiftsModel", name := "sandFor", desc := "([IIII)I" } : Jvm.MethodName)) ∈ lw_all := lw_g (lw_at lw_m7 205 rfl) rfl
theorem q1721 : (Jvm.Cond.privateMethod ({ cls := "HeavyGiftsModel", name := "sandFor", desc := "([IIII)I" } : Jvm.MethodName)) ∈ lw_tbl := lw_at lw_m7 206 rfl
theorem q1722 : (Jvm.Cond.instanceMethod ({ cls := "HeavyGiftsModel", name := "sandFor", desc := "([IIII)I" } : Jvm.MethodName)) ∈ lw_all := lw_g (lw_at lw_m7 207 rfl) rfl
theorem q1723 : (Jvm.Cond.code ({ cls := "HeavyGiftsModel", name := "sandFor", desc := "([IIII)I" } : Jvm.MethodName) prog_16_method_41_code (7 : Nat) (Option.some Jvm.ClassFile.FieldType.int)) ∈ lw_all := lw_g (lw_at lw_m7 208 rfl) rfl
theorem q1725 : (Jvm.Cond.instanceMethod ({ cls := "HeavyGiftsModel", name := "choice", desc := "(II)I" } : Jvm.MethodName)) ∈ lw_all := lw_g (lw_at lw_m7 210 rfl) rfl
theorem q1726 : (Jvm.Cond.selects "HeavyGiftsModel" ({ cls := "HeavyGiftsModel", name := "choice", desc := "(II)I" } : Jvm.MethodName) ({ cls := "HeavyGiftsModel", name := "choice", desc := "(II)I" } : Jvm.MethodName)) ∈ lw_all := lw_g (lw_at lw_m7 211 rfl) rfl
theorem q1727 : (Jvm.Cond.code ({ cls := "HeavyGiftsModel", name := "choice", desc := "(II)I" } : Jvm.MethodName) prog_16_method_48_code (4 : Nat) (Option.some Jvm.ClassFile.FieldType.int)) ∈ lw_all := lw_g (lw_at lw_m7 212 rfl) rfl
theorem q1728 : (Jvm.Cond.methodLink "HeavyGiftsModel" (311 : Nat) ({ cls := "HeavyGiftsModel", name := "choiceOf", desc := "([III)I" } : Jvm.MethodName)) ∈ lw_all := lw_g (lw_at lw_m7 213 rfl) rfl
theorem q1729 : (Jvm.Cond.privateMethod ({ cls := "HeavyGiftsModel", name := "choiceOf", desc := "([III)I" } : Jvm.MethodName)) ∈ lw_tbl := lw_at lw_m7 214 rfl
theorem q1730 : (Jvm.Cond.instanceMethod ({ cls := "HeavyGiftsModel", name := "choiceOf", desc := "([III)I" } : Jvm.MethodName)) ∈ lw_all := lw_g (lw_at lw_m7 215 rfl) rfl
theorem q1731 : (Jvm.Cond.code ({ cls := "HeavyGiftsModel", name := "choiceOf", desc := "([III)I" } : Jvm.MethodName) prog_16_method_46_code (6 : Nat) (Option.some Jvm.ClassFile.FieldType.int)) ∈ lw_all := lw_g (lw_at lw_m7 216 rfl) rfl
theorem q1732 : (Jvm.Cond.methodLink "HeavyGiftsModel" (308 : Nat) ({ cls := "HeavyGiftsModel", name := "rankOf", desc := "(II)I" } : Jvm.MethodName)) ∈ lw_all := lw_g (lw_at lw_m7 217 rfl) rfl
theorem q1733 : (Jvm.Cond.privateMethod ({ cls := "HeavyGiftsModel", name := "rankOf", desc := "(II)I" } : Jvm.MethodName)) ∈ lw_tbl := lw_at lw_m7 218 rfl
theorem q1734 : (Jvm.Cond.instanceMethod ({ cls := "HeavyGiftsModel", name := "rankOf", desc := "(II)I" } : Jvm.MethodName)) ∈ lw_all := lw_g (lw_at lw_m7 219 rfl) rfl
theorem q1735 : (Jvm.Cond.code ({ cls := "HeavyGiftsModel", name := "rankOf", desc := "(II)I" } : Jvm.MethodName) prog_16_method_45_code (3 : Nat) (Option.some Jvm.ClassFile.FieldType.int)) ∈ lw_all := lw_g (lw_at lw_m7 220 rfl) rfl
theorem q1736 : (Jvm.Cond.methodLink "HeavyGiftsModel" (305 : Nat) ({ cls := "HeavyGiftsModel", name := "bitsOf", desc := "(I)I" } : Jvm.MethodName)) ∈ lw_all := lw_g (lw_at lw_m7 221 rfl) rfl
theorem q1737 : (Jvm.Cond.static ({ cls := "HeavyGiftsModel", name := "bitsOf", desc := "(I)I" } : Jvm.MethodName)) ∈ lw_all := lw_g (lw_at lw_m7 222 rfl) rfl
theorem q1738 : (Jvm.Cond.code ({ cls := "HeavyGiftsModel", name := "bitsOf", desc := "(I)I" } : Jvm.MethodName) prog_16_method_44_code (3 : Nat) (Option.some Jvm.ClassFile.FieldType.int)) ∈ lw_all := lw_g (lw_at lw_m7 223 rfl) rfl
theorem q1739 : (Jvm.Cond.methodLink "HeavyGiftsModel" (315 : Nat) ({ cls := "HeavyGiftsModel", name := "whomOf", desc := "([III)I" } : Jvm.MethodName)) ∈ lw_all := lw_g (lw_at lw_m7 224 rfl) rfl
theorem q1740 : (Jvm.Cond.privateMethod ({ cls := "HeavyGiftsModel", name := "whomOf", desc := "([III)I" } : Jvm.MethodName)) ∈ lw_tbl := lw_at lw_m7 225 rfl
theorem q1741 : (Jvm.Cond.instanceMethod ({ cls := "HeavyGiftsModel", name := "whomOf", desc := "([III)I" } : Jvm.MethodName)) ∈ lw_all := lw_g (lw_at lw_m7 226 rfl) rfl
theorem q1742 : (Jvm.Cond.code ({ cls := "HeavyGiftsModel", name := "whomOf", desc := "([III)I" } : Jvm.MethodName) prog_16_method_47_code (4 : Nat) (Option.some Jvm.ClassFile.FieldType.int)) ∈ lw_all := lw_g (lw_at lw_m7 227 rfl) rfl
theorem q1744 : (Jvm.Cond.instanceMethod ({ cls := "HeavyGiftsModel", name := "gap", desc := "(I)I" } : Jvm.MethodName)) ∈ lw_all := lw_g (lw_at lw_m7 229 rfl) rfl
theorem q1745 : (Jvm.Cond.selects "HeavyGiftsModel" ({ cls := "HeavyGiftsModel", name := "gap", desc := "(I)I" } : Jvm.MethodName) ({ cls := "HeavyGiftsModel", name := "gap", desc := "(I)I" } : Jvm.MethodName)) ∈ lw_all := lw_g (lw_at lw_m7 230 rfl) rfl
theorem q1746 : (Jvm.Cond.code ({ cls := "HeavyGiftsModel", name := "gap", desc := "(I)I" } : Jvm.MethodName) prog_16_method_49_code (9 : Nat) (Option.some Jvm.ClassFile.FieldType.int)) ∈ lw_all := lw_g (lw_at lw_m7 231 rfl) rfl
theorem q1747 : (Jvm.Cond.methodLink "HeavyGiftsModel" (318 : Nat) ({ cls := "java/lang/Math", name := "abs", desc := "(I)I" } : Jvm.MethodName)) ∈ lw_all := lw_g (lw_at lw_m7 232 rfl) rfl
theorem q1749 : (Jvm.Cond.instanceMethod ({ cls := "HeavyGiftsModel", name := "week", desc := "(I)I" } : Jvm.MethodName)) ∈ lw_all := lw_g (lw_at lw_m7 234 rfl) rfl
theorem q1750 : (Jvm.Cond.selects "HeavyGiftsModel" ({ cls := "HeavyGiftsModel", name := "week", desc := "(I)I" } : Jvm.MethodName) ({ cls := "HeavyGiftsModel", name := "week", desc := "(I)I" } : Jvm.MethodName)) ∈ lw_all := lw_g (lw_at lw_m7 235 rfl) rfl
theorem q1751 : (Jvm.Cond.code ({ cls := "HeavyGiftsModel", name := "week", desc := "(I)I" } : Jvm.MethodName) prog_16_method_53_code (3 : Nat) (Option.some Jvm.ClassFile.FieldType.int)) ∈ lw_all := lw_g (lw_at lw_m7 236 rfl) rfl
theorem q1752 : (Jvm.Cond.methodLink "HeavyGiftsModel" (343 : Nat) ({ cls := "HeavyGiftsModel", name := "weekOn", desc := "(II)V" } : Jvm.MethodName)) ∈ lw_all := lw_g (lw_at lw_m7 237 rfl) rfl
theorem q1753 : (Jvm.Cond.privateMethod ({ cls := "HeavyGiftsModel", name := "weekOn", desc := "(II)V" } : Jvm.MethodName)) ∈ lw_tbl := lw_at lw_m7 238 rfl
theorem q1754 : (Jvm.Cond.instanceMethod ({ cls := "HeavyGiftsModel", name := "weekOn", desc := "(II)V" } : Jvm.MethodName)) ∈ lw_all := lw_g (lw_at lw_m7 239 rfl) rfl
theorem q1755 : (Jvm.Cond.code ({ cls := "HeavyGiftsModel", name := "weekOn", desc := "(II)V" } : Jvm.MethodName) prog_16_method_51_code (4 : Nat) (Option.none : Option Jvm.ClassFile.FieldType)) ∈ lw_all := lw_g (lw_at lw_m8 0 rfl) rfl
theorem q1756 : (Jvm.Cond.methodLink "HeavyGiftsModel" (333 : Nat) ({ cls := "HeavyGiftsModel", name := "answerOn", desc := "(III)V" } : Jvm.MethodName)) ∈ lw_all := lw_g (lw_at lw_m8 1 rfl) rfl
theorem q1757 : (Jvm.Cond.privateMethod ({ cls := "HeavyGiftsModel", name := "answerOn", desc := "(III)V" } : Jvm.MethodName)) ∈ lw_tbl := lw_at lw_m8 2 rfl
theorem q1758 : (Jvm.Cond.instanceMethod ({ cls := "HeavyGiftsModel", name := "answerOn", desc := "(III)V" } : Jvm.MethodName)) ∈ lw_all := lw_g (lw_at lw_m8 3 rfl) rfl
theorem q1759 : (Jvm.Cond.code ({ cls := "HeavyGiftsModel", name := "answerOn", desc := "(III)V" } : Jvm.MethodName) prog_16_method_52_code (8 : Nat) (Option.none : Option Jvm.ClassFile.FieldType)) ∈ lw_all := lw_g (lw_at lw_m8 4 rfl) rfl
theorem q1760 : (Jvm.Cond.methodLink "HeavyGiftsModel" (337 : Nat) ({ cls := "HeavyGiftsModel", name := "loadRow", desc := "(I)V" } : Jvm.MethodName)) ∈ lw_all := lw_g (lw_at lw_m8 5 rfl) rfl
theorem q1761 : (Jvm.Cond.privateMethod ({ cls := "HeavyGiftsModel", name := "loadRow", desc := "(I)V" } : Jvm.MethodName)) ∈ lw_tbl := lw_at lw_m8 6 rfl
theorem q1762 : (Jvm.Cond.instanceMethod ({ cls := "HeavyGiftsModel", name := "loadRow", desc := "(I)V" } : Jvm.MethodName)) ∈ lw_all := lw_g (lw_at lw_m8 7 rfl) rfl
theorem q1763 : (Jvm.Cond.code ({ cls := "HeavyGiftsModel", name := "loadRow", desc := "(I)V" } : Jvm.MethodName) prog_16_method_50_code (3 : Nat) (Option.none : Option Jvm.ClassFile.FieldType)) ∈ lw_all := lw_g (lw_at lw_m8 8 rfl) rfl
theorem q1765 : (Jvm.Cond.instanceMethod ({ cls := "HeavyGiftsModel", name := "order", desc := "(I)I" } : Jvm.MethodName)) ∈ lw_all := lw_g (lw_at lw_m8 10 rfl) rfl
theorem q1766 : (Jvm.Cond.selects "HeavyGiftsModel" ({ cls := "HeavyGiftsModel", name := "order", desc := "(I)I" } : Jvm.MethodName) ({ cls := "HeavyGiftsModel", name := "order", desc := "(I)I" } : Jvm.MethodName)) ∈ lw_all := lw_g (lw_at lw_m8 11 rfl) rfl
theorem q1767 : (Jvm.Cond.code ({ cls := "HeavyGiftsModel", name := "order", desc := "(I)I" } : Jvm.MethodName) prog_16_method_54_code (2 : Nat) (Option.some Jvm.ClassFile.FieldType.int)) ∈ lw_all := lw_g (lw_at lw_m8 12 rfl) rfl
theorem q1769 : (Jvm.Cond.instanceMethod ({ cls := "HeavyGiftsModel", name := "get", desc := "(II)I" } : Jvm.MethodName)) ∈ lw_all := lw_g (lw_at lw_m8 14 rfl) rfl
theorem q1770 : (Jvm.Cond.selects "HeavyGiftsModel" ({ cls := "HeavyGiftsModel", name := "get", desc := "(II)I" } : Jvm.MethodName) ({ cls := "HeavyGiftsModel", name := "get", desc := "(II)I" } : Jvm.MethodName)) ∈ lw_all := lw_g (lw_at lw_m8 15 rfl) rfl
theorem q1771 : (Jvm.Cond.code ({ cls := "HeavyGiftsModel", name := "get", desc := "(II)I" } : Jvm.MethodName) prog_16_method_60_code (6 : Nat) (Option.some Jvm.ClassFile.FieldType.int)) ∈ lw_all := lw_g (lw_at lw_m8 16 rfl) rfl
theorem q1772 : (Jvm.Cond.methodLink "HeavyGiftsModel" (361 : Nat) ({ cls := "HeavyGiftsModel", name := "come", desc := "([II)V" } : Jvm.MethodName)) ∈ lw_all := lw_g (lw_at lw_m8 17 rfl) rfl
theorem q1773 : (Jvm.Cond.privateMethod ({ cls := "HeavyGiftsModel", name := "come", desc := "([II)V" } : Jvm.MethodName)) ∈ lw_tbl := lw_at lw_m8 18 rfl
theorem q1774 : (Jvm.Cond.instanceMethod ({ cls := "HeavyGiftsModel", name := "come", desc := "([II)V" } : Jvm.MethodName)) ∈ lw_all := lw_g (lw_at lw_m8 19 rfl) rfl
theorem q1775 : (Jvm.Cond.code ({ cls := "HeavyGiftsModel", name := "come", desc := "([II)V" } : Jvm.MethodName) prog_16_method_57_code (5 : Nat) (Option.none : Option Jvm.ClassFile.FieldType)) ∈ lw_all := lw_g (lw_at lw_m8 20 rfl) rfl
theorem q1776 : (Jvm.Cond.methodLink "HeavyGiftsModel" (347 : Nat) ({ cls := "HeavyGiftsModel", name := "foldOf", desc := "([I)I" } : Jvm.MethodName)) ∈ lw_all := lw_g (lw_at lw_m8 21 rfl) rfl
theorem q1777 : (Jvm.Cond.static ({ cls := "HeavyGiftsModel", name := "foldOf", desc := "([I)I" } : Jvm.MethodName)) ∈ lw_all := lw_g (lw_at lw_m8 22 rfl) rfl
theorem q1778 : (Jvm.Cond.code ({ cls := "HeavyGiftsModel", name := "foldOf", desc := "([I)I" } : Jvm.MethodName) prog_16_method_55_code (3 : Nat) (Option.some Jvm.ClassFile.FieldType.int)) ∈ lw_all := lw_g (lw_at lw_m8 23 rfl) rfl
theorem q1779 : (Jvm.Cond.methodLink "HeavyGiftsModel" (351 : Nat) ({ cls := "HeavyGiftsModel", name := "isState", desc := "(I[I)Z" } : Jvm.MethodName)) ∈ lw_all := lw_g (lw_at lw_m8 24 rfl) rfl
theorem q1780 : (Jvm.Cond.privateMethod ({ cls := "HeavyGiftsModel", name := "isState", desc := "(I[I)Z" } : Jvm.MethodName)) ∈ lw_tbl := lw_at lw_m8 25 rfl
theorem q1781 : (Jvm.Cond.instanceMethod ({ cls := "HeavyGiftsModel", name := "isState", desc := "(I[I)Z" } : Jvm.MethodName)) ∈ lw_all := lw_g (lw_at lw_m8 26 rfl) rfl
theorem q1782 : (Jvm.Cond.code ({ cls := "HeavyGiftsModel", name := "isState", desc := "(I[I)Z" } : Jvm.MethodName) prog_16_method_56_code (4 : Nat) (Option.some Jvm.ClassFile.FieldType.boolean)) ∈ lw_all := lw_g (lw_at lw_m8 27 rfl) rfl
theorem q1783 : (Jvm.Cond.methodLink "HeavyGiftsModel" (368 : Nat) ({ cls := "HeavyGiftsModel", name := "goOn", desc := "(III)V" } : Jvm.MethodName)) ∈ lw_all := lw_g (lw_at lw_m8 28 rfl) rfl
theorem q1784 : (Jvm.Cond.privateMethod ({ cls := "HeavyGiftsModel", name := "goOn", desc := "(III)V" } : Jvm.MethodName)) ∈ lw_tbl := lw_at lw_m8 29 rfl
theorem q1785 : (Jvm.Cond.instanceMethod ({ cls := "HeavyGiftsModel", name := "goOn", desc := "(III)V" } : Jvm.MethodName)) ∈ lw_all := lw_g (lw_at lw_m8 30 rfl) rfl
theorem q1786 : (Jvm.Cond.code ({ cls := "HeavyGiftsModel", name := "goOn", desc := "(III)V" } : Jvm.MethodName) prog_16_method_59_code (6 : Nat) (Option.none : Option Jvm.ClassFile.FieldType)) ∈ lw_all := lw_g (lw_at lw_m8 31 rfl) rfl
theorem q1787 : (Jvm.Cond.methodLink "HeavyGiftsModel" (365 : Nat) ({ cls := "HeavyGiftsModel", name := "giveOn", desc := "(IIII)V" } : Jvm.MethodName)) ∈ lw_all := lw_g (lw_at lw_m8 32 rfl) rfl
theorem q1788 : (Jvm.Cond.privateMethod ({ cls := "HeavyGiftsModel", name := "giveOn", desc := "(IIII)V" } : Jvm.MethodName)) ∈ lw_tbl := lw_at lw_m8 33 rfl
theorem q1789 : (Jvm.Cond.instanceMethod ({ cls := "HeavyGiftsModel", name := "giveOn", desc := "(IIII)V" } : Jvm.MethodName)) ∈ lw_all := lw_g (lw_at lw_m8 34 rfl) rfl
theorem q1790 : (Jvm.Cond.code ({ cls := "HeavyGiftsModel", name := "giveOn", desc := "(IIII)V" } : Jvm.MethodName) prog_16_method_58_code (5 : Nat) (Option.none : Option Jvm.ClassFile.FieldType)) ∈ lw_all := lw_g (lw_at lw_m8 35 rfl) rfl
theorem q1792 : (Jvm.Cond.instanceMethod ({ cls := "HeavyGiftsModel", name := "cut", desc := "(II)I" } : Jvm.MethodName)) ∈ lw_all := lw_g (lw_at lw_m8 37 rfl) rfl
theorem q1793 : (Jvm.Cond.selects "HeavyGiftsModel" ({ cls := "HeavyGiftsModel", name := "cut", desc := "(II)I" } : Jvm.MethodName) ({ cls := "HeavyGiftsModel", name := "cut", desc := "(II)I" } : Jvm.MethodName)) ∈ lw_all := lw_g (lw_at lw_m8 38 rfl) rfl
theorem q1794 : (Jvm.Cond.code ({ cls := "HeavyGiftsModel", name := "cut", desc := "(II)I" } : Jvm.MethodName) prog_16_method_63_code (8 : Nat) (Option.some Jvm.ClassFile.FieldType.int)) ∈ lw_all := lw_g (lw_at lw_m8 39 rfl) rfl
theorem q1795 : (Jvm.Cond.methodLink "HeavyGiftsModel" (371 : Nat) ({ cls := "HeavyGiftsModel", name := "anyFits", desc := "(I)Z" } : Jvm.MethodName)) ∈ lw_all := lw_g (lw_at lw_m8 40 rfl) rfl
theorem q1796 : (Jvm.Cond.privateMethod ({ cls := "HeavyGiftsModel", name := "anyFits", desc := "(I)Z" } : Jvm.MethodName)) ∈ lw_tbl := lw_at lw_m8 41 rfl
theorem q1797 : (Jvm.Cond.instanceMethod ({ cls := "HeavyGiftsModel", name := "anyFits", desc := "(I)Z" } : Jvm.MethodName)) ∈ lw_all := lw_g (lw_at lw_m8 42 rfl) rfl
theorem q1798 : (Jvm.Cond.code ({ cls := "HeavyGiftsModel", name := "anyFits", desc := "(I)Z" } : Jvm.MethodName) prog_16_method_61_code (3 : Nat) (Option.some Jvm.ClassFile.FieldType.boolean)) ∈ lw_all := lw_g (lw_at lw_m8 43 rfl) rfl
theorem q1799 : (Jvm.Cond.methodLink "HeavyGiftsModel" (374 : Nat) ({ cls := "HeavyGiftsModel", name := "fitsWith", desc := "(III)Z" } : Jvm.MethodName)) ∈ lw_all := lw_g (lw_at lw_m8 44 rfl) rfl
theorem q1800 : (Jvm.Cond.privateMethod ({ cls := "HeavyGiftsModel", name := "fitsWith", desc := "(III)Z" } : Jvm.MethodName)) ∈ lw_tbl := lw_at lw_m8 45 rfl
theorem q1801 : (Jvm.Cond.instanceMethod ({ cls := "HeavyGiftsModel", name := "fitsWith", desc := "(III)Z" } : Jvm.MethodName)) ∈ lw_all := lw_g (lw_at lw_m8 46 rfl) rfl
theorem q1802 : (Jvm.Cond.code ({ cls := "HeavyGiftsModel", name := "fitsWith", desc := "(III)Z" } : Jvm.MethodName) prog_16_method_62_code (6 : Nat) (Option.some Jvm.ClassFile.FieldType.boolean)) ∈ lw_all := lw_g (lw_at lw_m8 47 rfl) rfl
theorem q1804 : (Jvm.Cond.instanceMethod ({ cls := "HeavyGiftsModel", name := "keep", desc := "(II)I" } : Jvm.MethodName)) ∈ lw_all := lw_g (lw_at lw_m8 49 rfl) rfl
theorem q1805 : (Jvm.Cond.selects "HeavyGiftsModel" ({ cls := "HeavyGiftsModel", name := "keep", desc := "(II)I" } : Jvm.MethodName) ({ cls := "HeavyGiftsModel", name := "keep", desc := "(II)I" } : Jvm.MethodName)) ∈ lw_all := lw_g (lw_at lw_m8 50 rfl) rfl
theorem q1806 : (Jvm.Cond.code ({ cls := "HeavyGiftsModel", name := "keep", desc := "(II)I" } : Jvm.MethodName) prog_16_method_64_code (7 : Nat) (Option.some Jvm.ClassFile.FieldType.int)) ∈ lw_all := lw_g (lw_at lw_m8 51 rfl) rfl
theorem q1808 : (Jvm.Cond.instanceMethod ({ cls := "HeavyGiftsModel", name := "fewest", desc := "(I)I" } : Jvm.MethodName)) ∈ lw_all := lw_g (lw_at lw_m8 53 rfl) rfl
theorem q1809 : (Jvm.Cond.selects "HeavyGiftsModel" ({ cls := "HeavyGiftsModel", name := "fewest", desc := "(I)I" } : Jvm.MethodName) ({ cls := "HeavyGiftsModel", name := "fewest", desc := "(I)I" } : Jvm.MethodName)) ∈ lw_all := lw_g (lw_at lw_m8 54 rfl) rfl
theorem q1810 : (Jvm.Cond.code ({ cls := "HeavyGiftsModel", name := "fewest", desc := "(I)I" } : Jvm.MethodName) prog_16_method_67_code (4 : Nat) (Option.some Jvm.ClassFile.FieldType.int)) ∈ lw_all := lw_g (lw_at lw_m8 55 rfl) rfl
theorem q1811 : (Jvm.Cond.methodLink "HeavyGiftsModel" (377 : Nat) ({ cls := "HeavyGiftsModel", name := "tellWeights", desc := "(II)V" } : Jvm.MethodName)) ∈ lw_all := lw_g (lw_at lw_m8 56 rfl) rfl
theorem q1812 : (Jvm.Cond.privateMethod ({ cls := "HeavyGiftsModel", name := "tellWeights", desc := "(II)V" } : Jvm.MethodName)) ∈ lw_tbl := lw_at lw_m8 57 rfl
theorem q1813 : (Jvm.Cond.instanceMethod ({ cls := "HeavyGiftsModel", name := "tellWeights", desc := "(II)V" } : Jvm.MethodName)) ∈ lw_all := lw_g (lw_at lw_m8 58 rfl) rfl
theorem q1814 : (Jvm.Cond.code ({ cls := "HeavyGiftsModel", name := "tellWeights", desc := "(II)V" } : Jvm.MethodName) prog_16_method_65_code (5 : Nat) (Option.none : Option Jvm.ClassFile.FieldType)) ∈ lw_all := lw_g (lw_at lw_m8 59 rfl) rfl
theorem q1815 : (Jvm.Cond.methodLink "HeavyGiftsModel" (380 : Nat) ({ cls := "HeavyGiftsModel", name := "madeUpTo", desc := "(I)I" } : Jvm.MethodName)) ∈ lw_all := lw_g (lw_at lw_m8 60 rfl) rfl
theorem q1816 : (Jvm.Cond.privateMethod ({ cls := "HeavyGiftsModel", name := "madeUpTo", desc := "(I)I" } : Jvm.MethodName)) ∈ lw_tbl := lw_at lw_m8 61 rfl
theorem q1817 : (Jvm.Cond.instanceMethod ({ cls := "HeavyGiftsModel", name := "madeUpTo", desc := "(I)I" } : Jvm.MethodName)) ∈ lw_all := lw_g (lw_at lw_m8 62 rfl) rfl
theorem q1818 : (Jvm.Cond.code ({ cls := "HeavyGiftsModel", name := "madeUpTo", desc := "(I)I" } : Jvm.MethodName) prog_16_method_66_code (4 : Nat) (Option.some Jvm.ClassFile.FieldType.int)) ∈ lw_all := lw_g (lw_at lw_m8 63 rfl) rfl
theorem q1820 : (Jvm.Cond.instanceMethod ({ cls := "HeavyGiftsModel", name := "answers", desc := "(IIZ)I" } : Jvm.MethodName)) ∈ lw_all := lw_g (lw_at lw_m8 65 rfl) rfl
theorem q1821 : (Jvm.Cond.selects "HeavyGiftsModel" ({ cls := "HeavyGiftsModel", name := "answers", desc := "(IIZ)I" } : Jvm.MethodName) ({ cls := "HeavyGiftsModel", name := "answers", desc := "(IIZ)I" } : Jvm.MethodName)) ∈ lw_all := lw_g (lw_at lw_m8 66 rfl) rfl
theorem q1822 : (Jvm.Cond.code ({ cls := "HeavyGiftsModel", name := "answers", desc := "(IIZ)I" } : Jvm.MethodName) prog_16_method_68_code (4 : Nat) (Option.some Jvm.ClassFile.FieldType.int)) ∈ lw_all := lw_g (lw_at lw_m8 67 rfl) rfl
theorem q1824 : (Jvm.Cond.instanceMethod ({ cls := "HeavyGiftsModel", name := "round", desc := "(II)I" } : Jvm.MethodName)) ∈ lw_all := lw_g (lw_at lw_m8 69 rfl) rfl
theorem q1825 : (Jvm.Cond.selects "HeavyGiftsModel" ({ cls := "HeavyGiftsModel", name := "round", desc := "(II)I" } : Jvm.MethodName) ({ cls := "HeavyGiftsModel", name := "round", desc := "(II)I" } : Jvm.MethodName)) ∈ lw_all := lw_g (lw_at lw_m8 70 rfl) rfl
theorem q1826 : (Jvm.Cond.code ({ cls := "HeavyGiftsModel", name := "round", desc := "(II)I" } : Jvm.MethodName) prog_16_method_69_code (7 : Nat) (Option.some Jvm.ClassFile.FieldType.int)) ∈ lw_all := lw_g (lw_at lw_m8 71 rfl) rfl
theorem q1828 : (Jvm.Cond.instanceMethod ({ cls := "HeavyGiftsModel", name := "days", desc := "(I)I" } : Jvm.MethodName)) ∈ lw_all := lw_g (lw_at lw_m8 73 rfl) rfl
theorem q1829 : (Jvm.Cond.selects "HeavyGiftsModel" ({ cls := "HeavyGiftsModel", name := "days", desc := "(I)I" } : Jvm.MethodName) ({ cls := "HeavyGiftsModel", name := "days", desc := "(I)I" } : Jvm.MethodName)) ∈ lw_all := lw_g (lw_at lw_m8 74 rfl) rfl
theorem q1830 : (Jvm.Cond.code ({ cls := "HeavyGiftsModel", name := "days", desc := "(I)I" } : Jvm.MethodName) prog_16_method_71_code (6 : Nat) (Option.some Jvm.ClassFile.FieldType.int)) ∈ lw_all := lw_g (lw_at lw_m8 75 rfl) rfl
theorem q1831 : (Jvm.Cond.methodLink "HeavyGiftsModel" (383 : Nat) ({ cls := "HeavyGiftsModel", name := "dry", desc := "()V" } : Jvm.MethodName)) ∈ lw_all := lw_g (lw_at lw_m8 76 rfl) rfl
theorem q1832 : (Jvm.Cond.privateMethod ({ cls := "HeavyGiftsModel", name := "dry", desc := "()V" } : Jvm.MethodName)) ∈ lw_tbl := lw_at lw_m8 77 rfl
theorem q1833 : (Jvm.Cond.instanceMethod ({ cls := "HeavyGiftsModel", name := "dry", desc := "()V" } : Jvm.MethodName)) ∈ lw_all := lw_g (lw_at lw_m8 78 rfl) rfl
theorem q1834 : (Jvm.Cond.code ({ cls := "HeavyGiftsModel", name := "dry", desc := "()V" } : Jvm.MethodName) prog_16_method_70_code (2 : Nat) (Option.none : Option Jvm.ClassFile.FieldType)) ∈ lw_all := lw_g (lw_at lw_m8 79 rfl) rfl
theorem q1836 : (Jvm.Cond.instanceMethod ({ cls := "HeavyGiftsModel", name := "still", desc := "()I" } : Jvm.MethodName)) ∈ lw_all := lw_g (lw_at lw_m8 81 rfl) rfl
theorem q1837 : (Jvm.Cond.selects "HeavyGiftsModel" ({ cls := "HeavyGiftsModel", name := "still", desc := "()I" } : Jvm.MethodName) ({ cls := "HeavyGiftsModel", name := "still", desc := "()I" } : Jvm.MethodName)) ∈ lw_all := lw_g (lw_at lw_m8 82 rfl) rfl
theorem q1838 : (Jvm.Cond.code ({ cls := "HeavyGiftsModel", name := "still", desc := "()I" } : Jvm.MethodName) prog_16_method_74_code (3 : Nat) (Option.some Jvm.ClassFile.FieldType.int)) ∈ lw_all := lw_g (lw_at lw_m8 83 rfl) rfl
theorem q1839 : (Jvm.Cond.methodLink "HeavyGiftsModel" (390 : Nat) ({ cls := "HeavyGiftsModel", name := "stillFrom", desc := "()I" } : Jvm.MethodName)) ∈ lw_all := lw_g (lw_at lw_m8 84 rfl) rfl
theorem q1840 : (Jvm.Cond.privateMethod ({ cls := "HeavyGiftsModel", name := "stillFrom", desc := "()I" } : Jvm.MethodName)) ∈ lw_tbl := lw_at lw_m8 85 rfl
theorem q1841 : (Jvm.Cond.instanceMethod ({ cls := "HeavyGiftsModel", name := "stillFrom", desc := "()I" } : Jvm.MethodName)) ∈ lw_all := lw_g (lw_at lw_m8 86 rfl) rfl
theorem q1842 : (Jvm.Cond.code ({ cls := "HeavyGiftsModel", name := "stillFrom", desc := "()I" } : Jvm.MethodName) prog_16_method_73_code (5 : Nat) (Option.some Jvm.ClassFile.FieldType.int)) ∈ lw_all := lw_g (lw_at lw_m8 87 rfl) rfl
theorem q1843 : (Jvm.Cond.methodLink "HeavyGiftsModel" (386 : Nat) ({ cls := "HeavyGiftsModel", name := "isStill", desc := "([II)Z" } : Jvm.MethodName)) ∈ lw_all := lw_g (lw_at lw_m8 88 rfl) rfl
theorem q1844 : (Jvm.Cond.privateMethod ({ cls := "HeavyGiftsModel", name := "isStill", desc := "([II)Z" } : Jvm.MethodName)) ∈ lw_tbl := lw_at lw_m8 89 rfl
theorem q1845 : (Jvm.Cond.instanceMethod ({ cls := "HeavyGiftsModel", name := "isStill", desc := "([II)Z" } : Jvm.MethodName)) ∈ lw_all := lw_g (lw_at lw_m8 90 rfl) rfl
theorem q1846 : (Jvm.Cond.code ({ cls := "HeavyGiftsModel", name := "isStill", desc := "([II)Z" } : Jvm.MethodName) prog_16_method_72_code (4 : Nat) (Option.some Jvm.ClassFile.FieldType.boolean)) ∈ lw_all := lw_g (lw_at lw_m8 91 rfl) rfl
theorem q1848 : (Jvm.Cond.instanceMethod ({ cls := "HeavyGiftsModel", name := "image", desc := "()V" } : Jvm.MethodName)) ∈ lw_all := lw_g (lw_at lw_m8 93 rfl) rfl
theorem q1849 : (Jvm.Cond.selects "HeavyGiftsModel" ({ cls := "HeavyGiftsModel", name := "image", desc := "()V" } : Jvm.MethodName) ({ cls := "HeavyGiftsModel", name := "image", desc := "()V" } : Jvm.MethodName)) ∈ lw_all := lw_g (lw_at lw_m8 94 rfl) rfl
theorem q1850 : (Jvm.Cond.code ({ cls := "HeavyGiftsModel", name := "image", desc := "()V" } : Jvm.MethodName) prog_16_method_75_code (2 : Nat) (Option.none : Option Jvm.ClassFile.FieldType)) ∈ lw_all := lw_g (lw_at lw_m8 95 rfl) rfl
theorem q1852 : (Jvm.Cond.instanceMethod ({ cls := "HeavyGiftsModel", name := "restore", desc := "()Z" } : Jvm.MethodName)) ∈ lw_all := lw_g (lw_at lw_m8 97 rfl) rfl
theorem q1853 : (Jvm.Cond.selects "HeavyGiftsModel" ({ cls := "HeavyGiftsModel", name := "restore", desc := "()Z" } : Jvm.MethodName) ({ cls := "HeavyGiftsModel", name := "restore", desc := "()Z" } : Jvm.MethodName)) ∈ lw_all := lw_g (lw_at lw_m8 98 rfl) rfl
theorem q1854 : (Jvm.Cond.code ({ cls := "HeavyGiftsModel", name := "restore", desc := "()Z" } : Jvm.MethodName) prog_16_method_76_code (2 : Nat) (Option.some Jvm.ClassFile.FieldType.boolean)) ∈ lw_all := lw_g (lw_at lw_m8 99 rfl) rfl
theorem q1880 : (Jvm.Cond.castable "HeavyGiftsModel" "java/lang/Object") ∈ lw_tbl := lw_at lw_m8 125 rfl
theorem in_X5 : ∀ w ∈ wsX50, w ∈ lw_all := lw_in wsX50 [1423, 1425, 1427, 1429, 1431, 1433, 1435, 1437, 1439, 1441, 1443, 1445, 1447, 1449, 1451, 1453, 1455, 1457, 1459, 1461, 1463, 1465, 1467, 1469, 1471, 1473, 1475, 1477, 1479, 1481, 1483, 1485, 1487, 1489, 1491, 1493, 1495, 1497, 1499, 1501, 1503, 1505, 1507, 1509, 1511, 1513, 1515, 1517, 1519, 1521, 1523, 1525, 1527, 1529, 1531] (by decide +kernel) (by decide +kernel)
