/-! HeavyGifts$Reader -/
set_option maxRecDepth 100000
def RX6 : String := "HeavyGifts$Reader"
def TX6 : u_T := fun k => match k with
  | 0 => ("HeavyGifts$Reader", "text", "[B", true)
  | 1 => ("HeavyGifts$Reader", "size", "I", true)
  | 2 => ("HeavyGifts$Reader", "next", "I", false)
  | 3 => ("HeavyGifts$Reader", "place", "I", false)
  | 4 => ("HeavyGifts$Reader", "value", "I", false)
  | 5 => ("HeavyGifts$Reader", "isLong", "Z", false)
  | 6 => ("HeavyGifts$Reader", "sort", "LHeavyGifts$Sort;", false)
  | _ => ("HeavyGifts$Reader", "word", "Ljava/lang/String;", false)
def tyX6 : Nat → FieldType := fun k => match k with
  | 0 => .array .byte
  | 1 => .int
  | 2 => .int
  | 3 => .int
  | 4 => .int
  | 5 => .boolean
  | 6 => .object "HeavyGifts$Sort"
  | _ => .object "java/lang/String"
abbrev wsX60 : List Cond := u_ws RX6 TX6 8
theorem nmX6 : ∀ a, a < 8 → ∀ b, b < 8 → a ≠ b → (TX6 a).2.1 ≠ (TX6 b).2.1 := by decide +kernel
theorem tyX6_ok : ∀ k, k < 8 → parseFieldDescriptor (TX6 k).2.2.1 = some (tyX6 k) := by decide +kernel
abbrev cX6_init : ByteArray := prog_10_method_1_code
def yX6_init : MethodName := ⟨RX6, "<init>", "([BI)V"⟩
def dkwX6_init_1 : List UInt8 := [177]
abbrev dktX6_init_1 : List UInt8 := dkwX6_init_1 ++ []
def dkwX6_init_0 : List UInt8 := [42, 183, 0, 3, 42, 18, 9, 181, 0, 11, 42, 43, 181, 0, 17, 42, 28, 181, 0, 21, 42, 182, 0, 25]
abbrev dktX6_init_0 : List UInt8 := dkwX6_init_0 ++ dktX6_init_1
theorem dksX6_init_0 : cX6_init.data.toList.drop 0 = dktX6_init_0 := by decide +kernel
theorem dksX6_init_1 : cX6_init.data.toList.drop 24 = dktX6_init_1 := dk_seg dksX6_init_0 24 rfl rfl
theorem dX6_init_0 : decode cX6_init 0 = .ok (.aload_n 0, 1) := dk_42 (dk_at dksX6_init_0 0 rfl rfl)
theorem dX6_init_1 : decode cX6_init 1 = .ok (.invokespecial 3, 3) := dk_183 0 3 (dk_at dksX6_init_0 1 rfl rfl)
theorem dX6_init_4 : decode cX6_init 4 = .ok (.aload_n 0, 1) := dk_42 (dk_at dksX6_init_0 4 rfl rfl)
theorem dX6_init_5 : decode cX6_init 5 = .ok (.ldc 9, 2) := dk_18 9 (dk_at dksX6_init_0 5 rfl rfl)
theorem dX6_init_7 : decode cX6_init 7 = .ok (.putfield 11, 3) := dk_181 0 11 (dk_at dksX6_init_0 7 rfl rfl)
theorem dX6_init_10 : decode cX6_init 10 = .ok (.aload_n 0, 1) := dk_42 (dk_at dksX6_init_0 10 rfl rfl)
theorem dX6_init_11 : decode cX6_init 11 = .ok (.aload_n 1, 1) := dk_43 (dk_at dksX6_init_0 11 rfl rfl)
theorem dX6_init_12 : decode cX6_init 12 = .ok (.putfield 17, 3) := dk_181 0 17 (dk_at dksX6_init_0 12 rfl rfl)
theorem dX6_init_15 : decode cX6_init 15 = .ok (.aload_n 0, 1) := dk_42 (dk_at dksX6_init_0 15 rfl rfl)
theorem dX6_init_16 : decode cX6_init 16 = .ok (.iload_n 2, 1) := dk_28 (dk_at dksX6_init_0 16 rfl rfl)
theorem dX6_init_17 : decode cX6_init 17 = .ok (.putfield 21, 3) := dk_181 0 21 (dk_at dksX6_init_0 17 rfl rfl)
theorem dX6_init_20 : decode cX6_init 20 = .ok (.aload_n 0, 1) := dk_42 (dk_at dksX6_init_0 20 rfl rfl)
theorem dX6_init_21 : decode cX6_init 21 = .ok (.invokevirtual 25, 3) := dk_182 0 25 (dk_at dksX6_init_0 21 rfl rfl)
theorem dX6_init_24 : decode cX6_init 24 = .ok (.return_, 1) := dk_177 (dk_at dksX6_init_1 0 rfl rfl)
abbrev cX6_go : ByteArray := prog_10_method_5_code
def yX6_go : MethodName := ⟨RX6, "go", "()V"⟩
def dkwX6_go_14 : List UInt8 := [181, 0, 11, 42, 89, 180, 0, 28, 4, 96, 181, 0, 28, 177]
abbrev dktX6_go_14 : List UInt8 := dkwX6_go_14 ++ []
def dkwX6_go_13 : List UInt8 := [167, 0, 6, 178, 0, 87, 181, 0, 48, 42, 180, 0, 48, 178, 0, 84, 166, 0, 9, 42, 18, 90]
abbrev dktX6_go_13 : List UInt8 := dkwX6_go_13 ++ dktX6_go_14
def dkwX6_go_12 : List UInt8 := [3, 181, 0, 38, 42, 178, 0, 81, 181, 0, 48, 167, 0, 48, 42, 27, 16, 59, 160, 0, 9, 178, 0, 84]
abbrev dktX6_go_12 : List UInt8 := dkwX6_go_12 ++ dktX6_go_13
def dkwX6_go_11 : List UInt8 := [181, 0, 28, 167, 255, 196, 42, 42, 180, 0, 28, 42, 180, 0, 35, 100, 7, 164, 0, 7, 4, 167, 0, 4]
abbrev dktX6_go_11 : List UInt8 := dkwX6_go_11 ++ dktX6_go_12
def dkwX6_go_10 : List UInt8 := [42, 42, 180, 0, 28, 182, 0, 31, 96, 16, 48, 100, 181, 0, 78, 42, 89, 180, 0, 28, 4, 96]
abbrev dktX6_go_10 : List UInt8 := dkwX6_go_10 ++ dktX6_go_11
def dkwX6_go_9 : List UInt8 := [153, 0, 52, 42, 180, 0, 28, 42, 180, 0, 35, 100, 7, 162, 0, 26, 42, 16, 10, 42, 180, 0, 78, 104]
abbrev dktX6_go_9 : List UInt8 := dkwX6_go_9 ++ dktX6_go_10
def dkwX6_go_8 : List UInt8 := [184, 0, 75, 153, 0, 103, 42, 3, 181, 0, 78, 42, 42, 180, 0, 28, 182, 0, 31, 184, 0, 75]
abbrev dktX6_go_8 : List UInt8 := dkwX6_go_8 ++ dktX6_go_9
def dkwX6_go_7 : List UInt8 := [167, 255, 209, 42, 44, 182, 0, 68, 181, 0, 11, 42, 178, 0, 72, 181, 0, 48, 167, 0, 155, 27]
abbrev dktX6_go_7 : List UInt8 := dkwX6_go_7 ++ dktX6_go_8
def dkwX6_go_6 : List UInt8 := [42, 180, 0, 28, 182, 0, 31, 146, 182, 0, 64, 87, 42, 89, 180, 0, 28, 4, 96, 181, 0, 28]
abbrev dktX6_go_6 : List UInt8 := dkwX6_go_6 ++ dktX6_go_7
def dkwX6_go_5 : List UInt8 := [42, 180, 0, 28, 182, 0, 31, 184, 0, 51, 153, 0, 39, 44, 182, 0, 60, 16, 7, 162, 0, 17, 44, 42]
abbrev dktX6_go_5 : List UInt8 := dkwX6_go_5 ++ dktX6_go_6
def dkwX6_go_4 : List UInt8 := [181, 0, 48, 167, 0, 240, 27, 184, 0, 51, 153, 0, 81, 187, 0, 55, 89, 16, 7, 183, 0, 57, 77, 42]
abbrev dktX6_go_4 : List UInt8 := dkwX6_go_4 ++ dktX6_go_5
def dkwX6_go_3 : List UInt8 := [180, 0, 28, 182, 0, 31, 60, 42, 180, 0, 28, 42, 180, 0, 21, 161, 0, 13, 42, 178, 0, 42]
abbrev dktX6_go_3 : List UInt8 := dkwX6_go_3 ++ dktX6_go_4
def dkwX6_go_2 : List UInt8 := [167, 255, 209, 42, 42, 180, 0, 28, 181, 0, 35, 42, 18, 9, 181, 0, 11, 42, 3, 181, 0, 38, 42, 42]
abbrev dktX6_go_2 : List UInt8 := dkwX6_go_2 ++ dktX6_go_3
def dkwX6_go_1 : List UInt8 := [42, 42, 180, 0, 28, 182, 0, 31, 16, 10, 160, 0, 16, 42, 89, 180, 0, 28, 4, 96, 181, 0, 28]
abbrev dktX6_go_1 : List UInt8 := dkwX6_go_1 ++ dktX6_go_2
def dkwX6_go_0 : List UInt8 := [42, 180, 0, 28, 42, 180, 0, 21, 162, 0, 42, 42, 42, 180, 0, 28, 182, 0, 31, 16, 32, 159, 0, 16]
abbrev dktX6_go_0 : List UInt8 := dkwX6_go_0 ++ dktX6_go_1
theorem dksX6_go_0 : cX6_go.data.toList.drop 0 = dktX6_go_0 := by decide +kernel
theorem dksX6_go_1 : cX6_go.data.toList.drop 24 = dktX6_go_1 := dk_seg dksX6_go_0 24 rfl rfl
theorem dksX6_go_2 : cX6_go.data.toList.drop 47 = dktX6_go_2 := dk_seg dksX6_go_1 23 rfl rfl
theorem dksX6_go_3 : cX6_go.data.toList.drop 71 = dktX6_go_3 := dk_seg dksX6_go_2 24 rfl rfl
theorem dksX6_go_4 : cX6_go.data.toList.drop 93 = dktX6_go_4 := dk_seg dksX6_go_3 22 rfl rfl
theorem dksX6_go_5 : cX6_go.data.toList.drop 117 = dktX6_go_5 := dk_seg dksX6_go_4 24 rfl rfl
theorem dksX6_go_6 : cX6_go.data.toList.drop 141 = dktX6_go_6 := dk_seg dksX6_go_5 24 rfl rfl
theorem dksX6_go_7 : cX6_go.data.toList.drop 163 = dktX6_go_7 := dk_seg dksX6_go_6 22 rfl rfl
theorem dksX6_go_8 : cX6_go.data.toList.drop 185 = dktX6_go_8 := dk_seg dksX6_go_7 22 rfl rfl
theorem dksX6_go_9 : cX6_go.data.toList.drop 207 = dktX6_go_9 := dk_seg dksX6_go_8 22 rfl rfl
theorem dksX6_go_10 : cX6_go.data.toList.drop 231 = dktX6_go_10 := dk_seg dksX6_go_9 24 rfl rfl
theorem dksX6_go_11 : cX6_go.data.toList.drop 253 = dktX6_go_11 := dk_seg dksX6_go_10 22 rfl rfl
theorem dksX6_go_12 : cX6_go.data.toList.drop 277 = dktX6_go_12 := dk_seg dksX6_go_11 24 rfl rfl
theorem dksX6_go_13 : cX6_go.data.toList.drop 301 = dktX6_go_13 := dk_seg dksX6_go_12 24 rfl rfl
theorem dksX6_go_14 : cX6_go.data.toList.drop 323 = dktX6_go_14 := dk_seg dksX6_go_13 22 rfl rfl
theorem dX6_go_0 : decode cX6_go 0 = .ok (.aload_n 0, 1) := dk_42 (dk_at dksX6_go_0 0 rfl rfl)
theorem dX6_go_1 : decode cX6_go 1 = .ok (.getfield 28, 3) := dk_180 0 28 (dk_at dksX6_go_0 1 rfl rfl)
theorem dX6_go_4 : decode cX6_go 4 = .ok (.aload_n 0, 1) := dk_42 (dk_at dksX6_go_0 4 rfl rfl)
theorem dX6_go_5 : decode cX6_go 5 = .ok (.getfield 21, 3) := dk_180 0 21 (dk_at dksX6_go_0 5 rfl rfl)
theorem dX6_go_8 : decode cX6_go 8 = .ok (.if_icmp .ge 42, 3) := dk_162 0 42 (dk_at dksX6_go_0 8 rfl rfl)
theorem dX6_go_11 : decode cX6_go 11 = .ok (.aload_n 0, 1) := dk_42 (dk_at dksX6_go_0 11 rfl rfl)
theorem dX6_go_12 : decode cX6_go 12 = .ok (.aload_n 0, 1) := dk_42 (dk_at dksX6_go_0 12 rfl rfl)
theorem dX6_go_13 : decode cX6_go 13 = .ok (.getfield 28, 3) := dk_180 0 28 (dk_at dksX6_go_0 13 rfl rfl)
theorem dX6_go_16 : decode cX6_go 16 = .ok (.invokevirtual 31, 3) := dk_182 0 31 (dk_at dksX6_go_0 16 rfl rfl)
theorem dX6_go_19 : decode cX6_go 19 = .ok (.bipush 32, 2) := dk_16 32 (dk_at dksX6_go_0 19 rfl rfl)
theorem dX6_go_21 : decode cX6_go 21 = .ok (.if_icmp .eq 16, 3) := dk_159 0 16 (dk_at dksX6_go_0 21 rfl rfl)
theorem dX6_go_24 : decode cX6_go 24 = .ok (.aload_n 0, 1) := dk_42 (dk_at dksX6_go_1 0 rfl rfl)
theorem dX6_go_25 : decode cX6_go 25 = .ok (.aload_n 0, 1) := dk_42 (dk_at dksX6_go_1 1 rfl rfl)
theorem dX6_go_26 : decode cX6_go 26 = .ok (.getfield 28, 3) := dk_180 0 28 (dk_at dksX6_go_1 2 rfl rfl)
theorem dX6_go_29 : decode cX6_go 29 = .ok (.invokevirtual 31, 3) := dk_182 0 31 (dk_at dksX6_go_1 5 rfl rfl)
theorem dX6_go_32 : decode cX6_go 32 = .ok (.bipush 10, 2) := dk_16 10 (dk_at dksX6_go_1 8 rfl rfl)
theorem dX6_go_34 : decode cX6_go 34 = .ok (.if_icmp .ne 16, 3) := dk_160 0 16 (dk_at dksX6_go_1 10 rfl rfl)
theorem dX6_go_37 : decode cX6_go 37 = .ok (.aload_n 0, 1) := dk_42 (dk_at dksX6_go_1 13 rfl rfl)
theorem dX6_go_38 : decode cX6_go 38 = .ok (.dup, 1) := dk_89 (dk_at dksX6_go_1 14 rfl rfl)
theorem dX6_go_39 : decode cX6_go 39 = .ok (.getfield 28, 3) := dk_180 0 28 (dk_at dksX6_go_1 15 rfl rfl)
theorem dX6_go_42 : decode cX6_go 42 = .ok (.iconst 1, 1) := dk_4 (dk_at dksX6_go_1 18 rfl rfl)
theorem dX6_go_43 : decode cX6_go 43 = .ok (.iadd, 1) := dk_96 (dk_at dksX6_go_1 19 rfl rfl)
theorem dX6_go_44 : decode cX6_go 44 = .ok (.putfield 28, 3) := dk_181 0 28 (dk_at dksX6_go_1 20 rfl rfl)
theorem dX6_go_47 : decode cX6_go 47 = .ok (.goto (-47), 3) := dk_167 255 209 (dk_at dksX6_go_2 0 rfl rfl)
theorem dX6_go_50 : decode cX6_go 50 = .ok (.aload_n 0, 1) := dk_42 (dk_at dksX6_go_2 3 rfl rfl)
theorem dX6_go_51 : decode cX6_go 51 = .ok (.aload_n 0, 1) := dk_42 (dk_at dksX6_go_2 4 rfl rfl)
theorem dX6_go_52 : decode cX6_go 52 = .ok (.getfield 28, 3) := dk_180 0 28 (dk_at dksX6_go_2 5 rfl rfl)
theorem dX6_go_55 : decode cX6_go 55 = .ok (.putfield 35, 3) := dk_181 0 35 (dk_at dksX6_go_2 8 rfl rfl)
theorem dX6_go_58 : decode cX6_go 58 = .ok (.aload_n 0, 1) := dk_42 (dk_at dksX6_go_2 11 rfl rfl)
theorem dX6_go_59 : decode cX6_go 59 = .ok (.ldc 9, 2) := dk_18 9 (dk_at dksX6_go_2 12 rfl rfl)
theorem dX6_go_61 : decode cX6_go 61 = .ok (.putfield 11, 3) := dk_181 0 11 (dk_at dksX6_go_2 14 rfl rfl)
theorem dX6_go_64 : decode cX6_go 64 = .ok (.aload_n 0, 1) := dk_42 (dk_at dksX6_go_2 17 rfl rfl)
theorem dX6_go_65 : decode cX6_go 65 = .ok (.iconst 0, 1) := dk_3 (dk_at dksX6_go_2 18 rfl rfl)
theorem dX6_go_66 : decode cX6_go 66 = .ok (.putfield 38, 3) := dk_181 0 38 (dk_at dksX6_go_2 19 rfl rfl)
theorem dX6_go_69 : decode cX6_go 69 = .ok (.aload_n 0, 1) := dk_42 (dk_at dksX6_go_2 22 rfl rfl)
theorem dX6_go_70 : decode cX6_go 70 = .ok (.aload_n 0, 1) := dk_42 (dk_at dksX6_go_2 23 rfl rfl)
theorem dX6_go_71 : decode cX6_go 71 = .ok (.getfield 28, 3) := dk_180 0 28 (dk_at dksX6_go_3 0 rfl rfl)
theorem dX6_go_74 : decode cX6_go 74 = .ok (.invokevirtual 31, 3) := dk_182 0 31 (dk_at dksX6_go_3 3 rfl rfl)
theorem dX6_go_77 : decode cX6_go 77 = .ok (.istore_n 1, 1) := dk_60 (dk_at dksX6_go_3 6 rfl rfl)
theorem dX6_go_78 : decode cX6_go 78 = .ok (.aload_n 0, 1) := dk_42 (dk_at dksX6_go_3 7 rfl rfl)
theorem dX6_go_79 : decode cX6_go 79 = .ok (.getfield 28, 3) := dk_180 0 28 (dk_at dksX6_go_3 8 rfl rfl)
theorem dX6_go_82 : decode cX6_go 82 = .ok (.aload_n 0, 1) := dk_42 (dk_at dksX6_go_3 11 rfl rfl)
theorem dX6_go_83 : decode cX6_go 83 = .ok (.getfield 21, 3) := dk_180 0 21 (dk_at dksX6_go_3 12 rfl rfl)
theorem dX6_go_86 : decode cX6_go 86 = .ok (.if_icmp .lt 13, 3) := dk_161 0 13 (dk_at dksX6_go_3 15 rfl rfl)
theorem dX6_go_89 : decode cX6_go 89 = .ok (.aload_n 0, 1) := dk_42 (dk_at dksX6_go_3 18 rfl rfl)
theorem dX6_go_90 : decode cX6_go 90 = .ok (.getstatic 42, 3) := dk_178 0 42 (dk_at dksX6_go_3 19 rfl rfl)
theorem dX6_go_93 : decode cX6_go 93 = .ok (.putfield 48, 3) := dk_181 0 48 (dk_at dksX6_go_4 0 rfl rfl)
theorem dX6_go_96 : decode cX6_go 96 = .ok (.goto 240, 3) := dk_167 0 240 (dk_at dksX6_go_4 3 rfl rfl)
theorem dX6_go_99 : decode cX6_go 99 = .ok (.iload_n 1, 1) := dk_27 (dk_at dksX6_go_4 6 rfl rfl)
theorem dX6_go_100 : decode cX6_go 100 = .ok (.invokestatic 51, 3) := dk_184 0 51 (dk_at dksX6_go_4 7 rfl rfl)
theorem dX6_go_103 : decode cX6_go 103 = .ok (.ifCond .eq 81, 3) := dk_153 0 81 (dk_at dksX6_go_4 10 rfl rfl)
theorem dX6_go_106 : decode cX6_go 106 = .ok (.new 55, 3) := dk_187 0 55 (dk_at dksX6_go_4 13 rfl rfl)
theorem dX6_go_109 : decode cX6_go 109 = .ok (.dup, 1) := dk_89 (dk_at dksX6_go_4 16 rfl rfl)
theorem dX6_go_110 : decode cX6_go 110 = .ok (.bipush 7, 2) := dk_16 7 (dk_at dksX6_go_4 17 rfl rfl)
theorem dX6_go_112 : decode cX6_go 112 = .ok (.invokespecial 57, 3) := dk_183 0 57 (dk_at dksX6_go_4 19 rfl rfl)
theorem dX6_go_115 : decode cX6_go 115 = .ok (.astore_n 2, 1) := dk_77 (dk_at dksX6_go_4 22 rfl rfl)
theorem dX6_go_116 : decode cX6_go 116 = .ok (.aload_n 0, 1) := dk_42 (dk_at dksX6_go_4 23 rfl rfl)
theorem dX6_go_117 : decode cX6_go 117 = .ok (.aload_n 0, 1) := dk_42 (dk_at dksX6_go_5 0 rfl rfl)
theorem dX6_go_118 : decode cX6_go 118 = .ok (.getfield 28, 3) := dk_180 0 28 (dk_at dksX6_go_5 1 rfl rfl)
theorem dX6_go_121 : decode cX6_go 121 = .ok (.invokevirtual 31, 3) := dk_182 0 31 (dk_at dksX6_go_5 4 rfl rfl)
theorem dX6_go_124 : decode cX6_go 124 = .ok (.invokestatic 51, 3) := dk_184 0 51 (dk_at dksX6_go_5 7 rfl rfl)
theorem dX6_go_127 : decode cX6_go 127 = .ok (.ifCond .eq 39, 3) := dk_153 0 39 (dk_at dksX6_go_5 10 rfl rfl)
theorem dX6_go_130 : decode cX6_go 130 = .ok (.aload_n 2, 1) := dk_44 (dk_at dksX6_go_5 13 rfl rfl)
theorem dX6_go_131 : decode cX6_go 131 = .ok (.invokevirtual 60, 3) := dk_182 0 60 (dk_at dksX6_go_5 14 rfl rfl)
theorem dX6_go_134 : decode cX6_go 134 = .ok (.bipush 7, 2) := dk_16 7 (dk_at dksX6_go_5 17 rfl rfl)
theorem dX6_go_136 : decode cX6_go 136 = .ok (.if_icmp .ge 17, 3) := dk_162 0 17 (dk_at dksX6_go_5 19 rfl rfl)
theorem dX6_go_139 : decode cX6_go 139 = .ok (.aload_n 2, 1) := dk_44 (dk_at dksX6_go_5 22 rfl rfl)
theorem dX6_go_140 : decode cX6_go 140 = .ok (.aload_n 0, 1) := dk_42 (dk_at dksX6_go_5 23 rfl rfl)
theorem dX6_go_141 : decode cX6_go 141 = .ok (.aload_n 0, 1) := dk_42 (dk_at dksX6_go_6 0 rfl rfl)
theorem dX6_go_142 : decode cX6_go 142 = .ok (.getfield 28, 3) := dk_180 0 28 (dk_at dksX6_go_6 1 rfl rfl)
theorem dX6_go_145 : decode cX6_go 145 = .ok (.invokevirtual 31, 3) := dk_182 0 31 (dk_at dksX6_go_6 4 rfl rfl)
theorem dX6_go_148 : decode cX6_go 148 = .ok (.i2c, 1) := dk_146 (dk_at dksX6_go_6 7 rfl rfl)
theorem dX6_go_149 : decode cX6_go 149 = .ok (.invokevirtual 64, 3) := dk_182 0 64 (dk_at dksX6_go_6 8 rfl rfl)
theorem dX6_go_152 : decode cX6_go 152 = .ok (.pop, 1) := dk_87 (dk_at dksX6_go_6 11 rfl rfl)
theorem dX6_go_153 : decode cX6_go 153 = .ok (.aload_n 0, 1) := dk_42 (dk_at dksX6_go_6 12 rfl rfl)
theorem dX6_go_154 : decode cX6_go 154 = .ok (.dup, 1) := dk_89 (dk_at dksX6_go_6 13 rfl rfl)
theorem dX6_go_155 : decode cX6_go 155 = .ok (.getfield 28, 3) := dk_180 0 28 (dk_at dksX6_go_6 14 rfl rfl)
theorem dX6_go_158 : decode cX6_go 158 = .ok (.iconst 1, 1) := dk_4 (dk_at dksX6_go_6 17 rfl rfl)
theorem dX6_go_159 : decode cX6_go 159 = .ok (.iadd, 1) := dk_96 (dk_at dksX6_go_6 18 rfl rfl)
theorem dX6_go_160 : decode cX6_go 160 = .ok (.putfield 28, 3) := dk_181 0 28 (dk_at dksX6_go_6 19 rfl rfl)
theorem dX6_go_163 : decode cX6_go 163 = .ok (.goto (-47), 3) := dk_167 255 209 (dk_at dksX6_go_7 0 rfl rfl)
theorem dX6_go_166 : decode cX6_go 166 = .ok (.aload_n 0, 1) := dk_42 (dk_at dksX6_go_7 3 rfl rfl)
theorem dX6_go_167 : decode cX6_go 167 = .ok (.aload_n 2, 1) := dk_44 (dk_at dksX6_go_7 4 rfl rfl)
theorem dX6_go_168 : decode cX6_go 168 = .ok (.invokevirtual 68, 3) := dk_182 0 68 (dk_at dksX6_go_7 5 rfl rfl)
theorem dX6_go_171 : decode cX6_go 171 = .ok (.putfield 11, 3) := dk_181 0 11 (dk_at dksX6_go_7 8 rfl rfl)
theorem dX6_go_174 : decode cX6_go 174 = .ok (.aload_n 0, 1) := dk_42 (dk_at dksX6_go_7 11 rfl rfl)
theorem dX6_go_175 : decode cX6_go 175 = .ok (.getstatic 72, 3) := dk_178 0 72 (dk_at dksX6_go_7 12 rfl rfl)
theorem dX6_go_178 : decode cX6_go 178 = .ok (.putfield 48, 3) := dk_181 0 48 (dk_at dksX6_go_7 15 rfl rfl)
theorem dX6_go_181 : decode cX6_go 181 = .ok (.goto 155, 3) := dk_167 0 155 (dk_at dksX6_go_7 18 rfl rfl)
theorem dX6_go_184 : decode cX6_go 184 = .ok (.iload_n 1, 1) := dk_27 (dk_at dksX6_go_7 21 rfl rfl)
theorem dX6_go_185 : decode cX6_go 185 = .ok (.invokestatic 75, 3) := dk_184 0 75 (dk_at dksX6_go_8 0 rfl rfl)
theorem dX6_go_188 : decode cX6_go 188 = .ok (.ifCond .eq 103, 3) := dk_153 0 103 (dk_at dksX6_go_8 3 rfl rfl)
theorem dX6_go_191 : decode cX6_go 191 = .ok (.aload_n 0, 1) := dk_42 (dk_at dksX6_go_8 6 rfl rfl)
theorem dX6_go_192 : decode cX6_go 192 = .ok (.iconst 0, 1) := dk_3 (dk_at dksX6_go_8 7 rfl rfl)
theorem dX6_go_193 : decode cX6_go 193 = .ok (.putfield 78, 3) := dk_181 0 78 (dk_at dksX6_go_8 8 rfl rfl)
theorem dX6_go_196 : decode cX6_go 196 = .ok (.aload_n 0, 1) := dk_42 (dk_at dksX6_go_8 11 rfl rfl)
theorem dX6_go_197 : decode cX6_go 197 = .ok (.aload_n 0, 1) := dk_42 (dk_at dksX6_go_8 12 rfl rfl)
theorem dX6_go_198 : decode cX6_go 198 = .ok (.getfield 28, 3) := dk_180 0 28 (dk_at dksX6_go_8 13 rfl rfl)
theorem dX6_go_201 : decode cX6_go 201 = .ok (.invokevirtual 31, 3) := dk_182 0 31 (dk_at dksX6_go_8 16 rfl rfl)
theorem dX6_go_204 : decode cX6_go 204 = .ok (.invokestatic 75, 3) := dk_184 0 75 (dk_at dksX6_go_8 19 rfl rfl)
theorem dX6_go_207 : decode cX6_go 207 = .ok (.ifCond .eq 52, 3) := dk_153 0 52 (dk_at dksX6_go_9 0 rfl rfl)
theorem dX6_go_210 : decode cX6_go 210 = .ok (.aload_n 0, 1) := dk_42 (dk_at dksX6_go_9 3 rfl rfl)
theorem dX6_go_211 : decode cX6_go 211 = .ok (.getfield 28, 3) := dk_180 0 28 (dk_at dksX6_go_9 4 rfl rfl)
theorem dX6_go_214 : decode cX6_go 214 = .ok (.aload_n 0, 1) := dk_42 (dk_at dksX6_go_9 7 rfl rfl)
theorem dX6_go_215 : decode cX6_go 215 = .ok (.getfield 35, 3) := dk_180 0 35 (dk_at dksX6_go_9 8 rfl rfl)
theorem dX6_go_218 : decode cX6_go 218 = .ok (.isub, 1) := dk_100 (dk_at dksX6_go_9 11 rfl rfl)
theorem dX6_go_219 : decode cX6_go 219 = .ok (.iconst 4, 1) := dk_7 (dk_at dksX6_go_9 12 rfl rfl)
theorem dX6_go_220 : decode cX6_go 220 = .ok (.if_icmp .ge 26, 3) := dk_162 0 26 (dk_at dksX6_go_9 13 rfl rfl)
theorem dX6_go_223 : decode cX6_go 223 = .ok (.aload_n 0, 1) := dk_42 (dk_at dksX6_go_9 16 rfl rfl)
theorem dX6_go_224 : decode cX6_go 224 = .ok (.bipush 10, 2) := dk_16 10 (dk_at dksX6_go_9 17 rfl rfl)
theorem dX6_go_226 : decode cX6_go 226 = .ok (.aload_n 0, 1) := dk_42 (dk_at dksX6_go_9 19 rfl rfl)
theorem dX6_go_227 : decode cX6_go 227 = .ok (.getfield 78, 3) := dk_180 0 78 (dk_at dksX6_go_9 20 rfl rfl)
theorem dX6_go_230 : decode cX6_go 230 = .ok (.imul, 1) := dk_104 (dk_at dksX6_go_9 23 rfl rfl)
theorem dX6_go_231 : decode cX6_go 231 = .ok (.aload_n 0, 1) := dk_42 (dk_at dksX6_go_10 0 rfl rfl)
theorem dX6_go_232 : decode cX6_go 232 = .ok (.aload_n 0, 1) := dk_42 (dk_at dksX6_go_10 1 rfl rfl)
theorem dX6_go_233 : decode cX6_go 233 = .ok (.getfield 28, 3) := dk_180 0 28 (dk_at dksX6_go_10 2 rfl rfl)
theorem dX6_go_236 : decode cX6_go 236 = .ok (.invokevirtual 31, 3) := dk_182 0 31 (dk_at dksX6_go_10 5 rfl rfl)
theorem dX6_go_239 : decode cX6_go 239 = .ok (.iadd, 1) := dk_96 (dk_at dksX6_go_10 8 rfl rfl)
theorem dX6_go_240 : decode cX6_go 240 = .ok (.bipush 48, 2) := dk_16 48 (dk_at dksX6_go_10 9 rfl rfl)
theorem dX6_go_242 : decode cX6_go 242 = .ok (.isub, 1) := dk_100 (dk_at dksX6_go_10 11 rfl rfl)
theorem dX6_go_243 : decode cX6_go 243 = .ok (.putfield 78, 3) := dk_181 0 78 (dk_at dksX6_go_10 12 rfl rfl)
theorem dX6_go_246 : decode cX6_go 246 = .ok (.aload_n 0, 1) := dk_42 (dk_at dksX6_go_10 15 rfl rfl)
theorem dX6_go_247 : decode cX6_go 247 = .ok (.dup, 1) := dk_89 (dk_at dksX6_go_10 16 rfl rfl)
theorem dX6_go_248 : decode cX6_go 248 = .ok (.getfield 28, 3) := dk_180 0 28 (dk_at dksX6_go_10 17 rfl rfl)
theorem dX6_go_251 : decode cX6_go 251 = .ok (.iconst 1, 1) := dk_4 (dk_at dksX6_go_10 20 rfl rfl)
theorem dX6_go_252 : decode cX6_go 252 = .ok (.iadd, 1) := dk_96 (dk_at dksX6_go_10 21 rfl rfl)
theorem dX6_go_253 : decode cX6_go 253 = .ok (.putfield 28, 3) := dk_181 0 28 (dk_at dksX6_go_11 0 rfl rfl)
theorem dX6_go_256 : decode cX6_go 256 = .ok (.goto (-60), 3) := dk_167 255 196 (dk_at dksX6_go_11 3 rfl rfl)
theorem dX6_go_259 : decode cX6_go 259 = .ok (.aload_n 0, 1) := dk_42 (dk_at dksX6_go_11 6 rfl rfl)
theorem dX6_go_260 : decode cX6_go 260 = .ok (.aload_n 0, 1) := dk_42 (dk_at dksX6_go_11 7 rfl rfl)
theorem dX6_go_261 : decode cX6_go 261 = .ok (.getfield 28, 3) := dk_180 0 28 (dk_at dksX6_go_11 8 rfl rfl)
theorem dX6_go_264 : decode cX6_go 264 = .ok (.aload_n 0, 1) := dk_42 (dk_at dksX6_go_11 11 rfl rfl)
theorem dX6_go_265 : decode cX6_go 265 = .ok (.getfield 35, 3) := dk_180 0 35 (dk_at dksX6_go_11 12 rfl rfl)
theorem dX6_go_268 : decode cX6_go 268 = .ok (.isub, 1) := dk_100 (dk_at dksX6_go_11 15 rfl rfl)
theorem dX6_go_269 : decode cX6_go 269 = .ok (.iconst 4, 1) := dk_7 (dk_at dksX6_go_11 16 rfl rfl)
theorem dX6_go_270 : decode cX6_go 270 = .ok (.if_icmp .le 7, 3) := dk_164 0 7 (dk_at dksX6_go_11 17 rfl rfl)
theorem dX6_go_273 : decode cX6_go 273 = .ok (.iconst 1, 1) := dk_4 (dk_at dksX6_go_11 20 rfl rfl)
theorem dX6_go_274 : decode cX6_go 274 = .ok (.goto 4, 3) := dk_167 0 4 (dk_at dksX6_go_11 21 rfl rfl)
theorem dX6_go_277 : decode cX6_go 277 = .ok (.iconst 0, 1) := dk_3 (dk_at dksX6_go_12 0 rfl rfl)
theorem dX6_go_278 : decode cX6_go 278 = .ok (.putfield 38, 3) := dk_181 0 38 (dk_at dksX6_go_12 1 rfl rfl)
theorem dX6_go_281 : decode cX6_go 281 = .ok (.aload_n 0, 1) := dk_42 (dk_at dksX6_go_12 4 rfl rfl)
theorem dX6_go_282 : decode cX6_go 282 = .ok (.getstatic 81, 3) := dk_178 0 81 (dk_at dksX6_go_12 5 rfl rfl)
theorem dX6_go_285 : decode cX6_go 285 = .ok (.putfield 48, 3) := dk_181 0 48 (dk_at dksX6_go_12 8 rfl rfl)
theorem dX6_go_288 : decode cX6_go 288 = .ok (.goto 48, 3) := dk_167 0 48 (dk_at dksX6_go_12 11 rfl rfl)
theorem dX6_go_291 : decode cX6_go 291 = .ok (.aload_n 0, 1) := dk_42 (dk_at dksX6_go_12 14 rfl rfl)
theorem dX6_go_292 : decode cX6_go 292 = .ok (.iload_n 1, 1) := dk_27 (dk_at dksX6_go_12 15 rfl rfl)
theorem dX6_go_293 : decode cX6_go 293 = .ok (.bipush 59, 2) := dk_16 59 (dk_at dksX6_go_12 16 rfl rfl)
theorem dX6_go_295 : decode cX6_go 295 = .ok (.if_icmp .ne 9, 3) := dk_160 0 9 (dk_at dksX6_go_12 18 rfl rfl)
theorem dX6_go_298 : decode cX6_go 298 = .ok (.getstatic 84, 3) := dk_178 0 84 (dk_at dksX6_go_12 21 rfl rfl)
theorem dX6_go_301 : decode cX6_go 301 = .ok (.goto 6, 3) := dk_167 0 6 (dk_at dksX6_go_13 0 rfl rfl)
theorem dX6_go_304 : decode cX6_go 304 = .ok (.getstatic 87, 3) := dk_178 0 87 (dk_at dksX6_go_13 3 rfl rfl)
theorem dX6_go_307 : decode cX6_go 307 = .ok (.putfield 48, 3) := dk_181 0 48 (dk_at dksX6_go_13 6 rfl rfl)
theorem dX6_go_310 : decode cX6_go 310 = .ok (.aload_n 0, 1) := dk_42 (dk_at dksX6_go_13 9 rfl rfl)
theorem dX6_go_311 : decode cX6_go 311 = .ok (.getfield 48, 3) := dk_180 0 48 (dk_at dksX6_go_13 10 rfl rfl)
theorem dX6_go_314 : decode cX6_go 314 = .ok (.getstatic 84, 3) := dk_178 0 84 (dk_at dksX6_go_13 13 rfl rfl)
theorem dX6_go_317 : decode cX6_go 317 = .ok (.if_acmp .ne 9, 3) := dk_166 0 9 (dk_at dksX6_go_13 16 rfl rfl)
theorem dX6_go_320 : decode cX6_go 320 = .ok (.aload_n 0, 1) := dk_42 (dk_at dksX6_go_13 19 rfl rfl)
theorem dX6_go_321 : decode cX6_go 321 = .ok (.ldc 90, 2) := dk_18 90 (dk_at dksX6_go_13 20 rfl rfl)
theorem dX6_go_323 : decode cX6_go 323 = .ok (.putfield 11, 3) := dk_181 0 11 (dk_at dksX6_go_14 0 rfl rfl)
theorem dX6_go_326 : decode cX6_go 326 = .ok (.aload_n 0, 1) := dk_42 (dk_at dksX6_go_14 3 rfl rfl)
theorem dX6_go_327 : decode cX6_go 327 = .ok (.dup, 1) := dk_89 (dk_at dksX6_go_14 4 rfl rfl)
theorem dX6_go_328 : decode cX6_go 328 = .ok (.getfield 28, 3) := dk_180 0 28 (dk_at dksX6_go_14 5 rfl rfl)
theorem dX6_go_331 : decode cX6_go 331 = .ok (.iconst 1, 1) := dk_4 (dk_at dksX6_go_14 8 rfl rfl)
theorem dX6_go_332 : decode cX6_go 332 = .ok (.iadd, 1) := dk_96 (dk_at dksX6_go_14 9 rfl rfl)
theorem dX6_go_333 : decode cX6_go 333 = .ok (.putfield 28, 3) := dk_181 0 28 (dk_at dksX6_go_14 10 rfl rfl)
theorem dX6_go_336 : decode cX6_go 336 = .ok (.return_, 1) := dk_177 (dk_at dksX6_go_14 13 rfl rfl)
abbrev cX6_byteAt : ByteArray := prog_10_method_2_code
def yX6_byteAt : MethodName := ⟨RX6, "byteAt", "(I)I"⟩
def dkwX6_byteAt_0 : List UInt8 := [27, 42, 180, 0, 21, 162, 0, 16, 42, 180, 0, 17, 27, 51, 17, 0, 255, 126, 167, 0, 4, 3, 172]
abbrev dktX6_byteAt_0 : List UInt8 := dkwX6_byteAt_0 ++ []
theorem dksX6_byteAt_0 : cX6_byteAt.data.toList.drop 0 = dktX6_byteAt_0 := by decide +kernel
theorem dX6_byteAt_0 : decode cX6_byteAt 0 = .ok (.iload_n 1, 1) := dk_27 (dk_at dksX6_byteAt_0 0 rfl rfl)
theorem dX6_byteAt_1 : decode cX6_byteAt 1 = .ok (.aload_n 0, 1) := dk_42 (dk_at dksX6_byteAt_0 1 rfl rfl)
theorem dX6_byteAt_2 : decode cX6_byteAt 2 = .ok (.getfield 21, 3) := dk_180 0 21 (dk_at dksX6_byteAt_0 2 rfl rfl)
theorem dX6_byteAt_5 : decode cX6_byteAt 5 = .ok (.if_icmp .ge 16, 3) := dk_162 0 16 (dk_at dksX6_byteAt_0 5 rfl rfl)
theorem dX6_byteAt_8 : decode cX6_byteAt 8 = .ok (.aload_n 0, 1) := dk_42 (dk_at dksX6_byteAt_0 8 rfl rfl)
theorem dX6_byteAt_9 : decode cX6_byteAt 9 = .ok (.getfield 17, 3) := dk_180 0 17 (dk_at dksX6_byteAt_0 9 rfl rfl)
theorem dX6_byteAt_12 : decode cX6_byteAt 12 = .ok (.iload_n 1, 1) := dk_27 (dk_at dksX6_byteAt_0 12 rfl rfl)
theorem dX6_byteAt_13 : decode cX6_byteAt 13 = .ok (.baload, 1) := dk_51 (dk_at dksX6_byteAt_0 13 rfl rfl)
theorem dX6_byteAt_14 : decode cX6_byteAt 14 = .ok (.sipush 255, 3) := dk_17 0 255 (dk_at dksX6_byteAt_0 14 rfl rfl)
theorem dX6_byteAt_17 : decode cX6_byteAt 17 = .ok (.iand, 1) := dk_126 (dk_at dksX6_byteAt_0 17 rfl rfl)
theorem dX6_byteAt_18 : decode cX6_byteAt 18 = .ok (.goto 4, 3) := dk_167 0 4 (dk_at dksX6_byteAt_0 18 rfl rfl)
theorem dX6_byteAt_21 : decode cX6_byteAt 21 = .ok (.iconst 0, 1) := dk_3 (dk_at dksX6_byteAt_0 21 rfl rfl)
theorem dX6_byteAt_22 : decode cX6_byteAt 22 = .ok (.ireturn, 1) := dk_172 (dk_at dksX6_byteAt_0 22 rfl rfl)
abbrev cX6_isLetter : ByteArray := prog_10_method_3_code
def yX6_isLetter : MethodName := ⟨RX6, "isLetter", "(I)Z"⟩
def dkwX6_isLetter_0 : List UInt8 := [26, 16, 97, 161, 0, 13, 26, 16, 122, 163, 0, 7, 4, 167, 0, 4, 3, 172]
abbrev dktX6_isLetter_0 : List UInt8 := dkwX6_isLetter_0 ++ []
theorem dksX6_isLetter_0 : cX6_isLetter.data.toList.drop 0 = dktX6_isLetter_0 := by decide +kernel
theorem dX6_isLetter_0 : decode cX6_isLetter 0 = .ok (.iload_n 0, 1) := dk_26 (dk_at dksX6_isLetter_0 0 rfl rfl)
theorem dX6_isLetter_1 : decode cX6_isLetter 1 = .ok (.bipush 97, 2) := dk_16 97 (dk_at dksX6_isLetter_0 1 rfl rfl)
theorem dX6_isLetter_3 : decode cX6_isLetter 3 = .ok (.if_icmp .lt 13, 3) := dk_161 0 13 (dk_at dksX6_isLetter_0 3 rfl rfl)
theorem dX6_isLetter_6 : decode cX6_isLetter 6 = .ok (.iload_n 0, 1) := dk_26 (dk_at dksX6_isLetter_0 6 rfl rfl)
theorem dX6_isLetter_7 : decode cX6_isLetter 7 = .ok (.bipush 122, 2) := dk_16 122 (dk_at dksX6_isLetter_0 7 rfl rfl)
theorem dX6_isLetter_9 : decode cX6_isLetter 9 = .ok (.if_icmp .gt 7, 3) := dk_163 0 7 (dk_at dksX6_isLetter_0 9 rfl rfl)
theorem dX6_isLetter_12 : decode cX6_isLetter 12 = .ok (.iconst 1, 1) := dk_4 (dk_at dksX6_isLetter_0 12 rfl rfl)
theorem dX6_isLetter_13 : decode cX6_isLetter 13 = .ok (.goto 4, 3) := dk_167 0 4 (dk_at dksX6_isLetter_0 13 rfl rfl)
theorem dX6_isLetter_16 : decode cX6_isLetter 16 = .ok (.iconst 0, 1) := dk_3 (dk_at dksX6_isLetter_0 16 rfl rfl)
theorem dX6_isLetter_17 : decode cX6_isLetter 17 = .ok (.ireturn, 1) := dk_172 (dk_at dksX6_isLetter_0 17 rfl rfl)
abbrev cX6_isDigit : ByteArray := prog_10_method_4_code
def yX6_isDigit : MethodName := ⟨RX6, "isDigit", "(I)Z"⟩
def dkwX6_isDigit_0 : List UInt8 := [26, 16, 48, 161, 0, 13, 26, 16, 57, 163, 0, 7, 4, 167, 0, 4, 3, 172]
abbrev dktX6_isDigit_0 : List UInt8 := dkwX6_isDigit_0 ++ []
theorem dksX6_isDigit_0 : cX6_isDigit.data.toList.drop 0 = dktX6_isDigit_0 := by decide +kernel
theorem dX6_isDigit_0 : decode cX6_isDigit 0 = .ok (.iload_n 0, 1) := dk_26 (dk_at dksX6_isDigit_0 0 rfl rfl)
theorem dX6_isDigit_1 : decode cX6_isDigit 1 = .ok (.bipush 48, 2) := dk_16 48 (dk_at dksX6_isDigit_0 1 rfl rfl)
theorem dX6_isDigit_3 : decode cX6_isDigit 3 = .ok (.if_icmp .lt 13, 3) := dk_161 0 13 (dk_at dksX6_isDigit_0 3 rfl rfl)
theorem dX6_isDigit_6 : decode cX6_isDigit 6 = .ok (.iload_n 0, 1) := dk_26 (dk_at dksX6_isDigit_0 6 rfl rfl)
theorem dX6_isDigit_7 : decode cX6_isDigit 7 = .ok (.bipush 57, 2) := dk_16 57 (dk_at dksX6_isDigit_0 7 rfl rfl)
theorem dX6_isDigit_9 : decode cX6_isDigit 9 = .ok (.if_icmp .gt 7, 3) := dk_163 0 7 (dk_at dksX6_isDigit_0 9 rfl rfl)
theorem dX6_isDigit_12 : decode cX6_isDigit 12 = .ok (.iconst 1, 1) := dk_4 (dk_at dksX6_isDigit_0 12 rfl rfl)
theorem dX6_isDigit_13 : decode cX6_isDigit 13 = .ok (.goto 4, 3) := dk_167 0 4 (dk_at dksX6_isDigit_0 13 rfl rfl)
theorem dX6_isDigit_16 : decode cX6_isDigit 16 = .ok (.iconst 0, 1) := dk_3 (dk_at dksX6_isDigit_0 16 rfl rfl)
theorem dX6_isDigit_17 : decode cX6_isDigit 17 = .ok (.ireturn, 1) := dk_172 (dk_at dksX6_isDigit_0 17 rfl rfl)
abbrev cX6_town : ByteArray := prog_10_method_11_code
def yX6_town : MethodName := ⟨RX6, "town", "(LHeavyGifts$State;)LHeavyGifts$Town;"⟩
def dkwX6_town_16 : List UInt8 := [181, 0, 171, 42, 18, 90, 182, 0, 173, 167, 254, 179, 44, 176]
abbrev dktX6_town_16 : List UInt8 := dkwX6_town_16 ++ []
def dkwX6_town_15 : List UInt8 := [167, 0, 4, 3, 8, 182, 0, 107, 4, 54, 4, 42, 182, 0, 25, 44, 42, 3, 16, 9, 182, 0, 134]
abbrev dktX6_town_15 : List UInt8 := dkwX6_town_15 ++ dktX6_town_16
def dkwX6_town_14 : List UInt8 := [182, 0, 25, 167, 0, 47, 42, 42, 18, 169, 182, 0, 103, 4, 182, 0, 107, 42, 21, 4, 154, 0, 7, 4]
abbrev dktX6_town_14 : List UInt8 := dkwX6_town_14 ++ dktX6_town_15
def dkwX6_town_13 : List UInt8 := [154, 0, 12, 42, 18, 168, 182, 0, 103, 153, 0, 7, 4, 167, 0, 4, 3, 4, 182, 0, 107, 42]
abbrev dktX6_town_13 : List UInt8 := dkwX6_town_13 ++ dktX6_town_14
def dkwX6_town_12 : List UInt8 := [182, 0, 107, 4, 62, 42, 182, 0, 25, 44, 42, 18, 163, 182, 0, 103, 181, 0, 165, 42, 44, 180, 0, 165]
abbrev dktX6_town_12 : List UInt8 := dkwX6_town_12 ++ dktX6_town_13
def dkwX6_town_11 : List UInt8 := [167, 0, 119, 42, 18, 161, 182, 0, 103, 153, 0, 66, 42, 29, 154, 0, 7, 4, 167, 0, 4, 3, 8]
abbrev dktX6_town_11 : List UInt8 := dkwX6_town_11 ++ dktX6_town_12
def dkwX6_town_10 : List UInt8 := [153, 0, 23, 42, 182, 0, 25, 43, 180, 0, 122, 21, 6, 42, 44, 4, 21, 6, 120, 182, 0, 155, 79]
abbrev dktX6_town_10 : List UInt8 := dkwX6_town_10 ++ dktX6_town_11
def dkwX6_town_9 : List UInt8 := [54, 5, 43, 180, 0, 158, 21, 6, 42, 4, 17, 3, 231, 182, 0, 134, 79, 42, 18, 160, 182, 0, 103]
abbrev dktX6_town_9 : List UInt8 := dkwX6_town_9 ++ dktX6_town_10
def dkwX6_town_8 : List UInt8 := [153, 0, 72, 42, 182, 0, 25, 42, 44, 21, 5, 182, 0, 155, 54, 6, 21, 5, 4, 21, 6, 120, 128]
abbrev dktX6_town_8 : List UInt8 := dkwX6_town_8 ++ dktX6_town_9
def dkwX6_town_7 : List UInt8 := [182, 0, 107, 42, 182, 0, 25, 42, 44, 43, 182, 0, 150, 167, 0, 197, 42, 18, 153, 182, 0, 103]
abbrev dktX6_town_7 : List UInt8 := dkwX6_town_7 ++ dktX6_town_8
def dkwX6_town_6 : List UInt8 := [182, 0, 103, 153, 0, 35, 42, 44, 180, 0, 147, 16, 12, 162, 0, 7, 4, 167, 0, 4, 3, 5]
abbrev dktX6_town_6 : List UInt8 := dkwX6_town_6 ++ dktX6_town_7
def dkwX6_town_5 : List UInt8 := [182, 0, 134, 79, 44, 180, 0, 111, 42, 182, 0, 138, 182, 0, 142, 87, 167, 0, 238, 42, 18, 145]
abbrev dktX6_town_5 : List UInt8 := dkwX6_town_5 ++ dktX6_town_6
def dkwX6_town_4 : List UInt8 := [153, 0, 26, 42, 182, 0, 25, 43, 180, 0, 132, 44, 180, 0, 111, 182, 0, 117, 42, 3, 16, 99]
abbrev dktX6_town_4 : List UInt8 := dkwX6_town_4 ++ dktX6_town_5
def dkwX6_town_3 : List UInt8 := [162, 0, 7, 4, 167, 0, 4, 3, 5, 182, 0, 107, 42, 182, 0, 25, 42, 18, 130, 182, 0, 103]
abbrev dktX6_town_3 : List UInt8 := dkwX6_town_3 ++ dktX6_town_4
def dkwX6_town_2 : List UInt8 := [165, 1, 73, 42, 18, 128, 182, 0, 103, 153, 0, 76, 42, 44, 180, 0, 111, 182, 0, 117, 16, 6]
abbrev dktX6_town_2 : List UInt8 := dkwX6_town_2 ++ dktX6_town_3
def dkwX6_town_1 : List UInt8 := [162, 0, 17, 43, 180, 0, 122, 21, 6, 2, 79, 132, 6, 1, 167, 255, 238, 42, 180, 0, 48, 178, 0, 42]
abbrev dktX6_town_1 : List UInt8 := dkwX6_town_1 ++ dktX6_town_2
def dkwX6_town_0 : List UInt8 := [187, 0, 112, 89, 183, 0, 121, 77, 3, 62, 3, 54, 4, 3, 54, 5, 3, 54, 6, 21, 6, 16, 6]
abbrev dktX6_town_0 : List UInt8 := dkwX6_town_0 ++ dktX6_town_1
theorem dksX6_town_0 : cX6_town.data.toList.drop 0 = dktX6_town_0 := by decide +kernel
theorem dksX6_town_1 : cX6_town.data.toList.drop 23 = dktX6_town_1 := dk_seg dksX6_town_0 23 rfl rfl
theorem dksX6_town_2 : cX6_town.data.toList.drop 47 = dktX6_town_2 := dk_seg dksX6_town_1 24 rfl rfl
theorem dksX6_town_3 : cX6_town.data.toList.drop 69 = dktX6_town_3 := dk_seg dksX6_town_2 22 rfl rfl
theorem dksX6_town_4 : cX6_town.data.toList.drop 91 = dktX6_town_4 := dk_seg dksX6_town_3 22 rfl rfl
theorem dksX6_town_5 : cX6_town.data.toList.drop 113 = dktX6_town_5 := dk_seg dksX6_town_4 22 rfl rfl
theorem dksX6_town_6 : cX6_town.data.toList.drop 135 = dktX6_town_6 := dk_seg dksX6_town_5 22 rfl rfl
theorem dksX6_town_7 : cX6_town.data.toList.drop 157 = dktX6_town_7 := dk_seg dksX6_town_6 22 rfl rfl
theorem dksX6_town_8 : cX6_town.data.toList.drop 179 = dktX6_town_8 := dk_seg dksX6_town_7 22 rfl rfl
theorem dksX6_town_9 : cX6_town.data.toList.drop 202 = dktX6_town_9 := dk_seg dksX6_town_8 23 rfl rfl
theorem dksX6_town_10 : cX6_town.data.toList.drop 225 = dktX6_town_10 := dk_seg dksX6_town_9 23 rfl rfl
theorem dksX6_town_11 : cX6_town.data.toList.drop 248 = dktX6_town_11 := dk_seg dksX6_town_10 23 rfl rfl
theorem dksX6_town_12 : cX6_town.data.toList.drop 271 = dktX6_town_12 := dk_seg dksX6_town_11 23 rfl rfl
theorem dksX6_town_13 : cX6_town.data.toList.drop 295 = dktX6_town_13 := dk_seg dksX6_town_12 24 rfl rfl
theorem dksX6_town_14 : cX6_town.data.toList.drop 317 = dktX6_town_14 := dk_seg dksX6_town_13 22 rfl rfl
theorem dksX6_town_15 : cX6_town.data.toList.drop 341 = dktX6_town_15 := dk_seg dksX6_town_14 24 rfl rfl
theorem dksX6_town_16 : cX6_town.data.toList.drop 364 = dktX6_town_16 := dk_seg dksX6_town_15 23 rfl rfl
theorem dX6_town_0 : decode cX6_town 0 = .ok (.new 112, 3) := dk_187 0 112 (dk_at dksX6_town_0 0 rfl rfl)
theorem dX6_town_3 : decode cX6_town 3 = .ok (.dup, 1) := dk_89 (dk_at dksX6_town_0 3 rfl rfl)
theorem dX6_town_4 : decode cX6_town 4 = .ok (.invokespecial 121, 3) := dk_183 0 121 (dk_at dksX6_town_0 4 rfl rfl)
theorem dX6_town_7 : decode cX6_town 7 = .ok (.astore_n 2, 1) := dk_77 (dk_at dksX6_town_0 7 rfl rfl)
theorem dX6_town_8 : decode cX6_town 8 = .ok (.iconst 0, 1) := dk_3 (dk_at dksX6_town_0 8 rfl rfl)
theorem dX6_town_9 : decode cX6_town 9 = .ok (.istore_n 3, 1) := dk_62 (dk_at dksX6_town_0 9 rfl rfl)
theorem dX6_town_10 : decode cX6_town 10 = .ok (.iconst 0, 1) := dk_3 (dk_at dksX6_town_0 10 rfl rfl)
theorem dX6_town_11 : decode cX6_town 11 = .ok (.istore 4, 2) := dk_54 4 (dk_at dksX6_town_0 11 rfl rfl)
theorem dX6_town_13 : decode cX6_town 13 = .ok (.iconst 0, 1) := dk_3 (dk_at dksX6_town_0 13 rfl rfl)
theorem dX6_town_14 : decode cX6_town 14 = .ok (.istore 5, 2) := dk_54 5 (dk_at dksX6_town_0 14 rfl rfl)
theorem dX6_town_16 : decode cX6_town 16 = .ok (.iconst 0, 1) := dk_3 (dk_at dksX6_town_0 16 rfl rfl)
theorem dX6_town_17 : decode cX6_town 17 = .ok (.istore 6, 2) := dk_54 6 (dk_at dksX6_town_0 17 rfl rfl)
theorem dX6_town_19 : decode cX6_town 19 = .ok (.iload 6, 2) := dk_21 6 (dk_at dksX6_town_0 19 rfl rfl)
theorem dX6_town_21 : decode cX6_town 21 = .ok (.bipush 6, 2) := dk_16 6 (dk_at dksX6_town_0 21 rfl rfl)
theorem dX6_town_23 : decode cX6_town 23 = .ok (.if_icmp .ge 17, 3) := dk_162 0 17 (dk_at dksX6_town_1 0 rfl rfl)
theorem dX6_town_26 : decode cX6_town 26 = .ok (.aload_n 1, 1) := dk_43 (dk_at dksX6_town_1 3 rfl rfl)
theorem dX6_town_27 : decode cX6_town 27 = .ok (.getfield 122, 3) := dk_180 0 122 (dk_at dksX6_town_1 4 rfl rfl)
theorem dX6_town_30 : decode cX6_town 30 = .ok (.iload 6, 2) := dk_21 6 (dk_at dksX6_town_1 7 rfl rfl)
theorem dX6_town_32 : decode cX6_town 32 = .ok (.iconst (-1), 1) := dk_2 (dk_at dksX6_town_1 9 rfl rfl)
theorem dX6_town_33 : decode cX6_town 33 = .ok (.iastore, 1) := dk_79 (dk_at dksX6_town_1 10 rfl rfl)
theorem dX6_town_34 : decode cX6_town 34 = .ok (.iinc 6 1, 3) := dk_132 6 1 (dk_at dksX6_town_1 11 rfl rfl)
theorem dX6_town_37 : decode cX6_town 37 = .ok (.goto (-18), 3) := dk_167 255 238 (dk_at dksX6_town_1 14 rfl rfl)
theorem dX6_town_40 : decode cX6_town 40 = .ok (.aload_n 0, 1) := dk_42 (dk_at dksX6_town_1 17 rfl rfl)
theorem dX6_town_41 : decode cX6_town 41 = .ok (.getfield 48, 3) := dk_180 0 48 (dk_at dksX6_town_1 18 rfl rfl)
theorem dX6_town_44 : decode cX6_town 44 = .ok (.getstatic 42, 3) := dk_178 0 42 (dk_at dksX6_town_1 21 rfl rfl)
theorem dX6_town_47 : decode cX6_town 47 = .ok (.if_acmp .eq 329, 3) := dk_165 1 73 (dk_at dksX6_town_2 0 rfl rfl)
theorem dX6_town_50 : decode cX6_town 50 = .ok (.aload_n 0, 1) := dk_42 (dk_at dksX6_town_2 3 rfl rfl)
theorem dX6_town_51 : decode cX6_town 51 = .ok (.ldc 128, 2) := dk_18 128 (dk_at dksX6_town_2 4 rfl rfl)
theorem dX6_town_53 : decode cX6_town 53 = .ok (.invokevirtual 103, 3) := dk_182 0 103 (dk_at dksX6_town_2 6 rfl rfl)
theorem dX6_town_56 : decode cX6_town 56 = .ok (.ifCond .eq 76, 3) := dk_153 0 76 (dk_at dksX6_town_2 9 rfl rfl)
theorem dX6_town_59 : decode cX6_town 59 = .ok (.aload_n 0, 1) := dk_42 (dk_at dksX6_town_2 12 rfl rfl)
theorem dX6_town_60 : decode cX6_town 60 = .ok (.aload_n 2, 1) := dk_44 (dk_at dksX6_town_2 13 rfl rfl)
theorem dX6_town_61 : decode cX6_town 61 = .ok (.getfield 111, 3) := dk_180 0 111 (dk_at dksX6_town_2 14 rfl rfl)
theorem dX6_town_64 : decode cX6_town 64 = .ok (.invokevirtual 117, 3) := dk_182 0 117 (dk_at dksX6_town_2 17 rfl rfl)
theorem dX6_town_67 : decode cX6_town 67 = .ok (.bipush 6, 2) := dk_16 6 (dk_at dksX6_town_2 20 rfl rfl)
theorem dX6_town_69 : decode cX6_town 69 = .ok (.if_icmp .ge 7, 3) := dk_162 0 7 (dk_at dksX6_town_3 0 rfl rfl)
theorem dX6_town_72 : decode cX6_town 72 = .ok (.iconst 1, 1) := dk_4 (dk_at dksX6_town_3 3 rfl rfl)
theorem dX6_town_73 : decode cX6_town 73 = .ok (.goto 4, 3) := dk_167 0 4 (dk_at dksX6_town_3 4 rfl rfl)
theorem dX6_town_76 : decode cX6_town 76 = .ok (.iconst 0, 1) := dk_3 (dk_at dksX6_town_3 7 rfl rfl)
theorem dX6_town_77 : decode cX6_town 77 = .ok (.iconst 2, 1) := dk_5 (dk_at dksX6_town_3 8 rfl rfl)
theorem dX6_town_78 : decode cX6_town 78 = .ok (.invokevirtual 107, 3) := dk_182 0 107 (dk_at dksX6_town_3 9 rfl rfl)
theorem dX6_town_81 : decode cX6_town 81 = .ok (.aload_n 0, 1) := dk_42 (dk_at dksX6_town_3 12 rfl rfl)
theorem dX6_town_82 : decode cX6_town 82 = .ok (.invokevirtual 25, 3) := dk_182 0 25 (dk_at dksX6_town_3 13 rfl rfl)
theorem dX6_town_85 : decode cX6_town 85 = .ok (.aload_n 0, 1) := dk_42 (dk_at dksX6_town_3 16 rfl rfl)
theorem dX6_town_86 : decode cX6_town 86 = .ok (.ldc 130, 2) := dk_18 130 (dk_at dksX6_town_3 17 rfl rfl)
theorem dX6_town_88 : decode cX6_town 88 = .ok (.invokevirtual 103, 3) := dk_182 0 103 (dk_at dksX6_town_3 19 rfl rfl)
theorem dX6_town_91 : decode cX6_town 91 = .ok (.ifCond .eq 26, 3) := dk_153 0 26 (dk_at dksX6_town_4 0 rfl rfl)
theorem dX6_town_94 : decode cX6_town 94 = .ok (.aload_n 0, 1) := dk_42 (dk_at dksX6_town_4 3 rfl rfl)
theorem dX6_town_95 : decode cX6_town 95 = .ok (.invokevirtual 25, 3) := dk_182 0 25 (dk_at dksX6_town_4 4 rfl rfl)
theorem dX6_town_98 : decode cX6_town 98 = .ok (.aload_n 1, 1) := dk_43 (dk_at dksX6_town_4 7 rfl rfl)
theorem dX6_town_99 : decode cX6_town 99 = .ok (.getfield 132, 3) := dk_180 0 132 (dk_at dksX6_town_4 8 rfl rfl)
theorem dX6_town_102 : decode cX6_town 102 = .ok (.aload_n 2, 1) := dk_44 (dk_at dksX6_town_4 11 rfl rfl)
theorem dX6_town_103 : decode cX6_town 103 = .ok (.getfield 111, 3) := dk_180 0 111 (dk_at dksX6_town_4 12 rfl rfl)
theorem dX6_town_106 : decode cX6_town 106 = .ok (.invokevirtual 117, 3) := dk_182 0 117 (dk_at dksX6_town_4 15 rfl rfl)
theorem dX6_town_109 : decode cX6_town 109 = .ok (.aload_n 0, 1) := dk_42 (dk_at dksX6_town_4 18 rfl rfl)
theorem dX6_town_110 : decode cX6_town 110 = .ok (.iconst 0, 1) := dk_3 (dk_at dksX6_town_4 19 rfl rfl)
theorem dX6_town_111 : decode cX6_town 111 = .ok (.bipush 99, 2) := dk_16 99 (dk_at dksX6_town_4 20 rfl rfl)
theorem dX6_town_113 : decode cX6_town 113 = .ok (.invokevirtual 134, 3) := dk_182 0 134 (dk_at dksX6_town_5 0 rfl rfl)
theorem dX6_town_116 : decode cX6_town 116 = .ok (.iastore, 1) := dk_79 (dk_at dksX6_town_5 3 rfl rfl)
theorem dX6_town_117 : decode cX6_town 117 = .ok (.aload_n 2, 1) := dk_44 (dk_at dksX6_town_5 4 rfl rfl)
theorem dX6_town_118 : decode cX6_town 118 = .ok (.getfield 111, 3) := dk_180 0 111 (dk_at dksX6_town_5 5 rfl rfl)
theorem dX6_town_121 : decode cX6_town 121 = .ok (.aload_n 0, 1) := dk_42 (dk_at dksX6_town_5 8 rfl rfl)
theorem dX6_town_122 : decode cX6_town 122 = .ok (.invokevirtual 138, 3) := dk_182 0 138 (dk_at dksX6_town_5 9 rfl rfl)
theorem dX6_town_125 : decode cX6_town 125 = .ok (.invokevirtual 142, 3) := dk_182 0 142 (dk_at dksX6_town_5 12 rfl rfl)
theorem dX6_town_128 : decode cX6_town 128 = .ok (.pop, 1) := dk_87 (dk_at dksX6_town_5 15 rfl rfl)
theorem dX6_town_129 : decode cX6_town 129 = .ok (.goto 238, 3) := dk_167 0 238 (dk_at dksX6_town_5 16 rfl rfl)
theorem dX6_town_132 : decode cX6_town 132 = .ok (.aload_n 0, 1) := dk_42 (dk_at dksX6_town_5 19 rfl rfl)
theorem dX6_town_133 : decode cX6_town 133 = .ok (.ldc 145, 2) := dk_18 145 (dk_at dksX6_town_5 20 rfl rfl)
theorem dX6_town_135 : decode cX6_town 135 = .ok (.invokevirtual 103, 3) := dk_182 0 103 (dk_at dksX6_town_6 0 rfl rfl)
theorem dX6_town_138 : decode cX6_town 138 = .ok (.ifCond .eq 35, 3) := dk_153 0 35 (dk_at dksX6_town_6 3 rfl rfl)
theorem dX6_town_141 : decode cX6_town 141 = .ok (.aload_n 0, 1) := dk_42 (dk_at dksX6_town_6 6 rfl rfl)
theorem dX6_town_142 : decode cX6_town 142 = .ok (.aload_n 2, 1) := dk_44 (dk_at dksX6_town_6 7 rfl rfl)
theorem dX6_town_143 : decode cX6_town 143 = .ok (.getfield 147, 3) := dk_180 0 147 (dk_at dksX6_town_6 8 rfl rfl)
theorem dX6_town_146 : decode cX6_town 146 = .ok (.bipush 12, 2) := dk_16 12 (dk_at dksX6_town_6 11 rfl rfl)
theorem dX6_town_148 : decode cX6_town 148 = .ok (.if_icmp .ge 7, 3) := dk_162 0 7 (dk_at dksX6_town_6 13 rfl rfl)
theorem dX6_town_151 : decode cX6_town 151 = .ok (.iconst 1, 1) := dk_4 (dk_at dksX6_town_6 16 rfl rfl)
theorem dX6_town_152 : decode cX6_town 152 = .ok (.goto 4, 3) := dk_167 0 4 (dk_at dksX6_town_6 17 rfl rfl)
theorem dX6_town_155 : decode cX6_town 155 = .ok (.iconst 0, 1) := dk_3 (dk_at dksX6_town_6 20 rfl rfl)
theorem dX6_town_156 : decode cX6_town 156 = .ok (.iconst 2, 1) := dk_5 (dk_at dksX6_town_6 21 rfl rfl)
theorem dX6_town_157 : decode cX6_town 157 = .ok (.invokevirtual 107, 3) := dk_182 0 107 (dk_at dksX6_town_7 0 rfl rfl)
theorem dX6_town_160 : decode cX6_town 160 = .ok (.aload_n 0, 1) := dk_42 (dk_at dksX6_town_7 3 rfl rfl)
theorem dX6_town_161 : decode cX6_town 161 = .ok (.invokevirtual 25, 3) := dk_182 0 25 (dk_at dksX6_town_7 4 rfl rfl)
theorem dX6_town_164 : decode cX6_town 164 = .ok (.aload_n 0, 1) := dk_42 (dk_at dksX6_town_7 7 rfl rfl)
theorem dX6_town_165 : decode cX6_town 165 = .ok (.aload_n 2, 1) := dk_44 (dk_at dksX6_town_7 8 rfl rfl)
theorem dX6_town_166 : decode cX6_town 166 = .ok (.aload_n 1, 1) := dk_43 (dk_at dksX6_town_7 9 rfl rfl)
theorem dX6_town_167 : decode cX6_town 167 = .ok (.invokevirtual 150, 3) := dk_182 0 150 (dk_at dksX6_town_7 10 rfl rfl)
theorem dX6_town_170 : decode cX6_town 170 = .ok (.goto 197, 3) := dk_167 0 197 (dk_at dksX6_town_7 13 rfl rfl)
theorem dX6_town_173 : decode cX6_town 173 = .ok (.aload_n 0, 1) := dk_42 (dk_at dksX6_town_7 16 rfl rfl)
theorem dX6_town_174 : decode cX6_town 174 = .ok (.ldc 153, 2) := dk_18 153 (dk_at dksX6_town_7 17 rfl rfl)
theorem dX6_town_176 : decode cX6_town 176 = .ok (.invokevirtual 103, 3) := dk_182 0 103 (dk_at dksX6_town_7 19 rfl rfl)
theorem dX6_town_179 : decode cX6_town 179 = .ok (.ifCond .eq 72, 3) := dk_153 0 72 (dk_at dksX6_town_8 0 rfl rfl)
theorem dX6_town_182 : decode cX6_town 182 = .ok (.aload_n 0, 1) := dk_42 (dk_at dksX6_town_8 3 rfl rfl)
theorem dX6_town_183 : decode cX6_town 183 = .ok (.invokevirtual 25, 3) := dk_182 0 25 (dk_at dksX6_town_8 4 rfl rfl)
theorem dX6_town_186 : decode cX6_town 186 = .ok (.aload_n 0, 1) := dk_42 (dk_at dksX6_town_8 7 rfl rfl)
theorem dX6_town_187 : decode cX6_town 187 = .ok (.aload_n 2, 1) := dk_44 (dk_at dksX6_town_8 8 rfl rfl)
theorem dX6_town_188 : decode cX6_town 188 = .ok (.iload 5, 2) := dk_21 5 (dk_at dksX6_town_8 9 rfl rfl)
theorem dX6_town_190 : decode cX6_town 190 = .ok (.invokevirtual 155, 3) := dk_182 0 155 (dk_at dksX6_town_8 11 rfl rfl)
theorem dX6_town_193 : decode cX6_town 193 = .ok (.istore 6, 2) := dk_54 6 (dk_at dksX6_town_8 14 rfl rfl)
theorem dX6_town_195 : decode cX6_town 195 = .ok (.iload 5, 2) := dk_21 5 (dk_at dksX6_town_8 16 rfl rfl)
theorem dX6_town_197 : decode cX6_town 197 = .ok (.iconst 1, 1) := dk_4 (dk_at dksX6_town_8 18 rfl rfl)
theorem dX6_town_198 : decode cX6_town 198 = .ok (.iload 6, 2) := dk_21 6 (dk_at dksX6_town_8 19 rfl rfl)
theorem dX6_town_200 : decode cX6_town 200 = .ok (.ishl, 1) := dk_120 (dk_at dksX6_town_8 21 rfl rfl)
theorem dX6_town_201 : decode cX6_town 201 = .ok (.ior, 1) := dk_128 (dk_at dksX6_town_8 22 rfl rfl)
theorem dX6_town_202 : decode cX6_town 202 = .ok (.istore 5, 2) := dk_54 5 (dk_at dksX6_town_9 0 rfl rfl)
theorem dX6_town_204 : decode cX6_town 204 = .ok (.aload_n 1, 1) := dk_43 (dk_at dksX6_town_9 2 rfl rfl)
theorem dX6_town_205 : decode cX6_town 205 = .ok (.getfield 158, 3) := dk_180 0 158 (dk_at dksX6_town_9 3 rfl rfl)
theorem dX6_town_208 : decode cX6_town 208 = .ok (.iload 6, 2) := dk_21 6 (dk_at dksX6_town_9 6 rfl rfl)
theorem dX6_town_210 : decode cX6_town 210 = .ok (.aload_n 0, 1) := dk_42 (dk_at dksX6_town_9 8 rfl rfl)
theorem dX6_town_211 : decode cX6_town 211 = .ok (.iconst 1, 1) := dk_4 (dk_at dksX6_town_9 9 rfl rfl)
theorem dX6_town_212 : decode cX6_town 212 = .ok (.sipush 999, 3) := dk_17 3 231 (dk_at dksX6_town_9 10 rfl rfl)
theorem dX6_town_215 : decode cX6_town 215 = .ok (.invokevirtual 134, 3) := dk_182 0 134 (dk_at dksX6_town_9 13 rfl rfl)
theorem dX6_town_218 : decode cX6_town 218 = .ok (.iastore, 1) := dk_79 (dk_at dksX6_town_9 16 rfl rfl)
theorem dX6_town_219 : decode cX6_town 219 = .ok (.aload_n 0, 1) := dk_42 (dk_at dksX6_town_9 17 rfl rfl)
theorem dX6_town_220 : decode cX6_town 220 = .ok (.ldc 160, 2) := dk_18 160 (dk_at dksX6_town_9 18 rfl rfl)
theorem dX6_town_222 : decode cX6_town 222 = .ok (.invokevirtual 103, 3) := dk_182 0 103 (dk_at dksX6_town_9 20 rfl rfl)
theorem dX6_town_225 : decode cX6_town 225 = .ok (.ifCond .eq 23, 3) := dk_153 0 23 (dk_at dksX6_town_10 0 rfl rfl)
theorem dX6_town_228 : decode cX6_town 228 = .ok (.aload_n 0, 1) := dk_42 (dk_at dksX6_town_10 3 rfl rfl)
theorem dX6_town_229 : decode cX6_town 229 = .ok (.invokevirtual 25, 3) := dk_182 0 25 (dk_at dksX6_town_10 4 rfl rfl)
theorem dX6_town_232 : decode cX6_town 232 = .ok (.aload_n 1, 1) := dk_43 (dk_at dksX6_town_10 7 rfl rfl)
theorem dX6_town_233 : decode cX6_town 233 = .ok (.getfield 122, 3) := dk_180 0 122 (dk_at dksX6_town_10 8 rfl rfl)
theorem dX6_town_236 : decode cX6_town 236 = .ok (.iload 6, 2) := dk_21 6 (dk_at dksX6_town_10 11 rfl rfl)
theorem dX6_town_238 : decode cX6_town 238 = .ok (.aload_n 0, 1) := dk_42 (dk_at dksX6_town_10 13 rfl rfl)
theorem dX6_town_239 : decode cX6_town 239 = .ok (.aload_n 2, 1) := dk_44 (dk_at dksX6_town_10 14 rfl rfl)
theorem dX6_town_240 : decode cX6_town 240 = .ok (.iconst 1, 1) := dk_4 (dk_at dksX6_town_10 15 rfl rfl)
theorem dX6_town_241 : decode cX6_town 241 = .ok (.iload 6, 2) := dk_21 6 (dk_at dksX6_town_10 16 rfl rfl)
theorem dX6_town_243 : decode cX6_town 243 = .ok (.ishl, 1) := dk_120 (dk_at dksX6_town_10 18 rfl rfl)
theorem dX6_town_244 : decode cX6_town 244 = .ok (.invokevirtual 155, 3) := dk_182 0 155 (dk_at dksX6_town_10 19 rfl rfl)
theorem dX6_town_247 : decode cX6_town 247 = .ok (.iastore, 1) := dk_79 (dk_at dksX6_town_10 22 rfl rfl)
theorem dX6_town_248 : decode cX6_town 248 = .ok (.goto 119, 3) := dk_167 0 119 (dk_at dksX6_town_11 0 rfl rfl)
theorem dX6_town_251 : decode cX6_town 251 = .ok (.aload_n 0, 1) := dk_42 (dk_at dksX6_town_11 3 rfl rfl)
theorem dX6_town_252 : decode cX6_town 252 = .ok (.ldc 161, 2) := dk_18 161 (dk_at dksX6_town_11 4 rfl rfl)
theorem dX6_town_254 : decode cX6_town 254 = .ok (.invokevirtual 103, 3) := dk_182 0 103 (dk_at dksX6_town_11 6 rfl rfl)
theorem dX6_town_257 : decode cX6_town 257 = .ok (.ifCond .eq 66, 3) := dk_153 0 66 (dk_at dksX6_town_11 9 rfl rfl)
theorem dX6_town_260 : decode cX6_town 260 = .ok (.aload_n 0, 1) := dk_42 (dk_at dksX6_town_11 12 rfl rfl)
theorem dX6_town_261 : decode cX6_town 261 = .ok (.iload_n 3, 1) := dk_29 (dk_at dksX6_town_11 13 rfl rfl)
theorem dX6_town_262 : decode cX6_town 262 = .ok (.ifCond .ne 7, 3) := dk_154 0 7 (dk_at dksX6_town_11 14 rfl rfl)
theorem dX6_town_265 : decode cX6_town 265 = .ok (.iconst 1, 1) := dk_4 (dk_at dksX6_town_11 17 rfl rfl)
theorem dX6_town_266 : decode cX6_town 266 = .ok (.goto 4, 3) := dk_167 0 4 (dk_at dksX6_town_11 18 rfl rfl)
theorem dX6_town_269 : decode cX6_town 269 = .ok (.iconst 0, 1) := dk_3 (dk_at dksX6_town_11 21 rfl rfl)
theorem dX6_town_270 : decode cX6_town 270 = .ok (.iconst 5, 1) := dk_8 (dk_at dksX6_town_11 22 rfl rfl)
theorem dX6_town_271 : decode cX6_town 271 = .ok (.invokevirtual 107, 3) := dk_182 0 107 (dk_at dksX6_town_12 0 rfl rfl)
theorem dX6_town_274 : decode cX6_town 274 = .ok (.iconst 1, 1) := dk_4 (dk_at dksX6_town_12 3 rfl rfl)
theorem dX6_town_275 : decode cX6_town 275 = .ok (.istore_n 3, 1) := dk_62 (dk_at dksX6_town_12 4 rfl rfl)
theorem dX6_town_276 : decode cX6_town 276 = .ok (.aload_n 0, 1) := dk_42 (dk_at dksX6_town_12 5 rfl rfl)
theorem dX6_town_277 : decode cX6_town 277 = .ok (.invokevirtual 25, 3) := dk_182 0 25 (dk_at dksX6_town_12 6 rfl rfl)
theorem dX6_town_280 : decode cX6_town 280 = .ok (.aload_n 2, 1) := dk_44 (dk_at dksX6_town_12 9 rfl rfl)
theorem dX6_town_281 : decode cX6_town 281 = .ok (.aload_n 0, 1) := dk_42 (dk_at dksX6_town_12 10 rfl rfl)
theorem dX6_town_282 : decode cX6_town 282 = .ok (.ldc 163, 2) := dk_18 163 (dk_at dksX6_town_12 11 rfl rfl)
theorem dX6_town_284 : decode cX6_town 284 = .ok (.invokevirtual 103, 3) := dk_182 0 103 (dk_at dksX6_town_12 13 rfl rfl)
theorem dX6_town_287 : decode cX6_town 287 = .ok (.putfield 165, 3) := dk_181 0 165 (dk_at dksX6_town_12 16 rfl rfl)
theorem dX6_town_290 : decode cX6_town 290 = .ok (.aload_n 0, 1) := dk_42 (dk_at dksX6_town_12 19 rfl rfl)
theorem dX6_town_291 : decode cX6_town 291 = .ok (.aload_n 2, 1) := dk_44 (dk_at dksX6_town_12 20 rfl rfl)
theorem dX6_town_292 : decode cX6_town 292 = .ok (.getfield 165, 3) := dk_180 0 165 (dk_at dksX6_town_12 21 rfl rfl)
theorem dX6_town_295 : decode cX6_town 295 = .ok (.ifCond .ne 12, 3) := dk_154 0 12 (dk_at dksX6_town_13 0 rfl rfl)
theorem dX6_town_298 : decode cX6_town 298 = .ok (.aload_n 0, 1) := dk_42 (dk_at dksX6_town_13 3 rfl rfl)
theorem dX6_town_299 : decode cX6_town 299 = .ok (.ldc 168, 2) := dk_18 168 (dk_at dksX6_town_13 4 rfl rfl)
theorem dX6_town_301 : decode cX6_town 301 = .ok (.invokevirtual 103, 3) := dk_182 0 103 (dk_at dksX6_town_13 6 rfl rfl)
theorem dX6_town_304 : decode cX6_town 304 = .ok (.ifCond .eq 7, 3) := dk_153 0 7 (dk_at dksX6_town_13 9 rfl rfl)
theorem dX6_town_307 : decode cX6_town 307 = .ok (.iconst 1, 1) := dk_4 (dk_at dksX6_town_13 12 rfl rfl)
theorem dX6_town_308 : decode cX6_town 308 = .ok (.goto 4, 3) := dk_167 0 4 (dk_at dksX6_town_13 13 rfl rfl)
theorem dX6_town_311 : decode cX6_town 311 = .ok (.iconst 0, 1) := dk_3 (dk_at dksX6_town_13 16 rfl rfl)
theorem dX6_town_312 : decode cX6_town 312 = .ok (.iconst 1, 1) := dk_4 (dk_at dksX6_town_13 17 rfl rfl)
theorem dX6_town_313 : decode cX6_town 313 = .ok (.invokevirtual 107, 3) := dk_182 0 107 (dk_at dksX6_town_13 18 rfl rfl)
theorem dX6_town_316 : decode cX6_town 316 = .ok (.aload_n 0, 1) := dk_42 (dk_at dksX6_town_13 21 rfl rfl)
theorem dX6_town_317 : decode cX6_town 317 = .ok (.invokevirtual 25, 3) := dk_182 0 25 (dk_at dksX6_town_14 0 rfl rfl)
theorem dX6_town_320 : decode cX6_town 320 = .ok (.goto 47, 3) := dk_167 0 47 (dk_at dksX6_town_14 3 rfl rfl)
theorem dX6_town_323 : decode cX6_town 323 = .ok (.aload_n 0, 1) := dk_42 (dk_at dksX6_town_14 6 rfl rfl)
theorem dX6_town_324 : decode cX6_town 324 = .ok (.aload_n 0, 1) := dk_42 (dk_at dksX6_town_14 7 rfl rfl)
theorem dX6_town_325 : decode cX6_town 325 = .ok (.ldc 169, 2) := dk_18 169 (dk_at dksX6_town_14 8 rfl rfl)
theorem dX6_town_327 : decode cX6_town 327 = .ok (.invokevirtual 103, 3) := dk_182 0 103 (dk_at dksX6_town_14 10 rfl rfl)
theorem dX6_town_330 : decode cX6_town 330 = .ok (.iconst 1, 1) := dk_4 (dk_at dksX6_town_14 13 rfl rfl)
theorem dX6_town_331 : decode cX6_town 331 = .ok (.invokevirtual 107, 3) := dk_182 0 107 (dk_at dksX6_town_14 14 rfl rfl)
theorem dX6_town_334 : decode cX6_town 334 = .ok (.aload_n 0, 1) := dk_42 (dk_at dksX6_town_14 17 rfl rfl)
theorem dX6_town_335 : decode cX6_town 335 = .ok (.iload 4, 2) := dk_21 4 (dk_at dksX6_town_14 18 rfl rfl)
theorem dX6_town_337 : decode cX6_town 337 = .ok (.ifCond .ne 7, 3) := dk_154 0 7 (dk_at dksX6_town_14 20 rfl rfl)
theorem dX6_town_340 : decode cX6_town 340 = .ok (.iconst 1, 1) := dk_4 (dk_at dksX6_town_14 23 rfl rfl)
theorem dX6_town_341 : decode cX6_town 341 = .ok (.goto 4, 3) := dk_167 0 4 (dk_at dksX6_town_15 0 rfl rfl)
theorem dX6_town_344 : decode cX6_town 344 = .ok (.iconst 0, 1) := dk_3 (dk_at dksX6_town_15 3 rfl rfl)
theorem dX6_town_345 : decode cX6_town 345 = .ok (.iconst 5, 1) := dk_8 (dk_at dksX6_town_15 4 rfl rfl)
theorem dX6_town_346 : decode cX6_town 346 = .ok (.invokevirtual 107, 3) := dk_182 0 107 (dk_at dksX6_town_15 5 rfl rfl)
theorem dX6_town_349 : decode cX6_town 349 = .ok (.iconst 1, 1) := dk_4 (dk_at dksX6_town_15 8 rfl rfl)
theorem dX6_town_350 : decode cX6_town 350 = .ok (.istore 4, 2) := dk_54 4 (dk_at dksX6_town_15 9 rfl rfl)
theorem dX6_town_352 : decode cX6_town 352 = .ok (.aload_n 0, 1) := dk_42 (dk_at dksX6_town_15 11 rfl rfl)
theorem dX6_town_353 : decode cX6_town 353 = .ok (.invokevirtual 25, 3) := dk_182 0 25 (dk_at dksX6_town_15 12 rfl rfl)
theorem dX6_town_356 : decode cX6_town 356 = .ok (.aload_n 2, 1) := dk_44 (dk_at dksX6_town_15 15 rfl rfl)
theorem dX6_town_357 : decode cX6_town 357 = .ok (.aload_n 0, 1) := dk_42 (dk_at dksX6_town_15 16 rfl rfl)
theorem dX6_town_358 : decode cX6_town 358 = .ok (.iconst 0, 1) := dk_3 (dk_at dksX6_town_15 17 rfl rfl)
theorem dX6_town_359 : decode cX6_town 359 = .ok (.bipush 9, 2) := dk_16 9 (dk_at dksX6_town_15 18 rfl rfl)
theorem dX6_town_361 : decode cX6_town 361 = .ok (.invokevirtual 134, 3) := dk_182 0 134 (dk_at dksX6_town_15 20 rfl rfl)
theorem dX6_town_364 : decode cX6_town 364 = .ok (.putfield 171, 3) := dk_181 0 171 (dk_at dksX6_town_16 0 rfl rfl)
theorem dX6_town_367 : decode cX6_town 367 = .ok (.aload_n 0, 1) := dk_42 (dk_at dksX6_town_16 3 rfl rfl)
theorem dX6_town_368 : decode cX6_town 368 = .ok (.ldc 90, 2) := dk_18 90 (dk_at dksX6_town_16 4 rfl rfl)
theorem dX6_town_370 : decode cX6_town 370 = .ok (.invokevirtual 173, 3) := dk_182 0 173 (dk_at dksX6_town_16 6 rfl rfl)
theorem dX6_town_373 : decode cX6_town 373 = .ok (.goto (-333), 3) := dk_167 254 179 (dk_at dksX6_town_16 9 rfl rfl)
theorem dX6_town_376 : decode cX6_town 376 = .ok (.aload_n 2, 1) := dk_44 (dk_at dksX6_town_16 12 rfl rfl)
theorem dX6_town_377 : decode cX6_town 377 = .ok (.areturn, 1) := dk_176 (dk_at dksX6_town_16 13 rfl rfl)
abbrev cX6_is : ByteArray := prog_10_method_6_code
def yX6_is : MethodName := ⟨RX6, "is", "(Ljava/lang/String;)Z"⟩
def dkwX6_is_1 : List UInt8 := [43, 182, 0, 92, 153, 0, 7, 4, 167, 0, 4, 3, 172]
abbrev dktX6_is_1 : List UInt8 := dkwX6_is_1 ++ []
def dkwX6_is_0 : List UInt8 := [42, 180, 0, 48, 178, 0, 72, 165, 0, 13, 42, 180, 0, 48, 178, 0, 84, 166, 0, 18, 42, 180, 0, 11]
abbrev dktX6_is_0 : List UInt8 := dkwX6_is_0 ++ dktX6_is_1
theorem dksX6_is_0 : cX6_is.data.toList.drop 0 = dktX6_is_0 := by decide +kernel
theorem dksX6_is_1 : cX6_is.data.toList.drop 24 = dktX6_is_1 := dk_seg dksX6_is_0 24 rfl rfl
theorem dX6_is_0 : decode cX6_is 0 = .ok (.aload_n 0, 1) := dk_42 (dk_at dksX6_is_0 0 rfl rfl)
theorem dX6_is_1 : decode cX6_is 1 = .ok (.getfield 48, 3) := dk_180 0 48 (dk_at dksX6_is_0 1 rfl rfl)
theorem dX6_is_4 : decode cX6_is 4 = .ok (.getstatic 72, 3) := dk_178 0 72 (dk_at dksX6_is_0 4 rfl rfl)
theorem dX6_is_7 : decode cX6_is 7 = .ok (.if_acmp .eq 13, 3) := dk_165 0 13 (dk_at dksX6_is_0 7 rfl rfl)
theorem dX6_is_10 : decode cX6_is 10 = .ok (.aload_n 0, 1) := dk_42 (dk_at dksX6_is_0 10 rfl rfl)
theorem dX6_is_11 : decode cX6_is 11 = .ok (.getfield 48, 3) := dk_180 0 48 (dk_at dksX6_is_0 11 rfl rfl)
theorem dX6_is_14 : decode cX6_is 14 = .ok (.getstatic 84, 3) := dk_178 0 84 (dk_at dksX6_is_0 14 rfl rfl)
theorem dX6_is_17 : decode cX6_is 17 = .ok (.if_acmp .ne 18, 3) := dk_166 0 18 (dk_at dksX6_is_0 17 rfl rfl)
theorem dX6_is_20 : decode cX6_is 20 = .ok (.aload_n 0, 1) := dk_42 (dk_at dksX6_is_0 20 rfl rfl)
theorem dX6_is_21 : decode cX6_is 21 = .ok (.getfield 11, 3) := dk_180 0 11 (dk_at dksX6_is_0 21 rfl rfl)
theorem dX6_is_24 : decode cX6_is 24 = .ok (.aload_n 1, 1) := dk_43 (dk_at dksX6_is_1 0 rfl rfl)
theorem dX6_is_25 : decode cX6_is 25 = .ok (.invokevirtual 92, 3) := dk_182 0 92 (dk_at dksX6_is_1 1 rfl rfl)
theorem dX6_is_28 : decode cX6_is 28 = .ok (.ifCond .eq 7, 3) := dk_153 0 7 (dk_at dksX6_is_1 4 rfl rfl)
theorem dX6_is_31 : decode cX6_is 31 = .ok (.iconst 1, 1) := dk_4 (dk_at dksX6_is_1 7 rfl rfl)
theorem dX6_is_32 : decode cX6_is 32 = .ok (.goto 4, 3) := dk_167 0 4 (dk_at dksX6_is_1 8 rfl rfl)
theorem dX6_is_35 : decode cX6_is 35 = .ok (.iconst 0, 1) := dk_3 (dk_at dksX6_is_1 11 rfl rfl)
theorem dX6_is_36 : decode cX6_is 36 = .ok (.ireturn, 1) := dk_172 (dk_at dksX6_is_1 12 rfl rfl)
abbrev cX6_check : ByteArray := prog_10_method_7_code
def yX6_check : MethodName := ⟨RX6, "check", "(ZI)V"⟩
def dkwX6_check_0 : List UInt8 := [27, 154, 0, 16, 187, 0, 98, 89, 28, 42, 180, 0, 35, 183, 0, 100, 191, 177]
abbrev dktX6_check_0 : List UInt8 := dkwX6_check_0 ++ []
theorem dksX6_check_0 : cX6_check.data.toList.drop 0 = dktX6_check_0 := by decide +kernel
theorem dX6_check_0 : decode cX6_check 0 = .ok (.iload_n 1, 1) := dk_27 (dk_at dksX6_check_0 0 rfl rfl)
theorem dX6_check_1 : decode cX6_check 1 = .ok (.ifCond .ne 16, 3) := dk_154 0 16 (dk_at dksX6_check_0 1 rfl rfl)
theorem dX6_check_4 : decode cX6_check 4 = .ok (.new 98, 3) := dk_187 0 98 (dk_at dksX6_check_0 4 rfl rfl)
theorem dX6_check_7 : decode cX6_check 7 = .ok (.dup, 1) := dk_89 (dk_at dksX6_check_0 7 rfl rfl)
theorem dX6_check_8 : decode cX6_check 8 = .ok (.iload_n 2, 1) := dk_28 (dk_at dksX6_check_0 8 rfl rfl)
theorem dX6_check_9 : decode cX6_check 9 = .ok (.aload_n 0, 1) := dk_42 (dk_at dksX6_check_0 9 rfl rfl)
theorem dX6_check_10 : decode cX6_check 10 = .ok (.getfield 35, 3) := dk_180 0 35 (dk_at dksX6_check_0 10 rfl rfl)
theorem dX6_check_13 : decode cX6_check 13 = .ok (.invokespecial 100, 3) := dk_183 0 100 (dk_at dksX6_check_0 13 rfl rfl)
theorem dX6_check_16 : decode cX6_check 16 = .ok (.athrow, 1) := dk_191 (dk_at dksX6_check_0 16 rfl rfl)
theorem dX6_check_17 : decode cX6_check 17 = .ok (.return_, 1) := dk_177 (dk_at dksX6_check_0 17 rfl rfl)
abbrev cX6_number : ByteArray := prog_10_method_9_code
def yX6_number : MethodName := ⟨RX6, "number", "(II)I"⟩
def dkwX6_number_2 : List UInt8 := [167, 0, 4, 3, 5, 182, 0, 107, 42, 180, 0, 78, 62, 42, 182, 0, 25, 29, 172]
abbrev dktX6_number_2 : List UInt8 := dkwX6_number_2 ++ []
def dkwX6_number_1 : List UInt8 := [180, 0, 38, 154, 0, 23, 42, 180, 0, 78, 27, 161, 0, 15, 42, 180, 0, 78, 28, 163, 0, 7, 4]
abbrev dktX6_number_1 : List UInt8 := dkwX6_number_1 ++ dktX6_number_2
def dkwX6_number_0 : List UInt8 := [42, 42, 180, 0, 48, 178, 0, 81, 166, 0, 7, 4, 167, 0, 4, 3, 4, 182, 0, 107, 42, 42]
abbrev dktX6_number_0 : List UInt8 := dkwX6_number_0 ++ dktX6_number_1
theorem dksX6_number_0 : cX6_number.data.toList.drop 0 = dktX6_number_0 := by decide +kernel
theorem dksX6_number_1 : cX6_number.data.toList.drop 22 = dktX6_number_1 := dk_seg dksX6_number_0 22 rfl rfl
theorem dksX6_number_2 : cX6_number.data.toList.drop 45 = dktX6_number_2 := dk_seg dksX6_number_1 23 rfl rfl
theorem dX6_number_0 : decode cX6_number 0 = .ok (.aload_n 0, 1) := dk_42 (dk_at dksX6_number_0 0 rfl rfl)
theorem dX6_number_1 : decode cX6_number 1 = .ok (.aload_n 0, 1) := dk_42 (dk_at dksX6_number_0 1 rfl rfl)
theorem dX6_number_2 : decode cX6_number 2 = .ok (.getfield 48, 3) := dk_180 0 48 (dk_at dksX6_number_0 2 rfl rfl)
theorem dX6_number_5 : decode cX6_number 5 = .ok (.getstatic 81, 3) := dk_178 0 81 (dk_at dksX6_number_0 5 rfl rfl)
theorem dX6_number_8 : decode cX6_number 8 = .ok (.if_acmp .ne 7, 3) := dk_166 0 7 (dk_at dksX6_number_0 8 rfl rfl)
theorem dX6_number_11 : decode cX6_number 11 = .ok (.iconst 1, 1) := dk_4 (dk_at dksX6_number_0 11 rfl rfl)
theorem dX6_number_12 : decode cX6_number 12 = .ok (.goto 4, 3) := dk_167 0 4 (dk_at dksX6_number_0 12 rfl rfl)
theorem dX6_number_15 : decode cX6_number 15 = .ok (.iconst 0, 1) := dk_3 (dk_at dksX6_number_0 15 rfl rfl)
theorem dX6_number_16 : decode cX6_number 16 = .ok (.iconst 1, 1) := dk_4 (dk_at dksX6_number_0 16 rfl rfl)
theorem dX6_number_17 : decode cX6_number 17 = .ok (.invokevirtual 107, 3) := dk_182 0 107 (dk_at dksX6_number_0 17 rfl rfl)
theorem dX6_number_20 : decode cX6_number 20 = .ok (.aload_n 0, 1) := dk_42 (dk_at dksX6_number_0 20 rfl rfl)
theorem dX6_number_21 : decode cX6_number 21 = .ok (.aload_n 0, 1) := dk_42 (dk_at dksX6_number_0 21 rfl rfl)
theorem dX6_number_22 : decode cX6_number 22 = .ok (.getfield 38, 3) := dk_180 0 38 (dk_at dksX6_number_1 0 rfl rfl)
theorem dX6_number_25 : decode cX6_number 25 = .ok (.ifCond .ne 23, 3) := dk_154 0 23 (dk_at dksX6_number_1 3 rfl rfl)
theorem dX6_number_28 : decode cX6_number 28 = .ok (.aload_n 0, 1) := dk_42 (dk_at dksX6_number_1 6 rfl rfl)
theorem dX6_number_29 : decode cX6_number 29 = .ok (.getfield 78, 3) := dk_180 0 78 (dk_at dksX6_number_1 7 rfl rfl)
theorem dX6_number_32 : decode cX6_number 32 = .ok (.iload_n 1, 1) := dk_27 (dk_at dksX6_number_1 10 rfl rfl)
theorem dX6_number_33 : decode cX6_number 33 = .ok (.if_icmp .lt 15, 3) := dk_161 0 15 (dk_at dksX6_number_1 11 rfl rfl)
theorem dX6_number_36 : decode cX6_number 36 = .ok (.aload_n 0, 1) := dk_42 (dk_at dksX6_number_1 14 rfl rfl)
theorem dX6_number_37 : decode cX6_number 37 = .ok (.getfield 78, 3) := dk_180 0 78 (dk_at dksX6_number_1 15 rfl rfl)
theorem dX6_number_40 : decode cX6_number 40 = .ok (.iload_n 2, 1) := dk_28 (dk_at dksX6_number_1 18 rfl rfl)
theorem dX6_number_41 : decode cX6_number 41 = .ok (.if_icmp .gt 7, 3) := dk_163 0 7 (dk_at dksX6_number_1 19 rfl rfl)
theorem dX6_number_44 : decode cX6_number 44 = .ok (.iconst 1, 1) := dk_4 (dk_at dksX6_number_1 22 rfl rfl)
theorem dX6_number_45 : decode cX6_number 45 = .ok (.goto 4, 3) := dk_167 0 4 (dk_at dksX6_number_2 0 rfl rfl)
theorem dX6_number_48 : decode cX6_number 48 = .ok (.iconst 0, 1) := dk_3 (dk_at dksX6_number_2 3 rfl rfl)
theorem dX6_number_49 : decode cX6_number 49 = .ok (.iconst 2, 1) := dk_5 (dk_at dksX6_number_2 4 rfl rfl)
theorem dX6_number_50 : decode cX6_number 50 = .ok (.invokevirtual 107, 3) := dk_182 0 107 (dk_at dksX6_number_2 5 rfl rfl)
theorem dX6_number_53 : decode cX6_number 53 = .ok (.aload_n 0, 1) := dk_42 (dk_at dksX6_number_2 8 rfl rfl)
theorem dX6_number_54 : decode cX6_number 54 = .ok (.getfield 78, 3) := dk_180 0 78 (dk_at dksX6_number_2 9 rfl rfl)
theorem dX6_number_57 : decode cX6_number 57 = .ok (.istore_n 3, 1) := dk_62 (dk_at dksX6_number_2 12 rfl rfl)
theorem dX6_number_58 : decode cX6_number 58 = .ok (.aload_n 0, 1) := dk_42 (dk_at dksX6_number_2 13 rfl rfl)
theorem dX6_number_59 : decode cX6_number 59 = .ok (.invokevirtual 25, 3) := dk_182 0 25 (dk_at dksX6_number_2 14 rfl rfl)
theorem dX6_number_62 : decode cX6_number 62 = .ok (.iload_n 3, 1) := dk_29 (dk_at dksX6_number_2 17 rfl rfl)
theorem dX6_number_63 : decode cX6_number 63 = .ok (.ireturn, 1) := dk_172 (dk_at dksX6_number_2 18 rfl rfl)
abbrev cX6_giver : ByteArray := prog_10_method_12_code
def yX6_giver : MethodName := ⟨RX6, "giver", "()LHeavyGifts$Giver;"⟩
def dkwX6_giver_6 : List UInt8 := [187, 0, 196, 89, 183, 0, 198, 167, 0, 10, 187, 0, 199, 89, 183, 0, 201, 176]
abbrev dktX6_giver_6 : List UInt8 := dkwX6_giver_6 ++ []
def dkwX6_giver_5 : List UInt8 := [153, 0, 13, 187, 0, 193, 89, 183, 0, 195, 167, 0, 29, 43, 18, 179, 182, 0, 92, 153, 0, 13]
abbrev dktX6_giver_5 : List UInt8 := dkwX6_giver_5 ++ dktX6_giver_6
def dkwX6_giver_4 : List UInt8 := [153, 0, 18, 187, 0, 190, 89, 42, 3, 16, 99, 182, 0, 134, 183, 0, 192, 176, 43, 18, 177, 182, 0, 92]
abbrev dktX6_giver_4 : List UInt8 := dkwX6_giver_4 ++ dktX6_giver_5
def dkwX6_giver_3 : List UInt8 := [153, 0, 18, 187, 0, 187, 89, 42, 3, 16, 11, 182, 0, 134, 183, 0, 189, 176, 43, 18, 185, 182, 0, 92]
abbrev dktX6_giver_3 : List UInt8 := dkwX6_giver_3 ++ dktX6_giver_4
def dkwX6_giver_2 : List UInt8 := [153, 0, 7, 4, 167, 0, 4, 3, 4, 182, 0, 107, 42, 182, 0, 25, 43, 18, 183, 182, 0, 92]
abbrev dktX6_giver_2 : List UInt8 := dkwX6_giver_2 ++ dktX6_giver_3
def dkwX6_giver_1 : List UInt8 := [42, 18, 181, 182, 0, 103, 154, 0, 21, 42, 18, 183, 182, 0, 103, 154, 0, 12, 42, 18, 185, 182, 0, 103]
abbrev dktX6_giver_1 : List UInt8 := dkwX6_giver_1 ++ dktX6_giver_2
def dkwX6_giver_0 : List UInt8 := [42, 180, 0, 11, 76, 42, 42, 18, 177, 182, 0, 103, 154, 0, 39, 42, 18, 179, 182, 0, 103, 154, 0, 30]
abbrev dktX6_giver_0 : List UInt8 := dkwX6_giver_0 ++ dktX6_giver_1
theorem dksX6_giver_0 : cX6_giver.data.toList.drop 0 = dktX6_giver_0 := by decide +kernel
theorem dksX6_giver_1 : cX6_giver.data.toList.drop 24 = dktX6_giver_1 := dk_seg dksX6_giver_0 24 rfl rfl
theorem dksX6_giver_2 : cX6_giver.data.toList.drop 48 = dktX6_giver_2 := dk_seg dksX6_giver_1 24 rfl rfl
theorem dksX6_giver_3 : cX6_giver.data.toList.drop 70 = dktX6_giver_3 := dk_seg dksX6_giver_2 22 rfl rfl
theorem dksX6_giver_4 : cX6_giver.data.toList.drop 94 = dktX6_giver_4 := dk_seg dksX6_giver_3 24 rfl rfl
theorem dksX6_giver_5 : cX6_giver.data.toList.drop 118 = dktX6_giver_5 := dk_seg dksX6_giver_4 24 rfl rfl
theorem dksX6_giver_6 : cX6_giver.data.toList.drop 140 = dktX6_giver_6 := dk_seg dksX6_giver_5 22 rfl rfl
theorem dX6_giver_0 : decode cX6_giver 0 = .ok (.aload_n 0, 1) := dk_42 (dk_at dksX6_giver_0 0 rfl rfl)
theorem dX6_giver_1 : decode cX6_giver 1 = .ok (.getfield 11, 3) := dk_180 0 11 (dk_at dksX6_giver_0 1 rfl rfl)
theorem dX6_giver_4 : decode cX6_giver 4 = .ok (.astore_n 1, 1) := dk_76 (dk_at dksX6_giver_0 4 rfl rfl)
theorem dX6_giver_5 : decode cX6_giver 5 = .ok (.aload_n 0, 1) := dk_42 (dk_at dksX6_giver_0 5 rfl rfl)
theorem dX6_giver_6 : decode cX6_giver 6 = .ok (.aload_n 0, 1) := dk_42 (dk_at dksX6_giver_0 6 rfl rfl)
theorem dX6_giver_7 : decode cX6_giver 7 = .ok (.ldc 177, 2) := dk_18 177 (dk_at dksX6_giver_0 7 rfl rfl)
theorem dX6_giver_9 : decode cX6_giver 9 = .ok (.invokevirtual 103, 3) := dk_182 0 103 (dk_at dksX6_giver_0 9 rfl rfl)
theorem dX6_giver_12 : decode cX6_giver 12 = .ok (.ifCond .ne 39, 3) := dk_154 0 39 (dk_at dksX6_giver_0 12 rfl rfl)
theorem dX6_giver_15 : decode cX6_giver 15 = .ok (.aload_n 0, 1) := dk_42 (dk_at dksX6_giver_0 15 rfl rfl)
theorem dX6_giver_16 : decode cX6_giver 16 = .ok (.ldc 179, 2) := dk_18 179 (dk_at dksX6_giver_0 16 rfl rfl)
theorem dX6_giver_18 : decode cX6_giver 18 = .ok (.invokevirtual 103, 3) := dk_182 0 103 (dk_at dksX6_giver_0 18 rfl rfl)
theorem dX6_giver_21 : decode cX6_giver 21 = .ok (.ifCond .ne 30, 3) := dk_154 0 30 (dk_at dksX6_giver_0 21 rfl rfl)
theorem dX6_giver_24 : decode cX6_giver 24 = .ok (.aload_n 0, 1) := dk_42 (dk_at dksX6_giver_1 0 rfl rfl)
theorem dX6_giver_25 : decode cX6_giver 25 = .ok (.ldc 181, 2) := dk_18 181 (dk_at dksX6_giver_1 1 rfl rfl)
theorem dX6_giver_27 : decode cX6_giver 27 = .ok (.invokevirtual 103, 3) := dk_182 0 103 (dk_at dksX6_giver_1 3 rfl rfl)
theorem dX6_giver_30 : decode cX6_giver 30 = .ok (.ifCond .ne 21, 3) := dk_154 0 21 (dk_at dksX6_giver_1 6 rfl rfl)
theorem dX6_giver_33 : decode cX6_giver 33 = .ok (.aload_n 0, 1) := dk_42 (dk_at dksX6_giver_1 9 rfl rfl)
theorem dX6_giver_34 : decode cX6_giver 34 = .ok (.ldc 183, 2) := dk_18 183 (dk_at dksX6_giver_1 10 rfl rfl)
theorem dX6_giver_36 : decode cX6_giver 36 = .ok (.invokevirtual 103, 3) := dk_182 0 103 (dk_at dksX6_giver_1 12 rfl rfl)
theorem dX6_giver_39 : decode cX6_giver 39 = .ok (.ifCond .ne 12, 3) := dk_154 0 12 (dk_at dksX6_giver_1 15 rfl rfl)
theorem dX6_giver_42 : decode cX6_giver 42 = .ok (.aload_n 0, 1) := dk_42 (dk_at dksX6_giver_1 18 rfl rfl)
theorem dX6_giver_43 : decode cX6_giver 43 = .ok (.ldc 185, 2) := dk_18 185 (dk_at dksX6_giver_1 19 rfl rfl)
theorem dX6_giver_45 : decode cX6_giver 45 = .ok (.invokevirtual 103, 3) := dk_182 0 103 (dk_at dksX6_giver_1 21 rfl rfl)
theorem dX6_giver_48 : decode cX6_giver 48 = .ok (.ifCond .eq 7, 3) := dk_153 0 7 (dk_at dksX6_giver_2 0 rfl rfl)
theorem dX6_giver_51 : decode cX6_giver 51 = .ok (.iconst 1, 1) := dk_4 (dk_at dksX6_giver_2 3 rfl rfl)
theorem dX6_giver_52 : decode cX6_giver 52 = .ok (.goto 4, 3) := dk_167 0 4 (dk_at dksX6_giver_2 4 rfl rfl)
theorem dX6_giver_55 : decode cX6_giver 55 = .ok (.iconst 0, 1) := dk_3 (dk_at dksX6_giver_2 7 rfl rfl)
theorem dX6_giver_56 : decode cX6_giver 56 = .ok (.iconst 1, 1) := dk_4 (dk_at dksX6_giver_2 8 rfl rfl)
theorem dX6_giver_57 : decode cX6_giver 57 = .ok (.invokevirtual 107, 3) := dk_182 0 107 (dk_at dksX6_giver_2 9 rfl rfl)
theorem dX6_giver_60 : decode cX6_giver 60 = .ok (.aload_n 0, 1) := dk_42 (dk_at dksX6_giver_2 12 rfl rfl)
theorem dX6_giver_61 : decode cX6_giver 61 = .ok (.invokevirtual 25, 3) := dk_182 0 25 (dk_at dksX6_giver_2 13 rfl rfl)
theorem dX6_giver_64 : decode cX6_giver 64 = .ok (.aload_n 1, 1) := dk_43 (dk_at dksX6_giver_2 16 rfl rfl)
theorem dX6_giver_65 : decode cX6_giver 65 = .ok (.ldc 183, 2) := dk_18 183 (dk_at dksX6_giver_2 17 rfl rfl)
theorem dX6_giver_67 : decode cX6_giver 67 = .ok (.invokevirtual 92, 3) := dk_182 0 92 (dk_at dksX6_giver_2 19 rfl rfl)
theorem dX6_giver_70 : decode cX6_giver 70 = .ok (.ifCond .eq 18, 3) := dk_153 0 18 (dk_at dksX6_giver_3 0 rfl rfl)
theorem dX6_giver_73 : decode cX6_giver 73 = .ok (.new 187, 3) := dk_187 0 187 (dk_at dksX6_giver_3 3 rfl rfl)
theorem dX6_giver_76 : decode cX6_giver 76 = .ok (.dup, 1) := dk_89 (dk_at dksX6_giver_3 6 rfl rfl)
theorem dX6_giver_77 : decode cX6_giver 77 = .ok (.aload_n 0, 1) := dk_42 (dk_at dksX6_giver_3 7 rfl rfl)
theorem dX6_giver_78 : decode cX6_giver 78 = .ok (.iconst 0, 1) := dk_3 (dk_at dksX6_giver_3 8 rfl rfl)
theorem dX6_giver_79 : decode cX6_giver 79 = .ok (.bipush 11, 2) := dk_16 11 (dk_at dksX6_giver_3 9 rfl rfl)
theorem dX6_giver_81 : decode cX6_giver 81 = .ok (.invokevirtual 134, 3) := dk_182 0 134 (dk_at dksX6_giver_3 11 rfl rfl)
theorem dX6_giver_84 : decode cX6_giver 84 = .ok (.invokespecial 189, 3) := dk_183 0 189 (dk_at dksX6_giver_3 14 rfl rfl)
theorem dX6_giver_87 : decode cX6_giver 87 = .ok (.areturn, 1) := dk_176 (dk_at dksX6_giver_3 17 rfl rfl)
theorem dX6_giver_88 : decode cX6_giver 88 = .ok (.aload_n 1, 1) := dk_43 (dk_at dksX6_giver_3 18 rfl rfl)
theorem dX6_giver_89 : decode cX6_giver 89 = .ok (.ldc 185, 2) := dk_18 185 (dk_at dksX6_giver_3 19 rfl rfl)
theorem dX6_giver_91 : decode cX6_giver 91 = .ok (.invokevirtual 92, 3) := dk_182 0 92 (dk_at dksX6_giver_3 21 rfl rfl)
theorem dX6_giver_94 : decode cX6_giver 94 = .ok (.ifCond .eq 18, 3) := dk_153 0 18 (dk_at dksX6_giver_4 0 rfl rfl)
theorem dX6_giver_97 : decode cX6_giver 97 = .ok (.new 190, 3) := dk_187 0 190 (dk_at dksX6_giver_4 3 rfl rfl)
theorem dX6_giver_100 : decode cX6_giver 100 = .ok (.dup, 1) := dk_89 (dk_at dksX6_giver_4 6 rfl rfl)
theorem dX6_giver_101 : decode cX6_giver 101 = .ok (.aload_n 0, 1) := dk_42 (dk_at dksX6_giver_4 7 rfl rfl)
theorem dX6_giver_102 : decode cX6_giver 102 = .ok (.iconst 0, 1) := dk_3 (dk_at dksX6_giver_4 8 rfl rfl)
theorem dX6_giver_103 : decode cX6_giver 103 = .ok (.bipush 99, 2) := dk_16 99 (dk_at dksX6_giver_4 9 rfl rfl)
theorem dX6_giver_105 : decode cX6_giver 105 = .ok (.invokevirtual 134, 3) := dk_182 0 134 (dk_at dksX6_giver_4 11 rfl rfl)
theorem dX6_giver_108 : decode cX6_giver 108 = .ok (.invokespecial 192, 3) := dk_183 0 192 (dk_at dksX6_giver_4 14 rfl rfl)
theorem dX6_giver_111 : decode cX6_giver 111 = .ok (.areturn, 1) := dk_176 (dk_at dksX6_giver_4 17 rfl rfl)
theorem dX6_giver_112 : decode cX6_giver 112 = .ok (.aload_n 1, 1) := dk_43 (dk_at dksX6_giver_4 18 rfl rfl)
theorem dX6_giver_113 : decode cX6_giver 113 = .ok (.ldc 177, 2) := dk_18 177 (dk_at dksX6_giver_4 19 rfl rfl)
theorem dX6_giver_115 : decode cX6_giver 115 = .ok (.invokevirtual 92, 3) := dk_182 0 92 (dk_at dksX6_giver_4 21 rfl rfl)
theorem dX6_giver_118 : decode cX6_giver 118 = .ok (.ifCond .eq 13, 3) := dk_153 0 13 (dk_at dksX6_giver_5 0 rfl rfl)
theorem dX6_giver_121 : decode cX6_giver 121 = .ok (.new 193, 3) := dk_187 0 193 (dk_at dksX6_giver_5 3 rfl rfl)
theorem dX6_giver_124 : decode cX6_giver 124 = .ok (.dup, 1) := dk_89 (dk_at dksX6_giver_5 6 rfl rfl)
theorem dX6_giver_125 : decode cX6_giver 125 = .ok (.invokespecial 195, 3) := dk_183 0 195 (dk_at dksX6_giver_5 7 rfl rfl)
theorem dX6_giver_128 : decode cX6_giver 128 = .ok (.goto 29, 3) := dk_167 0 29 (dk_at dksX6_giver_5 10 rfl rfl)
theorem dX6_giver_131 : decode cX6_giver 131 = .ok (.aload_n 1, 1) := dk_43 (dk_at dksX6_giver_5 13 rfl rfl)
theorem dX6_giver_132 : decode cX6_giver 132 = .ok (.ldc 179, 2) := dk_18 179 (dk_at dksX6_giver_5 14 rfl rfl)
theorem dX6_giver_134 : decode cX6_giver 134 = .ok (.invokevirtual 92, 3) := dk_182 0 92 (dk_at dksX6_giver_5 16 rfl rfl)
theorem dX6_giver_137 : decode cX6_giver 137 = .ok (.ifCond .eq 13, 3) := dk_153 0 13 (dk_at dksX6_giver_5 19 rfl rfl)
theorem dX6_giver_140 : decode cX6_giver 140 = .ok (.new 196, 3) := dk_187 0 196 (dk_at dksX6_giver_6 0 rfl rfl)
theorem dX6_giver_143 : decode cX6_giver 143 = .ok (.dup, 1) := dk_89 (dk_at dksX6_giver_6 3 rfl rfl)
theorem dX6_giver_144 : decode cX6_giver 144 = .ok (.invokespecial 198, 3) := dk_183 0 198 (dk_at dksX6_giver_6 4 rfl rfl)
theorem dX6_giver_147 : decode cX6_giver 147 = .ok (.goto 10, 3) := dk_167 0 10 (dk_at dksX6_giver_6 7 rfl rfl)
theorem dX6_giver_150 : decode cX6_giver 150 = .ok (.new 199, 3) := dk_187 0 199 (dk_at dksX6_giver_6 10 rfl rfl)
theorem dX6_giver_153 : decode cX6_giver 153 = .ok (.dup, 1) := dk_89 (dk_at dksX6_giver_6 13 rfl rfl)
theorem dX6_giver_154 : decode cX6_giver 154 = .ok (.invokespecial 201, 3) := dk_183 0 201 (dk_at dksX6_giver_6 14 rfl rfl)
theorem dX6_giver_157 : decode cX6_giver 157 = .ok (.areturn, 1) := dk_176 (dk_at dksX6_giver_6 17 rfl rfl)
abbrev cX6_thing : ByteArray := prog_10_method_13_code
def yX6_thing : MethodName := ⟨RX6, "thing", "(LHeavyGifts$Town;LHeavyGifts$State;)V"⟩
def dkwX6_thing_3 : List UInt8 := [181, 0, 213, 43, 89, 180, 0, 147, 4, 96, 181, 0, 147, 177]
abbrev dktX6_thing_3 : List UInt8 := dkwX6_thing_3 ++ []
def dkwX6_thing_2 : List UInt8 := [79, 42, 18, 211, 182, 0, 103, 153, 0, 19, 42, 182, 0, 25, 43, 89, 180, 0, 213, 4, 29, 120, 128]
abbrev dktX6_thing_2 : List UInt8 := dkwX6_thing_2 ++ dktX6_thing_3
def dkwX6_thing_1 : List UInt8 := [3, 17, 3, 231, 182, 0, 134, 79, 44, 180, 0, 208, 42, 43, 3, 182, 0, 155, 92, 46, 4, 29, 120, 128]
abbrev dktX6_thing_1 : List UInt8 := dkwX6_thing_1 ++ dktX6_thing_2
def dkwX6_thing_0 : List UInt8 := [43, 180, 0, 147, 62, 44, 180, 0, 202, 29, 42, 4, 16, 99, 182, 0, 134, 79, 43, 180, 0, 205, 29, 42]
abbrev dktX6_thing_0 : List UInt8 := dkwX6_thing_0 ++ dktX6_thing_1
theorem dksX6_thing_0 : cX6_thing.data.toList.drop 0 = dktX6_thing_0 := by decide +kernel
theorem dksX6_thing_1 : cX6_thing.data.toList.drop 24 = dktX6_thing_1 := dk_seg dksX6_thing_0 24 rfl rfl
theorem dksX6_thing_2 : cX6_thing.data.toList.drop 48 = dktX6_thing_2 := dk_seg dksX6_thing_1 24 rfl rfl
theorem dksX6_thing_3 : cX6_thing.data.toList.drop 71 = dktX6_thing_3 := dk_seg dksX6_thing_2 23 rfl rfl
theorem dX6_thing_0 : decode cX6_thing 0 = .ok (.aload_n 1, 1) := dk_43 (dk_at dksX6_thing_0 0 rfl rfl)
theorem dX6_thing_1 : decode cX6_thing 1 = .ok (.getfield 147, 3) := dk_180 0 147 (dk_at dksX6_thing_0 1 rfl rfl)
theorem dX6_thing_4 : decode cX6_thing 4 = .ok (.istore_n 3, 1) := dk_62 (dk_at dksX6_thing_0 4 rfl rfl)
theorem dX6_thing_5 : decode cX6_thing 5 = .ok (.aload_n 2, 1) := dk_44 (dk_at dksX6_thing_0 5 rfl rfl)
theorem dX6_thing_6 : decode cX6_thing 6 = .ok (.getfield 202, 3) := dk_180 0 202 (dk_at dksX6_thing_0 6 rfl rfl)
theorem dX6_thing_9 : decode cX6_thing 9 = .ok (.iload_n 3, 1) := dk_29 (dk_at dksX6_thing_0 9 rfl rfl)
theorem dX6_thing_10 : decode cX6_thing 10 = .ok (.aload_n 0, 1) := dk_42 (dk_at dksX6_thing_0 10 rfl rfl)
theorem dX6_thing_11 : decode cX6_thing 11 = .ok (.iconst 1, 1) := dk_4 (dk_at dksX6_thing_0 11 rfl rfl)
theorem dX6_thing_12 : decode cX6_thing 12 = .ok (.bipush 99, 2) := dk_16 99 (dk_at dksX6_thing_0 12 rfl rfl)
theorem dX6_thing_14 : decode cX6_thing 14 = .ok (.invokevirtual 134, 3) := dk_182 0 134 (dk_at dksX6_thing_0 14 rfl rfl)
theorem dX6_thing_17 : decode cX6_thing 17 = .ok (.iastore, 1) := dk_79 (dk_at dksX6_thing_0 17 rfl rfl)
theorem dX6_thing_18 : decode cX6_thing 18 = .ok (.aload_n 1, 1) := dk_43 (dk_at dksX6_thing_0 18 rfl rfl)
theorem dX6_thing_19 : decode cX6_thing 19 = .ok (.getfield 205, 3) := dk_180 0 205 (dk_at dksX6_thing_0 19 rfl rfl)
theorem dX6_thing_22 : decode cX6_thing 22 = .ok (.iload_n 3, 1) := dk_29 (dk_at dksX6_thing_0 22 rfl rfl)
theorem dX6_thing_23 : decode cX6_thing 23 = .ok (.aload_n 0, 1) := dk_42 (dk_at dksX6_thing_0 23 rfl rfl)
theorem dX6_thing_24 : decode cX6_thing 24 = .ok (.iconst 0, 1) := dk_3 (dk_at dksX6_thing_1 0 rfl rfl)
theorem dX6_thing_25 : decode cX6_thing 25 = .ok (.sipush 999, 3) := dk_17 3 231 (dk_at dksX6_thing_1 1 rfl rfl)
theorem dX6_thing_28 : decode cX6_thing 28 = .ok (.invokevirtual 134, 3) := dk_182 0 134 (dk_at dksX6_thing_1 4 rfl rfl)
theorem dX6_thing_31 : decode cX6_thing 31 = .ok (.iastore, 1) := dk_79 (dk_at dksX6_thing_1 7 rfl rfl)
theorem dX6_thing_32 : decode cX6_thing 32 = .ok (.aload_n 2, 1) := dk_44 (dk_at dksX6_thing_1 8 rfl rfl)
theorem dX6_thing_33 : decode cX6_thing 33 = .ok (.getfield 208, 3) := dk_180 0 208 (dk_at dksX6_thing_1 9 rfl rfl)
theorem dX6_thing_36 : decode cX6_thing 36 = .ok (.aload_n 0, 1) := dk_42 (dk_at dksX6_thing_1 12 rfl rfl)
theorem dX6_thing_37 : decode cX6_thing 37 = .ok (.aload_n 1, 1) := dk_43 (dk_at dksX6_thing_1 13 rfl rfl)
theorem dX6_thing_38 : decode cX6_thing 38 = .ok (.iconst 0, 1) := dk_3 (dk_at dksX6_thing_1 14 rfl rfl)
theorem dX6_thing_39 : decode cX6_thing 39 = .ok (.invokevirtual 155, 3) := dk_182 0 155 (dk_at dksX6_thing_1 15 rfl rfl)
theorem dX6_thing_42 : decode cX6_thing 42 = .ok (.dup2, 1) := dk_92 (dk_at dksX6_thing_1 18 rfl rfl)
theorem dX6_thing_43 : decode cX6_thing 43 = .ok (.iaload, 1) := dk_46 (dk_at dksX6_thing_1 19 rfl rfl)
theorem dX6_thing_44 : decode cX6_thing 44 = .ok (.iconst 1, 1) := dk_4 (dk_at dksX6_thing_1 20 rfl rfl)
theorem dX6_thing_45 : decode cX6_thing 45 = .ok (.iload_n 3, 1) := dk_29 (dk_at dksX6_thing_1 21 rfl rfl)
theorem dX6_thing_46 : decode cX6_thing 46 = .ok (.ishl, 1) := dk_120 (dk_at dksX6_thing_1 22 rfl rfl)
theorem dX6_thing_47 : decode cX6_thing 47 = .ok (.ior, 1) := dk_128 (dk_at dksX6_thing_1 23 rfl rfl)
theorem dX6_thing_48 : decode cX6_thing 48 = .ok (.iastore, 1) := dk_79 (dk_at dksX6_thing_2 0 rfl rfl)
theorem dX6_thing_49 : decode cX6_thing 49 = .ok (.aload_n 0, 1) := dk_42 (dk_at dksX6_thing_2 1 rfl rfl)
theorem dX6_thing_50 : decode cX6_thing 50 = .ok (.ldc 211, 2) := dk_18 211 (dk_at dksX6_thing_2 2 rfl rfl)
theorem dX6_thing_52 : decode cX6_thing 52 = .ok (.invokevirtual 103, 3) := dk_182 0 103 (dk_at dksX6_thing_2 4 rfl rfl)
theorem dX6_thing_55 : decode cX6_thing 55 = .ok (.ifCond .eq 19, 3) := dk_153 0 19 (dk_at dksX6_thing_2 7 rfl rfl)
theorem dX6_thing_58 : decode cX6_thing 58 = .ok (.aload_n 0, 1) := dk_42 (dk_at dksX6_thing_2 10 rfl rfl)
theorem dX6_thing_59 : decode cX6_thing 59 = .ok (.invokevirtual 25, 3) := dk_182 0 25 (dk_at dksX6_thing_2 11 rfl rfl)
theorem dX6_thing_62 : decode cX6_thing 62 = .ok (.aload_n 1, 1) := dk_43 (dk_at dksX6_thing_2 14 rfl rfl)
theorem dX6_thing_63 : decode cX6_thing 63 = .ok (.dup, 1) := dk_89 (dk_at dksX6_thing_2 15 rfl rfl)
theorem dX6_thing_64 : decode cX6_thing 64 = .ok (.getfield 213, 3) := dk_180 0 213 (dk_at dksX6_thing_2 16 rfl rfl)
theorem dX6_thing_67 : decode cX6_thing 67 = .ok (.iconst 1, 1) := dk_4 (dk_at dksX6_thing_2 19 rfl rfl)
theorem dX6_thing_68 : decode cX6_thing 68 = .ok (.iload_n 3, 1) := dk_29 (dk_at dksX6_thing_2 20 rfl rfl)
theorem dX6_thing_69 : decode cX6_thing 69 = .ok (.ishl, 1) := dk_120 (dk_at dksX6_thing_2 21 rfl rfl)
theorem dX6_thing_70 : decode cX6_thing 70 = .ok (.ior, 1) := dk_128 (dk_at dksX6_thing_2 22 rfl rfl)
theorem dX6_thing_71 : decode cX6_thing 71 = .ok (.putfield 213, 3) := dk_181 0 213 (dk_at dksX6_thing_3 0 rfl rfl)
theorem dX6_thing_74 : decode cX6_thing 74 = .ok (.aload_n 1, 1) := dk_43 (dk_at dksX6_thing_3 3 rfl rfl)
theorem dX6_thing_75 : decode cX6_thing 75 = .ok (.dup, 1) := dk_89 (dk_at dksX6_thing_3 4 rfl rfl)
theorem dX6_thing_76 : decode cX6_thing 76 = .ok (.getfield 147, 3) := dk_180 0 147 (dk_at dksX6_thing_3 5 rfl rfl)
theorem dX6_thing_79 : decode cX6_thing 79 = .ok (.iconst 1, 1) := dk_4 (dk_at dksX6_thing_3 8 rfl rfl)
theorem dX6_thing_80 : decode cX6_thing 80 = .ok (.iadd, 1) := dk_96 (dk_at dksX6_thing_3 9 rfl rfl)
theorem dX6_thing_81 : decode cX6_thing 81 = .ok (.putfield 147, 3) := dk_181 0 147 (dk_at dksX6_thing_3 10 rfl rfl)
theorem dX6_thing_84 : decode cX6_thing 84 = .ok (.return_, 1) := dk_177 (dk_at dksX6_thing_3 13 rfl rfl)
abbrev cX6_person : ByteArray := prog_10_method_10_code
def yX6_person : MethodName := ⟨RX6, "person", "(LHeavyGifts$Town;I)I"⟩
def dkwX6_person_3 : List UInt8 := [154, 0, 7, 4, 167, 0, 4, 3, 7, 182, 0, 107, 42, 180, 0, 78, 62, 42, 182, 0, 25, 29, 172]
abbrev dktX6_person_3 : List UInt8 := dkwX6_person_3 ++ []
def dkwX6_person_2 : List UInt8 := [182, 0, 117, 162, 0, 7, 4, 167, 0, 4, 3, 6, 182, 0, 107, 42, 28, 42, 180, 0, 78, 122, 4, 126]
abbrev dktX6_person_2 : List UInt8 := dkwX6_person_2 ++ dktX6_person_3
def dkwX6_person_1 : List UInt8 := [180, 0, 38, 154, 0, 7, 4, 167, 0, 4, 3, 5, 182, 0, 107, 42, 42, 180, 0, 78, 43, 180, 0, 111]
abbrev dktX6_person_1 : List UInt8 := dkwX6_person_1 ++ dktX6_person_2
def dkwX6_person_0 : List UInt8 := [42, 42, 180, 0, 48, 178, 0, 81, 166, 0, 7, 4, 167, 0, 4, 3, 4, 182, 0, 107, 42, 42]
abbrev dktX6_person_0 : List UInt8 := dkwX6_person_0 ++ dktX6_person_1
theorem dksX6_person_0 : cX6_person.data.toList.drop 0 = dktX6_person_0 := by decide +kernel
theorem dksX6_person_1 : cX6_person.data.toList.drop 22 = dktX6_person_1 := dk_seg dksX6_person_0 22 rfl rfl
theorem dksX6_person_2 : cX6_person.data.toList.drop 46 = dktX6_person_2 := dk_seg dksX6_person_1 24 rfl rfl
theorem dksX6_person_3 : cX6_person.data.toList.drop 70 = dktX6_person_3 := dk_seg dksX6_person_2 24 rfl rfl
theorem dX6_person_0 : decode cX6_person 0 = .ok (.aload_n 0, 1) := dk_42 (dk_at dksX6_person_0 0 rfl rfl)
theorem dX6_person_1 : decode cX6_person 1 = .ok (.aload_n 0, 1) := dk_42 (dk_at dksX6_person_0 1 rfl rfl)
theorem dX6_person_2 : decode cX6_person 2 = .ok (.getfield 48, 3) := dk_180 0 48 (dk_at dksX6_person_0 2 rfl rfl)
theorem dX6_person_5 : decode cX6_person 5 = .ok (.getstatic 81, 3) := dk_178 0 81 (dk_at dksX6_person_0 5 rfl rfl)
theorem dX6_person_8 : decode cX6_person 8 = .ok (.if_acmp .ne 7, 3) := dk_166 0 7 (dk_at dksX6_person_0 8 rfl rfl)
theorem dX6_person_11 : decode cX6_person 11 = .ok (.iconst 1, 1) := dk_4 (dk_at dksX6_person_0 11 rfl rfl)
theorem dX6_person_12 : decode cX6_person 12 = .ok (.goto 4, 3) := dk_167 0 4 (dk_at dksX6_person_0 12 rfl rfl)
theorem dX6_person_15 : decode cX6_person 15 = .ok (.iconst 0, 1) := dk_3 (dk_at dksX6_person_0 15 rfl rfl)
theorem dX6_person_16 : decode cX6_person 16 = .ok (.iconst 1, 1) := dk_4 (dk_at dksX6_person_0 16 rfl rfl)
theorem dX6_person_17 : decode cX6_person 17 = .ok (.invokevirtual 107, 3) := dk_182 0 107 (dk_at dksX6_person_0 17 rfl rfl)
theorem dX6_person_20 : decode cX6_person 20 = .ok (.aload_n 0, 1) := dk_42 (dk_at dksX6_person_0 20 rfl rfl)
theorem dX6_person_21 : decode cX6_person 21 = .ok (.aload_n 0, 1) := dk_42 (dk_at dksX6_person_0 21 rfl rfl)
theorem dX6_person_22 : decode cX6_person 22 = .ok (.getfield 38, 3) := dk_180 0 38 (dk_at dksX6_person_1 0 rfl rfl)
theorem dX6_person_25 : decode cX6_person 25 = .ok (.ifCond .ne 7, 3) := dk_154 0 7 (dk_at dksX6_person_1 3 rfl rfl)
theorem dX6_person_28 : decode cX6_person 28 = .ok (.iconst 1, 1) := dk_4 (dk_at dksX6_person_1 6 rfl rfl)
theorem dX6_person_29 : decode cX6_person 29 = .ok (.goto 4, 3) := dk_167 0 4 (dk_at dksX6_person_1 7 rfl rfl)
theorem dX6_person_32 : decode cX6_person 32 = .ok (.iconst 0, 1) := dk_3 (dk_at dksX6_person_1 10 rfl rfl)
theorem dX6_person_33 : decode cX6_person 33 = .ok (.iconst 2, 1) := dk_5 (dk_at dksX6_person_1 11 rfl rfl)
theorem dX6_person_34 : decode cX6_person 34 = .ok (.invokevirtual 107, 3) := dk_182 0 107 (dk_at dksX6_person_1 12 rfl rfl)
theorem dX6_person_37 : decode cX6_person 37 = .ok (.aload_n 0, 1) := dk_42 (dk_at dksX6_person_1 15 rfl rfl)
theorem dX6_person_38 : decode cX6_person 38 = .ok (.aload_n 0, 1) := dk_42 (dk_at dksX6_person_1 16 rfl rfl)
theorem dX6_person_39 : decode cX6_person 39 = .ok (.getfield 78, 3) := dk_180 0 78 (dk_at dksX6_person_1 17 rfl rfl)
theorem dX6_person_42 : decode cX6_person 42 = .ok (.aload_n 1, 1) := dk_43 (dk_at dksX6_person_1 20 rfl rfl)
theorem dX6_person_43 : decode cX6_person 43 = .ok (.getfield 111, 3) := dk_180 0 111 (dk_at dksX6_person_1 21 rfl rfl)
theorem dX6_person_46 : decode cX6_person 46 = .ok (.invokevirtual 117, 3) := dk_182 0 117 (dk_at dksX6_person_2 0 rfl rfl)
theorem dX6_person_49 : decode cX6_person 49 = .ok (.if_icmp .ge 7, 3) := dk_162 0 7 (dk_at dksX6_person_2 3 rfl rfl)
theorem dX6_person_52 : decode cX6_person 52 = .ok (.iconst 1, 1) := dk_4 (dk_at dksX6_person_2 6 rfl rfl)
theorem dX6_person_53 : decode cX6_person 53 = .ok (.goto 4, 3) := dk_167 0 4 (dk_at dksX6_person_2 7 rfl rfl)
theorem dX6_person_56 : decode cX6_person 56 = .ok (.iconst 0, 1) := dk_3 (dk_at dksX6_person_2 10 rfl rfl)
theorem dX6_person_57 : decode cX6_person 57 = .ok (.iconst 3, 1) := dk_6 (dk_at dksX6_person_2 11 rfl rfl)
theorem dX6_person_58 : decode cX6_person 58 = .ok (.invokevirtual 107, 3) := dk_182 0 107 (dk_at dksX6_person_2 12 rfl rfl)
theorem dX6_person_61 : decode cX6_person 61 = .ok (.aload_n 0, 1) := dk_42 (dk_at dksX6_person_2 15 rfl rfl)
theorem dX6_person_62 : decode cX6_person 62 = .ok (.iload_n 2, 1) := dk_28 (dk_at dksX6_person_2 16 rfl rfl)
theorem dX6_person_63 : decode cX6_person 63 = .ok (.aload_n 0, 1) := dk_42 (dk_at dksX6_person_2 17 rfl rfl)
theorem dX6_person_64 : decode cX6_person 64 = .ok (.getfield 78, 3) := dk_180 0 78 (dk_at dksX6_person_2 18 rfl rfl)
theorem dX6_person_67 : decode cX6_person 67 = .ok (.ishr, 1) := dk_122 (dk_at dksX6_person_2 21 rfl rfl)
theorem dX6_person_68 : decode cX6_person 68 = .ok (.iconst 1, 1) := dk_4 (dk_at dksX6_person_2 22 rfl rfl)
theorem dX6_person_69 : decode cX6_person 69 = .ok (.iand, 1) := dk_126 (dk_at dksX6_person_2 23 rfl rfl)
theorem dX6_person_70 : decode cX6_person 70 = .ok (.ifCond .ne 7, 3) := dk_154 0 7 (dk_at dksX6_person_3 0 rfl rfl)
theorem dX6_person_73 : decode cX6_person 73 = .ok (.iconst 1, 1) := dk_4 (dk_at dksX6_person_3 3 rfl rfl)
theorem dX6_person_74 : decode cX6_person 74 = .ok (.goto 4, 3) := dk_167 0 4 (dk_at dksX6_person_3 4 rfl rfl)
theorem dX6_person_77 : decode cX6_person 77 = .ok (.iconst 0, 1) := dk_3 (dk_at dksX6_person_3 7 rfl rfl)
theorem dX6_person_78 : decode cX6_person 78 = .ok (.iconst 4, 1) := dk_7 (dk_at dksX6_person_3 8 rfl rfl)
theorem dX6_person_79 : decode cX6_person 79 = .ok (.invokevirtual 107, 3) := dk_182 0 107 (dk_at dksX6_person_3 9 rfl rfl)
theorem dX6_person_82 : decode cX6_person 82 = .ok (.aload_n 0, 1) := dk_42 (dk_at dksX6_person_3 12 rfl rfl)
theorem dX6_person_83 : decode cX6_person 83 = .ok (.getfield 78, 3) := dk_180 0 78 (dk_at dksX6_person_3 13 rfl rfl)
theorem dX6_person_86 : decode cX6_person 86 = .ok (.istore_n 3, 1) := dk_62 (dk_at dksX6_person_3 16 rfl rfl)
theorem dX6_person_87 : decode cX6_person 87 = .ok (.aload_n 0, 1) := dk_42 (dk_at dksX6_person_3 17 rfl rfl)
theorem dX6_person_88 : decode cX6_person 88 = .ok (.invokevirtual 25, 3) := dk_182 0 25 (dk_at dksX6_person_3 18 rfl rfl)
theorem dX6_person_91 : decode cX6_person 91 = .ok (.iload_n 3, 1) := dk_29 (dk_at dksX6_person_3 21 rfl rfl)
theorem dX6_person_92 : decode cX6_person 92 = .ok (.ireturn, 1) := dk_172 (dk_at dksX6_person_3 22 rfl rfl)
abbrev cX6_need : ByteArray := prog_10_method_8_code
def yX6_need : MethodName := ⟨RX6, "need", "(Ljava/lang/String;)V"⟩
def dkwX6_need_0 : List UInt8 := [42, 42, 43, 182, 0, 103, 4, 182, 0, 107, 42, 182, 0, 25, 177]
abbrev dktX6_need_0 : List UInt8 := dkwX6_need_0 ++ []
theorem dksX6_need_0 : cX6_need.data.toList.drop 0 = dktX6_need_0 := by decide +kernel
theorem dX6_need_0 : decode cX6_need 0 = .ok (.aload_n 0, 1) := dk_42 (dk_at dksX6_need_0 0 rfl rfl)
theorem dX6_need_1 : decode cX6_need 1 = .ok (.aload_n 0, 1) := dk_42 (dk_at dksX6_need_0 1 rfl rfl)
theorem dX6_need_2 : decode cX6_need 2 = .ok (.aload_n 1, 1) := dk_43 (dk_at dksX6_need_0 2 rfl rfl)
theorem dX6_need_3 : decode cX6_need 3 = .ok (.invokevirtual 103, 3) := dk_182 0 103 (dk_at dksX6_need_0 3 rfl rfl)
theorem dX6_need_6 : decode cX6_need 6 = .ok (.iconst 1, 1) := dk_4 (dk_at dksX6_need_0 6 rfl rfl)
theorem dX6_need_7 : decode cX6_need 7 = .ok (.invokevirtual 107, 3) := dk_182 0 107 (dk_at dksX6_need_0 7 rfl rfl)
theorem dX6_need_10 : decode cX6_need 10 = .ok (.aload_n 0, 1) := dk_42 (dk_at dksX6_need_0 10 rfl rfl)
theorem dX6_need_11 : decode cX6_need 11 = .ok (.invokevirtual 25, 3) := dk_182 0 25 (dk_at dksX6_need_0 11 rfl rfl)
theorem dX6_need_14 : decode cX6_need 14 = .ok (.return_, 1) := dk_177 (dk_at dksX6_need_0 14 rfl rfl)
theorem q100 : (Jvm.Cond.initialized "HeavyGifts$Reader") ∈ lw_all := lw_g (lw_at lw_m1 25 rfl) rfl
theorem q469 : (Jvm.Cond.fieldLinkNest "HeavyGifts$Reader" (111 : Nat) "HeavyGifts$Town" "people" "Ljava/util/ArrayList;" "HeavyGifts") ∈ lw_tbl := lw_at lw_m2 154 rfl
theorem q472 : (Jvm.Cond.fieldLinkNest "HeavyGifts$Reader" (205 : Nat) "HeavyGifts$Town" "worths" "[I" "HeavyGifts") ∈ lw_tbl := lw_at lw_m2 157 rfl
theorem q476 : (Jvm.Cond.fieldLinkNest "HeavyGifts$Reader" (147 : Nat) "HeavyGifts$Town" "things" "I" "HeavyGifts") ∈ lw_tbl := lw_at lw_m2 161 rfl
theorem q477 : (Jvm.Cond.fieldLinkNest "HeavyGifts$Reader" (213 : Nat) "HeavyGifts$Town" "wet" "I" "HeavyGifts") ∈ lw_tbl := lw_at lw_m2 162 rfl
theorem q480 : (Jvm.Cond.fieldLinkNest "HeavyGifts$Reader" (171 : Nat) "HeavyGifts$Town" "within" "I" "HeavyGifts") ∈ lw_tbl := lw_at lw_m2 165 rfl
theorem q482 : (Jvm.Cond.fieldLinkNest "HeavyGifts$Reader" (165 : Nat) "HeavyGifts$Town" "toAnyone" "Z" "HeavyGifts") ∈ lw_tbl := lw_at lw_m2 167 rfl
theorem q511 : (Jvm.Cond.fieldLinkNest "HeavyGifts$Reader" (208 : Nat) "HeavyGifts$State" "has" "[I" "HeavyGifts") ∈ lw_tbl := lw_at lw_m2 196 rfl
theorem q513 : (Jvm.Cond.fieldLinkNest "HeavyGifts$Reader" (132 : Nat) "HeavyGifts$State" "sand" "[I" "HeavyGifts") ∈ lw_tbl := lw_at lw_m2 198 rfl
theorem q517 : (Jvm.Cond.fieldLinkNest "HeavyGifts$Reader" (158 : Nat) "HeavyGifts$State" "owes" "[I" "HeavyGifts") ∈ lw_tbl := lw_at lw_m2 202 rfl
theorem q521 : (Jvm.Cond.fieldLinkNest "HeavyGifts$Reader" (122 : Nat) "HeavyGifts$State" "to" "[I" "HeavyGifts") ∈ lw_tbl := lw_at lw_m2 206 rfl
theorem q524 : (Jvm.Cond.fieldLinkNest "HeavyGifts$Reader" (202 : Nat) "HeavyGifts$State" "weights" "[I" "HeavyGifts") ∈ lw_tbl := lw_at lw_m2 209 rfl
theorem q740 : (Jvm.Cond.selects "HeavyGifts$Reader" ({ cls := "java/lang/Object", name := "getClass", desc := "()Ljava/lang/Class;" } : Jvm.MethodName) ({ cls := "java/lang/Object", name := "getClass", desc := "()Ljava/lang/Class;" } : Jvm.MethodName)) ∈ lw_all := lw_g (lw_at lw_m3 185 rfl) rfl
theorem q942 : (Jvm.Cond.instantiable "HeavyGifts$Reader" (8 : Nat)) ∈ lw_all := lw_g (lw_at lw_m4 147 rfl) rfl
theorem q944 : (Jvm.Cond.instanceMethod ({ cls := "HeavyGifts$Reader", name := "<init>", desc := "([BI)V" } : Jvm.MethodName)) ∈ lw_all := lw_g (lw_at lw_m4 149 rfl) rfl
theorem q945 : (Jvm.Cond.code ({ cls := "HeavyGifts$Reader", name := "<init>", desc := "([BI)V" } : Jvm.MethodName) prog_10_method_1_code (3 : Nat) (Option.none : Option Jvm.ClassFile.FieldType)) ∈ lw_all := lw_g (lw_at lw_m4 150 rfl) rfl
theorem q946 : (Jvm.Cond.methodLink "HeavyGifts$Reader" (3 : Nat) ({ cls := "java/lang/Object", name := "<init>", desc := "()V" } : Jvm.MethodName)) ∈ lw_all := lw_g (lw_at lw_m4 151 rfl) rfl
theorem q947 : (Jvm.Cond.stringRef "HeavyGifts$Reader" (9 : Nat) "") ∈ lw_tbl := lw_at lw_m4 152 rfl
theorem q948 : (Jvm.Cond.methodLink "HeavyGifts$Reader" (25 : Nat) ({ cls := "HeavyGifts$Reader", name := "go", desc := "()V" } : Jvm.MethodName)) ∈ lw_all := lw_g (lw_at lw_m4 153 rfl) rfl
theorem q949 : (Jvm.Cond.privateMethod ({ cls := "HeavyGifts$Reader", name := "go", desc := "()V" } : Jvm.MethodName)) ∈ lw_tbl := lw_at lw_m4 154 rfl
theorem q950 : (Jvm.Cond.instanceMethod ({ cls := "HeavyGifts$Reader", name := "go", desc := "()V" } : Jvm.MethodName)) ∈ lw_all := lw_g (lw_at lw_m4 155 rfl) rfl
theorem q951 : (Jvm.Cond.code ({ cls := "HeavyGifts$Reader", name := "go", desc := "()V" } : Jvm.MethodName) prog_10_method_5_code (3 : Nat) (Option.none : Option Jvm.ClassFile.FieldType)) ∈ lw_all := lw_g (lw_at lw_m4 156 rfl) rfl
theorem q952 : (Jvm.Cond.methodLink "HeavyGifts$Reader" (31 : Nat) ({ cls := "HeavyGifts$Reader", name := "byteAt", desc := "(I)I" } : Jvm.MethodName)) ∈ lw_all := lw_g (lw_at lw_m4 157 rfl) rfl
theorem q953 : (Jvm.Cond.privateMethod ({ cls := "HeavyGifts$Reader", name := "byteAt", desc := "(I)I" } : Jvm.MethodName)) ∈ lw_tbl := lw_at lw_m4 158 rfl
theorem q954 : (Jvm.Cond.instanceMethod ({ cls := "HeavyGifts$Reader", name := "byteAt", desc := "(I)I" } : Jvm.MethodName)) ∈ lw_all := lw_g (lw_at lw_m4 159 rfl) rfl
theorem q955 : (Jvm.Cond.code ({ cls := "HeavyGifts$Reader", name := "byteAt", desc := "(I)I" } : Jvm.MethodName) prog_10_method_2_code (2 : Nat) (Option.some Jvm.ClassFile.FieldType.int)) ∈ lw_all := lw_g (lw_at lw_m4 160 rfl) rfl
theorem q956 : (Jvm.Cond.fieldLink "HeavyGifts$Reader" (42 : Nat) "HeavyGifts$Sort" "END" "LHeavyGifts$Sort;") ∈ lw_all := lw_g (lw_at lw_m4 161 rfl) rfl
theorem q958 : (Jvm.Cond.methodLink "HeavyGifts$Reader" (51 : Nat) ({ cls := "HeavyGifts$Reader", name := "isLetter", desc := "(I)Z" } : Jvm.MethodName)) ∈ lw_all := lw_g (lw_at lw_m4 163 rfl) rfl
theorem q959 : (Jvm.Cond.static ({ cls := "HeavyGifts$Reader", name := "isLetter", desc := "(I)Z" } : Jvm.MethodName)) ∈ lw_all := lw_g (lw_at lw_m4 164 rfl) rfl
theorem q960 : (Jvm.Cond.code ({ cls := "HeavyGifts$Reader", name := "isLetter", desc := "(I)Z" } : Jvm.MethodName) prog_10_method_3_code (1 : Nat) (Option.some Jvm.ClassFile.FieldType.boolean)) ∈ lw_all := lw_g (lw_at lw_m4 165 rfl) rfl
theorem q961 : (Jvm.Cond.classLink "HeavyGifts$Reader" (55 : Nat) "java/lang/StringBuilder") ∈ lw_all := lw_g (lw_at lw_m4 166 rfl) rfl
theorem q962 : (Jvm.Cond.methodLink "HeavyGifts$Reader" (57 : Nat) ({ cls := "java/lang/StringBuilder", name := "<init>", desc := "(I)V" } : Jvm.MethodName)) ∈ lw_all := lw_g (lw_at lw_m4 167 rfl) rfl
theorem q965 : (Jvm.Cond.methodLink "HeavyGifts$Reader" (60 : Nat) ({ cls := "java/lang/StringBuilder", name := "length", desc := "()I" } : Jvm.MethodName)) ∈ lw_all := lw_g (lw_at lw_m4 170 rfl) rfl
theorem q966 : (Jvm.Cond.methodLink "HeavyGifts$Reader" (64 : Nat) ({ cls := "java/lang/StringBuilder", name := "append", desc := "(C)Ljava/lang/StringBuilder;" } : Jvm.MethodName)) ∈ lw_all := lw_g (lw_at lw_m4 171 rfl) rfl
theorem q986 : (Jvm.Cond.methodLink "HeavyGifts$Reader" (68 : Nat) ({ cls := "java/lang/StringBuilder", name := "toString", desc := "()Ljava/lang/String;" } : Jvm.MethodName)) ∈ lw_all := lw_g (lw_at lw_m4 191 rfl) rfl
theorem q987 : (Jvm.Cond.fieldLink "HeavyGifts$Reader" (72 : Nat) "HeavyGifts$Sort" "WORD" "LHeavyGifts$Sort;") ∈ lw_all := lw_g (lw_at lw_m4 192 rfl) rfl
theorem q989 : (Jvm.Cond.methodLink "HeavyGifts$Reader" (75 : Nat) ({ cls := "HeavyGifts$Reader", name := "isDigit", desc := "(I)Z" } : Jvm.MethodName)) ∈ lw_all := lw_g (lw_at lw_m4 194 rfl) rfl
theorem q990 : (Jvm.Cond.static ({ cls := "HeavyGifts$Reader", name := "isDigit", desc := "(I)Z" } : Jvm.MethodName)) ∈ lw_all := lw_g (lw_at lw_m4 195 rfl) rfl
theorem q991 : (Jvm.Cond.code ({ cls := "HeavyGifts$Reader", name := "isDigit", desc := "(I)Z" } : Jvm.MethodName) prog_10_method_4_code (1 : Nat) (Option.some Jvm.ClassFile.FieldType.boolean)) ∈ lw_all := lw_g (lw_at lw_m4 196 rfl) rfl
theorem q992 : (Jvm.Cond.fieldLink "HeavyGifts$Reader" (81 : Nat) "HeavyGifts$Sort" "NUMBER" "LHeavyGifts$Sort;") ∈ lw_all := lw_g (lw_at lw_m4 197 rfl) rfl
theorem q994 : (Jvm.Cond.fieldLink "HeavyGifts$Reader" (84 : Nat) "HeavyGifts$Sort" "SIGN" "LHeavyGifts$Sort;") ∈ lw_all := lw_g (lw_at lw_m4 199 rfl) rfl
theorem q996 : (Jvm.Cond.fieldLink "HeavyGifts$Reader" (87 : Nat) "HeavyGifts$Sort" "BAD" "LHeavyGifts$Sort;") ∈ lw_all := lw_g (lw_at lw_m4 201 rfl) rfl
theorem q998 : (Jvm.Cond.stringRef "HeavyGifts$Reader" (90 : Nat) ";") ∈ lw_tbl := lw_at lw_m4 203 rfl
theorem q999 : (Jvm.Cond.fieldLink "HeavyGifts$Reader" (17 : Nat) "HeavyGifts$Reader" "text" "[B") ∈ lw_all := lw_g (lw_at lw_m4 204 rfl) rfl
theorem q1000 : (Jvm.Cond.fieldLink "HeavyGifts$Reader" (21 : Nat) "HeavyGifts$Reader" "size" "I") ∈ lw_all := lw_g (lw_at lw_m4 205 rfl) rfl
theorem q1001 : (Jvm.Cond.fieldLink "HeavyGifts$Reader" (28 : Nat) "HeavyGifts$Reader" "next" "I") ∈ lw_all := lw_g (lw_at lw_m4 206 rfl) rfl
theorem q1002 : (Jvm.Cond.fieldLink "HeavyGifts$Reader" (35 : Nat) "HeavyGifts$Reader" "place" "I") ∈ lw_all := lw_g (lw_at lw_m4 207 rfl) rfl
theorem q1003 : (Jvm.Cond.fieldLink "HeavyGifts$Reader" (78 : Nat) "HeavyGifts$Reader" "value" "I") ∈ lw_all := lw_g (lw_at lw_m4 208 rfl) rfl
theorem q1004 : (Jvm.Cond.fieldLink "HeavyGifts$Reader" (38 : Nat) "HeavyGifts$Reader" "isLong" "Z") ∈ lw_all := lw_g (lw_at lw_m4 209 rfl) rfl
theorem q1005 : (Jvm.Cond.fieldLink "HeavyGifts$Reader" (48 : Nat) "HeavyGifts$Reader" "sort" "LHeavyGifts$Sort;") ∈ lw_all := lw_g (lw_at lw_m4 210 rfl) rfl
theorem q1006 : (Jvm.Cond.fieldLink "HeavyGifts$Reader" (11 : Nat) "HeavyGifts$Reader" "word" "Ljava/lang/String;") ∈ lw_all := lw_g (lw_at lw_m4 211 rfl) rfl
theorem q1007 : (Jvm.Cond.laysFinal "HeavyGifts$Reader" "HeavyGifts$Reader" "text" "[B") ∈ lw_all := lw_g (lw_at lw_m4 212 rfl) rfl
theorem q1008 : (Jvm.Cond.soleField "HeavyGifts$Reader" "text") ∈ lw_all := lw_g (lw_at lw_m4 213 rfl) rfl
theorem q1009 : (Jvm.Cond.laysFinal "HeavyGifts$Reader" "HeavyGifts$Reader" "size" "I") ∈ lw_all := lw_g (lw_at lw_m4 214 rfl) rfl
theorem q1010 : (Jvm.Cond.soleField "HeavyGifts$Reader" "size") ∈ lw_all := lw_g (lw_at lw_m4 215 rfl) rfl
theorem q1011 : (Jvm.Cond.lays "HeavyGifts$Reader" "HeavyGifts$Reader" "next" "I") ∈ lw_all := lw_g (lw_at lw_m4 216 rfl) rfl
theorem q1012 : (Jvm.Cond.soleField "HeavyGifts$Reader" "next") ∈ lw_all := lw_g (lw_at lw_m4 217 rfl) rfl
theorem q1013 : (Jvm.Cond.lays "HeavyGifts$Reader" "HeavyGifts$Reader" "place" "I") ∈ lw_all := lw_g (lw_at lw_m4 218 rfl) rfl
theorem q1014 : (Jvm.Cond.soleField "HeavyGifts$Reader" "place") ∈ lw_all := lw_g (lw_at lw_m4 219 rfl) rfl
theorem q1015 : (Jvm.Cond.lays "HeavyGifts$Reader" "HeavyGifts$Reader" "value" "I") ∈ lw_all := lw_g (lw_at lw_m4 220 rfl) rfl
theorem q1016 : (Jvm.Cond.soleField "HeavyGifts$Reader" "value") ∈ lw_all := lw_g (lw_at lw_m4 221 rfl) rfl
theorem q1017 : (Jvm.Cond.lays "HeavyGifts$Reader" "HeavyGifts$Reader" "isLong" "Z") ∈ lw_all := lw_g (lw_at lw_m4 222 rfl) rfl
theorem q1018 : (Jvm.Cond.soleField "HeavyGifts$Reader" "isLong") ∈ lw_all := lw_g (lw_at lw_m4 223 rfl) rfl
theorem q1019 : (Jvm.Cond.lays "HeavyGifts$Reader" "HeavyGifts$Reader" "sort" "LHeavyGifts$Sort;") ∈ lw_all := lw_g (lw_at lw_m4 224 rfl) rfl
theorem q1020 : (Jvm.Cond.soleField "HeavyGifts$Reader" "sort") ∈ lw_all := lw_g (lw_at lw_m4 225 rfl) rfl
theorem q1021 : (Jvm.Cond.lays "HeavyGifts$Reader" "HeavyGifts$Reader" "word" "Ljava/lang/String;") ∈ lw_all := lw_g (lw_at lw_m4 226 rfl) rfl
theorem q1022 : (Jvm.Cond.soleField "HeavyGifts$Reader" "word") ∈ lw_all := lw_g (lw_at lw_m4 227 rfl) rfl
theorem q1023 : (Jvm.Cond.superclass "HeavyGifts$Reader" "java/lang/Object") ∈ lw_all := lw_g (lw_at lw_m4 228 rfl) rfl
theorem q1025 : (Jvm.Cond.instanceMethod ({ cls := "HeavyGifts$Reader", name := "town", desc := "(LHeavyGifts$State;)LHeavyGifts$Town;" } : Jvm.MethodName)) ∈ lw_all := lw_g (lw_at lw_m4 230 rfl) rfl
theorem q1026 : (Jvm.Cond.selects "HeavyGifts$Reader" ({ cls := "HeavyGifts$Reader", name := "town", desc := "(LHeavyGifts$State;)LHeavyGifts$Town;" } : Jvm.MethodName) ({ cls := "HeavyGifts$Reader", name := "town", desc := "(LHeavyGifts$State;)LHeavyGifts$Town;" } : Jvm.MethodName)) ∈ lw_all := lw_g (lw_at lw_m4 231 rfl) rfl
theorem q1027 : (Jvm.Cond.code ({ cls := "HeavyGifts$Reader", name := "town", desc := "(LHeavyGifts$State;)LHeavyGifts$Town;" } : Jvm.MethodName) prog_10_method_11_code (7 : Nat) (Option.some (Jvm.ClassFile.FieldType.object "HeavyGifts$Town"))) ∈ lw_all := lw_g (lw_at lw_m4 232 rfl) rfl
theorem q1028 : (Jvm.Cond.classLink "HeavyGifts$Reader" (112 : Nat) "HeavyGifts$Town") ∈ lw_all := lw_g (lw_at lw_m4 233 rfl) rfl
theorem q1029 : (Jvm.Cond.methodLinkNest "HeavyGifts$Reader" (121 : Nat) ({ cls := "HeavyGifts$Town", name := "<init>", desc := "()V" } : Jvm.MethodName) "HeavyGifts") ∈ lw_tbl := lw_at lw_m4 234 rfl
theorem q1030 : (Jvm.Cond.stringRef "HeavyGifts$Reader" (128 : Nat) "person") ∈ lw_tbl := lw_at lw_m4 235 rfl
theorem q1031 : (Jvm.Cond.methodLink "HeavyGifts$Reader" (103 : Nat) ({ cls := "HeavyGifts$Reader", name := "is", desc := "(Ljava/lang/String;)Z" } : Jvm.MethodName)) ∈ lw_all := lw_g (lw_at lw_m4 236 rfl) rfl
theorem q1032 : (Jvm.Cond.privateMethod ({ cls := "HeavyGifts$Reader", name := "is", desc := "(Ljava/lang/String;)Z" } : Jvm.MethodName)) ∈ lw_tbl := lw_at lw_m4 237 rfl
theorem q1033 : (Jvm.Cond.instanceMethod ({ cls := "HeavyGifts$Reader", name := "is", desc := "(Ljava/lang/String;)Z" } : Jvm.MethodName)) ∈ lw_all := lw_g (lw_at lw_m4 238 rfl) rfl
theorem q1034 : (Jvm.Cond.code ({ cls := "HeavyGifts$Reader", name := "is", desc := "(Ljava/lang/String;)Z" } : Jvm.MethodName) prog_10_method_6_code (2 : Nat) (Option.some Jvm.ClassFile.FieldType.boolean)) ∈ lw_all := lw_g (lw_at lw_m4 239 rfl) rfl
theorem q1035 : (Jvm.Cond.methodLink "HeavyGifts$Reader" (92 : Nat) ({ cls := "java/lang/String", name := "equals", desc := "(Ljava/lang/Object;)Z" } : Jvm.MethodName)) ∈ lw_all := lw_g (lw_at lw_m5 0 rfl) rfl
theorem q1043 : (Jvm.Cond.methodLink "HeavyGifts$Reader" (117 : Nat) ({ cls := "java/util/ArrayList", name := "size", desc := "()I" } : Jvm.MethodName)) ∈ lw_all := lw_g (lw_at lw_m5 8 rfl) rfl
theorem q1044 : (Jvm.Cond.methodLink "HeavyGifts$Reader" (107 : Nat) ({ cls := "HeavyGifts$Reader", name := "check", desc := "(ZI)V" } : Jvm.MethodName)) ∈ lw_all := lw_g (lw_at lw_m5 9 rfl) rfl
theorem q1045 : (Jvm.Cond.privateMethod ({ cls := "HeavyGifts$Reader", name := "check", desc := "(ZI)V" } : Jvm.MethodName)) ∈ lw_tbl := lw_at lw_m5 10 rfl
theorem q1046 : (Jvm.Cond.instanceMethod ({ cls := "HeavyGifts$Reader", name := "check", desc := "(ZI)V" } : Jvm.MethodName)) ∈ lw_all := lw_g (lw_at lw_m5 11 rfl) rfl
theorem q1047 : (Jvm.Cond.code ({ cls := "HeavyGifts$Reader", name := "check", desc := "(ZI)V" } : Jvm.MethodName) prog_10_method_7_code (3 : Nat) (Option.none : Option Jvm.ClassFile.FieldType)) ∈ lw_all := lw_g (lw_at lw_m5 12 rfl) rfl
theorem q1048 : (Jvm.Cond.classLink "HeavyGifts$Reader" (98 : Nat) "HeavyGifts$Fault") ∈ lw_all := lw_g (lw_at lw_m5 13 rfl) rfl
theorem q1057 : (Jvm.Cond.methodLink "HeavyGifts$Reader" (100 : Nat) ({ cls := "HeavyGifts$Fault", name := "<init>", desc := "(II)V" } : Jvm.MethodName)) ∈ lw_all := lw_g (lw_at lw_m5 22 rfl) rfl
theorem q1071 : (Jvm.Cond.stringRef "HeavyGifts$Reader" (130 : Nat) "sand") ∈ lw_tbl := lw_at lw_m5 36 rfl
theorem q1072 : (Jvm.Cond.methodLink "HeavyGifts$Reader" (134 : Nat) ({ cls := "HeavyGifts$Reader", name := "number", desc := "(II)I" } : Jvm.MethodName)) ∈ lw_all := lw_g (lw_at lw_m5 37 rfl) rfl
theorem q1073 : (Jvm.Cond.privateMethod ({ cls := "HeavyGifts$Reader", name := "number", desc := "(II)I" } : Jvm.MethodName)) ∈ lw_tbl := lw_at lw_m5 38 rfl
theorem q1074 : (Jvm.Cond.instanceMethod ({ cls := "HeavyGifts$Reader", name := "number", desc := "(II)I" } : Jvm.MethodName)) ∈ lw_all := lw_g (lw_at lw_m5 39 rfl) rfl
theorem q1075 : (Jvm.Cond.code ({ cls := "HeavyGifts$Reader", name := "number", desc := "(II)I" } : Jvm.MethodName) prog_10_method_9_code (4 : Nat) (Option.some Jvm.ClassFile.FieldType.int)) ∈ lw_all := lw_g (lw_at lw_m5 40 rfl) rfl
theorem q1076 : (Jvm.Cond.methodLink "HeavyGifts$Reader" (138 : Nat) ({ cls := "HeavyGifts$Reader", name := "giver", desc := "()LHeavyGifts$Giver;" } : Jvm.MethodName)) ∈ lw_all := lw_g (lw_at lw_m5 41 rfl) rfl
theorem q1077 : (Jvm.Cond.privateMethod ({ cls := "HeavyGifts$Reader", name := "giver", desc := "()LHeavyGifts$Giver;" } : Jvm.MethodName)) ∈ lw_tbl := lw_at lw_m5 42 rfl
theorem q1078 : (Jvm.Cond.instanceMethod ({ cls := "HeavyGifts$Reader", name := "giver", desc := "()LHeavyGifts$Giver;" } : Jvm.MethodName)) ∈ lw_all := lw_g (lw_at lw_m5 43 rfl) rfl
theorem q1079 : (Jvm.Cond.code ({ cls := "HeavyGifts$Reader", name := "giver", desc := "()LHeavyGifts$Giver;" } : Jvm.MethodName) prog_10_method_12_code (2 : Nat) (Option.some (Jvm.ClassFile.FieldType.object "HeavyGifts$Giver"))) ∈ lw_all := lw_g (lw_at lw_m5 44 rfl) rfl
theorem q1080 : (Jvm.Cond.stringRef "HeavyGifts$Reader" (177 : Nat) "plain") ∈ lw_tbl := lw_at lw_m5 45 rfl
theorem q1081 : (Jvm.Cond.stringRef "HeavyGifts$Reader" (179 : Nat) "least") ∈ lw_tbl := lw_at lw_m5 46 rfl
theorem q1082 : (Jvm.Cond.stringRef "HeavyGifts$Reader" (181 : Nat) "fewest") ∈ lw_tbl := lw_at lw_m5 47 rfl
theorem q1083 : (Jvm.Cond.stringRef "HeavyGifts$Reader" (183 : Nat) "aim") ∈ lw_tbl := lw_at lw_m5 48 rfl
theorem q1084 : (Jvm.Cond.stringRef "HeavyGifts$Reader" (185 : Nat) "wait") ∈ lw_tbl := lw_at lw_m5 49 rfl
theorem q1085 : (Jvm.Cond.classLink "HeavyGifts$Reader" (187 : Nat) "HeavyGifts$Aim") ∈ lw_all := lw_g (lw_at lw_m5 50 rfl) rfl
theorem q1087 : (Jvm.Cond.methodLink "HeavyGifts$Reader" (189 : Nat) ({ cls := "HeavyGifts$Aim", name := "<init>", desc := "(I)V" } : Jvm.MethodName)) ∈ lw_all := lw_g (lw_at lw_m5 52 rfl) rfl
theorem q1100 : (Jvm.Cond.classLink "HeavyGifts$Reader" (190 : Nat) "HeavyGifts$Wait") ∈ lw_all := lw_g (lw_at lw_m5 65 rfl) rfl
theorem q1102 : (Jvm.Cond.methodLink "HeavyGifts$Reader" (192 : Nat) ({ cls := "HeavyGifts$Wait", name := "<init>", desc := "(I)V" } : Jvm.MethodName)) ∈ lw_all := lw_g (lw_at lw_m5 67 rfl) rfl
theorem q1109 : (Jvm.Cond.classLink "HeavyGifts$Reader" (193 : Nat) "HeavyGifts$Plain") ∈ lw_all := lw_g (lw_at lw_m5 74 rfl) rfl
theorem q1111 : (Jvm.Cond.methodLinkNest "HeavyGifts$Reader" (195 : Nat) ({ cls := "HeavyGifts$Plain", name := "<init>", desc := "()V" } : Jvm.MethodName) "HeavyGifts") ∈ lw_tbl := lw_at lw_m5 76 rfl
theorem q1112 : (Jvm.Cond.classLink "HeavyGifts$Reader" (196 : Nat) "HeavyGifts$Least") ∈ lw_all := lw_g (lw_at lw_m5 77 rfl) rfl
theorem q1114 : (Jvm.Cond.methodLinkNest "HeavyGifts$Reader" (198 : Nat) ({ cls := "HeavyGifts$Least", name := "<init>", desc := "()V" } : Jvm.MethodName) "HeavyGifts") ∈ lw_tbl := lw_at lw_m5 79 rfl
theorem q1119 : (Jvm.Cond.classLink "HeavyGifts$Reader" (199 : Nat) "HeavyGifts$Fewest") ∈ lw_all := lw_g (lw_at lw_m5 84 rfl) rfl
theorem q1121 : (Jvm.Cond.methodLinkNest "HeavyGifts$Reader" (201 : Nat) ({ cls := "HeavyGifts$Fewest", name := "<init>", desc := "()V" } : Jvm.MethodName) "HeavyGifts") ∈ lw_tbl := lw_at lw_m5 86 rfl
theorem q1126 : (Jvm.Cond.methodLink "HeavyGifts$Reader" (142 : Nat) ({ cls := "java/util/ArrayList", name := "add", desc := "(Ljava/lang/Object;)Z" } : Jvm.MethodName)) ∈ lw_all := lw_g (lw_at lw_m5 91 rfl) rfl
theorem q1127 : (Jvm.Cond.stringRef "HeavyGifts$Reader" (145 : Nat) "thing") ∈ lw_tbl := lw_at lw_m5 92 rfl
theorem q1128 : (Jvm.Cond.methodLink "HeavyGifts$Reader" (150 : Nat) ({ cls := "HeavyGifts$Reader", name := "thing", desc := "(LHeavyGifts$Town;LHeavyGifts$State;)V" } : Jvm.MethodName)) ∈ lw_all := lw_g (lw_at lw_m5 93 rfl) rfl
theorem q1129 : (Jvm.Cond.privateMethod ({ cls := "HeavyGifts$Reader", name := "thing", desc := "(LHeavyGifts$Town;LHeavyGifts$State;)V" } : Jvm.MethodName)) ∈ lw_tbl := lw_at lw_m5 94 rfl
theorem q1130 : (Jvm.Cond.instanceMethod ({ cls := "HeavyGifts$Reader", name := "thing", desc := "(LHeavyGifts$Town;LHeavyGifts$State;)V" } : Jvm.MethodName)) ∈ lw_all := lw_g (lw_at lw_m5 95 rfl) rfl
theorem q1131 : (Jvm.Cond.code ({ cls := "HeavyGifts$Reader", name := "thing", desc := "(LHeavyGifts$Town;LHeavyGifts$State;)V" } : Jvm.MethodName) prog_10_method_13_code (4 : Nat) (Option.none : Option Jvm.ClassFile.FieldType)) ∈ lw_all := lw_g (lw_at lw_m5 96 rfl) rfl
theorem q1132 : (Jvm.Cond.methodLink "HeavyGifts$Reader" (155 : Nat) ({ cls := "HeavyGifts$Reader", name := "person", desc := "(LHeavyGifts$Town;I)I" } : Jvm.MethodName)) ∈ lw_all := lw_g (lw_at lw_m5 97 rfl) rfl
theorem q1133 : (Jvm.Cond.privateMethod ({ cls := "HeavyGifts$Reader", name := "person", desc := "(LHeavyGifts$Town;I)I" } : Jvm.MethodName)) ∈ lw_tbl := lw_at lw_m5 98 rfl
theorem q1134 : (Jvm.Cond.instanceMethod ({ cls := "HeavyGifts$Reader", name := "person", desc := "(LHeavyGifts$Town;I)I" } : Jvm.MethodName)) ∈ lw_all := lw_g (lw_at lw_m5 99 rfl) rfl
theorem q1135 : (Jvm.Cond.code ({ cls := "HeavyGifts$Reader", name := "person", desc := "(LHeavyGifts$Town;I)I" } : Jvm.MethodName) prog_10_method_10_code (4 : Nat) (Option.some Jvm.ClassFile.FieldType.int)) ∈ lw_all := lw_g (lw_at lw_m5 100 rfl) rfl
theorem q1136 : (Jvm.Cond.stringRef "HeavyGifts$Reader" (211 : Nat) "wet") ∈ lw_tbl := lw_at lw_m5 101 rfl
theorem q1137 : (Jvm.Cond.stringRef "HeavyGifts$Reader" (153 : Nat) "owes") ∈ lw_tbl := lw_at lw_m5 102 rfl
theorem q1138 : (Jvm.Cond.stringRef "HeavyGifts$Reader" (160 : Nat) "to") ∈ lw_tbl := lw_at lw_m5 103 rfl
theorem q1139 : (Jvm.Cond.stringRef "HeavyGifts$Reader" (161 : Nat) "law") ∈ lw_tbl := lw_at lw_m5 104 rfl
theorem q1140 : (Jvm.Cond.stringRef "HeavyGifts$Reader" (163 : Nat) "anyone") ∈ lw_tbl := lw_at lw_m5 105 rfl
theorem q1141 : (Jvm.Cond.stringRef "HeavyGifts$Reader" (168 : Nat) "giver") ∈ lw_tbl := lw_at lw_m5 106 rfl
theorem q1142 : (Jvm.Cond.stringRef "HeavyGifts$Reader" (169 : Nat) "within") ∈ lw_tbl := lw_at lw_m5 107 rfl
theorem q1143 : (Jvm.Cond.methodLink "HeavyGifts$Reader" (173 : Nat) ({ cls := "HeavyGifts$Reader", name := "need", desc := "(Ljava/lang/String;)V" } : Jvm.MethodName)) ∈ lw_all := lw_g (lw_at lw_m5 108 rfl) rfl
theorem q1144 : (Jvm.Cond.privateMethod ({ cls := "HeavyGifts$Reader", name := "need", desc := "(Ljava/lang/String;)V" } : Jvm.MethodName)) ∈ lw_tbl := lw_at lw_m5 109 rfl
theorem q1145 : (Jvm.Cond.instanceMethod ({ cls := "HeavyGifts$Reader", name := "need", desc := "(Ljava/lang/String;)V" } : Jvm.MethodName)) ∈ lw_all := lw_g (lw_at lw_m5 110 rfl) rfl
theorem q1146 : (Jvm.Cond.code ({ cls := "HeavyGifts$Reader", name := "need", desc := "(Ljava/lang/String;)V" } : Jvm.MethodName) prog_10_method_8_code (2 : Nat) (Option.none : Option Jvm.ClassFile.FieldType)) ∈ lw_all := lw_g (lw_at lw_m5 111 rfl) rfl
theorem q1881 : (Jvm.Cond.castable "HeavyGifts$Reader" "java/lang/Object") ∈ lw_tbl := lw_at lw_m8 126 rfl
theorem in_X6 : ∀ w ∈ wsX60, w ∈ lw_all := lw_in wsX60 [1007, 1009, 1011, 1013, 1015, 1017, 1019, 1021] (by decide +kernel) (by decide +kernel)
/-! HeavyGifts$Fault -/
set_option maxRecDepth 100000
def RX7 : String := "HeavyGifts$Fault"
def TX7 : u_T := fun k => match k with
  | 0 => ("java/lang/Throwable", "cause", "Ljava/lang/Throwable;", false)
  | 1 => ("java/lang/Throwable", "stackTrace", "[Ljava/lang/StackTraceElement;", false)
  | 2 => ("java/lang/Throwable", "suppressedExceptions", "Ljava/util/List;", false)
  | 3 => ("java/lang/Throwable", "detailMessage", "Ljava/lang/String;", false)
  | 4 => ("java/lang/Throwable", "backtrace", "Ljava/lang/Object;", false)
  | 5 => ("java/lang/Throwable", "depth", "I", false)
  | 6 => ("HeavyGifts$Fault", "kind", "I", true)
  | _ => ("HeavyGifts$Fault", "place", "I", true)
def tyX7 : Nat → FieldType := fun k => match k with
  | 0 => .object "java/lang/Throwable"
  | 1 => .array (.object "java/lang/StackTraceElement")
  | 2 => .object "java/util/List"
  | 3 => .object "java/lang/String"
  | 4 => .object "java/lang/Object"
  | 5 => .int
  | 6 => .int
  | _ => .int
abbrev wsX70 : List Cond := u_ws RX7 TX7 8
theorem nmX7 : ∀ a, a < 8 → ∀ b, b < 8 → a ≠ b → (TX7 a).2.1 ≠ (TX7 b).2.1 := by decide +kernel
theorem tyX7_ok : ∀ k, k < 8 → parseFieldDescriptor (TX7 k).2.2.1 = some (tyX7 k) := by decide +kernel
abbrev cX7_init : ByteArray := prog_4_method_1_code
def yX7_init : MethodName := ⟨RX7, "<init>", "(II)V"⟩
def dkwX7_init_0 : List UInt8 := [42, 183, 0, 1, 42, 27, 181, 0, 7, 42, 28, 181, 0, 13, 177]
abbrev dktX7_init_0 : List UInt8 := dkwX7_init_0 ++ []
theorem dksX7_init_0 : cX7_init.data.toList.drop 0 = dktX7_init_0 := by decide +kernel
theorem dX7_init_0 : decode cX7_init 0 = .ok (.aload_n 0, 1) := dk_42 (dk_at dksX7_init_0 0 rfl rfl)
theorem dX7_init_1 : decode cX7_init 1 = .ok (.invokespecial 1, 3) := dk_183 0 1 (dk_at dksX7_init_0 1 rfl rfl)
theorem dX7_init_4 : decode cX7_init 4 = .ok (.aload_n 0, 1) := dk_42 (dk_at dksX7_init_0 4 rfl rfl)
theorem dX7_init_5 : decode cX7_init 5 = .ok (.iload_n 1, 1) := dk_27 (dk_at dksX7_init_0 5 rfl rfl)
theorem dX7_init_6 : decode cX7_init 6 = .ok (.putfield 7, 3) := dk_181 0 7 (dk_at dksX7_init_0 6 rfl rfl)
theorem dX7_init_9 : decode cX7_init 9 = .ok (.aload_n 0, 1) := dk_42 (dk_at dksX7_init_0 9 rfl rfl)
theorem dX7_init_10 : decode cX7_init 10 = .ok (.iload_n 2, 1) := dk_28 (dk_at dksX7_init_0 10 rfl rfl)
theorem dX7_init_11 : decode cX7_init 11 = .ok (.putfield 13, 3) := dk_181 0 13 (dk_at dksX7_init_0 11 rfl rfl)
theorem dX7_init_14 : decode cX7_init 14 = .ok (.return_, 1) := dk_177 (dk_at dksX7_init_0 14 rfl rfl)
theorem q103 : (Jvm.Cond.initialized "HeavyGifts$Fault") ∈ lw_all := lw_g (lw_at lw_m1 28 rfl) rfl
theorem q176 : (Jvm.Cond.selects "HeavyGifts$Fault" ({ cls := "java/lang/Throwable", name := "fillInStackTrace", desc := "()Ljava/lang/Throwable;" } : Jvm.MethodName) ({ cls := "java/lang/Throwable", name := "fillInStackTrace", desc := "()Ljava/lang/Throwable;" } : Jvm.MethodName)) ∈ lw_all := lw_g (lw_at lw_m1 101 rfl) rfl
theorem q735 : (Jvm.Cond.selects "HeavyGifts$Fault" ({ cls := "java/lang/Object", name := "getClass", desc := "()Ljava/lang/Class;" } : Jvm.MethodName) ({ cls := "java/lang/Object", name := "getClass", desc := "()Ljava/lang/Class;" } : Jvm.MethodName)) ∈ lw_all := lw_g (lw_at lw_m3 180 rfl) rfl
theorem q1049 : (Jvm.Cond.instantiable "HeavyGifts$Fault" (8 : Nat)) ∈ lw_all := lw_g (lw_at lw_m5 14 rfl) rfl
theorem q1050 : (Jvm.Cond.castable "HeavyGifts$Fault" "HeavyGifts$Fault") ∈ lw_tbl := lw_at lw_m5 15 rfl
theorem q1051 : (Jvm.Cond.selects "HeavyGifts$Fault" ({ cls := "java/lang/Throwable", name := "fillInStackTrace", desc := "(I)Ljava/lang/Throwable;" } : Jvm.MethodName) ({ cls := "java/lang/Throwable", name := "fillInStackTrace", desc := "(I)Ljava/lang/Throwable;" } : Jvm.MethodName)) ∈ lw_all := lw_g (lw_at lw_m5 16 rfl) rfl
theorem q1052 : (Jvm.Cond.lays "HeavyGifts$Fault" "java/lang/Throwable" "cause" "Ljava/lang/Throwable;") ∈ lw_all := lw_g (lw_at lw_m5 17 rfl) rfl
theorem q1053 : (Jvm.Cond.lays "HeavyGifts$Fault" "java/lang/Throwable" "stackTrace" "[Ljava/lang/StackTraceElement;") ∈ lw_all := lw_g (lw_at lw_m5 18 rfl) rfl
theorem q1054 : (Jvm.Cond.lays "HeavyGifts$Fault" "java/lang/Throwable" "suppressedExceptions" "Ljava/util/List;") ∈ lw_all := lw_g (lw_at lw_m5 19 rfl) rfl
theorem q1055 : (Jvm.Cond.lays "HeavyGifts$Fault" "java/lang/Throwable" "detailMessage" "Ljava/lang/String;") ∈ lw_all := lw_g (lw_at lw_m5 20 rfl) rfl
theorem q1056 : (Jvm.Cond.lays "HeavyGifts$Fault" "java/lang/Throwable" "backtrace" "Ljava/lang/Object;") ∈ lw_all := lw_g (lw_at lw_m5 21 rfl) rfl
theorem q1058 : (Jvm.Cond.instanceMethod ({ cls := "HeavyGifts$Fault", name := "<init>", desc := "(II)V" } : Jvm.MethodName)) ∈ lw_all := lw_g (lw_at lw_m5 23 rfl) rfl
theorem q1059 : (Jvm.Cond.code ({ cls := "HeavyGifts$Fault", name := "<init>", desc := "(II)V" } : Jvm.MethodName) prog_4_method_1_code (3 : Nat) (Option.none : Option Jvm.ClassFile.FieldType)) ∈ lw_all := lw_g (lw_at lw_m5 24 rfl) rfl
theorem q1060 : (Jvm.Cond.methodLink "HeavyGifts$Fault" (1 : Nat) ({ cls := "java/lang/Exception", name := "<init>", desc := "()V" } : Jvm.MethodName)) ∈ lw_all := lw_g (lw_at lw_m5 25 rfl) rfl
theorem q1061 : (Jvm.Cond.fieldLink "HeavyGifts$Fault" (7 : Nat) "HeavyGifts$Fault" "kind" "I") ∈ lw_all := lw_g (lw_at lw_m5 26 rfl) rfl
theorem q1063 : (Jvm.Cond.fieldLink "HeavyGifts$Fault" (13 : Nat) "HeavyGifts$Fault" "place" "I") ∈ lw_all := lw_g (lw_at lw_m5 28 rfl) rfl
theorem q1065 : (Jvm.Cond.laysFinal "HeavyGifts$Fault" "HeavyGifts$Fault" "kind" "I") ∈ lw_all := lw_g (lw_at lw_m5 30 rfl) rfl
theorem q1066 : (Jvm.Cond.soleField "HeavyGifts$Fault" "kind") ∈ lw_all := lw_g (lw_at lw_m5 31 rfl) rfl
theorem q1067 : (Jvm.Cond.laysFinal "HeavyGifts$Fault" "HeavyGifts$Fault" "place" "I") ∈ lw_all := lw_g (lw_at lw_m5 32 rfl) rfl
theorem q1068 : (Jvm.Cond.soleField "HeavyGifts$Fault" "place") ∈ lw_all := lw_g (lw_at lw_m5 33 rfl) rfl
theorem q1069 : (Jvm.Cond.lays "HeavyGifts$Fault" "java/lang/Throwable" "depth" "I") ∈ lw_all := lw_g (lw_at lw_m5 34 rfl) rfl
theorem q1070 : (Jvm.Cond.superclass "HeavyGifts$Fault" "java/lang/Exception") ∈ lw_all := lw_g (lw_at lw_m5 35 rfl) rfl
theorem q1883 : (Jvm.Cond.castable "HeavyGifts$Fault" "java/lang/Object") ∈ lw_tbl := lw_at lw_m8 128 rfl
theorem in_X7 : ∀ w ∈ wsX70, w ∈ lw_all := lw_in wsX70 [1052, 1053, 1054, 1055, 1056, 1069, 1065, 1067] (by decide +kernel) (by decide +kernel)
/-! java/lang/AbstractStringBuilder -/
set_option maxRecDepth 100000
def RJ7 : String := "java/lang/AbstractStringBuilder"
abbrev cJ7_init : ByteArray := prog_18_method_2_code
def yJ7_init : MethodName := ⟨RJ7, "<init>", "(I)V"⟩
def dkwJ7_init_1 : List UInt8 := [167, 0, 16, 42, 27, 184, 0, 26, 181, 0, 15, 42, 4, 181, 0, 22, 177]
abbrev dktJ7_init_1 : List UInt8 := dkwJ7_init_1 ++ []
def dkwJ7_init_0 : List UInt8 := [42, 183, 0, 3, 178, 0, 18, 153, 0, 18, 42, 27, 188, 8, 181, 0, 15, 42, 3, 181, 0, 22]
abbrev dktJ7_init_0 : List UInt8 := dkwJ7_init_0 ++ dktJ7_init_1
theorem dksJ7_init_0 : cJ7_init.data.toList.drop 0 = dktJ7_init_0 := by decide +kernel
theorem dksJ7_init_1 : cJ7_init.data.toList.drop 22 = dktJ7_init_1 := dk_seg dksJ7_init_0 22 rfl rfl
theorem dJ7_init_0 : decode cJ7_init 0 = .ok (.aload_n 0, 1) := dk_42 (dk_at dksJ7_init_0 0 rfl rfl)
theorem dJ7_init_1 : decode cJ7_init 1 = .ok (.invokespecial 3, 3) := dk_183 0 3 (dk_at dksJ7_init_0 1 rfl rfl)
theorem dJ7_init_4 : decode cJ7_init 4 = .ok (.getstatic 18, 3) := dk_178 0 18 (dk_at dksJ7_init_0 4 rfl rfl)
theorem dJ7_init_7 : decode cJ7_init 7 = .ok (.ifCond .eq 18, 3) := dk_153 0 18 (dk_at dksJ7_init_0 7 rfl rfl)
theorem dJ7_init_10 : decode cJ7_init 10 = .ok (.aload_n 0, 1) := dk_42 (dk_at dksJ7_init_0 10 rfl rfl)
theorem dJ7_init_11 : decode cJ7_init 11 = .ok (.iload_n 1, 1) := dk_27 (dk_at dksJ7_init_0 11 rfl rfl)
theorem dJ7_init_12 : decode cJ7_init 12 = .ok (.newarray .byte, 2) := dk_188_8 (dk_at dksJ7_init_0 12 rfl rfl)
theorem dJ7_init_14 : decode cJ7_init 14 = .ok (.putfield 15, 3) := dk_181 0 15 (dk_at dksJ7_init_0 14 rfl rfl)
theorem dJ7_init_17 : decode cJ7_init 17 = .ok (.aload_n 0, 1) := dk_42 (dk_at dksJ7_init_0 17 rfl rfl)
theorem dJ7_init_18 : decode cJ7_init 18 = .ok (.iconst 0, 1) := dk_3 (dk_at dksJ7_init_0 18 rfl rfl)
theorem dJ7_init_19 : decode cJ7_init 19 = .ok (.putfield 22, 3) := dk_181 0 22 (dk_at dksJ7_init_0 19 rfl rfl)
theorem dJ7_init_22 : decode cJ7_init 22 = .ok (.goto 16, 3) := dk_167 0 16 (dk_at dksJ7_init_1 0 rfl rfl)
theorem dJ7_init_25 : decode cJ7_init 25 = .ok (.aload_n 0, 1) := dk_42 (dk_at dksJ7_init_1 3 rfl rfl)
theorem dJ7_init_26 : decode cJ7_init 26 = .ok (.iload_n 1, 1) := dk_27 (dk_at dksJ7_init_1 4 rfl rfl)
theorem dJ7_init_27 : decode cJ7_init 27 = .ok (.invokestatic 26, 3) := dk_184 0 26 (dk_at dksJ7_init_1 5 rfl rfl)
theorem dJ7_init_30 : decode cJ7_init 30 = .ok (.putfield 15, 3) := dk_181 0 15 (dk_at dksJ7_init_1 8 rfl rfl)
theorem dJ7_init_33 : decode cJ7_init 33 = .ok (.aload_n 0, 1) := dk_42 (dk_at dksJ7_init_1 11 rfl rfl)
theorem dJ7_init_34 : decode cJ7_init 34 = .ok (.iconst 1, 1) := dk_4 (dk_at dksJ7_init_1 12 rfl rfl)
theorem dJ7_init_35 : decode cJ7_init 35 = .ok (.putfield 22, 3) := dk_181 0 22 (dk_at dksJ7_init_1 13 rfl rfl)
theorem dJ7_init_38 : decode cJ7_init 38 = .ok (.return_, 1) := dk_177 (dk_at dksJ7_init_1 16 rfl rfl)
abbrev cJ7_append : ByteArray := prog_18_method_22_code
def yJ7_append : MethodName := ⟨RJ7, "append", "(Ljava/lang/String;)Ljava/lang/AbstractStringBuilder;"⟩
def dkwJ7_append_1 : List UInt8 := [42, 42, 180, 0, 79, 43, 182, 0, 208, 42, 89, 180, 0, 79, 28, 96, 181, 0, 79, 42, 176]
abbrev dktJ7_append_1 : List UInt8 := dkwJ7_append_1 ++ []
def dkwJ7_append_0 : List UInt8 := [43, 199, 0, 8, 42, 182, 0, 204, 176, 43, 182, 0, 32, 61, 42, 42, 180, 0, 79, 28, 96, 182, 0, 100]
abbrev dktJ7_append_0 : List UInt8 := dkwJ7_append_0 ++ dktJ7_append_1
theorem dksJ7_append_0 : cJ7_append.data.toList.drop 0 = dktJ7_append_0 := by decide +kernel
theorem dksJ7_append_1 : cJ7_append.data.toList.drop 24 = dktJ7_append_1 := dk_seg dksJ7_append_0 24 rfl rfl
theorem dJ7_append_0 : decode cJ7_append 0 = .ok (.aload_n 1, 1) := dk_43 (dk_at dksJ7_append_0 0 rfl rfl)
theorem dJ7_append_1 : decode cJ7_append 1 = .ok (.ifnonnull 8, 3) := dk_199 0 8 (dk_at dksJ7_append_0 1 rfl rfl)
theorem dJ7_append_4 : decode cJ7_append 4 = .ok (.aload_n 0, 1) := dk_42 (dk_at dksJ7_append_0 4 rfl rfl)
theorem dJ7_append_5 : decode cJ7_append 5 = .ok (.invokevirtual 204, 3) := dk_182 0 204 (dk_at dksJ7_append_0 5 rfl rfl)
theorem dJ7_append_8 : decode cJ7_append 8 = .ok (.areturn, 1) := dk_176 (dk_at dksJ7_append_0 8 rfl rfl)
theorem dJ7_append_9 : decode cJ7_append 9 = .ok (.aload_n 1, 1) := dk_43 (dk_at dksJ7_append_0 9 rfl rfl)
theorem dJ7_append_10 : decode cJ7_append 10 = .ok (.invokevirtual 32, 3) := dk_182 0 32 (dk_at dksJ7_append_0 10 rfl rfl)
theorem dJ7_append_13 : decode cJ7_append 13 = .ok (.istore_n 2, 1) := dk_61 (dk_at dksJ7_append_0 13 rfl rfl)
theorem dJ7_append_14 : decode cJ7_append 14 = .ok (.aload_n 0, 1) := dk_42 (dk_at dksJ7_append_0 14 rfl rfl)
theorem dJ7_append_15 : decode cJ7_append 15 = .ok (.aload_n 0, 1) := dk_42 (dk_at dksJ7_append_0 15 rfl rfl)
theorem dJ7_append_16 : decode cJ7_append 16 = .ok (.getfield 79, 3) := dk_180 0 79 (dk_at dksJ7_append_0 16 rfl rfl)
theorem dJ7_append_19 : decode cJ7_append 19 = .ok (.iload_n 2, 1) := dk_28 (dk_at dksJ7_append_0 19 rfl rfl)
theorem dJ7_append_20 : decode cJ7_append 20 = .ok (.iadd, 1) := dk_96 (dk_at dksJ7_append_0 20 rfl rfl)
theorem dJ7_append_21 : decode cJ7_append 21 = .ok (.invokevirtual 100, 3) := dk_182 0 100 (dk_at dksJ7_append_0 21 rfl rfl)
theorem dJ7_append_24 : decode cJ7_append 24 = .ok (.aload_n 0, 1) := dk_42 (dk_at dksJ7_append_1 0 rfl rfl)
theorem dJ7_append_25 : decode cJ7_append 25 = .ok (.aload_n 0, 1) := dk_42 (dk_at dksJ7_append_1 1 rfl rfl)
theorem dJ7_append_26 : decode cJ7_append 26 = .ok (.getfield 79, 3) := dk_180 0 79 (dk_at dksJ7_append_1 2 rfl rfl)
theorem dJ7_append_29 : decode cJ7_append 29 = .ok (.aload_n 1, 1) := dk_43 (dk_at dksJ7_append_1 5 rfl rfl)
theorem dJ7_append_30 : decode cJ7_append 30 = .ok (.invokevirtual 208, 3) := dk_182 0 208 (dk_at dksJ7_append_1 6 rfl rfl)
theorem dJ7_append_33 : decode cJ7_append 33 = .ok (.aload_n 0, 1) := dk_42 (dk_at dksJ7_append_1 9 rfl rfl)
theorem dJ7_append_34 : decode cJ7_append 34 = .ok (.dup, 1) := dk_89 (dk_at dksJ7_append_1 10 rfl rfl)
theorem dJ7_append_35 : decode cJ7_append 35 = .ok (.getfield 79, 3) := dk_180 0 79 (dk_at dksJ7_append_1 11 rfl rfl)
theorem dJ7_append_38 : decode cJ7_append 38 = .ok (.iload_n 2, 1) := dk_28 (dk_at dksJ7_append_1 14 rfl rfl)
theorem dJ7_append_39 : decode cJ7_append 39 = .ok (.iadd, 1) := dk_96 (dk_at dksJ7_append_1 15 rfl rfl)
theorem dJ7_append_40 : decode cJ7_append 40 = .ok (.putfield 79, 3) := dk_181 0 79 (dk_at dksJ7_append_1 16 rfl rfl)
theorem dJ7_append_43 : decode cJ7_append 43 = .ok (.aload_n 0, 1) := dk_42 (dk_at dksJ7_append_1 19 rfl rfl)
theorem dJ7_append_44 : decode cJ7_append 44 = .ok (.areturn, 1) := dk_176 (dk_at dksJ7_append_1 20 rfl rfl)
abbrev cJ7_appendNull : ByteArray := prog_18_method_26_code
def yJ7_appendNull : MethodName := ⟨RJ7, "appendNull", "()Ljava/lang/AbstractStringBuilder;"⟩
def dkwJ7_appendNull_3 : List UInt8 := [184, 0, 226, 60, 42, 27, 181, 0, 79, 42, 176]
abbrev dktJ7_appendNull_3 : List UInt8 := dkwJ7_appendNull_3 ++ []
def dkwJ7_appendNull_2 : List UInt8 := [16, 108, 84, 44, 27, 132, 1, 1, 16, 108, 84, 167, 0, 17, 44, 27, 16, 110, 16, 117, 16, 108, 16, 108]
abbrev dktJ7_appendNull_2 : List UInt8 := dkwJ7_appendNull_2 ++ dktJ7_appendNull_3
def dkwJ7_appendNull_1 : List UInt8 := [153, 0, 38, 44, 27, 132, 1, 1, 16, 110, 84, 44, 27, 132, 1, 1, 16, 117, 84, 44, 27, 132, 1, 1]
abbrev dktJ7_appendNull_1 : List UInt8 := dkwJ7_appendNull_1 ++ dktJ7_appendNull_2
def dkwJ7_appendNull_0 : List UInt8 := [42, 42, 180, 0, 79, 7, 96, 182, 0, 100, 42, 180, 0, 79, 60, 42, 180, 0, 15, 77, 42, 182, 0, 83]
abbrev dktJ7_appendNull_0 : List UInt8 := dkwJ7_appendNull_0 ++ dktJ7_appendNull_1
theorem dksJ7_appendNull_0 : cJ7_appendNull.data.toList.drop 0 = dktJ7_appendNull_0 := by decide +kernel
theorem dksJ7_appendNull_1 : cJ7_appendNull.data.toList.drop 24 = dktJ7_appendNull_1 := dk_seg dksJ7_appendNull_0 24 rfl rfl
theorem dksJ7_appendNull_2 : cJ7_appendNull.data.toList.drop 48 = dktJ7_appendNull_2 := dk_seg dksJ7_appendNull_1 24 rfl rfl
theorem dksJ7_appendNull_3 : cJ7_appendNull.data.toList.drop 72 = dktJ7_appendNull_3 := dk_seg dksJ7_appendNull_2 24 rfl rfl
theorem dJ7_appendNull_0 : decode cJ7_appendNull 0 = .ok (.aload_n 0, 1) := dk_42 (dk_at dksJ7_appendNull_0 0 rfl rfl)
theorem dJ7_appendNull_1 : decode cJ7_appendNull 1 = .ok (.aload_n 0, 1) := dk_42 (dk_at dksJ7_appendNull_0 1 rfl rfl)
theorem dJ7_appendNull_2 : decode cJ7_appendNull 2 = .ok (.getfield 79, 3) := dk_180 0 79 (dk_at dksJ7_appendNull_0 2 rfl rfl)
theorem dJ7_appendNull_5 : decode cJ7_appendNull 5 = .ok (.iconst 4, 1) := dk_7 (dk_at dksJ7_appendNull_0 5 rfl rfl)
theorem dJ7_appendNull_6 : decode cJ7_appendNull 6 = .ok (.iadd, 1) := dk_96 (dk_at dksJ7_appendNull_0 6 rfl rfl)
theorem dJ7_appendNull_7 : decode cJ7_appendNull 7 = .ok (.invokevirtual 100, 3) := dk_182 0 100 (dk_at dksJ7_appendNull_0 7 rfl rfl)
theorem dJ7_appendNull_10 : decode cJ7_appendNull 10 = .ok (.aload_n 0, 1) := dk_42 (dk_at dksJ7_appendNull_0 10 rfl rfl)
theorem dJ7_appendNull_11 : decode cJ7_appendNull 11 = .ok (.getfield 79, 3) := dk_180 0 79 (dk_at dksJ7_appendNull_0 11 rfl rfl)
theorem dJ7_appendNull_14 : decode cJ7_appendNull 14 = .ok (.istore_n 1, 1) := dk_60 (dk_at dksJ7_appendNull_0 14 rfl rfl)
theorem dJ7_appendNull_15 : decode cJ7_appendNull 15 = .ok (.aload_n 0, 1) := dk_42 (dk_at dksJ7_appendNull_0 15 rfl rfl)
theorem dJ7_appendNull_16 : decode cJ7_appendNull 16 = .ok (.getfield 15, 3) := dk_180 0 15 (dk_at dksJ7_appendNull_0 16 rfl rfl)
theorem dJ7_appendNull_19 : decode cJ7_appendNull 19 = .ok (.astore_n 2, 1) := dk_77 (dk_at dksJ7_appendNull_0 19 rfl rfl)
theorem dJ7_appendNull_20 : decode cJ7_appendNull 20 = .ok (.aload_n 0, 1) := dk_42 (dk_at dksJ7_appendNull_0 20 rfl rfl)
theorem dJ7_appendNull_21 : decode cJ7_appendNull 21 = .ok (.invokevirtual 83, 3) := dk_182 0 83 (dk_at dksJ7_appendNull_0 21 rfl rfl)
theorem dJ7_appendNull_24 : decode cJ7_appendNull 24 = .ok (.ifCond .eq 38, 3) := dk_153 0 38 (dk_at dksJ7_appendNull_1 0 rfl rfl)
theorem dJ7_appendNull_27 : decode cJ7_appendNull 27 = .ok (.aload_n 2, 1) := dk_44 (dk_at dksJ7_appendNull_1 3 rfl rfl)
theorem dJ7_appendNull_28 : decode cJ7_appendNull 28 = .ok (.iload_n 1, 1) := dk_27 (dk_at dksJ7_appendNull_1 4 rfl rfl)
theorem dJ7_appendNull_29 : decode cJ7_appendNull 29 = .ok (.iinc 1 1, 3) := dk_132 1 1 (dk_at dksJ7_appendNull_1 5 rfl rfl)
theorem dJ7_appendNull_32 : decode cJ7_appendNull 32 = .ok (.bipush 110, 2) := dk_16 110 (dk_at dksJ7_appendNull_1 8 rfl rfl)
theorem dJ7_appendNull_34 : decode cJ7_appendNull 34 = .ok (.bastore, 1) := dk_84 (dk_at dksJ7_appendNull_1 10 rfl rfl)
theorem dJ7_appendNull_35 : decode cJ7_appendNull 35 = .ok (.aload_n 2, 1) := dk_44 (dk_at dksJ7_appendNull_1 11 rfl rfl)
theorem dJ7_appendNull_36 : decode cJ7_appendNull 36 = .ok (.iload_n 1, 1) := dk_27 (dk_at dksJ7_appendNull_1 12 rfl rfl)
theorem dJ7_appendNull_37 : decode cJ7_appendNull 37 = .ok (.iinc 1 1, 3) := dk_132 1 1 (dk_at dksJ7_appendNull_1 13 rfl rfl)
theorem dJ7_appendNull_40 : decode cJ7_appendNull 40 = .ok (.bipush 117, 2) := dk_16 117 (dk_at dksJ7_appendNull_1 16 rfl rfl)
theorem dJ7_appendNull_42 : decode cJ7_appendNull 42 = .ok (.bastore, 1) := dk_84 (dk_at dksJ7_appendNull_1 18 rfl rfl)
theorem dJ7_appendNull_43 : decode cJ7_appendNull 43 = .ok (.aload_n 2, 1) := dk_44 (dk_at dksJ7_appendNull_1 19 rfl rfl)
theorem dJ7_appendNull_44 : decode cJ7_appendNull 44 = .ok (.iload_n 1, 1) := dk_27 (dk_at dksJ7_appendNull_1 20 rfl rfl)
theorem dJ7_appendNull_45 : decode cJ7_appendNull 45 = .ok (.iinc 1 1, 3) := dk_132 1 1 (dk_at dksJ7_appendNull_1 21 rfl rfl)
theorem dJ7_appendNull_48 : decode cJ7_appendNull 48 = .ok (.bipush 108, 2) := dk_16 108 (dk_at dksJ7_appendNull_2 0 rfl rfl)
theorem dJ7_appendNull_50 : decode cJ7_appendNull 50 = .ok (.bastore, 1) := dk_84 (dk_at dksJ7_appendNull_2 2 rfl rfl)
theorem dJ7_appendNull_51 : decode cJ7_appendNull 51 = .ok (.aload_n 2, 1) := dk_44 (dk_at dksJ7_appendNull_2 3 rfl rfl)
theorem dJ7_appendNull_52 : decode cJ7_appendNull 52 = .ok (.iload_n 1, 1) := dk_27 (dk_at dksJ7_appendNull_2 4 rfl rfl)
theorem dJ7_appendNull_53 : decode cJ7_appendNull 53 = .ok (.iinc 1 1, 3) := dk_132 1 1 (dk_at dksJ7_appendNull_2 5 rfl rfl)
theorem dJ7_appendNull_56 : decode cJ7_appendNull 56 = .ok (.bipush 108, 2) := dk_16 108 (dk_at dksJ7_appendNull_2 8 rfl rfl)
theorem dJ7_appendNull_58 : decode cJ7_appendNull 58 = .ok (.bastore, 1) := dk_84 (dk_at dksJ7_appendNull_2 10 rfl rfl)
theorem dJ7_appendNull_59 : decode cJ7_appendNull 59 = .ok (.goto 17, 3) := dk_167 0 17 (dk_at dksJ7_appendNull_2 11 rfl rfl)
theorem dJ7_appendNull_62 : decode cJ7_appendNull 62 = .ok (.aload_n 2, 1) := dk_44 (dk_at dksJ7_appendNull_2 14 rfl rfl)
theorem dJ7_appendNull_63 : decode cJ7_appendNull 63 = .ok (.iload_n 1, 1) := dk_27 (dk_at dksJ7_appendNull_2 15 rfl rfl)
theorem dJ7_appendNull_64 : decode cJ7_appendNull 64 = .ok (.bipush 110, 2) := dk_16 110 (dk_at dksJ7_appendNull_2 16 rfl rfl)
theorem dJ7_appendNull_66 : decode cJ7_appendNull 66 = .ok (.bipush 117, 2) := dk_16 117 (dk_at dksJ7_appendNull_2 18 rfl rfl)
theorem dJ7_appendNull_68 : decode cJ7_appendNull 68 = .ok (.bipush 108, 2) := dk_16 108 (dk_at dksJ7_appendNull_2 20 rfl rfl)
theorem dJ7_appendNull_70 : decode cJ7_appendNull 70 = .ok (.bipush 108, 2) := dk_16 108 (dk_at dksJ7_appendNull_2 22 rfl rfl)
theorem dJ7_appendNull_72 : decode cJ7_appendNull 72 = .ok (.invokestatic 226, 3) := dk_184 0 226 (dk_at dksJ7_appendNull_3 0 rfl rfl)
theorem dJ7_appendNull_75 : decode cJ7_appendNull 75 = .ok (.istore_n 1, 1) := dk_60 (dk_at dksJ7_appendNull_3 3 rfl rfl)
theorem dJ7_appendNull_76 : decode cJ7_appendNull 76 = .ok (.aload_n 0, 1) := dk_42 (dk_at dksJ7_appendNull_3 4 rfl rfl)
theorem dJ7_appendNull_77 : decode cJ7_appendNull 77 = .ok (.iload_n 1, 1) := dk_27 (dk_at dksJ7_appendNull_3 5 rfl rfl)
theorem dJ7_appendNull_78 : decode cJ7_appendNull 78 = .ok (.putfield 79, 3) := dk_181 0 79 (dk_at dksJ7_appendNull_3 6 rfl rfl)
theorem dJ7_appendNull_81 : decode cJ7_appendNull 81 = .ok (.aload_n 0, 1) := dk_42 (dk_at dksJ7_appendNull_3 9 rfl rfl)
theorem dJ7_appendNull_82 : decode cJ7_appendNull 82 = .ok (.areturn, 1) := dk_176 (dk_at dksJ7_appendNull_3 10 rfl rfl)
abbrev cJ7_ensureCapacityInternal : ByteArray := prog_18_method_9_code
def yJ7_ensureCapacityInternal : MethodName := ⟨RJ7, "ensureCapacityInternal", "(I)V"⟩
def dkwJ7_ensureCapacityInternal_1 : List UInt8 := [182, 0, 104, 42, 180, 0, 22, 120, 184, 0, 108, 181, 0, 15, 177]
abbrev dktJ7_ensureCapacityInternal_1 : List UInt8 := dkwJ7_ensureCapacityInternal_1 ++ []
def dkwJ7_ensureCapacityInternal_0 : List UInt8 := [42, 180, 0, 15, 190, 42, 180, 0, 22, 122, 61, 27, 28, 100, 158, 0, 24, 42, 42, 180, 0, 15, 42, 27]
abbrev dktJ7_ensureCapacityInternal_0 : List UInt8 := dkwJ7_ensureCapacityInternal_0 ++ dktJ7_ensureCapacityInternal_1
theorem dksJ7_ensureCapacityInternal_0 : cJ7_ensureCapacityInternal.data.toList.drop 0 = dktJ7_ensureCapacityInternal_0 := by decide +kernel
theorem dksJ7_ensureCapacityInternal_1 : cJ7_ensureCapacityInternal.data.toList.drop 24 = dktJ7_ensureCapacityInternal_1 := dk_seg dksJ7_ensureCapacityInternal_0 24 rfl rfl
theorem dJ7_ensureCapacityInternal_0 : decode cJ7_ensureCapacityInternal 0 = .ok (.aload_n 0, 1) := dk_42 (dk_at dksJ7_ensureCapacityInternal_0 0 rfl rfl)
theorem dJ7_ensureCapacityInternal_1 : decode cJ7_ensureCapacityInternal 1 = .ok (.getfield 15, 3) := dk_180 0 15 (dk_at dksJ7_ensureCapacityInternal_0 1 rfl rfl)
theorem dJ7_ensureCapacityInternal_4 : decode cJ7_ensureCapacityInternal 4 = .ok (.arraylength, 1) := dk_190 (dk_at dksJ7_ensureCapacityInternal_0 4 rfl rfl)
theorem dJ7_ensureCapacityInternal_5 : decode cJ7_ensureCapacityInternal 5 = .ok (.aload_n 0, 1) := dk_42 (dk_at dksJ7_ensureCapacityInternal_0 5 rfl rfl)
theorem dJ7_ensureCapacityInternal_6 : decode cJ7_ensureCapacityInternal 6 = .ok (.getfield 22, 3) := dk_180 0 22 (dk_at dksJ7_ensureCapacityInternal_0 6 rfl rfl)
theorem dJ7_ensureCapacityInternal_9 : decode cJ7_ensureCapacityInternal 9 = .ok (.ishr, 1) := dk_122 (dk_at dksJ7_ensureCapacityInternal_0 9 rfl rfl)
theorem dJ7_ensureCapacityInternal_10 : decode cJ7_ensureCapacityInternal 10 = .ok (.istore_n 2, 1) := dk_61 (dk_at dksJ7_ensureCapacityInternal_0 10 rfl rfl)
theorem dJ7_ensureCapacityInternal_11 : decode cJ7_ensureCapacityInternal 11 = .ok (.iload_n 1, 1) := dk_27 (dk_at dksJ7_ensureCapacityInternal_0 11 rfl rfl)
theorem dJ7_ensureCapacityInternal_12 : decode cJ7_ensureCapacityInternal 12 = .ok (.iload_n 2, 1) := dk_28 (dk_at dksJ7_ensureCapacityInternal_0 12 rfl rfl)
theorem dJ7_ensureCapacityInternal_13 : decode cJ7_ensureCapacityInternal 13 = .ok (.isub, 1) := dk_100 (dk_at dksJ7_ensureCapacityInternal_0 13 rfl rfl)
theorem dJ7_ensureCapacityInternal_14 : decode cJ7_ensureCapacityInternal 14 = .ok (.ifCond .le 24, 3) := dk_158 0 24 (dk_at dksJ7_ensureCapacityInternal_0 14 rfl rfl)
theorem dJ7_ensureCapacityInternal_17 : decode cJ7_ensureCapacityInternal 17 = .ok (.aload_n 0, 1) := dk_42 (dk_at dksJ7_ensureCapacityInternal_0 17 rfl rfl)
theorem dJ7_ensureCapacityInternal_18 : decode cJ7_ensureCapacityInternal 18 = .ok (.aload_n 0, 1) := dk_42 (dk_at dksJ7_ensureCapacityInternal_0 18 rfl rfl)
theorem dJ7_ensureCapacityInternal_19 : decode cJ7_ensureCapacityInternal 19 = .ok (.getfield 15, 3) := dk_180 0 15 (dk_at dksJ7_ensureCapacityInternal_0 19 rfl rfl)
theorem dJ7_ensureCapacityInternal_22 : decode cJ7_ensureCapacityInternal 22 = .ok (.aload_n 0, 1) := dk_42 (dk_at dksJ7_ensureCapacityInternal_0 22 rfl rfl)
theorem dJ7_ensureCapacityInternal_23 : decode cJ7_ensureCapacityInternal 23 = .ok (.iload_n 1, 1) := dk_27 (dk_at dksJ7_ensureCapacityInternal_0 23 rfl rfl)
theorem dJ7_ensureCapacityInternal_24 : decode cJ7_ensureCapacityInternal 24 = .ok (.invokevirtual 104, 3) := dk_182 0 104 (dk_at dksJ7_ensureCapacityInternal_1 0 rfl rfl)
theorem dJ7_ensureCapacityInternal_27 : decode cJ7_ensureCapacityInternal 27 = .ok (.aload_n 0, 1) := dk_42 (dk_at dksJ7_ensureCapacityInternal_1 3 rfl rfl)
theorem dJ7_ensureCapacityInternal_28 : decode cJ7_ensureCapacityInternal 28 = .ok (.getfield 22, 3) := dk_180 0 22 (dk_at dksJ7_ensureCapacityInternal_1 4 rfl rfl)
theorem dJ7_ensureCapacityInternal_31 : decode cJ7_ensureCapacityInternal 31 = .ok (.ishl, 1) := dk_120 (dk_at dksJ7_ensureCapacityInternal_1 7 rfl rfl)
theorem dJ7_ensureCapacityInternal_32 : decode cJ7_ensureCapacityInternal 32 = .ok (.invokestatic 108, 3) := dk_184 0 108 (dk_at dksJ7_ensureCapacityInternal_1 8 rfl rfl)
theorem dJ7_ensureCapacityInternal_35 : decode cJ7_ensureCapacityInternal 35 = .ok (.putfield 15, 3) := dk_181 0 15 (dk_at dksJ7_ensureCapacityInternal_1 11 rfl rfl)
theorem dJ7_ensureCapacityInternal_38 : decode cJ7_ensureCapacityInternal 38 = .ok (.return_, 1) := dk_177 (dk_at dksJ7_ensureCapacityInternal_1 14 rfl rfl)
abbrev cJ7_newCapacity : ByteArray := prog_18_method_10_code
def yJ7_newCapacity : MethodName := ⟨RJ7, "newCapacity", "(I)I"⟩
def dkwJ7_newCapacity_2 : List UInt8 := [183, 0, 124, 191, 21, 5, 42, 180, 0, 22, 122, 172]
abbrev dktJ7_newCapacity_2 : List UInt8 := dkwJ7_newCapacity_2 ++ []
def dkwJ7_newCapacity_1 : List UInt8 := [180, 0, 22, 120, 96, 184, 0, 114, 54, 5, 21, 5, 18, 39, 160, 0, 13, 187, 0, 120, 89, 18, 122]
abbrev dktJ7_newCapacity_1 : List UInt8 := dkwJ7_newCapacity_1 ++ dktJ7_newCapacity_2
def dkwJ7_newCapacity_0 : List UInt8 := [42, 180, 0, 15, 190, 61, 27, 42, 180, 0, 22, 120, 62, 29, 28, 100, 54, 4, 28, 21, 4, 28, 5, 42]
abbrev dktJ7_newCapacity_0 : List UInt8 := dkwJ7_newCapacity_0 ++ dktJ7_newCapacity_1
theorem dksJ7_newCapacity_0 : cJ7_newCapacity.data.toList.drop 0 = dktJ7_newCapacity_0 := by decide +kernel
theorem dksJ7_newCapacity_1 : cJ7_newCapacity.data.toList.drop 24 = dktJ7_newCapacity_1 := dk_seg dksJ7_newCapacity_0 24 rfl rfl
theorem dksJ7_newCapacity_2 : cJ7_newCapacity.data.toList.drop 47 = dktJ7_newCapacity_2 := dk_seg dksJ7_newCapacity_1 23 rfl rfl
theorem dJ7_newCapacity_0 : decode cJ7_newCapacity 0 = .ok (.aload_n 0, 1) := dk_42 (dk_at dksJ7_newCapacity_0 0 rfl rfl)
theorem dJ7_newCapacity_1 : decode cJ7_newCapacity 1 = .ok (.getfield 15, 3) := dk_180 0 15 (dk_at dksJ7_newCapacity_0 1 rfl rfl)
theorem dJ7_newCapacity_4 : decode cJ7_newCapacity 4 = .ok (.arraylength, 1) := dk_190 (dk_at dksJ7_newCapacity_0 4 rfl rfl)
theorem dJ7_newCapacity_5 : decode cJ7_newCapacity 5 = .ok (.istore_n 2, 1) := dk_61 (dk_at dksJ7_newCapacity_0 5 rfl rfl)
theorem dJ7_newCapacity_6 : decode cJ7_newCapacity 6 = .ok (.iload_n 1, 1) := dk_27 (dk_at dksJ7_newCapacity_0 6 rfl rfl)
theorem dJ7_newCapacity_7 : decode cJ7_newCapacity 7 = .ok (.aload_n 0, 1) := dk_42 (dk_at dksJ7_newCapacity_0 7 rfl rfl)
theorem dJ7_newCapacity_8 : decode cJ7_newCapacity 8 = .ok (.getfield 22, 3) := dk_180 0 22 (dk_at dksJ7_newCapacity_0 8 rfl rfl)
theorem dJ7_newCapacity_11 : decode cJ7_newCapacity 11 = .ok (.ishl, 1) := dk_120 (dk_at dksJ7_newCapacity_0 11 rfl rfl)
theorem dJ7_newCapacity_12 : decode cJ7_newCapacity 12 = .ok (.istore_n 3, 1) := dk_62 (dk_at dksJ7_newCapacity_0 12 rfl rfl)
theorem dJ7_newCapacity_13 : decode cJ7_newCapacity 13 = .ok (.iload_n 3, 1) := dk_29 (dk_at dksJ7_newCapacity_0 13 rfl rfl)
theorem dJ7_newCapacity_14 : decode cJ7_newCapacity 14 = .ok (.iload_n 2, 1) := dk_28 (dk_at dksJ7_newCapacity_0 14 rfl rfl)
theorem dJ7_newCapacity_15 : decode cJ7_newCapacity 15 = .ok (.isub, 1) := dk_100 (dk_at dksJ7_newCapacity_0 15 rfl rfl)
theorem dJ7_newCapacity_16 : decode cJ7_newCapacity 16 = .ok (.istore 4, 2) := dk_54 4 (dk_at dksJ7_newCapacity_0 16 rfl rfl)
theorem dJ7_newCapacity_18 : decode cJ7_newCapacity 18 = .ok (.iload_n 2, 1) := dk_28 (dk_at dksJ7_newCapacity_0 18 rfl rfl)
theorem dJ7_newCapacity_19 : decode cJ7_newCapacity 19 = .ok (.iload 4, 2) := dk_21 4 (dk_at dksJ7_newCapacity_0 19 rfl rfl)
theorem dJ7_newCapacity_21 : decode cJ7_newCapacity 21 = .ok (.iload_n 2, 1) := dk_28 (dk_at dksJ7_newCapacity_0 21 rfl rfl)
theorem dJ7_newCapacity_22 : decode cJ7_newCapacity 22 = .ok (.iconst 2, 1) := dk_5 (dk_at dksJ7_newCapacity_0 22 rfl rfl)
theorem dJ7_newCapacity_23 : decode cJ7_newCapacity 23 = .ok (.aload_n 0, 1) := dk_42 (dk_at dksJ7_newCapacity_0 23 rfl rfl)
theorem dJ7_newCapacity_24 : decode cJ7_newCapacity 24 = .ok (.getfield 22, 3) := dk_180 0 22 (dk_at dksJ7_newCapacity_1 0 rfl rfl)
theorem dJ7_newCapacity_27 : decode cJ7_newCapacity 27 = .ok (.ishl, 1) := dk_120 (dk_at dksJ7_newCapacity_1 3 rfl rfl)
theorem dJ7_newCapacity_28 : decode cJ7_newCapacity 28 = .ok (.iadd, 1) := dk_96 (dk_at dksJ7_newCapacity_1 4 rfl rfl)
theorem dJ7_newCapacity_29 : decode cJ7_newCapacity 29 = .ok (.invokestatic 114, 3) := dk_184 0 114 (dk_at dksJ7_newCapacity_1 5 rfl rfl)
theorem dJ7_newCapacity_32 : decode cJ7_newCapacity 32 = .ok (.istore 5, 2) := dk_54 5 (dk_at dksJ7_newCapacity_1 8 rfl rfl)
theorem dJ7_newCapacity_34 : decode cJ7_newCapacity 34 = .ok (.iload 5, 2) := dk_21 5 (dk_at dksJ7_newCapacity_1 10 rfl rfl)
theorem dJ7_newCapacity_36 : decode cJ7_newCapacity 36 = .ok (.ldc 39, 2) := dk_18 39 (dk_at dksJ7_newCapacity_1 12 rfl rfl)
theorem dJ7_newCapacity_38 : decode cJ7_newCapacity 38 = .ok (.if_icmp .ne 13, 3) := dk_160 0 13 (dk_at dksJ7_newCapacity_1 14 rfl rfl)
theorem dJ7_newCapacity_41 : decode cJ7_newCapacity 41 = .ok (.new 120, 3) := dk_187 0 120 (dk_at dksJ7_newCapacity_1 17 rfl rfl)
theorem dJ7_newCapacity_44 : decode cJ7_newCapacity 44 = .ok (.dup, 1) := dk_89 (dk_at dksJ7_newCapacity_1 20 rfl rfl)
theorem dJ7_newCapacity_45 : decode cJ7_newCapacity 45 = .ok (.ldc 122, 2) := dk_18 122 (dk_at dksJ7_newCapacity_1 21 rfl rfl)
theorem dJ7_newCapacity_47 : decode cJ7_newCapacity 47 = .ok (.invokespecial 124, 3) := dk_183 0 124 (dk_at dksJ7_newCapacity_2 0 rfl rfl)
theorem dJ7_newCapacity_50 : decode cJ7_newCapacity 50 = .ok (.athrow, 1) := dk_191 (dk_at dksJ7_newCapacity_2 3 rfl rfl)
theorem dJ7_newCapacity_51 : decode cJ7_newCapacity 51 = .ok (.iload 5, 2) := dk_21 5 (dk_at dksJ7_newCapacity_2 4 rfl rfl)
theorem dJ7_newCapacity_53 : decode cJ7_newCapacity 53 = .ok (.aload_n 0, 1) := dk_42 (dk_at dksJ7_newCapacity_2 6 rfl rfl)
theorem dJ7_newCapacity_54 : decode cJ7_newCapacity 54 = .ok (.getfield 22, 3) := dk_180 0 22 (dk_at dksJ7_newCapacity_2 7 rfl rfl)
theorem dJ7_newCapacity_57 : decode cJ7_newCapacity 57 = .ok (.ishr, 1) := dk_122 (dk_at dksJ7_newCapacity_2 10 rfl rfl)
theorem dJ7_newCapacity_58 : decode cJ7_newCapacity 58 = .ok (.ireturn, 1) := dk_172 (dk_at dksJ7_newCapacity_2 11 rfl rfl)
abbrev cJ7_isLatin1 : ByteArray := prog_18_method_68_code
def yJ7_isLatin1 : MethodName := ⟨RJ7, "isLatin1", "()Z"⟩
def dkwJ7_isLatin1_0 : List UInt8 := [178, 0, 18, 153, 0, 14, 42, 180, 0, 22, 154, 0, 7, 4, 167, 0, 4, 3, 172]
abbrev dktJ7_isLatin1_0 : List UInt8 := dkwJ7_isLatin1_0 ++ []
theorem dksJ7_isLatin1_0 : cJ7_isLatin1.data.toList.drop 0 = dktJ7_isLatin1_0 := by decide +kernel
theorem dJ7_isLatin1_0 : decode cJ7_isLatin1 0 = .ok (.getstatic 18, 3) := dk_178 0 18 (dk_at dksJ7_isLatin1_0 0 rfl rfl)
theorem dJ7_isLatin1_3 : decode cJ7_isLatin1 3 = .ok (.ifCond .eq 14, 3) := dk_153 0 14 (dk_at dksJ7_isLatin1_0 3 rfl rfl)
theorem dJ7_isLatin1_6 : decode cJ7_isLatin1 6 = .ok (.aload_n 0, 1) := dk_42 (dk_at dksJ7_isLatin1_0 6 rfl rfl)
theorem dJ7_isLatin1_7 : decode cJ7_isLatin1 7 = .ok (.getfield 22, 3) := dk_180 0 22 (dk_at dksJ7_isLatin1_0 7 rfl rfl)
theorem dJ7_isLatin1_10 : decode cJ7_isLatin1 10 = .ok (.ifCond .ne 7, 3) := dk_154 0 7 (dk_at dksJ7_isLatin1_0 10 rfl rfl)
theorem dJ7_isLatin1_13 : decode cJ7_isLatin1 13 = .ok (.iconst 1, 1) := dk_4 (dk_at dksJ7_isLatin1_0 13 rfl rfl)
theorem dJ7_isLatin1_14 : decode cJ7_isLatin1 14 = .ok (.goto 4, 3) := dk_167 0 4 (dk_at dksJ7_isLatin1_0 14 rfl rfl)
theorem dJ7_isLatin1_17 : decode cJ7_isLatin1 17 = .ok (.iconst 0, 1) := dk_3 (dk_at dksJ7_isLatin1_0 17 rfl rfl)
theorem dJ7_isLatin1_18 : decode cJ7_isLatin1 18 = .ok (.ireturn, 1) := dk_172 (dk_at dksJ7_isLatin1_0 18 rfl rfl)
abbrev cJ7_putStringAt : ByteArray := prog_18_method_73_code
def yJ7_putStringAt : MethodName := ⟨RJ7, "putStringAt", "(ILjava/lang/String;)V"⟩
def dkwJ7_putStringAt_0 : List UInt8 := [42, 44, 182, 1, 141, 44, 42, 180, 0, 15, 27, 42, 180, 0, 22, 182, 1, 143, 177]
abbrev dktJ7_putStringAt_0 : List UInt8 := dkwJ7_putStringAt_0 ++ []
theorem dksJ7_putStringAt_0 : cJ7_putStringAt.data.toList.drop 0 = dktJ7_putStringAt_0 := by decide +kernel
theorem dJ7_putStringAt_0 : decode cJ7_putStringAt 0 = .ok (.aload_n 0, 1) := dk_42 (dk_at dksJ7_putStringAt_0 0 rfl rfl)
theorem dJ7_putStringAt_1 : decode cJ7_putStringAt 1 = .ok (.aload_n 2, 1) := dk_44 (dk_at dksJ7_putStringAt_0 1 rfl rfl)
theorem dJ7_putStringAt_2 : decode cJ7_putStringAt 2 = .ok (.invokevirtual 397, 3) := dk_182 1 141 (dk_at dksJ7_putStringAt_0 2 rfl rfl)
theorem dJ7_putStringAt_5 : decode cJ7_putStringAt 5 = .ok (.aload_n 2, 1) := dk_44 (dk_at dksJ7_putStringAt_0 5 rfl rfl)
theorem dJ7_putStringAt_6 : decode cJ7_putStringAt 6 = .ok (.aload_n 0, 1) := dk_42 (dk_at dksJ7_putStringAt_0 6 rfl rfl)
theorem dJ7_putStringAt_7 : decode cJ7_putStringAt 7 = .ok (.getfield 15, 3) := dk_180 0 15 (dk_at dksJ7_putStringAt_0 7 rfl rfl)
theorem dJ7_putStringAt_10 : decode cJ7_putStringAt 10 = .ok (.iload_n 1, 1) := dk_27 (dk_at dksJ7_putStringAt_0 10 rfl rfl)
theorem dJ7_putStringAt_11 : decode cJ7_putStringAt 11 = .ok (.aload_n 0, 1) := dk_42 (dk_at dksJ7_putStringAt_0 11 rfl rfl)
theorem dJ7_putStringAt_12 : decode cJ7_putStringAt 12 = .ok (.getfield 22, 3) := dk_180 0 22 (dk_at dksJ7_putStringAt_0 12 rfl rfl)
theorem dJ7_putStringAt_15 : decode cJ7_putStringAt 15 = .ok (.invokevirtual 399, 3) := dk_182 1 143 (dk_at dksJ7_putStringAt_0 15 rfl rfl)
theorem dJ7_putStringAt_18 : decode cJ7_putStringAt 18 = .ok (.return_, 1) := dk_177 (dk_at dksJ7_putStringAt_0 18 rfl rfl)
abbrev cJ7_inflateIfNeededFor : ByteArray := prog_18_method_71_code
def yJ7_inflateIfNeededFor : MethodName := ⟨RJ7, "inflateIfNeededFor", "(Ljava/lang/String;)V"⟩
def dkwJ7_inflateIfNeededFor_0 : List UInt8 := [178, 0, 18, 153, 0, 18, 42, 180, 0, 22, 43, 182, 0, 40, 159, 0, 7, 42, 182, 0, 195, 177]
abbrev dktJ7_inflateIfNeededFor_0 : List UInt8 := dkwJ7_inflateIfNeededFor_0 ++ []
theorem dksJ7_inflateIfNeededFor_0 : cJ7_inflateIfNeededFor.data.toList.drop 0 = dktJ7_inflateIfNeededFor_0 := by decide +kernel
theorem dJ7_inflateIfNeededFor_0 : decode cJ7_inflateIfNeededFor 0 = .ok (.getstatic 18, 3) := dk_178 0 18 (dk_at dksJ7_inflateIfNeededFor_0 0 rfl rfl)
theorem dJ7_inflateIfNeededFor_3 : decode cJ7_inflateIfNeededFor 3 = .ok (.ifCond .eq 18, 3) := dk_153 0 18 (dk_at dksJ7_inflateIfNeededFor_0 3 rfl rfl)
theorem dJ7_inflateIfNeededFor_6 : decode cJ7_inflateIfNeededFor 6 = .ok (.aload_n 0, 1) := dk_42 (dk_at dksJ7_inflateIfNeededFor_0 6 rfl rfl)
theorem dJ7_inflateIfNeededFor_7 : decode cJ7_inflateIfNeededFor 7 = .ok (.getfield 22, 3) := dk_180 0 22 (dk_at dksJ7_inflateIfNeededFor_0 7 rfl rfl)
theorem dJ7_inflateIfNeededFor_10 : decode cJ7_inflateIfNeededFor 10 = .ok (.aload_n 1, 1) := dk_43 (dk_at dksJ7_inflateIfNeededFor_0 10 rfl rfl)
theorem dJ7_inflateIfNeededFor_11 : decode cJ7_inflateIfNeededFor 11 = .ok (.invokevirtual 40, 3) := dk_182 0 40 (dk_at dksJ7_inflateIfNeededFor_0 11 rfl rfl)
theorem dJ7_inflateIfNeededFor_14 : decode cJ7_inflateIfNeededFor 14 = .ok (.if_icmp .eq 7, 3) := dk_159 0 7 (dk_at dksJ7_inflateIfNeededFor_0 14 rfl rfl)
theorem dJ7_inflateIfNeededFor_17 : decode cJ7_inflateIfNeededFor 17 = .ok (.aload_n 0, 1) := dk_42 (dk_at dksJ7_inflateIfNeededFor_0 17 rfl rfl)
theorem dJ7_inflateIfNeededFor_18 : decode cJ7_inflateIfNeededFor 18 = .ok (.invokevirtual 195, 3) := dk_182 0 195 (dk_at dksJ7_inflateIfNeededFor_0 18 rfl rfl)
theorem dJ7_inflateIfNeededFor_21 : decode cJ7_inflateIfNeededFor 21 = .ok (.return_, 1) := dk_177 (dk_at dksJ7_inflateIfNeededFor_0 21 rfl rfl)
abbrev cJ7_inflate : ByteArray := prog_18_method_11_code
def yJ7_inflate : MethodName := ⟨RJ7, "inflate", "()V"⟩
def dkwJ7_inflate_1 : List UInt8 := [42, 180, 0, 79, 184, 0, 125, 42, 43, 181, 0, 15, 42, 4, 181, 0, 22, 177]
abbrev dktJ7_inflate_1 : List UInt8 := dkwJ7_inflate_1 ++ []
def dkwJ7_inflate_0 : List UInt8 := [42, 182, 0, 83, 154, 0, 4, 177, 42, 180, 0, 15, 190, 184, 0, 26, 76, 42, 180, 0, 15, 3, 43, 3]
abbrev dktJ7_inflate_0 : List UInt8 := dkwJ7_inflate_0 ++ dktJ7_inflate_1
theorem dksJ7_inflate_0 : cJ7_inflate.data.toList.drop 0 = dktJ7_inflate_0 := by decide +kernel
theorem dksJ7_inflate_1 : cJ7_inflate.data.toList.drop 24 = dktJ7_inflate_1 := dk_seg dksJ7_inflate_0 24 rfl rfl
theorem dJ7_inflate_0 : decode cJ7_inflate 0 = .ok (.aload_n 0, 1) := dk_42 (dk_at dksJ7_inflate_0 0 rfl rfl)
theorem dJ7_inflate_1 : decode cJ7_inflate 1 = .ok (.invokevirtual 83, 3) := dk_182 0 83 (dk_at dksJ7_inflate_0 1 rfl rfl)
theorem dJ7_inflate_4 : decode cJ7_inflate 4 = .ok (.ifCond .ne 4, 3) := dk_154 0 4 (dk_at dksJ7_inflate_0 4 rfl rfl)
theorem dJ7_inflate_7 : decode cJ7_inflate 7 = .ok (.return_, 1) := dk_177 (dk_at dksJ7_inflate_0 7 rfl rfl)
theorem dJ7_inflate_8 : decode cJ7_inflate 8 = .ok (.aload_n 0, 1) := dk_42 (dk_at dksJ7_inflate_0 8 rfl rfl)
theorem dJ7_inflate_9 : decode cJ7_inflate 9 = .ok (.getfield 15, 3) := dk_180 0 15 (dk_at dksJ7_inflate_0 9 rfl rfl)
theorem dJ7_inflate_12 : decode cJ7_inflate 12 = .ok (.arraylength, 1) := dk_190 (dk_at dksJ7_inflate_0 12 rfl rfl)
theorem dJ7_inflate_13 : decode cJ7_inflate 13 = .ok (.invokestatic 26, 3) := dk_184 0 26 (dk_at dksJ7_inflate_0 13 rfl rfl)
theorem dJ7_inflate_16 : decode cJ7_inflate 16 = .ok (.astore_n 1, 1) := dk_76 (dk_at dksJ7_inflate_0 16 rfl rfl)
theorem dJ7_inflate_17 : decode cJ7_inflate 17 = .ok (.aload_n 0, 1) := dk_42 (dk_at dksJ7_inflate_0 17 rfl rfl)
theorem dJ7_inflate_18 : decode cJ7_inflate 18 = .ok (.getfield 15, 3) := dk_180 0 15 (dk_at dksJ7_inflate_0 18 rfl rfl)
theorem dJ7_inflate_21 : decode cJ7_inflate 21 = .ok (.iconst 0, 1) := dk_3 (dk_at dksJ7_inflate_0 21 rfl rfl)
theorem dJ7_inflate_22 : decode cJ7_inflate 22 = .ok (.aload_n 1, 1) := dk_43 (dk_at dksJ7_inflate_0 22 rfl rfl)
theorem dJ7_inflate_23 : decode cJ7_inflate 23 = .ok (.iconst 0, 1) := dk_3 (dk_at dksJ7_inflate_0 23 rfl rfl)
theorem dJ7_inflate_24 : decode cJ7_inflate 24 = .ok (.aload_n 0, 1) := dk_42 (dk_at dksJ7_inflate_1 0 rfl rfl)
theorem dJ7_inflate_25 : decode cJ7_inflate 25 = .ok (.getfield 79, 3) := dk_180 0 79 (dk_at dksJ7_inflate_1 1 rfl rfl)
theorem dJ7_inflate_28 : decode cJ7_inflate 28 = .ok (.invokestatic 125, 3) := dk_184 0 125 (dk_at dksJ7_inflate_1 4 rfl rfl)
theorem dJ7_inflate_31 : decode cJ7_inflate 31 = .ok (.aload_n 0, 1) := dk_42 (dk_at dksJ7_inflate_1 7 rfl rfl)
theorem dJ7_inflate_32 : decode cJ7_inflate 32 = .ok (.aload_n 1, 1) := dk_43 (dk_at dksJ7_inflate_1 8 rfl rfl)
theorem dJ7_inflate_33 : decode cJ7_inflate 33 = .ok (.putfield 15, 3) := dk_181 0 15 (dk_at dksJ7_inflate_1 9 rfl rfl)
theorem dJ7_inflate_36 : decode cJ7_inflate 36 = .ok (.aload_n 0, 1) := dk_42 (dk_at dksJ7_inflate_1 12 rfl rfl)
theorem dJ7_inflate_37 : decode cJ7_inflate 37 = .ok (.iconst 1, 1) := dk_4 (dk_at dksJ7_inflate_1 13 rfl rfl)
theorem dJ7_inflate_38 : decode cJ7_inflate 38 = .ok (.putfield 22, 3) := dk_181 0 22 (dk_at dksJ7_inflate_1 14 rfl rfl)
theorem dJ7_inflate_41 : decode cJ7_inflate 41 = .ok (.return_, 1) := dk_177 (dk_at dksJ7_inflate_1 17 rfl rfl)
abbrev cJ7_append_2 : ByteArray := prog_18_method_32_code
def yJ7_append_2 : MethodName := ⟨RJ7, "append", "(I)Ljava/lang/AbstractStringBuilder;"⟩
def dkwJ7_append_2_2 : List UInt8 := [42, 29, 181, 0, 79, 42, 176]
abbrev dktJ7_append_2_2 : List UInt8 := dkwJ7_append_2_2 ++ []
def dkwJ7_append_2_1 : List UInt8 := [27, 29, 42, 180, 0, 15, 184, 0, 248, 87, 167, 0, 14, 27, 28, 29, 42, 180, 0, 15, 184, 0, 251, 87]
abbrev dktJ7_append_2_1 : List UInt8 := dkwJ7_append_2_1 ++ dktJ7_append_2_2
def dkwJ7_append_2_0 : List UInt8 := [42, 180, 0, 79, 61, 28, 27, 184, 0, 245, 96, 62, 42, 29, 182, 0, 100, 42, 182, 0, 83, 153, 0, 16]
abbrev dktJ7_append_2_0 : List UInt8 := dkwJ7_append_2_0 ++ dktJ7_append_2_1
theorem dksJ7_append_2_0 : cJ7_append_2.data.toList.drop 0 = dktJ7_append_2_0 := by decide +kernel
theorem dksJ7_append_2_1 : cJ7_append_2.data.toList.drop 24 = dktJ7_append_2_1 := dk_seg dksJ7_append_2_0 24 rfl rfl
theorem dksJ7_append_2_2 : cJ7_append_2.data.toList.drop 48 = dktJ7_append_2_2 := dk_seg dksJ7_append_2_1 24 rfl rfl
theorem dJ7_append_2_0 : decode cJ7_append_2 0 = .ok (.aload_n 0, 1) := dk_42 (dk_at dksJ7_append_2_0 0 rfl rfl)
theorem dJ7_append_2_1 : decode cJ7_append_2 1 = .ok (.getfield 79, 3) := dk_180 0 79 (dk_at dksJ7_append_2_0 1 rfl rfl)
theorem dJ7_append_2_4 : decode cJ7_append_2 4 = .ok (.istore_n 2, 1) := dk_61 (dk_at dksJ7_append_2_0 4 rfl rfl)
theorem dJ7_append_2_5 : decode cJ7_append_2 5 = .ok (.iload_n 2, 1) := dk_28 (dk_at dksJ7_append_2_0 5 rfl rfl)
theorem dJ7_append_2_6 : decode cJ7_append_2 6 = .ok (.iload_n 1, 1) := dk_27 (dk_at dksJ7_append_2_0 6 rfl rfl)
theorem dJ7_append_2_7 : decode cJ7_append_2 7 = .ok (.invokestatic 245, 3) := dk_184 0 245 (dk_at dksJ7_append_2_0 7 rfl rfl)
theorem dJ7_append_2_10 : decode cJ7_append_2 10 = .ok (.iadd, 1) := dk_96 (dk_at dksJ7_append_2_0 10 rfl rfl)
theorem dJ7_append_2_11 : decode cJ7_append_2 11 = .ok (.istore_n 3, 1) := dk_62 (dk_at dksJ7_append_2_0 11 rfl rfl)
theorem dJ7_append_2_12 : decode cJ7_append_2 12 = .ok (.aload_n 0, 1) := dk_42 (dk_at dksJ7_append_2_0 12 rfl rfl)
theorem dJ7_append_2_13 : decode cJ7_append_2 13 = .ok (.iload_n 3, 1) := dk_29 (dk_at dksJ7_append_2_0 13 rfl rfl)
theorem dJ7_append_2_14 : decode cJ7_append_2 14 = .ok (.invokevirtual 100, 3) := dk_182 0 100 (dk_at dksJ7_append_2_0 14 rfl rfl)
theorem dJ7_append_2_17 : decode cJ7_append_2 17 = .ok (.aload_n 0, 1) := dk_42 (dk_at dksJ7_append_2_0 17 rfl rfl)
theorem dJ7_append_2_18 : decode cJ7_append_2 18 = .ok (.invokevirtual 83, 3) := dk_182 0 83 (dk_at dksJ7_append_2_0 18 rfl rfl)
theorem dJ7_append_2_21 : decode cJ7_append_2 21 = .ok (.ifCond .eq 16, 3) := dk_153 0 16 (dk_at dksJ7_append_2_0 21 rfl rfl)
theorem dJ7_append_2_24 : decode cJ7_append_2 24 = .ok (.iload_n 1, 1) := dk_27 (dk_at dksJ7_append_2_1 0 rfl rfl)
theorem dJ7_append_2_25 : decode cJ7_append_2 25 = .ok (.iload_n 3, 1) := dk_29 (dk_at dksJ7_append_2_1 1 rfl rfl)
theorem dJ7_append_2_26 : decode cJ7_append_2 26 = .ok (.aload_n 0, 1) := dk_42 (dk_at dksJ7_append_2_1 2 rfl rfl)
theorem dJ7_append_2_27 : decode cJ7_append_2 27 = .ok (.getfield 15, 3) := dk_180 0 15 (dk_at dksJ7_append_2_1 3 rfl rfl)
theorem dJ7_append_2_30 : decode cJ7_append_2 30 = .ok (.invokestatic 248, 3) := dk_184 0 248 (dk_at dksJ7_append_2_1 6 rfl rfl)
theorem dJ7_append_2_33 : decode cJ7_append_2 33 = .ok (.pop, 1) := dk_87 (dk_at dksJ7_append_2_1 9 rfl rfl)
theorem dJ7_append_2_34 : decode cJ7_append_2 34 = .ok (.goto 14, 3) := dk_167 0 14 (dk_at dksJ7_append_2_1 10 rfl rfl)
theorem dJ7_append_2_37 : decode cJ7_append_2 37 = .ok (.iload_n 1, 1) := dk_27 (dk_at dksJ7_append_2_1 13 rfl rfl)
theorem dJ7_append_2_38 : decode cJ7_append_2 38 = .ok (.iload_n 2, 1) := dk_28 (dk_at dksJ7_append_2_1 14 rfl rfl)
theorem dJ7_append_2_39 : decode cJ7_append_2 39 = .ok (.iload_n 3, 1) := dk_29 (dk_at dksJ7_append_2_1 15 rfl rfl)
theorem dJ7_append_2_40 : decode cJ7_append_2 40 = .ok (.aload_n 0, 1) := dk_42 (dk_at dksJ7_append_2_1 16 rfl rfl)
theorem dJ7_append_2_41 : decode cJ7_append_2 41 = .ok (.getfield 15, 3) := dk_180 0 15 (dk_at dksJ7_append_2_1 17 rfl rfl)
theorem dJ7_append_2_44 : decode cJ7_append_2 44 = .ok (.invokestatic 251, 3) := dk_184 0 251 (dk_at dksJ7_append_2_1 20 rfl rfl)
theorem dJ7_append_2_47 : decode cJ7_append_2 47 = .ok (.pop, 1) := dk_87 (dk_at dksJ7_append_2_1 23 rfl rfl)
theorem dJ7_append_2_48 : decode cJ7_append_2 48 = .ok (.aload_n 0, 1) := dk_42 (dk_at dksJ7_append_2_2 0 rfl rfl)
theorem dJ7_append_2_49 : decode cJ7_append_2 49 = .ok (.iload_n 3, 1) := dk_29 (dk_at dksJ7_append_2_2 1 rfl rfl)
theorem dJ7_append_2_50 : decode cJ7_append_2 50 = .ok (.putfield 79, 3) := dk_181 0 79 (dk_at dksJ7_append_2_2 2 rfl rfl)
theorem dJ7_append_2_53 : decode cJ7_append_2 53 = .ok (.aload_n 0, 1) := dk_42 (dk_at dksJ7_append_2_2 5 rfl rfl)
theorem dJ7_append_2_54 : decode cJ7_append_2 54 = .ok (.areturn, 1) := dk_176 (dk_at dksJ7_append_2_2 6 rfl rfl)
abbrev cJ7_getValue : ByteArray := prog_18_method_64_code
def yJ7_getValue : MethodName := ⟨RJ7, "getValue", "()[B"⟩
theorem dJ7_getValue_0 : decode cJ7_getValue 0 = .ok (.aload_n 0, 1) := by decide +kernel
theorem dJ7_getValue_1 : decode cJ7_getValue 1 = .ok (.getfield 15, 3) := by decide +kernel
theorem dJ7_getValue_4 : decode cJ7_getValue 4 = .ok (.areturn, 1) := by decide +kernel
abbrev cJ7_length : ByteArray := prog_18_method_6_code
def yJ7_length : MethodName := ⟨RJ7, "length", "()I"⟩
theorem dJ7_length_0 : decode cJ7_length 0 = .ok (.aload_n 0, 1) := by decide +kernel
theorem dJ7_length_1 : decode cJ7_length 1 = .ok (.getfield 79, 3) := by decide +kernel
theorem dJ7_length_4 : decode cJ7_length 4 = .ok (.ireturn, 1) := by decide +kernel
abbrev cJ7_append_3 : ByteArray := prog_18_method_31_code
def yJ7_append_3 : MethodName := ⟨RJ7, "append", "(C)Ljava/lang/AbstractStringBuilder;"⟩
def dkwJ7_append_3_3 : List UInt8 := [181, 0, 79, 27, 184, 0, 197, 42, 176]
abbrev dktJ7_append_3_3 : List UInt8 := dkwJ7_append_3_3 ++ []
def dkwJ7_append_3_2 : List UInt8 := [182, 0, 83, 153, 0, 7, 42, 182, 0, 195, 42, 180, 0, 15, 42, 89, 180, 0, 79, 90, 4, 96]
abbrev dktJ7_append_3_2 : List UInt8 := dkwJ7_append_3_2 ++ dktJ7_append_3_3
def dkwJ7_append_3_1 : List UInt8 := [42, 180, 0, 15, 42, 89, 180, 0, 79, 90, 4, 96, 181, 0, 79, 27, 145, 84, 167, 0, 33, 42]
abbrev dktJ7_append_3_1 : List UInt8 := dkwJ7_append_3_1 ++ dktJ7_append_3_2
def dkwJ7_append_3_0 : List UInt8 := [42, 42, 180, 0, 79, 4, 96, 182, 0, 100, 42, 182, 0, 83, 153, 0, 31, 27, 184, 0, 191, 153, 0, 24]
abbrev dktJ7_append_3_0 : List UInt8 := dkwJ7_append_3_0 ++ dktJ7_append_3_1
theorem dksJ7_append_3_0 : cJ7_append_3.data.toList.drop 0 = dktJ7_append_3_0 := by decide +kernel
theorem dksJ7_append_3_1 : cJ7_append_3.data.toList.drop 24 = dktJ7_append_3_1 := dk_seg dksJ7_append_3_0 24 rfl rfl
theorem dksJ7_append_3_2 : cJ7_append_3.data.toList.drop 46 = dktJ7_append_3_2 := dk_seg dksJ7_append_3_1 22 rfl rfl
theorem dksJ7_append_3_3 : cJ7_append_3.data.toList.drop 68 = dktJ7_append_3_3 := dk_seg dksJ7_append_3_2 22 rfl rfl
theorem dJ7_append_3_0 : decode cJ7_append_3 0 = .ok (.aload_n 0, 1) := dk_42 (dk_at dksJ7_append_3_0 0 rfl rfl)
theorem dJ7_append_3_1 : decode cJ7_append_3 1 = .ok (.aload_n 0, 1) := dk_42 (dk_at dksJ7_append_3_0 1 rfl rfl)
theorem dJ7_append_3_2 : decode cJ7_append_3 2 = .ok (.getfield 79, 3) := dk_180 0 79 (dk_at dksJ7_append_3_0 2 rfl rfl)
theorem dJ7_append_3_5 : decode cJ7_append_3 5 = .ok (.iconst 1, 1) := dk_4 (dk_at dksJ7_append_3_0 5 rfl rfl)
theorem dJ7_append_3_6 : decode cJ7_append_3 6 = .ok (.iadd, 1) := dk_96 (dk_at dksJ7_append_3_0 6 rfl rfl)
theorem dJ7_append_3_7 : decode cJ7_append_3 7 = .ok (.invokevirtual 100, 3) := dk_182 0 100 (dk_at dksJ7_append_3_0 7 rfl rfl)
theorem dJ7_append_3_10 : decode cJ7_append_3 10 = .ok (.aload_n 0, 1) := dk_42 (dk_at dksJ7_append_3_0 10 rfl rfl)
theorem dJ7_append_3_11 : decode cJ7_append_3 11 = .ok (.invokevirtual 83, 3) := dk_182 0 83 (dk_at dksJ7_append_3_0 11 rfl rfl)
theorem dJ7_append_3_14 : decode cJ7_append_3 14 = .ok (.ifCond .eq 31, 3) := dk_153 0 31 (dk_at dksJ7_append_3_0 14 rfl rfl)
theorem dJ7_append_3_17 : decode cJ7_append_3 17 = .ok (.iload_n 1, 1) := dk_27 (dk_at dksJ7_append_3_0 17 rfl rfl)
theorem dJ7_append_3_18 : decode cJ7_append_3 18 = .ok (.invokestatic 191, 3) := dk_184 0 191 (dk_at dksJ7_append_3_0 18 rfl rfl)
theorem dJ7_append_3_21 : decode cJ7_append_3 21 = .ok (.ifCond .eq 24, 3) := dk_153 0 24 (dk_at dksJ7_append_3_0 21 rfl rfl)
theorem dJ7_append_3_24 : decode cJ7_append_3 24 = .ok (.aload_n 0, 1) := dk_42 (dk_at dksJ7_append_3_1 0 rfl rfl)
theorem dJ7_append_3_25 : decode cJ7_append_3 25 = .ok (.getfield 15, 3) := dk_180 0 15 (dk_at dksJ7_append_3_1 1 rfl rfl)
theorem dJ7_append_3_28 : decode cJ7_append_3 28 = .ok (.aload_n 0, 1) := dk_42 (dk_at dksJ7_append_3_1 4 rfl rfl)
theorem dJ7_append_3_29 : decode cJ7_append_3 29 = .ok (.dup, 1) := dk_89 (dk_at dksJ7_append_3_1 5 rfl rfl)
theorem dJ7_append_3_30 : decode cJ7_append_3 30 = .ok (.getfield 79, 3) := dk_180 0 79 (dk_at dksJ7_append_3_1 6 rfl rfl)
theorem dJ7_append_3_33 : decode cJ7_append_3 33 = .ok (.dup_x1, 1) := dk_90 (dk_at dksJ7_append_3_1 9 rfl rfl)
theorem dJ7_append_3_34 : decode cJ7_append_3 34 = .ok (.iconst 1, 1) := dk_4 (dk_at dksJ7_append_3_1 10 rfl rfl)
theorem dJ7_append_3_35 : decode cJ7_append_3 35 = .ok (.iadd, 1) := dk_96 (dk_at dksJ7_append_3_1 11 rfl rfl)
theorem dJ7_append_3_36 : decode cJ7_append_3 36 = .ok (.putfield 79, 3) := dk_181 0 79 (dk_at dksJ7_append_3_1 12 rfl rfl)
theorem dJ7_append_3_39 : decode cJ7_append_3 39 = .ok (.iload_n 1, 1) := dk_27 (dk_at dksJ7_append_3_1 15 rfl rfl)
theorem dJ7_append_3_40 : decode cJ7_append_3 40 = .ok (.i2b, 1) := dk_145 (dk_at dksJ7_append_3_1 16 rfl rfl)
theorem dJ7_append_3_41 : decode cJ7_append_3 41 = .ok (.bastore, 1) := dk_84 (dk_at dksJ7_append_3_1 17 rfl rfl)
theorem dJ7_append_3_42 : decode cJ7_append_3 42 = .ok (.goto 33, 3) := dk_167 0 33 (dk_at dksJ7_append_3_1 18 rfl rfl)
theorem dJ7_append_3_45 : decode cJ7_append_3 45 = .ok (.aload_n 0, 1) := dk_42 (dk_at dksJ7_append_3_1 21 rfl rfl)
theorem dJ7_append_3_46 : decode cJ7_append_3 46 = .ok (.invokevirtual 83, 3) := dk_182 0 83 (dk_at dksJ7_append_3_2 0 rfl rfl)
theorem dJ7_append_3_49 : decode cJ7_append_3 49 = .ok (.ifCond .eq 7, 3) := dk_153 0 7 (dk_at dksJ7_append_3_2 3 rfl rfl)
theorem dJ7_append_3_52 : decode cJ7_append_3 52 = .ok (.aload_n 0, 1) := dk_42 (dk_at dksJ7_append_3_2 6 rfl rfl)
theorem dJ7_append_3_53 : decode cJ7_append_3 53 = .ok (.invokevirtual 195, 3) := dk_182 0 195 (dk_at dksJ7_append_3_2 7 rfl rfl)
theorem dJ7_append_3_56 : decode cJ7_append_3 56 = .ok (.aload_n 0, 1) := dk_42 (dk_at dksJ7_append_3_2 10 rfl rfl)
theorem dJ7_append_3_57 : decode cJ7_append_3 57 = .ok (.getfield 15, 3) := dk_180 0 15 (dk_at dksJ7_append_3_2 11 rfl rfl)
theorem dJ7_append_3_60 : decode cJ7_append_3 60 = .ok (.aload_n 0, 1) := dk_42 (dk_at dksJ7_append_3_2 14 rfl rfl)
theorem dJ7_append_3_61 : decode cJ7_append_3 61 = .ok (.dup, 1) := dk_89 (dk_at dksJ7_append_3_2 15 rfl rfl)
theorem dJ7_append_3_62 : decode cJ7_append_3 62 = .ok (.getfield 79, 3) := dk_180 0 79 (dk_at dksJ7_append_3_2 16 rfl rfl)
theorem dJ7_append_3_65 : decode cJ7_append_3 65 = .ok (.dup_x1, 1) := dk_90 (dk_at dksJ7_append_3_2 19 rfl rfl)
theorem dJ7_append_3_66 : decode cJ7_append_3 66 = .ok (.iconst 1, 1) := dk_4 (dk_at dksJ7_append_3_2 20 rfl rfl)
theorem dJ7_append_3_67 : decode cJ7_append_3 67 = .ok (.iadd, 1) := dk_96 (dk_at dksJ7_append_3_2 21 rfl rfl)
theorem dJ7_append_3_68 : decode cJ7_append_3 68 = .ok (.putfield 79, 3) := dk_181 0 79 (dk_at dksJ7_append_3_3 0 rfl rfl)
theorem dJ7_append_3_71 : decode cJ7_append_3 71 = .ok (.iload_n 1, 1) := dk_27 (dk_at dksJ7_append_3_3 3 rfl rfl)
theorem dJ7_append_3_72 : decode cJ7_append_3 72 = .ok (.invokestatic 197, 3) := dk_184 0 197 (dk_at dksJ7_append_3_3 4 rfl rfl)
theorem dJ7_append_3_75 : decode cJ7_append_3 75 = .ok (.aload_n 0, 1) := dk_42 (dk_at dksJ7_append_3_3 7 rfl rfl)
theorem dJ7_append_3_76 : decode cJ7_append_3 76 = .ok (.areturn, 1) := dk_176 (dk_at dksJ7_append_3_3 8 rfl rfl)
theorem q85 : (Jvm.Cond.initialized "java/lang/AbstractStringBuilder") ∈ lw_all := lw_g (lw_at lw_m1 10 rfl) rfl
theorem q190 : (Jvm.Cond.instanceMethod ({ cls := "java/lang/AbstractStringBuilder", name := "<init>", desc := "(I)V" } : Jvm.MethodName)) ∈ lw_all := lw_g (lw_at lw_m1 115 rfl) rfl
theorem q191 : (Jvm.Cond.code ({ cls := "java/lang/AbstractStringBuilder", name := "<init>", desc := "(I)V" } : Jvm.MethodName) prog_18_method_2_code (2 : Nat) (Option.none : Option Jvm.ClassFile.FieldType)) ∈ lw_all := lw_g (lw_at lw_m1 116 rfl) rfl
theorem q192 : (Jvm.Cond.methodLink "java/lang/AbstractStringBuilder" (3 : Nat) ({ cls := "java/lang/Object", name := "<init>", desc := "()V" } : Jvm.MethodName)) ∈ lw_all := lw_g (lw_at lw_m1 117 rfl) rfl
theorem q193 : (Jvm.Cond.fieldLink "java/lang/AbstractStringBuilder" (18 : Nat) "java/lang/String" "COMPACT_STRINGS" "Z") ∈ lw_all := lw_g (lw_at lw_m1 118 rfl) rfl
theorem q195 : (Jvm.Cond.methodLink "java/lang/AbstractStringBuilder" (26 : Nat) ({ cls := "java/lang/StringUTF16", name := "newBytesFor", desc := "(I)[B" } : Jvm.MethodName)) ∈ lw_all := lw_g (lw_at lw_m1 120 rfl) rfl
theorem q202 : (Jvm.Cond.fieldLink "java/lang/AbstractStringBuilder" (15 : Nat) "java/lang/AbstractStringBuilder" "value" "[B") ∈ lw_all := lw_g (lw_at lw_m1 127 rfl) rfl
theorem q203 : (Jvm.Cond.fieldLink "java/lang/AbstractStringBuilder" (22 : Nat) "java/lang/AbstractStringBuilder" "coder" "B") ∈ lw_all := lw_g (lw_at lw_m1 128 rfl) rfl
theorem q205 : (Jvm.Cond.fieldLink "java/lang/AbstractStringBuilder" (79 : Nat) "java/lang/AbstractStringBuilder" "count" "I") ∈ lw_all := lw_g (lw_at lw_m1 130 rfl) rfl
theorem q207 : (Jvm.Cond.soleField "java/lang/AbstractStringBuilder" "value") ∈ lw_all := lw_g (lw_at lw_m1 132 rfl) rfl
theorem q209 : (Jvm.Cond.soleField "java/lang/AbstractStringBuilder" "coder") ∈ lw_all := lw_g (lw_at lw_m1 134 rfl) rfl
theorem q211 : (Jvm.Cond.soleField "java/lang/AbstractStringBuilder" "maybeLatin1") ∈ lw_all := lw_g (lw_at lw_m1 136 rfl) rfl
theorem q213 : (Jvm.Cond.soleField "java/lang/AbstractStringBuilder" "count") ∈ lw_all := lw_g (lw_at lw_m1 138 rfl) rfl
theorem q222 : (Jvm.Cond.instanceMethod ({ cls := "java/lang/AbstractStringBuilder", name := "append", desc := "(Ljava/lang/String;)Ljava/lang/AbstractStringBuilder;" } : Jvm.MethodName)) ∈ lw_all := lw_g (lw_at lw_m1 147 rfl) rfl
theorem q223 : (Jvm.Cond.code ({ cls := "java/lang/AbstractStringBuilder", name := "append", desc := "(Ljava/lang/String;)Ljava/lang/AbstractStringBuilder;" } : Jvm.MethodName) prog_18_method_22_code (3 : Nat) (Option.some (Jvm.ClassFile.FieldType.object "java/lang/AbstractStringBuilder"))) ∈ lw_all := lw_g (lw_at lw_m1 148 rfl) rfl
theorem q224 : (Jvm.Cond.methodLink "java/lang/AbstractStringBuilder" (204 : Nat) ({ cls := "java/lang/AbstractStringBuilder", name := "appendNull", desc := "()Ljava/lang/AbstractStringBuilder;" } : Jvm.MethodName)) ∈ lw_all := lw_g (lw_at lw_m1 149 rfl) rfl
theorem q225 : (Jvm.Cond.privateMethod ({ cls := "java/lang/AbstractStringBuilder", name := "appendNull", desc := "()Ljava/lang/AbstractStringBuilder;" } : Jvm.MethodName)) ∈ lw_tbl := lw_at lw_m1 150 rfl
theorem q226 : (Jvm.Cond.instanceMethod ({ cls := "java/lang/AbstractStringBuilder", name := "appendNull", desc := "()Ljava/lang/AbstractStringBuilder;" } : Jvm.MethodName)) ∈ lw_all := lw_g (lw_at lw_m1 151 rfl) rfl
theorem q227 : (Jvm.Cond.code ({ cls := "java/lang/AbstractStringBuilder", name := "appendNull", desc := "()Ljava/lang/AbstractStringBuilder;" } : Jvm.MethodName) prog_18_method_26_code (3 : Nat) (Option.some (Jvm.ClassFile.FieldType.object "java/lang/AbstractStringBuilder"))) ∈ lw_all := lw_g (lw_at lw_m1 152 rfl) rfl
theorem q228 : (Jvm.Cond.methodLink "java/lang/AbstractStringBuilder" (100 : Nat) ({ cls := "java/lang/AbstractStringBuilder", name := "ensureCapacityInternal", desc := "(I)V" } : Jvm.MethodName)) ∈ lw_all := lw_g (lw_at lw_m1 153 rfl) rfl
theorem q229 : (Jvm.Cond.privateMethod ({ cls := "java/lang/AbstractStringBuilder", name := "ensureCapacityInternal", desc := "(I)V" } : Jvm.MethodName)) ∈ lw_tbl := lw_at lw_m1 154 rfl
theorem q230 : (Jvm.Cond.instanceMethod ({ cls := "java/lang/AbstractStringBuilder", name := "ensureCapacityInternal", desc := "(I)V" } : Jvm.MethodName)) ∈ lw_all := lw_g (lw_at lw_m1 155 rfl) rfl
theorem q231 : (Jvm.Cond.code ({ cls := "java/lang/AbstractStringBuilder", name := "ensureCapacityInternal", desc := "(I)V" } : Jvm.MethodName) prog_18_method_9_code (3 : Nat) (Option.none : Option Jvm.ClassFile.FieldType)) ∈ lw_all := lw_g (lw_at lw_m1 156 rfl) rfl
theorem q232 : (Jvm.Cond.methodLink "java/lang/AbstractStringBuilder" (104 : Nat) ({ cls := "java/lang/AbstractStringBuilder", name := "newCapacity", desc := "(I)I" } : Jvm.MethodName)) ∈ lw_all := lw_g (lw_at lw_m1 157 rfl) rfl
theorem q233 : (Jvm.Cond.privateMethod ({ cls := "java/lang/AbstractStringBuilder", name := "newCapacity", desc := "(I)I" } : Jvm.MethodName)) ∈ lw_tbl := lw_at lw_m1 158 rfl
theorem q234 : (Jvm.Cond.instanceMethod ({ cls := "java/lang/AbstractStringBuilder", name := "newCapacity", desc := "(I)I" } : Jvm.MethodName)) ∈ lw_all := lw_g (lw_at lw_m1 159 rfl) rfl
theorem q235 : (Jvm.Cond.code ({ cls := "java/lang/AbstractStringBuilder", name := "newCapacity", desc := "(I)I" } : Jvm.MethodName) prog_18_method_10_code (6 : Nat) (Option.some Jvm.ClassFile.FieldType.int)) ∈ lw_all := lw_g (lw_at lw_m1 160 rfl) rfl
theorem q236 : (Jvm.Cond.methodLink "java/lang/AbstractStringBuilder" (114 : Nat) ({ cls := "jdk/internal/util/ArraysSupport", name := "newLength", desc := "(III)I" } : Jvm.MethodName)) ∈ lw_all := lw_g (lw_at lw_m1 161 rfl) rfl
theorem q246 : (Jvm.Cond.constant "java/lang/AbstractStringBuilder" (39 : Nat) (2147483647 : Int32)) ∈ lw_all := lw_g (lw_at lw_m1 171 rfl) rfl
theorem q247 : (Jvm.Cond.methodLink "java/lang/AbstractStringBuilder" (108 : Nat) ({ cls := "java/util/Arrays", name := "copyOf", desc := "([BI)[B" } : Jvm.MethodName)) ∈ lw_all := lw_g (lw_at lw_m1 172 rfl) rfl
theorem q263 : (Jvm.Cond.methodLink "java/lang/AbstractStringBuilder" (83 : Nat) ({ cls := "java/lang/AbstractStringBuilder", name := "isLatin1", desc := "()Z" } : Jvm.MethodName)) ∈ lw_all := lw_g (lw_at lw_m1 188 rfl) rfl
theorem q264 : (Jvm.Cond.instanceMethod ({ cls := "java/lang/AbstractStringBuilder", name := "isLatin1", desc := "()Z" } : Jvm.MethodName)) ∈ lw_all := lw_g (lw_at lw_m1 189 rfl) rfl
theorem q265 : (Jvm.Cond.sameMethod "java/lang/AbstractStringBuilder" "java/lang/AbstractStringBuilder" "isLatin1" "()Z") ∈ lw_all := lw_g (lw_at lw_m1 190 rfl) rfl
theorem q267 : (Jvm.Cond.code ({ cls := "java/lang/AbstractStringBuilder", name := "isLatin1", desc := "()Z" } : Jvm.MethodName) prog_18_method_68_code (1 : Nat) (Option.some Jvm.ClassFile.FieldType.boolean)) ∈ lw_all := lw_g (lw_at lw_m1 192 rfl) rfl
theorem q268 : (Jvm.Cond.methodLink "java/lang/AbstractStringBuilder" (226 : Nat) ({ cls := "java/lang/StringUTF16", name := "putCharsAt", desc := "([BICCCC)I" } : Jvm.MethodName)) ∈ lw_all := lw_g (lw_at lw_m1 193 rfl) rfl
theorem q294 : (Jvm.Cond.methodLink "java/lang/AbstractStringBuilder" (32 : Nat) ({ cls := "java/lang/String", name := "length", desc := "()I" } : Jvm.MethodName)) ∈ lw_all := lw_g (lw_at lw_m1 219 rfl) rfl
theorem q303 : (Jvm.Cond.methodLink "java/lang/AbstractStringBuilder" (208 : Nat) ({ cls := "java/lang/AbstractStringBuilder", name := "putStringAt", desc := "(ILjava/lang/String;)V" } : Jvm.MethodName)) ∈ lw_all := lw_g (lw_at lw_m1 228 rfl) rfl
theorem q304 : (Jvm.Cond.privateMethod ({ cls := "java/lang/AbstractStringBuilder", name := "putStringAt", desc := "(ILjava/lang/String;)V" } : Jvm.MethodName)) ∈ lw_tbl := lw_at lw_m1 229 rfl
theorem q305 : (Jvm.Cond.instanceMethod ({ cls := "java/lang/AbstractStringBuilder", name := "putStringAt", desc := "(ILjava/lang/String;)V" } : Jvm.MethodName)) ∈ lw_all := lw_g (lw_at lw_m1 230 rfl) rfl
theorem q306 : (Jvm.Cond.code ({ cls := "java/lang/AbstractStringBuilder", name := "putStringAt", desc := "(ILjava/lang/String;)V" } : Jvm.MethodName) prog_18_method_73_code (3 : Nat) (Option.none : Option Jvm.ClassFile.FieldType)) ∈ lw_all := lw_g (lw_at lw_m1 231 rfl) rfl
theorem q307 : (Jvm.Cond.methodLink "java/lang/AbstractStringBuilder" (397 : Nat) ({ cls := "java/lang/AbstractStringBuilder", name := "inflateIfNeededFor", desc := "(Ljava/lang/String;)V" } : Jvm.MethodName)) ∈ lw_all := lw_g (lw_at lw_m1 232 rfl) rfl
theorem q308 : (Jvm.Cond.privateMethod ({ cls := "java/lang/AbstractStringBuilder", name := "inflateIfNeededFor", desc := "(Ljava/lang/String;)V" } : Jvm.MethodName)) ∈ lw_tbl := lw_at lw_m1 233 rfl
theorem q309 : (Jvm.Cond.instanceMethod ({ cls := "java/lang/AbstractStringBuilder", name := "inflateIfNeededFor", desc := "(Ljava/lang/String;)V" } : Jvm.MethodName)) ∈ lw_all := lw_g (lw_at lw_m1 234 rfl) rfl
theorem q310 : (Jvm.Cond.code ({ cls := "java/lang/AbstractStringBuilder", name := "inflateIfNeededFor", desc := "(Ljava/lang/String;)V" } : Jvm.MethodName) prog_18_method_71_code (2 : Nat) (Option.none : Option Jvm.ClassFile.FieldType)) ∈ lw_all := lw_g (lw_at lw_m1 235 rfl) rfl
theorem q311 : (Jvm.Cond.methodLink "java/lang/AbstractStringBuilder" (40 : Nat) ({ cls := "java/lang/String", name := "coder", desc := "()B" } : Jvm.MethodName)) ∈ lw_all := lw_g (lw_at lw_m1 236 rfl) rfl
theorem q312 : (Jvm.Cond.methodLink "java/lang/AbstractStringBuilder" (195 : Nat) ({ cls := "java/lang/AbstractStringBuilder", name := "inflate", desc := "()V" } : Jvm.MethodName)) ∈ lw_all := lw_g (lw_at lw_m1 237 rfl) rfl
theorem q313 : (Jvm.Cond.privateMethod ({ cls := "java/lang/AbstractStringBuilder", name := "inflate", desc := "()V" } : Jvm.MethodName)) ∈ lw_tbl := lw_at lw_m1 238 rfl
theorem q314 : (Jvm.Cond.instanceMethod ({ cls := "java/lang/AbstractStringBuilder", name := "inflate", desc := "()V" } : Jvm.MethodName)) ∈ lw_all := lw_g (lw_at lw_m1 239 rfl) rfl
theorem q315 : (Jvm.Cond.code ({ cls := "java/lang/AbstractStringBuilder", name := "inflate", desc := "()V" } : Jvm.MethodName) prog_18_method_11_code (2 : Nat) (Option.none : Option Jvm.ClassFile.FieldType)) ∈ lw_all := lw_g (lw_at lw_m2 0 rfl) rfl
theorem q316 : (Jvm.Cond.methodLink "java/lang/AbstractStringBuilder" (125 : Nat) ({ cls := "java/lang/StringLatin1", name := "inflate", desc := "([BI[BII)V" } : Jvm.MethodName)) ∈ lw_all := lw_g (lw_at lw_m2 1 rfl) rfl
theorem q331 : (Jvm.Cond.methodLink "java/lang/AbstractStringBuilder" (399 : Nat) ({ cls := "java/lang/String", name := "getBytes", desc := "([BIB)V" } : Jvm.MethodName)) ∈ lw_all := lw_g (lw_at lw_m2 16 rfl) rfl
theorem q342 : (Jvm.Cond.instanceMethod ({ cls := "java/lang/AbstractStringBuilder", name := "append", desc := "(I)Ljava/lang/AbstractStringBuilder;" } : Jvm.MethodName)) ∈ lw_all := lw_g (lw_at lw_m2 27 rfl) rfl
theorem q343 : (Jvm.Cond.code ({ cls := "java/lang/AbstractStringBuilder", name := "append", desc := "(I)Ljava/lang/AbstractStringBuilder;" } : Jvm.MethodName) prog_18_method_32_code (4 : Nat) (Option.some (Jvm.ClassFile.FieldType.object "java/lang/AbstractStringBuilder"))) ∈ lw_all := lw_g (lw_at lw_m2 28 rfl) rfl
theorem q344 : (Jvm.Cond.methodLink "java/lang/AbstractStringBuilder" (245 : Nat) ({ cls := "java/lang/Integer", name := "stringSize", desc := "(I)I" } : Jvm.MethodName)) ∈ lw_all := lw_g (lw_at lw_m2 29 rfl) rfl
theorem q347 : (Jvm.Cond.methodLink "java/lang/AbstractStringBuilder" (248 : Nat) ({ cls := "java/lang/Integer", name := "getChars", desc := "(II[B)I" } : Jvm.MethodName)) ∈ lw_all := lw_g (lw_at lw_m2 32 rfl) rfl
theorem q354 : (Jvm.Cond.methodLink "java/lang/AbstractStringBuilder" (251 : Nat) ({ cls := "java/lang/StringUTF16", name := "getChars", desc := "(III[B)I" } : Jvm.MethodName)) ∈ lw_all := lw_g (lw_at lw_m2 39 rfl) rfl
theorem q376 : (Jvm.Cond.instanceMethod ({ cls := "java/lang/AbstractStringBuilder", name := "getValue", desc := "()[B" } : Jvm.MethodName)) ∈ lw_all := lw_g (lw_at lw_m2 61 rfl) rfl
theorem q377 : (Jvm.Cond.sameMethod "java/lang/AbstractStringBuilder" "java/lang/AbstractStringBuilder" "getValue" "()[B") ∈ lw_all := lw_g (lw_at lw_m2 62 rfl) rfl
theorem q379 : (Jvm.Cond.code ({ cls := "java/lang/AbstractStringBuilder", name := "getValue", desc := "()[B" } : Jvm.MethodName) prog_18_method_64_code (1 : Nat) (Option.some (Jvm.ClassFile.FieldType.array Jvm.ClassFile.FieldType.byte))) ∈ lw_all := lw_g (lw_at lw_m2 64 rfl) rfl
theorem q381 : (Jvm.Cond.instanceMethod ({ cls := "java/lang/AbstractStringBuilder", name := "length", desc := "()I" } : Jvm.MethodName)) ∈ lw_all := lw_g (lw_at lw_m2 66 rfl) rfl
theorem q382 : (Jvm.Cond.sameMethod "java/lang/AbstractStringBuilder" "java/lang/AbstractStringBuilder" "length" "()I") ∈ lw_all := lw_g (lw_at lw_m2 67 rfl) rfl
theorem q387 : (Jvm.Cond.code ({ cls := "java/lang/AbstractStringBuilder", name := "length", desc := "()I" } : Jvm.MethodName) prog_18_method_6_code (1 : Nat) (Option.some Jvm.ClassFile.FieldType.int)) ∈ lw_all := lw_g (lw_at lw_m2 72 rfl) rfl
theorem q971 : (Jvm.Cond.instanceMethod ({ cls := "java/lang/AbstractStringBuilder", name := "append", desc := "(C)Ljava/lang/AbstractStringBuilder;" } : Jvm.MethodName)) ∈ lw_all := lw_g (lw_at lw_m4 176 rfl) rfl
theorem q972 : (Jvm.Cond.code ({ cls := "java/lang/AbstractStringBuilder", name := "append", desc := "(C)Ljava/lang/AbstractStringBuilder;" } : Jvm.MethodName) prog_18_method_31_code (2 : Nat) (Option.some (Jvm.ClassFile.FieldType.object "java/lang/AbstractStringBuilder"))) ∈ lw_all := lw_g (lw_at lw_m4 177 rfl) rfl
theorem q973 : (Jvm.Cond.methodLink "java/lang/AbstractStringBuilder" (191 : Nat) ({ cls := "java/lang/StringLatin1", name := "canEncode", desc := "(C)Z" } : Jvm.MethodName)) ∈ lw_all := lw_g (lw_at lw_m4 178 rfl) rfl
theorem q976 : (Jvm.Cond.methodLink "java/lang/AbstractStringBuilder" (197 : Nat) ({ cls := "java/lang/StringUTF16", name := "putCharSB", desc := "([BII)V" } : Jvm.MethodName)) ∈ lw_all := lw_g (lw_at lw_m4 181 rfl) rfl
theorem q1856 : (Jvm.Cond.sameMethod "java/lang/AbstractStringBuilder" "java/lang/AbstractStringBuilder" "append" "(Ljava/lang/String;)Ljava/lang/AbstractStringBuilder;") ∈ lw_all := lw_g (lw_at lw_m8 101 rfl) rfl
theorem q1857 : (Jvm.Cond.sameMethod "java/lang/AbstractStringBuilder" "java/lang/AbstractStringBuilder" "appendNull" "()Ljava/lang/AbstractStringBuilder;") ∈ lw_all := lw_g (lw_at lw_m8 102 rfl) rfl
theorem q1858 : (Jvm.Cond.sameMethod "java/lang/AbstractStringBuilder" "java/lang/AbstractStringBuilder" "ensureCapacityInternal" "(I)V") ∈ lw_all := lw_g (lw_at lw_m8 103 rfl) rfl
theorem q1859 : (Jvm.Cond.sameMethod "java/lang/AbstractStringBuilder" "java/lang/AbstractStringBuilder" "newCapacity" "(I)I") ∈ lw_all := lw_g (lw_at lw_m8 104 rfl) rfl
theorem q1860 : (Jvm.Cond.sameMethod "java/lang/AbstractStringBuilder" "java/lang/AbstractStringBuilder" "putStringAt" "(ILjava/lang/String;)V") ∈ lw_all := lw_g (lw_at lw_m8 105 rfl) rfl
theorem q1861 : (Jvm.Cond.sameMethod "java/lang/AbstractStringBuilder" "java/lang/AbstractStringBuilder" "inflateIfNeededFor" "(Ljava/lang/String;)V") ∈ lw_all := lw_g (lw_at lw_m8 106 rfl) rfl
theorem q1862 : (Jvm.Cond.sameMethod "java/lang/AbstractStringBuilder" "java/lang/AbstractStringBuilder" "inflate" "()V") ∈ lw_all := lw_g (lw_at lw_m8 107 rfl) rfl
theorem q1863 : (Jvm.Cond.sameMethod "java/lang/AbstractStringBuilder" "java/lang/AbstractStringBuilder" "append" "(I)Ljava/lang/AbstractStringBuilder;") ∈ lw_all := lw_g (lw_at lw_m8 108 rfl) rfl
theorem q1865 : (Jvm.Cond.sameMethod "java/lang/AbstractStringBuilder" "java/lang/AbstractStringBuilder" "append" "(C)Ljava/lang/AbstractStringBuilder;") ∈ lw_all := lw_g (lw_at lw_m8 110 rfl) rfl
/-! java/lang/StringBuilder -/
set_option maxRecDepth 100000
def RJ8 : String := "java/lang/StringBuilder"
def TJ8 : u_T := fun k => match k with
  | 0 => ("java/lang/AbstractStringBuilder", "value", "[B", false)
  | 1 => ("java/lang/AbstractStringBuilder", "coder", "B", false)
  | 2 => ("java/lang/AbstractStringBuilder", "maybeLatin1", "Z", false)
  | _ => ("java/lang/AbstractStringBuilder", "count", "I", false)
def tyJ8 : Nat → FieldType := fun k => match k with
  | 0 => .array .byte
  | 1 => .byte
  | 2 => .boolean
  | _ => .int
abbrev wsJ80 : List Cond := u_ws RJ8 TJ8 4
theorem nmJ8 : ∀ a, a < 4 → ∀ b, b < 4 → a ≠ b → (TJ8 a).2.1 ≠ (TJ8 b).2.1 := by decide +kernel
theorem tyJ8_ok : ∀ k, k < 4 → parseFieldDescriptor (TJ8 k).2.2.1 = some (tyJ8 k) := by decide +kernel
abbrev cJ8_init : ByteArray := prog_32_method_1_code
def yJ8_init : MethodName := ⟨RJ8, "<init>", "()V"⟩
def dkwJ8_init_0 : List UInt8 := [42, 16, 16, 183, 0, 1, 177]
abbrev dktJ8_init_0 : List UInt8 := dkwJ8_init_0 ++ []
theorem dksJ8_init_0 : cJ8_init.data.toList.drop 0 = dktJ8_init_0 := by decide +kernel
theorem dJ8_init_0 : decode cJ8_init 0 = .ok (.aload_n 0, 1) := dk_42 (dk_at dksJ8_init_0 0 rfl rfl)
theorem dJ8_init_1 : decode cJ8_init 1 = .ok (.bipush 16, 2) := dk_16 16 (dk_at dksJ8_init_0 1 rfl rfl)
theorem dJ8_init_3 : decode cJ8_init 3 = .ok (.invokespecial 1, 3) := dk_183 0 1 (dk_at dksJ8_init_0 3 rfl rfl)
theorem dJ8_init_6 : decode cJ8_init 6 = .ok (.return_, 1) := dk_177 (dk_at dksJ8_init_0 6 rfl rfl)
abbrev cJ8_append : ByteArray := prog_32_method_7_code
def yJ8_append : MethodName := ⟨RJ8, "append", "(Ljava/lang/String;)Ljava/lang/StringBuilder;"⟩
def dkwJ8_append_0 : List UInt8 := [42, 43, 183, 0, 29, 87, 42, 176]
abbrev dktJ8_append_0 : List UInt8 := dkwJ8_append_0 ++ []
theorem dksJ8_append_0 : cJ8_append.data.toList.drop 0 = dktJ8_append_0 := by decide +kernel
theorem dJ8_append_0 : decode cJ8_append 0 = .ok (.aload_n 0, 1) := dk_42 (dk_at dksJ8_append_0 0 rfl rfl)
theorem dJ8_append_1 : decode cJ8_append 1 = .ok (.aload_n 1, 1) := dk_43 (dk_at dksJ8_append_0 1 rfl rfl)
theorem dJ8_append_2 : decode cJ8_append 2 = .ok (.invokespecial 29, 3) := dk_183 0 29 (dk_at dksJ8_append_0 2 rfl rfl)
theorem dJ8_append_5 : decode cJ8_append 5 = .ok (.pop, 1) := dk_87 (dk_at dksJ8_append_0 5 rfl rfl)
theorem dJ8_append_6 : decode cJ8_append 6 = .ok (.aload_n 0, 1) := dk_42 (dk_at dksJ8_append_0 6 rfl rfl)
theorem dJ8_append_7 : decode cJ8_append 7 = .ok (.areturn, 1) := dk_176 (dk_at dksJ8_append_0 7 rfl rfl)
abbrev cJ8_append_2 : ByteArray := prog_32_method_15_code
def yJ8_append_2 : MethodName := ⟨RJ8, "append", "(I)Ljava/lang/StringBuilder;"⟩
def dkwJ8_append_2_0 : List UInt8 := [42, 27, 183, 0, 53, 87, 42, 176]
abbrev dktJ8_append_2_0 : List UInt8 := dkwJ8_append_2_0 ++ []
theorem dksJ8_append_2_0 : cJ8_append_2.data.toList.drop 0 = dktJ8_append_2_0 := by decide +kernel
theorem dJ8_append_2_0 : decode cJ8_append_2 0 = .ok (.aload_n 0, 1) := dk_42 (dk_at dksJ8_append_2_0 0 rfl rfl)
theorem dJ8_append_2_1 : decode cJ8_append_2 1 = .ok (.iload_n 1, 1) := dk_27 (dk_at dksJ8_append_2_0 1 rfl rfl)
theorem dJ8_append_2_2 : decode cJ8_append_2 2 = .ok (.invokespecial 53, 3) := dk_183 0 53 (dk_at dksJ8_append_2_0 2 rfl rfl)
theorem dJ8_append_2_5 : decode cJ8_append_2 5 = .ok (.pop, 1) := dk_87 (dk_at dksJ8_append_2_0 5 rfl rfl)
theorem dJ8_append_2_6 : decode cJ8_append_2 6 = .ok (.aload_n 0, 1) := dk_42 (dk_at dksJ8_append_2_0 6 rfl rfl)
theorem dJ8_append_2_7 : decode cJ8_append_2 7 = .ok (.areturn, 1) := dk_176 (dk_at dksJ8_append_2_0 7 rfl rfl)
abbrev cJ8_toString : ByteArray := prog_32_method_42_code
def yJ8_toString : MethodName := ⟨RJ8, "toString", "()Ljava/lang/String;"⟩
def dkwJ8_toString_0 : List UInt8 := [187, 0, 18, 89, 42, 183, 0, 137, 176]
abbrev dktJ8_toString_0 : List UInt8 := dkwJ8_toString_0 ++ []
theorem dksJ8_toString_0 : cJ8_toString.data.toList.drop 0 = dktJ8_toString_0 := by decide +kernel
theorem dJ8_toString_0 : decode cJ8_toString 0 = .ok (.new 18, 3) := dk_187 0 18 (dk_at dksJ8_toString_0 0 rfl rfl)
theorem dJ8_toString_3 : decode cJ8_toString 3 = .ok (.dup, 1) := dk_89 (dk_at dksJ8_toString_0 3 rfl rfl)
theorem dJ8_toString_4 : decode cJ8_toString 4 = .ok (.aload_n 0, 1) := dk_42 (dk_at dksJ8_toString_0 4 rfl rfl)
theorem dJ8_toString_5 : decode cJ8_toString 5 = .ok (.invokespecial 137, 3) := dk_183 0 137 (dk_at dksJ8_toString_0 5 rfl rfl)
theorem dJ8_toString_8 : decode cJ8_toString 8 = .ok (.areturn, 1) := dk_176 (dk_at dksJ8_toString_0 8 rfl rfl)
abbrev cJ8_length : ByteArray := prog_32_method_93_code
def yJ8_length : MethodName := ⟨RJ8, "length", "()I"⟩
theorem dJ8_length_0 : decode cJ8_length 0 = .ok (.aload_n 0, 1) := by decide +kernel
theorem dJ8_length_1 : decode cJ8_length 1 = .ok (.invokespecial 343, 3) := by decide +kernel
theorem dJ8_length_4 : decode cJ8_length 4 = .ok (.ireturn, 1) := by decide +kernel
abbrev cJ8_init_2 : ByteArray := prog_32_method_2_code
def yJ8_init_2 : MethodName := ⟨RJ8, "<init>", "(I)V"⟩
def dkwJ8_init_2_0 : List UInt8 := [42, 27, 183, 0, 1, 177]
abbrev dktJ8_init_2_0 : List UInt8 := dkwJ8_init_2_0 ++ []
theorem dksJ8_init_2_0 : cJ8_init_2.data.toList.drop 0 = dktJ8_init_2_0 := by decide +kernel
theorem dJ8_init_2_0 : decode cJ8_init_2 0 = .ok (.aload_n 0, 1) := dk_42 (dk_at dksJ8_init_2_0 0 rfl rfl)
theorem dJ8_init_2_1 : decode cJ8_init_2 1 = .ok (.iload_n 1, 1) := dk_27 (dk_at dksJ8_init_2_0 1 rfl rfl)
theorem dJ8_init_2_2 : decode cJ8_init_2 2 = .ok (.invokespecial 1, 3) := dk_183 0 1 (dk_at dksJ8_init_2_0 2 rfl rfl)
theorem dJ8_init_2_5 : decode cJ8_init_2 5 = .ok (.return_, 1) := dk_177 (dk_at dksJ8_init_2_0 5 rfl rfl)
abbrev cJ8_append_3 : ByteArray := prog_32_method_14_code
def yJ8_append_3 : MethodName := ⟨RJ8, "append", "(C)Ljava/lang/StringBuilder;"⟩
def dkwJ8_append_3_0 : List UInt8 := [42, 27, 183, 0, 50, 87, 42, 176]
abbrev dktJ8_append_3_0 : List UInt8 := dkwJ8_append_3_0 ++ []
theorem dksJ8_append_3_0 : cJ8_append_3.data.toList.drop 0 = dktJ8_append_3_0 := by decide +kernel
theorem dJ8_append_3_0 : decode cJ8_append_3 0 = .ok (.aload_n 0, 1) := dk_42 (dk_at dksJ8_append_3_0 0 rfl rfl)
theorem dJ8_append_3_1 : decode cJ8_append_3 1 = .ok (.iload_n 1, 1) := dk_27 (dk_at dksJ8_append_3_0 1 rfl rfl)
theorem dJ8_append_3_2 : decode cJ8_append_3 2 = .ok (.invokespecial 50, 3) := dk_183 0 50 (dk_at dksJ8_append_3_0 2 rfl rfl)
theorem dJ8_append_3_5 : decode cJ8_append_3 5 = .ok (.pop, 1) := dk_87 (dk_at dksJ8_append_3_0 5 rfl rfl)
theorem dJ8_append_3_6 : decode cJ8_append_3 6 = .ok (.aload_n 0, 1) := dk_42 (dk_at dksJ8_append_3_0 6 rfl rfl)
theorem dJ8_append_3_7 : decode cJ8_append_3 7 = .ok (.areturn, 1) := dk_176 (dk_at dksJ8_append_3_0 7 rfl rfl)
theorem q86 : (Jvm.Cond.initialized "java/lang/StringBuilder") ∈ lw_all := lw_g (lw_at lw_m1 11 rfl) rfl
theorem q185 : (Jvm.Cond.instantiable "java/lang/StringBuilder" (4 : Nat)) ∈ lw_all := lw_g (lw_at lw_m1 110 rfl) rfl
theorem q187 : (Jvm.Cond.instanceMethod ({ cls := "java/lang/StringBuilder", name := "<init>", desc := "()V" } : Jvm.MethodName)) ∈ lw_all := lw_g (lw_at lw_m1 112 rfl) rfl
theorem q188 : (Jvm.Cond.code ({ cls := "java/lang/StringBuilder", name := "<init>", desc := "()V" } : Jvm.MethodName) prog_32_method_1_code (1 : Nat) (Option.none : Option Jvm.ClassFile.FieldType)) ∈ lw_all := lw_g (lw_at lw_m1 113 rfl) rfl
theorem q189 : (Jvm.Cond.methodLink "java/lang/StringBuilder" (1 : Nat) ({ cls := "java/lang/AbstractStringBuilder", name := "<init>", desc := "(I)V" } : Jvm.MethodName)) ∈ lw_all := lw_g (lw_at lw_m1 114 rfl) rfl
theorem q206 : (Jvm.Cond.lays "java/lang/StringBuilder" "java/lang/AbstractStringBuilder" "value" "[B") ∈ lw_all := lw_g (lw_at lw_m1 131 rfl) rfl
theorem q208 : (Jvm.Cond.lays "java/lang/StringBuilder" "java/lang/AbstractStringBuilder" "coder" "B") ∈ lw_all := lw_g (lw_at lw_m1 133 rfl) rfl
theorem q210 : (Jvm.Cond.lays "java/lang/StringBuilder" "java/lang/AbstractStringBuilder" "maybeLatin1" "Z") ∈ lw_all := lw_g (lw_at lw_m1 135 rfl) rfl
theorem q212 : (Jvm.Cond.lays "java/lang/StringBuilder" "java/lang/AbstractStringBuilder" "count" "I") ∈ lw_all := lw_g (lw_at lw_m1 137 rfl) rfl
theorem q214 : (Jvm.Cond.superclass "java/lang/StringBuilder" "java/lang/AbstractStringBuilder") ∈ lw_all := lw_g (lw_at lw_m1 139 rfl) rfl
theorem q218 : (Jvm.Cond.instanceMethod ({ cls := "java/lang/StringBuilder", name := "append", desc := "(Ljava/lang/String;)Ljava/lang/StringBuilder;" } : Jvm.MethodName)) ∈ lw_all := lw_g (lw_at lw_m1 143 rfl) rfl
theorem q219 : (Jvm.Cond.selects "java/lang/StringBuilder" ({ cls := "java/lang/StringBuilder", name := "append", desc := "(Ljava/lang/String;)Ljava/lang/StringBuilder;" } : Jvm.MethodName) ({ cls := "java/lang/StringBuilder", name := "append", desc := "(Ljava/lang/String;)Ljava/lang/StringBuilder;" } : Jvm.MethodName)) ∈ lw_all := lw_g (lw_at lw_m1 144 rfl) rfl
theorem q220 : (Jvm.Cond.code ({ cls := "java/lang/StringBuilder", name := "append", desc := "(Ljava/lang/String;)Ljava/lang/StringBuilder;" } : Jvm.MethodName) prog_32_method_7_code (2 : Nat) (Option.some (Jvm.ClassFile.FieldType.object "java/lang/StringBuilder"))) ∈ lw_all := lw_g (lw_at lw_m1 145 rfl) rfl
theorem q221 : (Jvm.Cond.methodLink "java/lang/StringBuilder" (29 : Nat) ({ cls := "java/lang/AbstractStringBuilder", name := "append", desc := "(Ljava/lang/String;)Ljava/lang/AbstractStringBuilder;" } : Jvm.MethodName)) ∈ lw_all := lw_g (lw_at lw_m1 146 rfl) rfl
theorem q266 : (Jvm.Cond.selects "java/lang/StringBuilder" ({ cls := "java/lang/AbstractStringBuilder", name := "isLatin1", desc := "()Z" } : Jvm.MethodName) ({ cls := "java/lang/AbstractStringBuilder", name := "isLatin1", desc := "()Z" } : Jvm.MethodName)) ∈ lw_all := lw_g (lw_at lw_m1 191 rfl) rfl
theorem q338 : (Jvm.Cond.instanceMethod ({ cls := "java/lang/StringBuilder", name := "append", desc := "(I)Ljava/lang/StringBuilder;" } : Jvm.MethodName)) ∈ lw_all := lw_g (lw_at lw_m2 23 rfl) rfl
theorem q339 : (Jvm.Cond.selects "java/lang/StringBuilder" ({ cls := "java/lang/StringBuilder", name := "append", desc := "(I)Ljava/lang/StringBuilder;" } : Jvm.MethodName) ({ cls := "java/lang/StringBuilder", name := "append", desc := "(I)Ljava/lang/StringBuilder;" } : Jvm.MethodName)) ∈ lw_all := lw_g (lw_at lw_m2 24 rfl) rfl
theorem q340 : (Jvm.Cond.code ({ cls := "java/lang/StringBuilder", name := "append", desc := "(I)Ljava/lang/StringBuilder;" } : Jvm.MethodName) prog_32_method_15_code (2 : Nat) (Option.some (Jvm.ClassFile.FieldType.object "java/lang/StringBuilder"))) ∈ lw_all := lw_g (lw_at lw_m2 25 rfl) rfl
theorem q341 : (Jvm.Cond.methodLink "java/lang/StringBuilder" (53 : Nat) ({ cls := "java/lang/AbstractStringBuilder", name := "append", desc := "(I)Ljava/lang/AbstractStringBuilder;" } : Jvm.MethodName)) ∈ lw_all := lw_g (lw_at lw_m2 26 rfl) rfl
theorem q363 : (Jvm.Cond.instanceMethod ({ cls := "java/lang/StringBuilder", name := "toString", desc := "()Ljava/lang/String;" } : Jvm.MethodName)) ∈ lw_all := lw_g (lw_at lw_m2 48 rfl) rfl
theorem q364 : (Jvm.Cond.selects "java/lang/StringBuilder" ({ cls := "java/lang/StringBuilder", name := "toString", desc := "()Ljava/lang/String;" } : Jvm.MethodName) ({ cls := "java/lang/StringBuilder", name := "toString", desc := "()Ljava/lang/String;" } : Jvm.MethodName)) ∈ lw_all := lw_g (lw_at lw_m2 49 rfl) rfl
theorem q365 : (Jvm.Cond.code ({ cls := "java/lang/StringBuilder", name := "toString", desc := "()Ljava/lang/String;" } : Jvm.MethodName) prog_32_method_42_code (1 : Nat) (Option.some (Jvm.ClassFile.FieldType.object "java/lang/String"))) ∈ lw_all := lw_g (lw_at lw_m2 50 rfl) rfl
theorem q366 : (Jvm.Cond.classLink "java/lang/StringBuilder" (18 : Nat) "java/lang/String") ∈ lw_all := lw_g (lw_at lw_m2 51 rfl) rfl
theorem q368 : (Jvm.Cond.methodLink "java/lang/StringBuilder" (137 : Nat) ({ cls := "java/lang/String", name := "<init>", desc := "(Ljava/lang/StringBuilder;)V" } : Jvm.MethodName)) ∈ lw_all := lw_g (lw_at lw_m2 53 rfl) rfl
theorem q378 : (Jvm.Cond.selects "java/lang/StringBuilder" ({ cls := "java/lang/AbstractStringBuilder", name := "getValue", desc := "()[B" } : Jvm.MethodName) ({ cls := "java/lang/AbstractStringBuilder", name := "getValue", desc := "()[B" } : Jvm.MethodName)) ∈ lw_all := lw_g (lw_at lw_m2 63 rfl) rfl
theorem q383 : (Jvm.Cond.selects "java/lang/StringBuilder" ({ cls := "java/lang/AbstractStringBuilder", name := "length", desc := "()I" } : Jvm.MethodName) ({ cls := "java/lang/StringBuilder", name := "length", desc := "()I" } : Jvm.MethodName)) ∈ lw_all := lw_g (lw_at lw_m2 68 rfl) rfl
theorem q384 : (Jvm.Cond.instanceMethod ({ cls := "java/lang/StringBuilder", name := "length", desc := "()I" } : Jvm.MethodName)) ∈ lw_all := lw_g (lw_at lw_m2 69 rfl) rfl
theorem q385 : (Jvm.Cond.code ({ cls := "java/lang/StringBuilder", name := "length", desc := "()I" } : Jvm.MethodName) prog_32_method_93_code (1 : Nat) (Option.some Jvm.ClassFile.FieldType.int)) ∈ lw_all := lw_g (lw_at lw_m2 70 rfl) rfl
theorem q386 : (Jvm.Cond.methodLink "java/lang/StringBuilder" (343 : Nat) ({ cls := "java/lang/AbstractStringBuilder", name := "length", desc := "()I" } : Jvm.MethodName)) ∈ lw_all := lw_g (lw_at lw_m2 71 rfl) rfl
theorem q748 : (Jvm.Cond.selects "java/lang/StringBuilder" ({ cls := "java/lang/Object", name := "getClass", desc := "()Ljava/lang/Class;" } : Jvm.MethodName) ({ cls := "java/lang/Object", name := "getClass", desc := "()Ljava/lang/Class;" } : Jvm.MethodName)) ∈ lw_all := lw_g (lw_at lw_m3 193 rfl) rfl
theorem q963 : (Jvm.Cond.instanceMethod ({ cls := "java/lang/StringBuilder", name := "<init>", desc := "(I)V" } : Jvm.MethodName)) ∈ lw_all := lw_g (lw_at lw_m4 168 rfl) rfl
theorem q964 : (Jvm.Cond.code ({ cls := "java/lang/StringBuilder", name := "<init>", desc := "(I)V" } : Jvm.MethodName) prog_32_method_2_code (2 : Nat) (Option.none : Option Jvm.ClassFile.FieldType)) ∈ lw_all := lw_g (lw_at lw_m4 169 rfl) rfl
theorem q967 : (Jvm.Cond.instanceMethod ({ cls := "java/lang/StringBuilder", name := "append", desc := "(C)Ljava/lang/StringBuilder;" } : Jvm.MethodName)) ∈ lw_all := lw_g (lw_at lw_m4 172 rfl) rfl
theorem q968 : (Jvm.Cond.selects "java/lang/StringBuilder" ({ cls := "java/lang/StringBuilder", name := "append", desc := "(C)Ljava/lang/StringBuilder;" } : Jvm.MethodName) ({ cls := "java/lang/StringBuilder", name := "append", desc := "(C)Ljava/lang/StringBuilder;" } : Jvm.MethodName)) ∈ lw_all := lw_g (lw_at lw_m4 173 rfl) rfl
theorem q969 : (Jvm.Cond.code ({ cls := "java/lang/StringBuilder", name := "append", desc := "(C)Ljava/lang/StringBuilder;" } : Jvm.MethodName) prog_32_method_14_code (2 : Nat) (Option.some (Jvm.ClassFile.FieldType.object "java/lang/StringBuilder"))) ∈ lw_all := lw_g (lw_at lw_m4 174 rfl) rfl
theorem q970 : (Jvm.Cond.methodLink "java/lang/StringBuilder" (50 : Nat) ({ cls := "java/lang/AbstractStringBuilder", name := "append", desc := "(C)Ljava/lang/AbstractStringBuilder;" } : Jvm.MethodName)) ∈ lw_all := lw_g (lw_at lw_m4 175 rfl) rfl
theorem q1864 : (Jvm.Cond.selects "java/lang/StringBuilder" ({ cls := "java/lang/StringBuilder", name := "length", desc := "()I" } : Jvm.MethodName) ({ cls := "java/lang/StringBuilder", name := "length", desc := "()I" } : Jvm.MethodName)) ∈ lw_all := lw_g (lw_at lw_m8 109 rfl) rfl
theorem q1878 : (Jvm.Cond.castable "java/lang/StringBuilder" "java/lang/Object") ∈ lw_tbl := lw_at lw_m8 123 rfl
theorem in_J8 : ∀ w ∈ wsJ80, w ∈ lw_all := lw_in wsJ80 [206, 208, 210, 212] (by decide +kernel) (by decide +kernel)
/-! java/lang/String -/
set_option maxRecDepth 100000
def RJ9 : String := "java/lang/String"
def TJ9 : u_T := fun k => match k with
  | 0 => ("java/lang/String", "value", "[B", true)
  | 1 => ("java/lang/String", "coder", "B", true)
  | 2 => ("java/lang/String", "hash", "I", false)
  | _ => ("java/lang/String", "hashIsZero", "Z", false)
def tyJ9 : Nat → FieldType := fun k => match k with
  | 0 => .array .byte
  | 1 => .byte
  | 2 => .int
  | _ => .boolean
abbrev wsJ90 : List Cond := u_ws RJ9 TJ9 4
theorem nmJ9 : ∀ a, a < 4 → ∀ b, b < 4 → a ≠ b → (TJ9 a).2.1 ≠ (TJ9 b).2.1 := by decide +kernel
theorem tyJ9_ok : ∀ k, k < 4 → parseFieldDescriptor (TJ9 k).2.2.1 = some (tyJ9 k) := by decide +kernel
abbrev cJ9_checkBoundsBeginEnd : ByteArray := prog_31_method_158_code
def yJ9_checkBoundsBeginEnd : MethodName := ⟨RJ9, "checkBoundsBeginEnd", "(III)V"⟩
def dkwJ9_checkBoundsBeginEnd_0 : List UInt8 := [26, 27, 28, 178, 4, 29, 184, 4, 38, 87, 177]
abbrev dktJ9_checkBoundsBeginEnd_0 : List UInt8 := dkwJ9_checkBoundsBeginEnd_0 ++ []
theorem dksJ9_checkBoundsBeginEnd_0 : cJ9_checkBoundsBeginEnd.data.toList.drop 0 = dktJ9_checkBoundsBeginEnd_0 := by decide +kernel
theorem dJ9_checkBoundsBeginEnd_0 : decode cJ9_checkBoundsBeginEnd 0 = .ok (.iload_n 0, 1) := dk_26 (dk_at dksJ9_checkBoundsBeginEnd_0 0 rfl rfl)
theorem dJ9_checkBoundsBeginEnd_1 : decode cJ9_checkBoundsBeginEnd 1 = .ok (.iload_n 1, 1) := dk_27 (dk_at dksJ9_checkBoundsBeginEnd_0 1 rfl rfl)
theorem dJ9_checkBoundsBeginEnd_2 : decode cJ9_checkBoundsBeginEnd 2 = .ok (.iload_n 2, 1) := dk_28 (dk_at dksJ9_checkBoundsBeginEnd_0 2 rfl rfl)
theorem dJ9_checkBoundsBeginEnd_3 : decode cJ9_checkBoundsBeginEnd 3 = .ok (.getstatic 1053, 3) := dk_178 4 29 (dk_at dksJ9_checkBoundsBeginEnd_0 3 rfl rfl)
theorem dJ9_checkBoundsBeginEnd_6 : decode cJ9_checkBoundsBeginEnd 6 = .ok (.invokestatic 1062, 3) := dk_184 4 38 (dk_at dksJ9_checkBoundsBeginEnd_0 6 rfl rfl)
theorem dJ9_checkBoundsBeginEnd_9 : decode cJ9_checkBoundsBeginEnd 9 = .ok (.pop, 1) := dk_87 (dk_at dksJ9_checkBoundsBeginEnd_0 9 rfl rfl)
theorem dJ9_checkBoundsBeginEnd_10 : decode cJ9_checkBoundsBeginEnd 10 = .ok (.return_, 1) := dk_177 (dk_at dksJ9_checkBoundsBeginEnd_0 10 rfl rfl)
abbrev cJ9_length : ByteArray := prog_31_method_54_code
def yJ9_length : MethodName := ⟨RJ9, "length", "()I"⟩
def dkwJ9_length_0 : List UInt8 := [42, 180, 0, 9, 190, 42, 182, 1, 79, 122, 172]
abbrev dktJ9_length_0 : List UInt8 := dkwJ9_length_0 ++ []
theorem dksJ9_length_0 : cJ9_length.data.toList.drop 0 = dktJ9_length_0 := by decide +kernel
theorem dJ9_length_0 : decode cJ9_length 0 = .ok (.aload_n 0, 1) := dk_42 (dk_at dksJ9_length_0 0 rfl rfl)
theorem dJ9_length_1 : decode cJ9_length 1 = .ok (.getfield 9, 3) := dk_180 0 9 (dk_at dksJ9_length_0 1 rfl rfl)
theorem dJ9_length_4 : decode cJ9_length 4 = .ok (.arraylength, 1) := dk_190 (dk_at dksJ9_length_0 4 rfl rfl)
theorem dJ9_length_5 : decode cJ9_length 5 = .ok (.aload_n 0, 1) := dk_42 (dk_at dksJ9_length_0 5 rfl rfl)
theorem dJ9_length_6 : decode cJ9_length 6 = .ok (.invokevirtual 335, 3) := dk_182 1 79 (dk_at dksJ9_length_0 6 rfl rfl)
theorem dJ9_length_9 : decode cJ9_length 9 = .ok (.ishr, 1) := dk_122 (dk_at dksJ9_length_0 9 rfl rfl)
theorem dJ9_length_10 : decode cJ9_length 10 = .ok (.ireturn, 1) := dk_172 (dk_at dksJ9_length_0 10 rfl rfl)
abbrev cJ9_coder : ByteArray := prog_31_method_152_code
def yJ9_coder : MethodName := ⟨RJ9, "coder", "()B"⟩
def dkwJ9_coder_0 : List UInt8 := [178, 0, 38, 153, 0, 10, 42, 180, 0, 15, 167, 0, 4, 4, 172]
abbrev dktJ9_coder_0 : List UInt8 := dkwJ9_coder_0 ++ []
theorem dksJ9_coder_0 : cJ9_coder.data.toList.drop 0 = dktJ9_coder_0 := by decide +kernel
theorem dJ9_coder_0 : decode cJ9_coder 0 = .ok (.getstatic 38, 3) := dk_178 0 38 (dk_at dksJ9_coder_0 0 rfl rfl)
theorem dJ9_coder_3 : decode cJ9_coder 3 = .ok (.ifCond .eq 10, 3) := dk_153 0 10 (dk_at dksJ9_coder_0 3 rfl rfl)
theorem dJ9_coder_6 : decode cJ9_coder 6 = .ok (.aload_n 0, 1) := dk_42 (dk_at dksJ9_coder_0 6 rfl rfl)
theorem dJ9_coder_7 : decode cJ9_coder 7 = .ok (.getfield 15, 3) := dk_180 0 15 (dk_at dksJ9_coder_0 7 rfl rfl)
theorem dJ9_coder_10 : decode cJ9_coder 10 = .ok (.goto 4, 3) := dk_167 0 4 (dk_at dksJ9_coder_0 10 rfl rfl)
theorem dJ9_coder_13 : decode cJ9_coder 13 = .ok (.iconst 1, 1) := dk_4 (dk_at dksJ9_coder_0 13 rfl rfl)
theorem dJ9_coder_14 : decode cJ9_coder 14 = .ok (.ireturn, 1) := dk_172 (dk_at dksJ9_coder_0 14 rfl rfl)
abbrev cJ9_checkBoundsOffCount : ByteArray := prog_31_method_157_code
def yJ9_checkBoundsOffCount : MethodName := ⟨RJ9, "checkBoundsOffCount", "(III)I"⟩
def dkwJ9_checkBoundsOffCount_0 : List UInt8 := [26, 27, 28, 178, 4, 29, 184, 4, 41, 172]
abbrev dktJ9_checkBoundsOffCount_0 : List UInt8 := dkwJ9_checkBoundsOffCount_0 ++ []
theorem dksJ9_checkBoundsOffCount_0 : cJ9_checkBoundsOffCount.data.toList.drop 0 = dktJ9_checkBoundsOffCount_0 := by decide +kernel
theorem dJ9_checkBoundsOffCount_0 : decode cJ9_checkBoundsOffCount 0 = .ok (.iload_n 0, 1) := dk_26 (dk_at dksJ9_checkBoundsOffCount_0 0 rfl rfl)
theorem dJ9_checkBoundsOffCount_1 : decode cJ9_checkBoundsOffCount 1 = .ok (.iload_n 1, 1) := dk_27 (dk_at dksJ9_checkBoundsOffCount_0 1 rfl rfl)
theorem dJ9_checkBoundsOffCount_2 : decode cJ9_checkBoundsOffCount 2 = .ok (.iload_n 2, 1) := dk_28 (dk_at dksJ9_checkBoundsOffCount_0 2 rfl rfl)
theorem dJ9_checkBoundsOffCount_3 : decode cJ9_checkBoundsOffCount 3 = .ok (.getstatic 1053, 3) := dk_178 4 29 (dk_at dksJ9_checkBoundsOffCount_0 3 rfl rfl)
theorem dJ9_checkBoundsOffCount_6 : decode cJ9_checkBoundsOffCount 6 = .ok (.invokestatic 1065, 3) := dk_184 4 41 (dk_at dksJ9_checkBoundsOffCount_0 6 rfl rfl)
theorem dJ9_checkBoundsOffCount_9 : decode cJ9_checkBoundsOffCount 9 = .ok (.ireturn, 1) := dk_172 (dk_at dksJ9_checkBoundsOffCount_0 9 rfl rfl)
abbrev cJ9_getBytes : ByteArray := prog_31_method_147_code
def yJ9_getBytes : MethodName := ⟨RJ9, "getBytes", "([BIB)V"⟩
def dkwJ9_getBytes_1 : List UInt8 := [184, 0, 212, 167, 0, 18, 42, 180, 0, 9, 3, 43, 28, 42, 180, 0, 9, 190, 184, 0, 106, 177]
abbrev dktJ9_getBytes_1 : List UInt8 := dkwJ9_getBytes_1 ++ []
def dkwJ9_getBytes_0 : List UInt8 := [42, 182, 1, 79, 29, 160, 0, 23, 42, 180, 0, 9, 3, 43, 28, 29, 120, 42, 180, 0, 9, 190]
abbrev dktJ9_getBytes_0 : List UInt8 := dkwJ9_getBytes_0 ++ dktJ9_getBytes_1
theorem dksJ9_getBytes_0 : cJ9_getBytes.data.toList.drop 0 = dktJ9_getBytes_0 := by decide +kernel
theorem dksJ9_getBytes_1 : cJ9_getBytes.data.toList.drop 22 = dktJ9_getBytes_1 := dk_seg dksJ9_getBytes_0 22 rfl rfl
theorem dJ9_getBytes_0 : decode cJ9_getBytes 0 = .ok (.aload_n 0, 1) := dk_42 (dk_at dksJ9_getBytes_0 0 rfl rfl)
theorem dJ9_getBytes_1 : decode cJ9_getBytes 1 = .ok (.invokevirtual 335, 3) := dk_182 1 79 (dk_at dksJ9_getBytes_0 1 rfl rfl)
theorem dJ9_getBytes_4 : decode cJ9_getBytes 4 = .ok (.iload_n 3, 1) := dk_29 (dk_at dksJ9_getBytes_0 4 rfl rfl)
theorem dJ9_getBytes_5 : decode cJ9_getBytes 5 = .ok (.if_icmp .ne 23, 3) := dk_160 0 23 (dk_at dksJ9_getBytes_0 5 rfl rfl)
theorem dJ9_getBytes_8 : decode cJ9_getBytes 8 = .ok (.aload_n 0, 1) := dk_42 (dk_at dksJ9_getBytes_0 8 rfl rfl)
theorem dJ9_getBytes_9 : decode cJ9_getBytes 9 = .ok (.getfield 9, 3) := dk_180 0 9 (dk_at dksJ9_getBytes_0 9 rfl rfl)
theorem dJ9_getBytes_12 : decode cJ9_getBytes 12 = .ok (.iconst 0, 1) := dk_3 (dk_at dksJ9_getBytes_0 12 rfl rfl)
theorem dJ9_getBytes_13 : decode cJ9_getBytes 13 = .ok (.aload_n 1, 1) := dk_43 (dk_at dksJ9_getBytes_0 13 rfl rfl)
theorem dJ9_getBytes_14 : decode cJ9_getBytes 14 = .ok (.iload_n 2, 1) := dk_28 (dk_at dksJ9_getBytes_0 14 rfl rfl)
theorem dJ9_getBytes_15 : decode cJ9_getBytes 15 = .ok (.iload_n 3, 1) := dk_29 (dk_at dksJ9_getBytes_0 15 rfl rfl)
theorem dJ9_getBytes_16 : decode cJ9_getBytes 16 = .ok (.ishl, 1) := dk_120 (dk_at dksJ9_getBytes_0 16 rfl rfl)
theorem dJ9_getBytes_17 : decode cJ9_getBytes 17 = .ok (.aload_n 0, 1) := dk_42 (dk_at dksJ9_getBytes_0 17 rfl rfl)
theorem dJ9_getBytes_18 : decode cJ9_getBytes 18 = .ok (.getfield 9, 3) := dk_180 0 9 (dk_at dksJ9_getBytes_0 18 rfl rfl)
theorem dJ9_getBytes_21 : decode cJ9_getBytes 21 = .ok (.arraylength, 1) := dk_190 (dk_at dksJ9_getBytes_0 21 rfl rfl)
theorem dJ9_getBytes_22 : decode cJ9_getBytes 22 = .ok (.invokestatic 212, 3) := dk_184 0 212 (dk_at dksJ9_getBytes_1 0 rfl rfl)
theorem dJ9_getBytes_25 : decode cJ9_getBytes 25 = .ok (.goto 18, 3) := dk_167 0 18 (dk_at dksJ9_getBytes_1 3 rfl rfl)
theorem dJ9_getBytes_28 : decode cJ9_getBytes 28 = .ok (.aload_n 0, 1) := dk_42 (dk_at dksJ9_getBytes_1 6 rfl rfl)
theorem dJ9_getBytes_29 : decode cJ9_getBytes 29 = .ok (.getfield 9, 3) := dk_180 0 9 (dk_at dksJ9_getBytes_1 7 rfl rfl)
theorem dJ9_getBytes_32 : decode cJ9_getBytes 32 = .ok (.iconst 0, 1) := dk_3 (dk_at dksJ9_getBytes_1 10 rfl rfl)
theorem dJ9_getBytes_33 : decode cJ9_getBytes 33 = .ok (.aload_n 1, 1) := dk_43 (dk_at dksJ9_getBytes_1 11 rfl rfl)
theorem dJ9_getBytes_34 : decode cJ9_getBytes 34 = .ok (.iload_n 2, 1) := dk_28 (dk_at dksJ9_getBytes_1 12 rfl rfl)
theorem dJ9_getBytes_35 : decode cJ9_getBytes 35 = .ok (.aload_n 0, 1) := dk_42 (dk_at dksJ9_getBytes_1 13 rfl rfl)
theorem dJ9_getBytes_36 : decode cJ9_getBytes 36 = .ok (.getfield 9, 3) := dk_180 0 9 (dk_at dksJ9_getBytes_1 14 rfl rfl)
theorem dJ9_getBytes_39 : decode cJ9_getBytes 39 = .ok (.arraylength, 1) := dk_190 (dk_at dksJ9_getBytes_1 17 rfl rfl)
theorem dJ9_getBytes_40 : decode cJ9_getBytes 40 = .ok (.invokestatic 106, 3) := dk_184 0 106 (dk_at dksJ9_getBytes_1 18 rfl rfl)
theorem dJ9_getBytes_43 : decode cJ9_getBytes 43 = .ok (.return_, 1) := dk_177 (dk_at dksJ9_getBytes_1 21 rfl rfl)
abbrev cJ9_init : ByteArray := prog_31_method_53_code
def yJ9_init : MethodName := ⟨RJ9, "<init>", "(Ljava/lang/StringBuilder;)V"⟩
def dkwJ9_init_0 : List UInt8 := [42, 43, 1, 183, 1, 233, 177]
abbrev dktJ9_init_0 : List UInt8 := dkwJ9_init_0 ++ []
theorem dksJ9_init_0 : cJ9_init.data.toList.drop 0 = dktJ9_init_0 := by decide +kernel
theorem dJ9_init_0 : decode cJ9_init 0 = .ok (.aload_n 0, 1) := dk_42 (dk_at dksJ9_init_0 0 rfl rfl)
theorem dJ9_init_1 : decode cJ9_init 1 = .ok (.aload_n 1, 1) := dk_43 (dk_at dksJ9_init_0 1 rfl rfl)
theorem dJ9_init_2 : decode cJ9_init 2 = .ok (.aconst_null, 1) := dk_1 (dk_at dksJ9_init_0 2 rfl rfl)
theorem dJ9_init_3 : decode cJ9_init 3 = .ok (.invokespecial 489, 3) := dk_183 1 233 (dk_at dksJ9_init_0 3 rfl rfl)
theorem dJ9_init_6 : decode cJ9_init 6 = .ok (.return_, 1) := dk_177 (dk_at dksJ9_init_0 6 rfl rfl)
abbrev cJ9_init_2 : ByteArray := prog_31_method_150_code
def yJ9_init_2 : MethodName := ⟨RJ9, "<init>", "(Ljava/lang/AbstractStringBuilder;Ljava/lang/Void;)V"⟩
def dkwJ9_init_2_4 : List UInt8 := [181, 0, 9, 177]
abbrev dktJ9_init_2_4 : List UInt8 := dkwJ9_init_2_4 ++ []
def dkwJ9_init_2_3 : List UInt8 := [184, 0, 47, 181, 0, 15, 177, 42, 4, 181, 0, 15, 42, 45, 3, 21, 4, 4, 120, 184, 0, 54]
abbrev dktJ9_init_2_3 : List UInt8 := dkwJ9_init_2_3 ++ dktJ9_init_2_4
def dkwJ9_init_2_2 : List UInt8 := [180, 4, 24, 153, 0, 28, 42, 45, 3, 21, 4, 184, 4, 27, 181, 0, 9, 42, 42, 180, 0, 9, 21, 4]
abbrev dktJ9_init_2_2 : List UInt8 := dkwJ9_init_2_2 ++ dktJ9_init_2_3
def dkwJ9_init_2_1 : List UInt8 := [181, 0, 15, 42, 45, 3, 21, 4, 184, 0, 54, 181, 0, 9, 167, 0, 59, 178, 0, 38, 153, 0, 35, 43]
abbrev dktJ9_init_2_1 : List UInt8 := dkwJ9_init_2_1 ++ dktJ9_init_2_2
def dkwJ9_init_2_0 : List UInt8 := [42, 183, 0, 1, 43, 182, 2, 40, 78, 43, 182, 2, 37, 54, 4, 43, 182, 4, 23, 153, 0, 22, 42, 3]
abbrev dktJ9_init_2_0 : List UInt8 := dkwJ9_init_2_0 ++ dktJ9_init_2_1
theorem dksJ9_init_2_0 : cJ9_init_2.data.toList.drop 0 = dktJ9_init_2_0 := by decide +kernel
theorem dksJ9_init_2_1 : cJ9_init_2.data.toList.drop 24 = dktJ9_init_2_1 := dk_seg dksJ9_init_2_0 24 rfl rfl
theorem dksJ9_init_2_2 : cJ9_init_2.data.toList.drop 48 = dktJ9_init_2_2 := dk_seg dksJ9_init_2_1 24 rfl rfl
theorem dksJ9_init_2_3 : cJ9_init_2.data.toList.drop 72 = dktJ9_init_2_3 := dk_seg dksJ9_init_2_2 24 rfl rfl
theorem dksJ9_init_2_4 : cJ9_init_2.data.toList.drop 94 = dktJ9_init_2_4 := dk_seg dksJ9_init_2_3 22 rfl rfl
theorem dJ9_init_2_0 : decode cJ9_init_2 0 = .ok (.aload_n 0, 1) := dk_42 (dk_at dksJ9_init_2_0 0 rfl rfl)
theorem dJ9_init_2_1 : decode cJ9_init_2 1 = .ok (.invokespecial 1, 3) := dk_183 0 1 (dk_at dksJ9_init_2_0 1 rfl rfl)
theorem dJ9_init_2_4 : decode cJ9_init_2 4 = .ok (.aload_n 1, 1) := dk_43 (dk_at dksJ9_init_2_0 4 rfl rfl)
theorem dJ9_init_2_5 : decode cJ9_init_2 5 = .ok (.invokevirtual 552, 3) := dk_182 2 40 (dk_at dksJ9_init_2_0 5 rfl rfl)
theorem dJ9_init_2_8 : decode cJ9_init_2 8 = .ok (.astore_n 3, 1) := dk_78 (dk_at dksJ9_init_2_0 8 rfl rfl)
theorem dJ9_init_2_9 : decode cJ9_init_2 9 = .ok (.aload_n 1, 1) := dk_43 (dk_at dksJ9_init_2_0 9 rfl rfl)
theorem dJ9_init_2_10 : decode cJ9_init_2 10 = .ok (.invokevirtual 549, 3) := dk_182 2 37 (dk_at dksJ9_init_2_0 10 rfl rfl)
theorem dJ9_init_2_13 : decode cJ9_init_2 13 = .ok (.istore 4, 2) := dk_54 4 (dk_at dksJ9_init_2_0 13 rfl rfl)
theorem dJ9_init_2_15 : decode cJ9_init_2 15 = .ok (.aload_n 1, 1) := dk_43 (dk_at dksJ9_init_2_0 15 rfl rfl)
theorem dJ9_init_2_16 : decode cJ9_init_2 16 = .ok (.invokevirtual 1047, 3) := dk_182 4 23 (dk_at dksJ9_init_2_0 16 rfl rfl)
theorem dJ9_init_2_19 : decode cJ9_init_2 19 = .ok (.ifCond .eq 22, 3) := dk_153 0 22 (dk_at dksJ9_init_2_0 19 rfl rfl)
theorem dJ9_init_2_22 : decode cJ9_init_2 22 = .ok (.aload_n 0, 1) := dk_42 (dk_at dksJ9_init_2_0 22 rfl rfl)
theorem dJ9_init_2_23 : decode cJ9_init_2 23 = .ok (.iconst 0, 1) := dk_3 (dk_at dksJ9_init_2_0 23 rfl rfl)
theorem dJ9_init_2_24 : decode cJ9_init_2 24 = .ok (.putfield 15, 3) := dk_181 0 15 (dk_at dksJ9_init_2_1 0 rfl rfl)
theorem dJ9_init_2_27 : decode cJ9_init_2 27 = .ok (.aload_n 0, 1) := dk_42 (dk_at dksJ9_init_2_1 3 rfl rfl)
theorem dJ9_init_2_28 : decode cJ9_init_2 28 = .ok (.aload_n 3, 1) := dk_45 (dk_at dksJ9_init_2_1 4 rfl rfl)
theorem dJ9_init_2_29 : decode cJ9_init_2 29 = .ok (.iconst 0, 1) := dk_3 (dk_at dksJ9_init_2_1 5 rfl rfl)
theorem dJ9_init_2_30 : decode cJ9_init_2 30 = .ok (.iload 4, 2) := dk_21 4 (dk_at dksJ9_init_2_1 6 rfl rfl)
theorem dJ9_init_2_32 : decode cJ9_init_2 32 = .ok (.invokestatic 54, 3) := dk_184 0 54 (dk_at dksJ9_init_2_1 8 rfl rfl)
theorem dJ9_init_2_35 : decode cJ9_init_2 35 = .ok (.putfield 9, 3) := dk_181 0 9 (dk_at dksJ9_init_2_1 11 rfl rfl)
theorem dJ9_init_2_38 : decode cJ9_init_2 38 = .ok (.goto 59, 3) := dk_167 0 59 (dk_at dksJ9_init_2_1 14 rfl rfl)
theorem dJ9_init_2_41 : decode cJ9_init_2 41 = .ok (.getstatic 38, 3) := dk_178 0 38 (dk_at dksJ9_init_2_1 17 rfl rfl)
theorem dJ9_init_2_44 : decode cJ9_init_2 44 = .ok (.ifCond .eq 35, 3) := dk_153 0 35 (dk_at dksJ9_init_2_1 20 rfl rfl)
theorem dJ9_init_2_47 : decode cJ9_init_2 47 = .ok (.aload_n 1, 1) := dk_43 (dk_at dksJ9_init_2_1 23 rfl rfl)
theorem dJ9_init_2_48 : decode cJ9_init_2 48 = .ok (.getfield 1048, 3) := dk_180 4 24 (dk_at dksJ9_init_2_2 0 rfl rfl)
theorem dJ9_init_2_51 : decode cJ9_init_2 51 = .ok (.ifCond .eq 28, 3) := dk_153 0 28 (dk_at dksJ9_init_2_2 3 rfl rfl)
theorem dJ9_init_2_54 : decode cJ9_init_2 54 = .ok (.aload_n 0, 1) := dk_42 (dk_at dksJ9_init_2_2 6 rfl rfl)
theorem dJ9_init_2_55 : decode cJ9_init_2 55 = .ok (.aload_n 3, 1) := dk_45 (dk_at dksJ9_init_2_2 7 rfl rfl)
theorem dJ9_init_2_56 : decode cJ9_init_2 56 = .ok (.iconst 0, 1) := dk_3 (dk_at dksJ9_init_2_2 8 rfl rfl)
theorem dJ9_init_2_57 : decode cJ9_init_2 57 = .ok (.iload 4, 2) := dk_21 4 (dk_at dksJ9_init_2_2 9 rfl rfl)
theorem dJ9_init_2_59 : decode cJ9_init_2 59 = .ok (.invokestatic 1051, 3) := dk_184 4 27 (dk_at dksJ9_init_2_2 11 rfl rfl)
theorem dJ9_init_2_62 : decode cJ9_init_2 62 = .ok (.putfield 9, 3) := dk_181 0 9 (dk_at dksJ9_init_2_2 14 rfl rfl)
theorem dJ9_init_2_65 : decode cJ9_init_2 65 = .ok (.aload_n 0, 1) := dk_42 (dk_at dksJ9_init_2_2 17 rfl rfl)
theorem dJ9_init_2_66 : decode cJ9_init_2 66 = .ok (.aload_n 0, 1) := dk_42 (dk_at dksJ9_init_2_2 18 rfl rfl)
theorem dJ9_init_2_67 : decode cJ9_init_2 67 = .ok (.getfield 9, 3) := dk_180 0 9 (dk_at dksJ9_init_2_2 19 rfl rfl)
theorem dJ9_init_2_70 : decode cJ9_init_2 70 = .ok (.iload 4, 2) := dk_21 4 (dk_at dksJ9_init_2_2 22 rfl rfl)
theorem dJ9_init_2_72 : decode cJ9_init_2 72 = .ok (.invokestatic 47, 3) := dk_184 0 47 (dk_at dksJ9_init_2_3 0 rfl rfl)
theorem dJ9_init_2_75 : decode cJ9_init_2 75 = .ok (.putfield 15, 3) := dk_181 0 15 (dk_at dksJ9_init_2_3 3 rfl rfl)
theorem dJ9_init_2_78 : decode cJ9_init_2 78 = .ok (.return_, 1) := dk_177 (dk_at dksJ9_init_2_3 6 rfl rfl)
theorem dJ9_init_2_79 : decode cJ9_init_2 79 = .ok (.aload_n 0, 1) := dk_42 (dk_at dksJ9_init_2_3 7 rfl rfl)
theorem dJ9_init_2_80 : decode cJ9_init_2 80 = .ok (.iconst 1, 1) := dk_4 (dk_at dksJ9_init_2_3 8 rfl rfl)
theorem dJ9_init_2_81 : decode cJ9_init_2 81 = .ok (.putfield 15, 3) := dk_181 0 15 (dk_at dksJ9_init_2_3 9 rfl rfl)
theorem dJ9_init_2_84 : decode cJ9_init_2 84 = .ok (.aload_n 0, 1) := dk_42 (dk_at dksJ9_init_2_3 12 rfl rfl)
theorem dJ9_init_2_85 : decode cJ9_init_2 85 = .ok (.aload_n 3, 1) := dk_45 (dk_at dksJ9_init_2_3 13 rfl rfl)
theorem dJ9_init_2_86 : decode cJ9_init_2 86 = .ok (.iconst 0, 1) := dk_3 (dk_at dksJ9_init_2_3 14 rfl rfl)
theorem dJ9_init_2_87 : decode cJ9_init_2 87 = .ok (.iload 4, 2) := dk_21 4 (dk_at dksJ9_init_2_3 15 rfl rfl)
theorem dJ9_init_2_89 : decode cJ9_init_2 89 = .ok (.iconst 1, 1) := dk_4 (dk_at dksJ9_init_2_3 17 rfl rfl)
theorem dJ9_init_2_90 : decode cJ9_init_2 90 = .ok (.ishl, 1) := dk_120 (dk_at dksJ9_init_2_3 18 rfl rfl)
theorem dJ9_init_2_91 : decode cJ9_init_2 91 = .ok (.invokestatic 54, 3) := dk_184 0 54 (dk_at dksJ9_init_2_3 19 rfl rfl)
theorem dJ9_init_2_94 : decode cJ9_init_2 94 = .ok (.putfield 9, 3) := dk_181 0 9 (dk_at dksJ9_init_2_4 0 rfl rfl)
theorem dJ9_init_2_97 : decode cJ9_init_2 97 = .ok (.return_, 1) := dk_177 (dk_at dksJ9_init_2_4 3 rfl rfl)
abbrev cJ9_checkIndex : ByteArray := prog_31_method_155_code
def yJ9_checkIndex : MethodName := ⟨RJ9, "checkIndex", "(II)V"⟩
def dkwJ9_checkIndex_0 : List UInt8 := [26, 27, 178, 4, 29, 184, 4, 35, 87, 177]
abbrev dktJ9_checkIndex_0 : List UInt8 := dkwJ9_checkIndex_0 ++ []
theorem dksJ9_checkIndex_0 : cJ9_checkIndex.data.toList.drop 0 = dktJ9_checkIndex_0 := by decide +kernel
theorem dJ9_checkIndex_0 : decode cJ9_checkIndex 0 = .ok (.iload_n 0, 1) := dk_26 (dk_at dksJ9_checkIndex_0 0 rfl rfl)
theorem dJ9_checkIndex_1 : decode cJ9_checkIndex 1 = .ok (.iload_n 1, 1) := dk_27 (dk_at dksJ9_checkIndex_0 1 rfl rfl)
theorem dJ9_checkIndex_2 : decode cJ9_checkIndex 2 = .ok (.getstatic 1053, 3) := dk_178 4 29 (dk_at dksJ9_checkIndex_0 2 rfl rfl)
theorem dJ9_checkIndex_5 : decode cJ9_checkIndex 5 = .ok (.invokestatic 1059, 3) := dk_184 4 35 (dk_at dksJ9_checkIndex_0 5 rfl rfl)
theorem dJ9_checkIndex_8 : decode cJ9_checkIndex 8 = .ok (.pop, 1) := dk_87 (dk_at dksJ9_checkIndex_0 8 rfl rfl)
theorem dJ9_checkIndex_9 : decode cJ9_checkIndex 9 = .ok (.return_, 1) := dk_177 (dk_at dksJ9_checkIndex_0 9 rfl rfl)
abbrev cJ9_equals : ByteArray := prog_31_method_66_code
def yJ9_equals : MethodName := ⟨RJ9, "equals", "(Ljava/lang/Object;)Z"⟩
def dkwJ9_equals_2 : List UInt8 := [184, 2, 29, 153, 0, 7, 4, 167, 0, 4, 3, 172]
abbrev dktJ9_equals_2 : List UInt8 := dkwJ9_equals_2 ++ []
def dkwJ9_equals_1 : List UInt8 := [153, 0, 14, 42, 180, 0, 15, 44, 180, 0, 15, 160, 0, 21, 42, 180, 0, 9, 44, 180, 0, 9]
abbrev dktJ9_equals_1 : List UInt8 := dkwJ9_equals_1 ++ dktJ9_equals_2
def dkwJ9_equals_0 : List UInt8 := [42, 43, 166, 0, 5, 4, 172, 43, 193, 0, 10, 153, 0, 43, 43, 192, 0, 10, 77, 178, 0, 38]
abbrev dktJ9_equals_0 : List UInt8 := dkwJ9_equals_0 ++ dktJ9_equals_1
theorem dksJ9_equals_0 : cJ9_equals.data.toList.drop 0 = dktJ9_equals_0 := by decide +kernel
theorem dksJ9_equals_1 : cJ9_equals.data.toList.drop 22 = dktJ9_equals_1 := dk_seg dksJ9_equals_0 22 rfl rfl
theorem dksJ9_equals_2 : cJ9_equals.data.toList.drop 44 = dktJ9_equals_2 := dk_seg dksJ9_equals_1 22 rfl rfl
theorem dJ9_equals_0 : decode cJ9_equals 0 = .ok (.aload_n 0, 1) := dk_42 (dk_at dksJ9_equals_0 0 rfl rfl)
theorem dJ9_equals_1 : decode cJ9_equals 1 = .ok (.aload_n 1, 1) := dk_43 (dk_at dksJ9_equals_0 1 rfl rfl)
theorem dJ9_equals_2 : decode cJ9_equals 2 = .ok (.if_acmp .ne 5, 3) := dk_166 0 5 (dk_at dksJ9_equals_0 2 rfl rfl)
theorem dJ9_equals_5 : decode cJ9_equals 5 = .ok (.iconst 1, 1) := dk_4 (dk_at dksJ9_equals_0 5 rfl rfl)
theorem dJ9_equals_6 : decode cJ9_equals 6 = .ok (.ireturn, 1) := dk_172 (dk_at dksJ9_equals_0 6 rfl rfl)
theorem dJ9_equals_7 : decode cJ9_equals 7 = .ok (.aload_n 1, 1) := dk_43 (dk_at dksJ9_equals_0 7 rfl rfl)
theorem dJ9_equals_8 : decode cJ9_equals 8 = .ok (.instanceof 10, 3) := dk_193 0 10 (dk_at dksJ9_equals_0 8 rfl rfl)
theorem dJ9_equals_11 : decode cJ9_equals 11 = .ok (.ifCond .eq 43, 3) := dk_153 0 43 (dk_at dksJ9_equals_0 11 rfl rfl)
theorem dJ9_equals_14 : decode cJ9_equals 14 = .ok (.aload_n 1, 1) := dk_43 (dk_at dksJ9_equals_0 14 rfl rfl)
theorem dJ9_equals_15 : decode cJ9_equals 15 = .ok (.checkcast 10, 3) := dk_192 0 10 (dk_at dksJ9_equals_0 15 rfl rfl)
theorem dJ9_equals_18 : decode cJ9_equals 18 = .ok (.astore_n 2, 1) := dk_77 (dk_at dksJ9_equals_0 18 rfl rfl)
theorem dJ9_equals_19 : decode cJ9_equals 19 = .ok (.getstatic 38, 3) := dk_178 0 38 (dk_at dksJ9_equals_0 19 rfl rfl)
theorem dJ9_equals_22 : decode cJ9_equals 22 = .ok (.ifCond .eq 14, 3) := dk_153 0 14 (dk_at dksJ9_equals_1 0 rfl rfl)
theorem dJ9_equals_25 : decode cJ9_equals 25 = .ok (.aload_n 0, 1) := dk_42 (dk_at dksJ9_equals_1 3 rfl rfl)
theorem dJ9_equals_26 : decode cJ9_equals 26 = .ok (.getfield 15, 3) := dk_180 0 15 (dk_at dksJ9_equals_1 4 rfl rfl)
theorem dJ9_equals_29 : decode cJ9_equals 29 = .ok (.aload_n 2, 1) := dk_44 (dk_at dksJ9_equals_1 7 rfl rfl)
theorem dJ9_equals_30 : decode cJ9_equals 30 = .ok (.getfield 15, 3) := dk_180 0 15 (dk_at dksJ9_equals_1 8 rfl rfl)
theorem dJ9_equals_33 : decode cJ9_equals 33 = .ok (.if_icmp .ne 21, 3) := dk_160 0 21 (dk_at dksJ9_equals_1 11 rfl rfl)
theorem dJ9_equals_36 : decode cJ9_equals 36 = .ok (.aload_n 0, 1) := dk_42 (dk_at dksJ9_equals_1 14 rfl rfl)
theorem dJ9_equals_37 : decode cJ9_equals 37 = .ok (.getfield 9, 3) := dk_180 0 9 (dk_at dksJ9_equals_1 15 rfl rfl)
theorem dJ9_equals_40 : decode cJ9_equals 40 = .ok (.aload_n 2, 1) := dk_44 (dk_at dksJ9_equals_1 18 rfl rfl)
theorem dJ9_equals_41 : decode cJ9_equals 41 = .ok (.getfield 9, 3) := dk_180 0 9 (dk_at dksJ9_equals_1 19 rfl rfl)
theorem dJ9_equals_44 : decode cJ9_equals 44 = .ok (.invokestatic 541, 3) := dk_184 2 29 (dk_at dksJ9_equals_2 0 rfl rfl)
theorem dJ9_equals_47 : decode cJ9_equals 47 = .ok (.ifCond .eq 7, 3) := dk_153 0 7 (dk_at dksJ9_equals_2 3 rfl rfl)
theorem dJ9_equals_50 : decode cJ9_equals 50 = .ok (.iconst 1, 1) := dk_4 (dk_at dksJ9_equals_2 6 rfl rfl)
theorem dJ9_equals_51 : decode cJ9_equals 51 = .ok (.goto 4, 3) := dk_167 0 4 (dk_at dksJ9_equals_2 7 rfl rfl)
theorem dJ9_equals_54 : decode cJ9_equals 54 = .ok (.iconst 0, 1) := dk_3 (dk_at dksJ9_equals_2 10 rfl rfl)
theorem dJ9_equals_55 : decode cJ9_equals 55 = .ok (.ireturn, 1) := dk_172 (dk_at dksJ9_equals_2 11 rfl rfl)
abbrev cJ9_charAt : ByteArray := prog_31_method_56_code
def yJ9_charAt : MethodName := ⟨RJ9, "charAt", "(I)C"⟩
def dkwJ9_charAt_1 : List UInt8 := [172]
abbrev dktJ9_charAt_1 : List UInt8 := dkwJ9_charAt_1 ++ []
def dkwJ9_charAt_0 : List UInt8 := [42, 182, 1, 236, 153, 0, 12, 42, 180, 0, 9, 27, 184, 1, 239, 172, 42, 180, 0, 9, 27, 184, 1, 242]
abbrev dktJ9_charAt_0 : List UInt8 := dkwJ9_charAt_0 ++ dktJ9_charAt_1
theorem dksJ9_charAt_0 : cJ9_charAt.data.toList.drop 0 = dktJ9_charAt_0 := by decide +kernel
theorem dksJ9_charAt_1 : cJ9_charAt.data.toList.drop 24 = dktJ9_charAt_1 := dk_seg dksJ9_charAt_0 24 rfl rfl
theorem dJ9_charAt_0 : decode cJ9_charAt 0 = .ok (.aload_n 0, 1) := dk_42 (dk_at dksJ9_charAt_0 0 rfl rfl)
theorem dJ9_charAt_1 : decode cJ9_charAt 1 = .ok (.invokevirtual 492, 3) := dk_182 1 236 (dk_at dksJ9_charAt_0 1 rfl rfl)
theorem dJ9_charAt_4 : decode cJ9_charAt 4 = .ok (.ifCond .eq 12, 3) := dk_153 0 12 (dk_at dksJ9_charAt_0 4 rfl rfl)
theorem dJ9_charAt_7 : decode cJ9_charAt 7 = .ok (.aload_n 0, 1) := dk_42 (dk_at dksJ9_charAt_0 7 rfl rfl)
theorem dJ9_charAt_8 : decode cJ9_charAt 8 = .ok (.getfield 9, 3) := dk_180 0 9 (dk_at dksJ9_charAt_0 8 rfl rfl)
theorem dJ9_charAt_11 : decode cJ9_charAt 11 = .ok (.iload_n 1, 1) := dk_27 (dk_at dksJ9_charAt_0 11 rfl rfl)
theorem dJ9_charAt_12 : decode cJ9_charAt 12 = .ok (.invokestatic 495, 3) := dk_184 1 239 (dk_at dksJ9_charAt_0 12 rfl rfl)
theorem dJ9_charAt_15 : decode cJ9_charAt 15 = .ok (.ireturn, 1) := dk_172 (dk_at dksJ9_charAt_0 15 rfl rfl)
theorem dJ9_charAt_16 : decode cJ9_charAt 16 = .ok (.aload_n 0, 1) := dk_42 (dk_at dksJ9_charAt_0 16 rfl rfl)
theorem dJ9_charAt_17 : decode cJ9_charAt 17 = .ok (.getfield 9, 3) := dk_180 0 9 (dk_at dksJ9_charAt_0 17 rfl rfl)
theorem dJ9_charAt_20 : decode cJ9_charAt 20 = .ok (.iload_n 1, 1) := dk_27 (dk_at dksJ9_charAt_0 20 rfl rfl)
theorem dJ9_charAt_21 : decode cJ9_charAt 21 = .ok (.invokestatic 498, 3) := dk_184 1 242 (dk_at dksJ9_charAt_0 21 rfl rfl)
theorem dJ9_charAt_24 : decode cJ9_charAt 24 = .ok (.ireturn, 1) := dk_172 (dk_at dksJ9_charAt_1 0 rfl rfl)
abbrev cJ9_isLatin1 : ByteArray := prog_31_method_154_code
def yJ9_isLatin1 : MethodName := ⟨RJ9, "isLatin1", "()Z"⟩
def dkwJ9_isLatin1_0 : List UInt8 := [178, 0, 38, 153, 0, 14, 42, 180, 0, 15, 154, 0, 7, 4, 167, 0, 4, 3, 172]
abbrev dktJ9_isLatin1_0 : List UInt8 := dkwJ9_isLatin1_0 ++ []
theorem dksJ9_isLatin1_0 : cJ9_isLatin1.data.toList.drop 0 = dktJ9_isLatin1_0 := by decide +kernel
theorem dJ9_isLatin1_0 : decode cJ9_isLatin1 0 = .ok (.getstatic 38, 3) := dk_178 0 38 (dk_at dksJ9_isLatin1_0 0 rfl rfl)
theorem dJ9_isLatin1_3 : decode cJ9_isLatin1 3 = .ok (.ifCond .eq 14, 3) := dk_153 0 14 (dk_at dksJ9_isLatin1_0 3 rfl rfl)
theorem dJ9_isLatin1_6 : decode cJ9_isLatin1 6 = .ok (.aload_n 0, 1) := dk_42 (dk_at dksJ9_isLatin1_0 6 rfl rfl)
theorem dJ9_isLatin1_7 : decode cJ9_isLatin1 7 = .ok (.getfield 15, 3) := dk_180 0 15 (dk_at dksJ9_isLatin1_0 7 rfl rfl)
theorem dJ9_isLatin1_10 : decode cJ9_isLatin1 10 = .ok (.ifCond .ne 7, 3) := dk_154 0 7 (dk_at dksJ9_isLatin1_0 10 rfl rfl)
theorem dJ9_isLatin1_13 : decode cJ9_isLatin1 13 = .ok (.iconst 1, 1) := dk_4 (dk_at dksJ9_isLatin1_0 13 rfl rfl)
theorem dJ9_isLatin1_14 : decode cJ9_isLatin1 14 = .ok (.goto 4, 3) := dk_167 0 4 (dk_at dksJ9_isLatin1_0 14 rfl rfl)
theorem dJ9_isLatin1_17 : decode cJ9_isLatin1 17 = .ok (.iconst 0, 1) := dk_3 (dk_at dksJ9_isLatin1_0 17 rfl rfl)
theorem dJ9_isLatin1_18 : decode cJ9_isLatin1 18 = .ok (.ireturn, 1) := dk_172 (dk_at dksJ9_isLatin1_0 18 rfl rfl)
theorem q87 : (Jvm.Cond.initialized "java/lang/String") ∈ lw_all := lw_g (lw_at lw_m1 12 rfl) rfl
theorem q194 : (Jvm.Cond.laysStatic "java/lang/String" "COMPACT_STRINGS" "Z") ∈ lw_tbl := lw_at lw_m1 119 rfl
theorem q204 : (Jvm.Cond.fieldLink "java/lang/String" (1048 : Nat) "java/lang/AbstractStringBuilder" "maybeLatin1" "Z") ∈ lw_all := lw_g (lw_at lw_m1 129 rfl) rfl
theorem q278 : (Jvm.Cond.static ({ cls := "java/lang/String", name := "checkBoundsBeginEnd", desc := "(III)V" } : Jvm.MethodName)) ∈ lw_all := lw_g (lw_at lw_m1 203 rfl) rfl
theorem q279 : (Jvm.Cond.code ({ cls := "java/lang/String", name := "checkBoundsBeginEnd", desc := "(III)V" } : Jvm.MethodName) prog_31_method_158_code (3 : Nat) (Option.none : Option Jvm.ClassFile.FieldType)) ∈ lw_all := lw_g (lw_at lw_m1 204 rfl) rfl
theorem q280 : (Jvm.Cond.fieldLink "java/lang/String" (1053 : Nat) "jdk/internal/util/Preconditions" "SIOOBE_FORMATTER" "Ljava/util/function/BiFunction;") ∈ lw_all := lw_g (lw_at lw_m1 205 rfl) rfl
theorem q282 : (Jvm.Cond.methodLink "java/lang/String" (1062 : Nat) ({ cls := "jdk/internal/util/Preconditions", name := "checkFromToIndex", desc := "(IIILjava/util/function/BiFunction;)I" } : Jvm.MethodName)) ∈ lw_all := lw_g (lw_at lw_m1 207 rfl) rfl
theorem q295 : (Jvm.Cond.instanceMethod ({ cls := "java/lang/String", name := "length", desc := "()I" } : Jvm.MethodName)) ∈ lw_all := lw_g (lw_at lw_m1 220 rfl) rfl
theorem q296 : (Jvm.Cond.selects "java/lang/String" ({ cls := "java/lang/String", name := "length", desc := "()I" } : Jvm.MethodName) ({ cls := "java/lang/String", name := "length", desc := "()I" } : Jvm.MethodName)) ∈ lw_all := lw_g (lw_at lw_m1 221 rfl) rfl
theorem q297 : (Jvm.Cond.code ({ cls := "java/lang/String", name := "length", desc := "()I" } : Jvm.MethodName) prog_31_method_54_code (1 : Nat) (Option.some Jvm.ClassFile.FieldType.int)) ∈ lw_all := lw_g (lw_at lw_m1 222 rfl) rfl
theorem q298 : (Jvm.Cond.methodLink "java/lang/String" (335 : Nat) ({ cls := "java/lang/String", name := "coder", desc := "()B" } : Jvm.MethodName)) ∈ lw_all := lw_g (lw_at lw_m1 223 rfl) rfl
theorem q299 : (Jvm.Cond.instanceMethod ({ cls := "java/lang/String", name := "coder", desc := "()B" } : Jvm.MethodName)) ∈ lw_all := lw_g (lw_at lw_m1 224 rfl) rfl
theorem q300 : (Jvm.Cond.selects "java/lang/String" ({ cls := "java/lang/String", name := "coder", desc := "()B" } : Jvm.MethodName) ({ cls := "java/lang/String", name := "coder", desc := "()B" } : Jvm.MethodName)) ∈ lw_all := lw_g (lw_at lw_m1 225 rfl) rfl
theorem q301 : (Jvm.Cond.code ({ cls := "java/lang/String", name := "coder", desc := "()B" } : Jvm.MethodName) prog_31_method_152_code (1 : Nat) (Option.some Jvm.ClassFile.FieldType.byte)) ∈ lw_all := lw_g (lw_at lw_m1 226 rfl) rfl
theorem q302 : (Jvm.Cond.fieldLink "java/lang/String" (38 : Nat) "java/lang/String" "COMPACT_STRINGS" "Z") ∈ lw_all := lw_g (lw_at lw_m1 227 rfl) rfl
theorem q326 : (Jvm.Cond.static ({ cls := "java/lang/String", name := "checkBoundsOffCount", desc := "(III)I" } : Jvm.MethodName)) ∈ lw_all := lw_g (lw_at lw_m2 11 rfl) rfl
theorem q327 : (Jvm.Cond.code ({ cls := "java/lang/String", name := "checkBoundsOffCount", desc := "(III)I" } : Jvm.MethodName) prog_31_method_157_code (3 : Nat) (Option.some Jvm.ClassFile.FieldType.int)) ∈ lw_all := lw_g (lw_at lw_m2 12 rfl) rfl
theorem q328 : (Jvm.Cond.methodLink "java/lang/String" (1065 : Nat) ({ cls := "jdk/internal/util/Preconditions", name := "checkFromIndexSize", desc := "(IIILjava/util/function/BiFunction;)I" } : Jvm.MethodName)) ∈ lw_all := lw_g (lw_at lw_m2 13 rfl) rfl
theorem q332 : (Jvm.Cond.instanceMethod ({ cls := "java/lang/String", name := "getBytes", desc := "([BIB)V" } : Jvm.MethodName)) ∈ lw_all := lw_g (lw_at lw_m2 17 rfl) rfl
theorem q333 : (Jvm.Cond.selects "java/lang/String" ({ cls := "java/lang/String", name := "getBytes", desc := "([BIB)V" } : Jvm.MethodName) ({ cls := "java/lang/String", name := "getBytes", desc := "([BIB)V" } : Jvm.MethodName)) ∈ lw_all := lw_g (lw_at lw_m2 18 rfl) rfl
theorem q334 : (Jvm.Cond.code ({ cls := "java/lang/String", name := "getBytes", desc := "([BIB)V" } : Jvm.MethodName) prog_31_method_147_code (4 : Nat) (Option.none : Option Jvm.ClassFile.FieldType)) ∈ lw_all := lw_g (lw_at lw_m2 19 rfl) rfl
theorem q335 : (Jvm.Cond.methodLink "java/lang/String" (212 : Nat) ({ cls := "java/lang/System", name := "arraycopy", desc := "(Ljava/lang/Object;ILjava/lang/Object;II)V" } : Jvm.MethodName)) ∈ lw_all := lw_g (lw_at lw_m2 20 rfl) rfl
theorem q336 : (Jvm.Cond.methodLink "java/lang/String" (106 : Nat) ({ cls := "java/lang/StringLatin1", name := "inflate", desc := "([BI[BII)V" } : Jvm.MethodName)) ∈ lw_all := lw_g (lw_at lw_m2 21 rfl) rfl
theorem q367 : (Jvm.Cond.instantiable "java/lang/String" (4 : Nat)) ∈ lw_all := lw_g (lw_at lw_m2 52 rfl) rfl
theorem q369 : (Jvm.Cond.instanceMethod ({ cls := "java/lang/String", name := "<init>", desc := "(Ljava/lang/StringBuilder;)V" } : Jvm.MethodName)) ∈ lw_all := lw_g (lw_at lw_m2 54 rfl) rfl
theorem q370 : (Jvm.Cond.code ({ cls := "java/lang/String", name := "<init>", desc := "(Ljava/lang/StringBuilder;)V" } : Jvm.MethodName) prog_31_method_53_code (2 : Nat) (Option.none : Option Jvm.ClassFile.FieldType)) ∈ lw_all := lw_g (lw_at lw_m2 55 rfl) rfl
theorem q371 : (Jvm.Cond.methodLink "java/lang/String" (489 : Nat) ({ cls := "java/lang/String", name := "<init>", desc := "(Ljava/lang/AbstractStringBuilder;Ljava/lang/Void;)V" } : Jvm.MethodName)) ∈ lw_all := lw_g (lw_at lw_m2 56 rfl) rfl
theorem q372 : (Jvm.Cond.instanceMethod ({ cls := "java/lang/String", name := "<init>", desc := "(Ljava/lang/AbstractStringBuilder;Ljava/lang/Void;)V" } : Jvm.MethodName)) ∈ lw_all := lw_g (lw_at lw_m2 57 rfl) rfl
theorem q373 : (Jvm.Cond.code ({ cls := "java/lang/String", name := "<init>", desc := "(Ljava/lang/AbstractStringBuilder;Ljava/lang/Void;)V" } : Jvm.MethodName) prog_31_method_150_code (5 : Nat) (Option.none : Option Jvm.ClassFile.FieldType)) ∈ lw_all := lw_g (lw_at lw_m2 58 rfl) rfl
theorem q374 : (Jvm.Cond.methodLink "java/lang/String" (1 : Nat) ({ cls := "java/lang/Object", name := "<init>", desc := "()V" } : Jvm.MethodName)) ∈ lw_all := lw_g (lw_at lw_m2 59 rfl) rfl
theorem q375 : (Jvm.Cond.methodLink "java/lang/String" (552 : Nat) ({ cls := "java/lang/AbstractStringBuilder", name := "getValue", desc := "()[B" } : Jvm.MethodName)) ∈ lw_all := lw_g (lw_at lw_m2 60 rfl) rfl
theorem q380 : (Jvm.Cond.methodLink "java/lang/String" (549 : Nat) ({ cls := "java/lang/AbstractStringBuilder", name := "length", desc := "()I" } : Jvm.MethodName)) ∈ lw_all := lw_g (lw_at lw_m2 65 rfl) rfl
theorem q388 : (Jvm.Cond.methodLink "java/lang/String" (1047 : Nat) ({ cls := "java/lang/AbstractStringBuilder", name := "isLatin1", desc := "()Z" } : Jvm.MethodName)) ∈ lw_all := lw_g (lw_at lw_m2 73 rfl) rfl
theorem q389 : (Jvm.Cond.methodLink "java/lang/String" (54 : Nat) ({ cls := "java/util/Arrays", name := "copyOfRange", desc := "([BII)[B" } : Jvm.MethodName)) ∈ lw_all := lw_g (lw_at lw_m2 74 rfl) rfl
theorem q430 : (Jvm.Cond.methodLink "java/lang/String" (1051 : Nat) ({ cls := "java/lang/StringUTF16", name := "compress", desc := "([BII)[B" } : Jvm.MethodName)) ∈ lw_all := lw_g (lw_at lw_m2 115 rfl) rfl
theorem q440 : (Jvm.Cond.methodLink "java/lang/String" (47 : Nat) ({ cls := "java/lang/StringUTF16", name := "coderFromArrayLen", desc := "([BI)B" } : Jvm.MethodName)) ∈ lw_all := lw_g (lw_at lw_m2 125 rfl) rfl
theorem q443 : (Jvm.Cond.fieldLink "java/lang/String" (9 : Nat) "java/lang/String" "value" "[B") ∈ lw_all := lw_g (lw_at lw_m2 128 rfl) rfl
theorem q444 : (Jvm.Cond.fieldLink "java/lang/String" (15 : Nat) "java/lang/String" "coder" "B") ∈ lw_all := lw_g (lw_at lw_m2 129 rfl) rfl
theorem q445 : (Jvm.Cond.laysFinal "java/lang/String" "java/lang/String" "value" "[B") ∈ lw_all := lw_g (lw_at lw_m2 130 rfl) rfl
theorem q446 : (Jvm.Cond.soleField "java/lang/String" "value") ∈ lw_all := lw_g (lw_at lw_m2 131 rfl) rfl
theorem q447 : (Jvm.Cond.laysFinal "java/lang/String" "java/lang/String" "coder" "B") ∈ lw_all := lw_g (lw_at lw_m2 132 rfl) rfl
theorem q448 : (Jvm.Cond.soleField "java/lang/String" "coder") ∈ lw_all := lw_g (lw_at lw_m2 133 rfl) rfl
theorem q449 : (Jvm.Cond.lays "java/lang/String" "java/lang/String" "hash" "I") ∈ lw_all := lw_g (lw_at lw_m2 134 rfl) rfl
theorem q450 : (Jvm.Cond.soleField "java/lang/String" "hash") ∈ lw_all := lw_g (lw_at lw_m2 135 rfl) rfl
theorem q451 : (Jvm.Cond.lays "java/lang/String" "java/lang/String" "hashIsZero" "Z") ∈ lw_all := lw_g (lw_at lw_m2 136 rfl) rfl
theorem q452 : (Jvm.Cond.soleField "java/lang/String" "hashIsZero") ∈ lw_all := lw_g (lw_at lw_m2 137 rfl) rfl
theorem q453 : (Jvm.Cond.superclass "java/lang/String" "java/lang/Object") ∈ lw_all := lw_g (lw_at lw_m2 138 rfl) rfl
theorem q747 : (Jvm.Cond.selects "java/lang/String" ({ cls := "java/lang/Object", name := "getClass", desc := "()Ljava/lang/Class;" } : Jvm.MethodName) ({ cls := "java/lang/Object", name := "getClass", desc := "()Ljava/lang/Class;" } : Jvm.MethodName)) ∈ lw_all := lw_g (lw_at lw_m3 192 rfl) rfl
theorem q983 : (Jvm.Cond.static ({ cls := "java/lang/String", name := "checkIndex", desc := "(II)V" } : Jvm.MethodName)) ∈ lw_all := lw_g (lw_at lw_m4 188 rfl) rfl
theorem q984 : (Jvm.Cond.code ({ cls := "java/lang/String", name := "checkIndex", desc := "(II)V" } : Jvm.MethodName) prog_31_method_155_code (2 : Nat) (Option.none : Option Jvm.ClassFile.FieldType)) ∈ lw_all := lw_g (lw_at lw_m4 189 rfl) rfl
theorem q985 : (Jvm.Cond.methodLink "java/lang/String" (1059 : Nat) ({ cls := "jdk/internal/util/Preconditions", name := "checkIndex", desc := "(IILjava/util/function/BiFunction;)I" } : Jvm.MethodName)) ∈ lw_all := lw_g (lw_at lw_m4 190 rfl) rfl
theorem q1036 : (Jvm.Cond.instanceMethod ({ cls := "java/lang/String", name := "equals", desc := "(Ljava/lang/Object;)Z" } : Jvm.MethodName)) ∈ lw_all := lw_g (lw_at lw_m5 1 rfl) rfl
theorem q1037 : (Jvm.Cond.selects "java/lang/String" ({ cls := "java/lang/String", name := "equals", desc := "(Ljava/lang/Object;)Z" } : Jvm.MethodName) ({ cls := "java/lang/String", name := "equals", desc := "(Ljava/lang/Object;)Z" } : Jvm.MethodName)) ∈ lw_all := lw_g (lw_at lw_m5 2 rfl) rfl
theorem q1038 : (Jvm.Cond.code ({ cls := "java/lang/String", name := "equals", desc := "(Ljava/lang/Object;)Z" } : Jvm.MethodName) prog_31_method_66_code (3 : Nat) (Option.some Jvm.ClassFile.FieldType.boolean)) ∈ lw_all := lw_g (lw_at lw_m5 3 rfl) rfl
theorem q1039 : (Jvm.Cond.classLink "java/lang/String" (10 : Nat) "java/lang/String") ∈ lw_all := lw_g (lw_at lw_m5 4 rfl) rfl
theorem q1040 : (Jvm.Cond.methodLink "java/lang/String" (541 : Nat) ({ cls := "java/lang/StringLatin1", name := "equals", desc := "([B[B)Z" } : Jvm.MethodName)) ∈ lw_all := lw_g (lw_at lw_m5 5 rfl) rfl
theorem q1578 : (Jvm.Cond.instanceMethod ({ cls := "java/lang/String", name := "charAt", desc := "(I)C" } : Jvm.MethodName)) ∈ lw_all := lw_g (lw_at lw_m7 63 rfl) rfl
theorem q1579 : (Jvm.Cond.selects "java/lang/String" ({ cls := "java/lang/String", name := "charAt", desc := "(I)C" } : Jvm.MethodName) ({ cls := "java/lang/String", name := "charAt", desc := "(I)C" } : Jvm.MethodName)) ∈ lw_all := lw_g (lw_at lw_m7 64 rfl) rfl
theorem q1580 : (Jvm.Cond.code ({ cls := "java/lang/String", name := "charAt", desc := "(I)C" } : Jvm.MethodName) prog_31_method_56_code (2 : Nat) (Option.some Jvm.ClassFile.FieldType.char)) ∈ lw_all := lw_g (lw_at lw_m7 65 rfl) rfl
theorem q1581 : (Jvm.Cond.methodLink "java/lang/String" (492 : Nat) ({ cls := "java/lang/String", name := "isLatin1", desc := "()Z" } : Jvm.MethodName)) ∈ lw_all := lw_g (lw_at lw_m7 66 rfl) rfl
theorem q1582 : (Jvm.Cond.instanceMethod ({ cls := "java/lang/String", name := "isLatin1", desc := "()Z" } : Jvm.MethodName)) ∈ lw_all := lw_g (lw_at lw_m7 67 rfl) rfl
theorem q1583 : (Jvm.Cond.selects "java/lang/String" ({ cls := "java/lang/String", name := "isLatin1", desc := "()Z" } : Jvm.MethodName) ({ cls := "java/lang/String", name := "isLatin1", desc := "()Z" } : Jvm.MethodName)) ∈ lw_all := lw_g (lw_at lw_m7 68 rfl) rfl
theorem q1584 : (Jvm.Cond.code ({ cls := "java/lang/String", name := "isLatin1", desc := "()Z" } : Jvm.MethodName) prog_31_method_154_code (1 : Nat) (Option.some Jvm.ClassFile.FieldType.boolean)) ∈ lw_all := lw_g (lw_at lw_m7 69 rfl) rfl
theorem q1585 : (Jvm.Cond.methodLink "java/lang/String" (495 : Nat) ({ cls := "java/lang/StringLatin1", name := "charAt", desc := "([BI)C" } : Jvm.MethodName)) ∈ lw_all := lw_g (lw_at lw_m7 70 rfl) rfl
theorem q1589 : (Jvm.Cond.methodLink "java/lang/String" (498 : Nat) ({ cls := "java/lang/StringUTF16", name := "charAt", desc := "([BI)C" } : Jvm.MethodName)) ∈ lw_all := lw_g (lw_at lw_m7 74 rfl) rfl
theorem q1873 : (Jvm.Cond.castable "java/lang/String" "java/lang/Object") ∈ lw_tbl := lw_at lw_m8 118 rfl
theorem in_J9 : ∀ w ∈ wsJ90, w ∈ lw_all := lw_in wsJ90 [445, 447, 449, 451] (by decide +kernel) (by decide +kernel)
/-! java/lang/StringLatin1 -/
set_option maxRecDepth 100000
def RJ15 : String := "java/lang/StringLatin1"
abbrev cJ15_inflate : ByteArray := prog_33_method_50_code
def yJ15_inflate : MethodName := ⟨RJ15, "inflate", "([BI[BII)V"⟩
def dkwJ15_inflate_0 : List UInt8 := [42, 27, 44, 29, 21, 4, 184, 0, 240, 177]
abbrev dktJ15_inflate_0 : List UInt8 := dkwJ15_inflate_0 ++ []
theorem dksJ15_inflate_0 : cJ15_inflate.data.toList.drop 0 = dktJ15_inflate_0 := by decide +kernel
theorem dJ15_inflate_0 : decode cJ15_inflate 0 = .ok (.aload_n 0, 1) := dk_42 (dk_at dksJ15_inflate_0 0 rfl rfl)
theorem dJ15_inflate_1 : decode cJ15_inflate 1 = .ok (.iload_n 1, 1) := dk_27 (dk_at dksJ15_inflate_0 1 rfl rfl)
theorem dJ15_inflate_2 : decode cJ15_inflate 2 = .ok (.aload_n 2, 1) := dk_44 (dk_at dksJ15_inflate_0 2 rfl rfl)
theorem dJ15_inflate_3 : decode cJ15_inflate 3 = .ok (.iload_n 3, 1) := dk_29 (dk_at dksJ15_inflate_0 3 rfl rfl)
theorem dJ15_inflate_4 : decode cJ15_inflate 4 = .ok (.iload 4, 2) := dk_21 4 (dk_at dksJ15_inflate_0 4 rfl rfl)
theorem dJ15_inflate_6 : decode cJ15_inflate 6 = .ok (.invokestatic 240, 3) := dk_184 0 240 (dk_at dksJ15_inflate_0 6 rfl rfl)
theorem dJ15_inflate_9 : decode cJ15_inflate 9 = .ok (.return_, 1) := dk_177 (dk_at dksJ15_inflate_0 9 rfl rfl)
abbrev cJ15_canEncode : ByteArray := prog_33_method_3_code
def yJ15_canEncode : MethodName := ⟨RJ15, "canEncode", "(C)Z"⟩
def dkwJ15_canEncode_0 : List UInt8 := [26, 17, 0, 255, 163, 0, 7, 4, 167, 0, 4, 3, 172]
abbrev dktJ15_canEncode_0 : List UInt8 := dkwJ15_canEncode_0 ++ []
theorem dksJ15_canEncode_0 : cJ15_canEncode.data.toList.drop 0 = dktJ15_canEncode_0 := by decide +kernel
theorem dJ15_canEncode_0 : decode cJ15_canEncode 0 = .ok (.iload_n 0, 1) := dk_26 (dk_at dksJ15_canEncode_0 0 rfl rfl)
theorem dJ15_canEncode_1 : decode cJ15_canEncode 1 = .ok (.sipush 255, 3) := dk_17 0 255 (dk_at dksJ15_canEncode_0 1 rfl rfl)
theorem dJ15_canEncode_4 : decode cJ15_canEncode 4 = .ok (.if_icmp .gt 7, 3) := dk_163 0 7 (dk_at dksJ15_canEncode_0 4 rfl rfl)
theorem dJ15_canEncode_7 : decode cJ15_canEncode 7 = .ok (.iconst 1, 1) := dk_4 (dk_at dksJ15_canEncode_0 7 rfl rfl)
theorem dJ15_canEncode_8 : decode cJ15_canEncode 8 = .ok (.goto 4, 3) := dk_167 0 4 (dk_at dksJ15_canEncode_0 8 rfl rfl)
theorem dJ15_canEncode_11 : decode cJ15_canEncode 11 = .ok (.iconst 0, 1) := dk_3 (dk_at dksJ15_canEncode_0 11 rfl rfl)
theorem dJ15_canEncode_12 : decode cJ15_canEncode 12 = .ok (.ireturn, 1) := dk_172 (dk_at dksJ15_canEncode_0 12 rfl rfl)
abbrev cJ15_equals : ByteArray := prog_33_method_13_code
def yJ15_equals : MethodName := ⟨RJ15, "equals", "([B[B)Z"⟩
def dkwJ15_equals_1 : List UInt8 := [3, 172, 132, 2, 1, 167, 255, 236, 4, 172, 3, 172]
abbrev dktJ15_equals_1 : List UInt8 := dkwJ15_equals_1 ++ []
def dkwJ15_equals_0 : List UInt8 := [42, 190, 43, 190, 160, 0, 30, 3, 61, 28, 42, 190, 162, 0, 20, 42, 28, 51, 43, 28, 51, 159, 0, 5]
abbrev dktJ15_equals_0 : List UInt8 := dkwJ15_equals_0 ++ dktJ15_equals_1
theorem dksJ15_equals_0 : cJ15_equals.data.toList.drop 0 = dktJ15_equals_0 := by decide +kernel
theorem dksJ15_equals_1 : cJ15_equals.data.toList.drop 24 = dktJ15_equals_1 := dk_seg dksJ15_equals_0 24 rfl rfl
theorem dJ15_equals_0 : decode cJ15_equals 0 = .ok (.aload_n 0, 1) := dk_42 (dk_at dksJ15_equals_0 0 rfl rfl)
theorem dJ15_equals_1 : decode cJ15_equals 1 = .ok (.arraylength, 1) := dk_190 (dk_at dksJ15_equals_0 1 rfl rfl)
theorem dJ15_equals_2 : decode cJ15_equals 2 = .ok (.aload_n 1, 1) := dk_43 (dk_at dksJ15_equals_0 2 rfl rfl)
theorem dJ15_equals_3 : decode cJ15_equals 3 = .ok (.arraylength, 1) := dk_190 (dk_at dksJ15_equals_0 3 rfl rfl)
theorem dJ15_equals_4 : decode cJ15_equals 4 = .ok (.if_icmp .ne 30, 3) := dk_160 0 30 (dk_at dksJ15_equals_0 4 rfl rfl)
theorem dJ15_equals_7 : decode cJ15_equals 7 = .ok (.iconst 0, 1) := dk_3 (dk_at dksJ15_equals_0 7 rfl rfl)
theorem dJ15_equals_8 : decode cJ15_equals 8 = .ok (.istore_n 2, 1) := dk_61 (dk_at dksJ15_equals_0 8 rfl rfl)
theorem dJ15_equals_9 : decode cJ15_equals 9 = .ok (.iload_n 2, 1) := dk_28 (dk_at dksJ15_equals_0 9 rfl rfl)
theorem dJ15_equals_10 : decode cJ15_equals 10 = .ok (.aload_n 0, 1) := dk_42 (dk_at dksJ15_equals_0 10 rfl rfl)
theorem dJ15_equals_11 : decode cJ15_equals 11 = .ok (.arraylength, 1) := dk_190 (dk_at dksJ15_equals_0 11 rfl rfl)
theorem dJ15_equals_12 : decode cJ15_equals 12 = .ok (.if_icmp .ge 20, 3) := dk_162 0 20 (dk_at dksJ15_equals_0 12 rfl rfl)
theorem dJ15_equals_15 : decode cJ15_equals 15 = .ok (.aload_n 0, 1) := dk_42 (dk_at dksJ15_equals_0 15 rfl rfl)
theorem dJ15_equals_16 : decode cJ15_equals 16 = .ok (.iload_n 2, 1) := dk_28 (dk_at dksJ15_equals_0 16 rfl rfl)
theorem dJ15_equals_17 : decode cJ15_equals 17 = .ok (.baload, 1) := dk_51 (dk_at dksJ15_equals_0 17 rfl rfl)
theorem dJ15_equals_18 : decode cJ15_equals 18 = .ok (.aload_n 1, 1) := dk_43 (dk_at dksJ15_equals_0 18 rfl rfl)
theorem dJ15_equals_19 : decode cJ15_equals 19 = .ok (.iload_n 2, 1) := dk_28 (dk_at dksJ15_equals_0 19 rfl rfl)
theorem dJ15_equals_20 : decode cJ15_equals 20 = .ok (.baload, 1) := dk_51 (dk_at dksJ15_equals_0 20 rfl rfl)
theorem dJ15_equals_21 : decode cJ15_equals 21 = .ok (.if_icmp .eq 5, 3) := dk_159 0 5 (dk_at dksJ15_equals_0 21 rfl rfl)
theorem dJ15_equals_24 : decode cJ15_equals 24 = .ok (.iconst 0, 1) := dk_3 (dk_at dksJ15_equals_1 0 rfl rfl)
theorem dJ15_equals_25 : decode cJ15_equals 25 = .ok (.ireturn, 1) := dk_172 (dk_at dksJ15_equals_1 1 rfl rfl)
theorem dJ15_equals_26 : decode cJ15_equals 26 = .ok (.iinc 2 1, 3) := dk_132 2 1 (dk_at dksJ15_equals_1 2 rfl rfl)
theorem dJ15_equals_29 : decode cJ15_equals 29 = .ok (.goto (-20), 3) := dk_167 255 236 (dk_at dksJ15_equals_1 5 rfl rfl)
theorem dJ15_equals_32 : decode cJ15_equals 32 = .ok (.iconst 1, 1) := dk_4 (dk_at dksJ15_equals_1 8 rfl rfl)
theorem dJ15_equals_33 : decode cJ15_equals 33 = .ok (.ireturn, 1) := dk_172 (dk_at dksJ15_equals_1 9 rfl rfl)
theorem dJ15_equals_34 : decode cJ15_equals 34 = .ok (.iconst 0, 1) := dk_3 (dk_at dksJ15_equals_1 10 rfl rfl)
theorem dJ15_equals_35 : decode cJ15_equals 35 = .ok (.ireturn, 1) := dk_172 (dk_at dksJ15_equals_1 11 rfl rfl)
abbrev cJ15_charAt : ByteArray := prog_33_method_2_code
def yJ15_charAt : MethodName := ⟨RJ15, "charAt", "([BI)C"⟩
def dkwJ15_charAt_0 : List UInt8 := [27, 42, 190, 184, 0, 9, 42, 27, 51, 17, 0, 255, 126, 146, 172]
abbrev dktJ15_charAt_0 : List UInt8 := dkwJ15_charAt_0 ++ []
theorem dksJ15_charAt_0 : cJ15_charAt.data.toList.drop 0 = dktJ15_charAt_0 := by decide +kernel
theorem dJ15_charAt_0 : decode cJ15_charAt 0 = .ok (.iload_n 1, 1) := dk_27 (dk_at dksJ15_charAt_0 0 rfl rfl)
theorem dJ15_charAt_1 : decode cJ15_charAt 1 = .ok (.aload_n 0, 1) := dk_42 (dk_at dksJ15_charAt_0 1 rfl rfl)
theorem dJ15_charAt_2 : decode cJ15_charAt 2 = .ok (.arraylength, 1) := dk_190 (dk_at dksJ15_charAt_0 2 rfl rfl)
theorem dJ15_charAt_3 : decode cJ15_charAt 3 = .ok (.invokestatic 9, 3) := dk_184 0 9 (dk_at dksJ15_charAt_0 3 rfl rfl)
theorem dJ15_charAt_6 : decode cJ15_charAt 6 = .ok (.aload_n 0, 1) := dk_42 (dk_at dksJ15_charAt_0 6 rfl rfl)
theorem dJ15_charAt_7 : decode cJ15_charAt 7 = .ok (.iload_n 1, 1) := dk_27 (dk_at dksJ15_charAt_0 7 rfl rfl)
theorem dJ15_charAt_8 : decode cJ15_charAt 8 = .ok (.baload, 1) := dk_51 (dk_at dksJ15_charAt_0 8 rfl rfl)
theorem dJ15_charAt_9 : decode cJ15_charAt 9 = .ok (.sipush 255, 3) := dk_17 0 255 (dk_at dksJ15_charAt_0 9 rfl rfl)
theorem dJ15_charAt_12 : decode cJ15_charAt 12 = .ok (.iand, 1) := dk_126 (dk_at dksJ15_charAt_0 12 rfl rfl)
theorem dJ15_charAt_13 : decode cJ15_charAt 13 = .ok (.i2c, 1) := dk_146 (dk_at dksJ15_charAt_0 13 rfl rfl)
theorem dJ15_charAt_14 : decode cJ15_charAt 14 = .ok (.ireturn, 1) := dk_172 (dk_at dksJ15_charAt_0 14 rfl rfl)
theorem q94 : (Jvm.Cond.initialized "java/lang/StringLatin1") ∈ lw_all := lw_g (lw_at lw_m1 19 rfl) rfl
theorem q317 : (Jvm.Cond.static ({ cls := "java/lang/StringLatin1", name := "inflate", desc := "([BI[BII)V" } : Jvm.MethodName)) ∈ lw_all := lw_g (lw_at lw_m2 2 rfl) rfl
theorem q318 : (Jvm.Cond.code ({ cls := "java/lang/StringLatin1", name := "inflate", desc := "([BI[BII)V" } : Jvm.MethodName) prog_33_method_50_code (5 : Nat) (Option.none : Option Jvm.ClassFile.FieldType)) ∈ lw_all := lw_g (lw_at lw_m2 3 rfl) rfl
theorem q319 : (Jvm.Cond.methodLink "java/lang/StringLatin1" (240 : Nat) ({ cls := "java/lang/StringUTF16", name := "inflate", desc := "([BI[BII)V" } : Jvm.MethodName)) ∈ lw_all := lw_g (lw_at lw_m2 4 rfl) rfl
theorem q974 : (Jvm.Cond.static ({ cls := "java/lang/StringLatin1", name := "canEncode", desc := "(C)Z" } : Jvm.MethodName)) ∈ lw_all := lw_g (lw_at lw_m4 179 rfl) rfl
theorem q975 : (Jvm.Cond.code ({ cls := "java/lang/StringLatin1", name := "canEncode", desc := "(C)Z" } : Jvm.MethodName) prog_33_method_3_code (1 : Nat) (Option.some Jvm.ClassFile.FieldType.boolean)) ∈ lw_all := lw_g (lw_at lw_m4 180 rfl) rfl
theorem q1041 : (Jvm.Cond.static ({ cls := "java/lang/StringLatin1", name := "equals", desc := "([B[B)Z" } : Jvm.MethodName)) ∈ lw_all := lw_g (lw_at lw_m5 6 rfl) rfl
theorem q1042 : (Jvm.Cond.code ({ cls := "java/lang/StringLatin1", name := "equals", desc := "([B[B)Z" } : Jvm.MethodName) prog_33_method_13_code (3 : Nat) (Option.some Jvm.ClassFile.FieldType.boolean)) ∈ lw_all := lw_g (lw_at lw_m5 7 rfl) rfl
theorem q1586 : (Jvm.Cond.static ({ cls := "java/lang/StringLatin1", name := "charAt", desc := "([BI)C" } : Jvm.MethodName)) ∈ lw_all := lw_g (lw_at lw_m7 71 rfl) rfl
theorem q1587 : (Jvm.Cond.code ({ cls := "java/lang/StringLatin1", name := "charAt", desc := "([BI)C" } : Jvm.MethodName) prog_33_method_2_code (2 : Nat) (Option.some Jvm.ClassFile.FieldType.char)) ∈ lw_all := lw_g (lw_at lw_m7 72 rfl) rfl
theorem q1588 : (Jvm.Cond.methodLink "java/lang/StringLatin1" (9 : Nat) ({ cls := "java/lang/String", name := "checkIndex", desc := "(II)V" } : Jvm.MethodName)) ∈ lw_all := lw_g (lw_at lw_m7 73 rfl) rfl
