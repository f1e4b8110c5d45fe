/-! LitStrangers -/
set_option maxRecDepth 100000
def RX0 : String := "LitStrangers"
def TX0 : u_T := fun k => match k with
  | 0 => ("LitStrangers", "coast", "LLitStrangers$Coast;", false)
  | 1 => ("LitStrangers", "images", "[LLitStrangers$Coast;", true)
  | 2 => ("LitStrangers", "undos", "Ljava/util/ArrayList;", true)
  | 3 => ("LitStrangers", "asked", "LLitStrangers$Asked;", true)
  | 4 => ("LitStrangers", "inOrders", "LLitStrangers$Asked;", true)
  | 5 => ("LitStrangers", "nothingTold", "LLitStrangers$Text;", true)
  | 6 => ("LitStrangers", "refused", "[I", true)
  | 7 => ("LitStrangers", "status", "I", false)
  | 8 => ("LitStrangers", "fault", "I", false)
  | 9 => ("LitStrangers", "salt", "I", false)
  | 10 => ("LitStrangers", "stopped", "I", false)
  | 11 => ("LitStrangers", "tape", "[B", true)
  | 12 => ("LitStrangers", "taped", "I", false)
  | 13 => ("LitStrangers", "nights", "LLitStrangers$Nights;", true)
  | 14 => ("LitStrangers", "done", "I", false)
  | _ => ("LitStrangers", "drawn", "[I", false)
def tyX0 : Nat → FieldType := fun k => match k with
  | 0 => .object "LitStrangers$Coast"
  | 1 => .array (.object "LitStrangers$Coast")
  | 2 => .object "java/util/ArrayList"
  | 3 => .object "LitStrangers$Asked"
  | 4 => .object "LitStrangers$Asked"
  | 5 => .object "LitStrangers$Text"
  | 6 => .array .int
  | 7 => .int
  | 8 => .int
  | 9 => .int
  | 10 => .int
  | 11 => .array .byte
  | 12 => .int
  | 13 => .object "LitStrangers$Nights"
  | 14 => .int
  | _ => .array .int
abbrev wsX00 : List Cond := u_ws RX0 TX0 16
set_option maxRecDepth 100000 in
theorem nmX0 : ∀ a, a < 16 → ∀ b, b < 16 → a ≠ b → (TX0 a).2.1 ≠ (TX0 b).2.1 := by decide +kernel
set_option maxRecDepth 100000 in
theorem tyX0_ok : ∀ k, k < 16 → parseFieldDescriptor (TX0 k).2.2.1 = some (tyX0 k) := by decide +kernel
abbrev cX0_init : ByteArray := prog_1_method_3_code
def yX0_init : MethodName := ⟨RX0, "<init>", "()V"⟩
def dkwX0_init_4 : List UInt8 := [17, 1, 144, 188, 8, 181, 0, 59, 42, 187, 0, 63, 89, 42, 183, 0, 65, 181, 0, 68, 177]
abbrev dktX0_init_4 : List UInt8 := dkwX0_init_4 ++ []
def dkwX0_init_3 : List UInt8 := [181, 0, 44, 42, 16, 7, 188, 10, 181, 0, 48, 42, 2, 181, 0, 52, 42, 2, 181, 0, 56, 42]
abbrev dktX0_init_3 : List UInt8 := dkwX0_init_3 ++ dktX0_init_4
def dkwX0_init_2 : List UInt8 := [187, 0, 27, 89, 183, 0, 29, 181, 0, 34, 42, 187, 0, 37, 89, 3, 189, 0, 39, 183, 0, 41]
abbrev dktX0_init_2 : List UInt8 := dkwX0_init_2 ++ dktX0_init_3
def dkwX0_init_1 : List UInt8 := [187, 0, 20, 89, 183, 0, 22, 181, 0, 23, 42, 187, 0, 27, 89, 183, 0, 29, 181, 0, 30, 42]
abbrev dktX0_init_1 : List UInt8 := dkwX0_init_1 ++ dktX0_init_2
def dkwX0_init_0 : List UInt8 := [42, 183, 0, 1, 42, 187, 0, 7, 89, 183, 0, 9, 181, 0, 10, 42, 5, 189, 0, 7, 181, 0, 16, 42]
abbrev dktX0_init_0 : List UInt8 := dkwX0_init_0 ++ dktX0_init_1
theorem dksX0_init_0 : cX0_init.data.toList.drop 0 = dktX0_init_0 := by decide +kernel
theorem dksX0_init_1 : cX0_init.data.toList.drop 24 = dktX0_init_1 := dk_seg dksX0_init_0 24 rfl rfl
theorem dksX0_init_2 : cX0_init.data.toList.drop 46 = dktX0_init_2 := dk_seg dksX0_init_1 22 rfl rfl
theorem dksX0_init_3 : cX0_init.data.toList.drop 68 = dktX0_init_3 := dk_seg dksX0_init_2 22 rfl rfl
theorem dksX0_init_4 : cX0_init.data.toList.drop 90 = dktX0_init_4 := dk_seg dksX0_init_3 22 rfl rfl
theorem dX0_init_0 : decode cX0_init 0 = .ok (.aload_n 0, 1) := dk_42 (dk_at dksX0_init_0 0 rfl rfl)
theorem dX0_init_1 : decode cX0_init 1 = .ok (.invokespecial 1, 3) := dk_183 0 1 (dk_at dksX0_init_0 1 rfl rfl)
theorem dX0_init_4 : decode cX0_init 4 = .ok (.aload_n 0, 1) := dk_42 (dk_at dksX0_init_0 4 rfl rfl)
theorem dX0_init_5 : decode cX0_init 5 = .ok (.new 7, 3) := dk_187 0 7 (dk_at dksX0_init_0 5 rfl rfl)
theorem dX0_init_8 : decode cX0_init 8 = .ok (.dup, 1) := dk_89 (dk_at dksX0_init_0 8 rfl rfl)
theorem dX0_init_9 : decode cX0_init 9 = .ok (.invokespecial 9, 3) := dk_183 0 9 (dk_at dksX0_init_0 9 rfl rfl)
theorem dX0_init_12 : decode cX0_init 12 = .ok (.putfield 10, 3) := dk_181 0 10 (dk_at dksX0_init_0 12 rfl rfl)
theorem dX0_init_15 : decode cX0_init 15 = .ok (.aload_n 0, 1) := dk_42 (dk_at dksX0_init_0 15 rfl rfl)
theorem dX0_init_16 : decode cX0_init 16 = .ok (.iconst 2, 1) := dk_5 (dk_at dksX0_init_0 16 rfl rfl)
theorem dX0_init_17 : decode cX0_init 17 = .ok (.anewarray 7, 3) := dk_189 0 7 (dk_at dksX0_init_0 17 rfl rfl)
theorem dX0_init_20 : decode cX0_init 20 = .ok (.putfield 16, 3) := dk_181 0 16 (dk_at dksX0_init_0 20 rfl rfl)
theorem dX0_init_23 : decode cX0_init 23 = .ok (.aload_n 0, 1) := dk_42 (dk_at dksX0_init_0 23 rfl rfl)
theorem dX0_init_24 : decode cX0_init 24 = .ok (.new 20, 3) := dk_187 0 20 (dk_at dksX0_init_1 0 rfl rfl)
theorem dX0_init_27 : decode cX0_init 27 = .ok (.dup, 1) := dk_89 (dk_at dksX0_init_1 3 rfl rfl)
theorem dX0_init_28 : decode cX0_init 28 = .ok (.invokespecial 22, 3) := dk_183 0 22 (dk_at dksX0_init_1 4 rfl rfl)
theorem dX0_init_31 : decode cX0_init 31 = .ok (.putfield 23, 3) := dk_181 0 23 (dk_at dksX0_init_1 7 rfl rfl)
theorem dX0_init_34 : decode cX0_init 34 = .ok (.aload_n 0, 1) := dk_42 (dk_at dksX0_init_1 10 rfl rfl)
theorem dX0_init_35 : decode cX0_init 35 = .ok (.new 27, 3) := dk_187 0 27 (dk_at dksX0_init_1 11 rfl rfl)
theorem dX0_init_38 : decode cX0_init 38 = .ok (.dup, 1) := dk_89 (dk_at dksX0_init_1 14 rfl rfl)
theorem dX0_init_39 : decode cX0_init 39 = .ok (.invokespecial 29, 3) := dk_183 0 29 (dk_at dksX0_init_1 15 rfl rfl)
theorem dX0_init_42 : decode cX0_init 42 = .ok (.putfield 30, 3) := dk_181 0 30 (dk_at dksX0_init_1 18 rfl rfl)
theorem dX0_init_45 : decode cX0_init 45 = .ok (.aload_n 0, 1) := dk_42 (dk_at dksX0_init_1 21 rfl rfl)
theorem dX0_init_46 : decode cX0_init 46 = .ok (.new 27, 3) := dk_187 0 27 (dk_at dksX0_init_2 0 rfl rfl)
theorem dX0_init_49 : decode cX0_init 49 = .ok (.dup, 1) := dk_89 (dk_at dksX0_init_2 3 rfl rfl)
theorem dX0_init_50 : decode cX0_init 50 = .ok (.invokespecial 29, 3) := dk_183 0 29 (dk_at dksX0_init_2 4 rfl rfl)
theorem dX0_init_53 : decode cX0_init 53 = .ok (.putfield 34, 3) := dk_181 0 34 (dk_at dksX0_init_2 7 rfl rfl)
theorem dX0_init_56 : decode cX0_init 56 = .ok (.aload_n 0, 1) := dk_42 (dk_at dksX0_init_2 10 rfl rfl)
theorem dX0_init_57 : decode cX0_init 57 = .ok (.new 37, 3) := dk_187 0 37 (dk_at dksX0_init_2 11 rfl rfl)
theorem dX0_init_60 : decode cX0_init 60 = .ok (.dup, 1) := dk_89 (dk_at dksX0_init_2 14 rfl rfl)
theorem dX0_init_61 : decode cX0_init 61 = .ok (.iconst 0, 1) := dk_3 (dk_at dksX0_init_2 15 rfl rfl)
theorem dX0_init_62 : decode cX0_init 62 = .ok (.anewarray 39, 3) := dk_189 0 39 (dk_at dksX0_init_2 16 rfl rfl)
theorem dX0_init_65 : decode cX0_init 65 = .ok (.invokespecial 41, 3) := dk_183 0 41 (dk_at dksX0_init_2 19 rfl rfl)
theorem dX0_init_68 : decode cX0_init 68 = .ok (.putfield 44, 3) := dk_181 0 44 (dk_at dksX0_init_3 0 rfl rfl)
theorem dX0_init_71 : decode cX0_init 71 = .ok (.aload_n 0, 1) := dk_42 (dk_at dksX0_init_3 3 rfl rfl)
theorem dX0_init_72 : decode cX0_init 72 = .ok (.bipush 7, 2) := dk_16 7 (dk_at dksX0_init_3 4 rfl rfl)
theorem dX0_init_74 : decode cX0_init 74 = .ok (.newarray .int, 2) := dk_188_10 (dk_at dksX0_init_3 6 rfl rfl)
theorem dX0_init_76 : decode cX0_init 76 = .ok (.putfield 48, 3) := dk_181 0 48 (dk_at dksX0_init_3 8 rfl rfl)
theorem dX0_init_79 : decode cX0_init 79 = .ok (.aload_n 0, 1) := dk_42 (dk_at dksX0_init_3 11 rfl rfl)
theorem dX0_init_80 : decode cX0_init 80 = .ok (.iconst (-1), 1) := dk_2 (dk_at dksX0_init_3 12 rfl rfl)
theorem dX0_init_81 : decode cX0_init 81 = .ok (.putfield 52, 3) := dk_181 0 52 (dk_at dksX0_init_3 13 rfl rfl)
theorem dX0_init_84 : decode cX0_init 84 = .ok (.aload_n 0, 1) := dk_42 (dk_at dksX0_init_3 16 rfl rfl)
theorem dX0_init_85 : decode cX0_init 85 = .ok (.iconst (-1), 1) := dk_2 (dk_at dksX0_init_3 17 rfl rfl)
theorem dX0_init_86 : decode cX0_init 86 = .ok (.putfield 56, 3) := dk_181 0 56 (dk_at dksX0_init_3 18 rfl rfl)
theorem dX0_init_89 : decode cX0_init 89 = .ok (.aload_n 0, 1) := dk_42 (dk_at dksX0_init_3 21 rfl rfl)
theorem dX0_init_90 : decode cX0_init 90 = .ok (.sipush 400, 3) := dk_17 1 144 (dk_at dksX0_init_4 0 rfl rfl)
theorem dX0_init_93 : decode cX0_init 93 = .ok (.newarray .byte, 2) := dk_188_8 (dk_at dksX0_init_4 3 rfl rfl)
theorem dX0_init_95 : decode cX0_init 95 = .ok (.putfield 59, 3) := dk_181 0 59 (dk_at dksX0_init_4 5 rfl rfl)
theorem dX0_init_98 : decode cX0_init 98 = .ok (.aload_n 0, 1) := dk_42 (dk_at dksX0_init_4 8 rfl rfl)
theorem dX0_init_99 : decode cX0_init 99 = .ok (.new 63, 3) := dk_187 0 63 (dk_at dksX0_init_4 9 rfl rfl)
theorem dX0_init_102 : decode cX0_init 102 = .ok (.dup, 1) := dk_89 (dk_at dksX0_init_4 12 rfl rfl)
theorem dX0_init_103 : decode cX0_init 103 = .ok (.aload_n 0, 1) := dk_42 (dk_at dksX0_init_4 13 rfl rfl)
theorem dX0_init_104 : decode cX0_init 104 = .ok (.invokespecial 65, 3) := dk_183 0 65 (dk_at dksX0_init_4 14 rfl rfl)
theorem dX0_init_107 : decode cX0_init 107 = .ok (.putfield 68, 3) := dk_181 0 68 (dk_at dksX0_init_4 17 rfl rfl)
theorem dX0_init_110 : decode cX0_init 110 = .ok (.return_, 1) := dk_177 (dk_at dksX0_init_4 20 rfl rfl)
abbrev cX0_feed : ByteArray := prog_1_method_12_code
def yX0_feed : MethodName := ⟨RX0, "feed", "(IIIII)I"⟩
def dkwX0_feed_2 : List UInt8 := [172]
abbrev dktX0_feed_2 : List UInt8 := dkwX0_feed_2 ++ []
def dkwX0_feed_1 : List UInt8 := [182, 0, 113, 42, 29, 182, 0, 113, 42, 21, 4, 182, 0, 113, 42, 21, 5, 182, 0, 113, 42, 180, 0, 110]
abbrev dktX0_feed_1 : List UInt8 := dkwX0_feed_1 ++ dktX0_feed_2
def dkwX0_feed_0 : List UInt8 := [42, 180, 0, 110, 16, 20, 96, 17, 1, 144, 164, 0, 5, 2, 172, 42, 27, 182, 0, 113, 42, 28]
abbrev dktX0_feed_0 : List UInt8 := dkwX0_feed_0 ++ dktX0_feed_1
theorem dksX0_feed_0 : cX0_feed.data.toList.drop 0 = dktX0_feed_0 := by decide +kernel
theorem dksX0_feed_1 : cX0_feed.data.toList.drop 22 = dktX0_feed_1 := dk_seg dksX0_feed_0 22 rfl rfl
theorem dksX0_feed_2 : cX0_feed.data.toList.drop 46 = dktX0_feed_2 := dk_seg dksX0_feed_1 24 rfl rfl
theorem dX0_feed_0 : decode cX0_feed 0 = .ok (.aload_n 0, 1) := dk_42 (dk_at dksX0_feed_0 0 rfl rfl)
theorem dX0_feed_1 : decode cX0_feed 1 = .ok (.getfield 110, 3) := dk_180 0 110 (dk_at dksX0_feed_0 1 rfl rfl)
theorem dX0_feed_4 : decode cX0_feed 4 = .ok (.bipush 20, 2) := dk_16 20 (dk_at dksX0_feed_0 4 rfl rfl)
theorem dX0_feed_6 : decode cX0_feed 6 = .ok (.iadd, 1) := dk_96 (dk_at dksX0_feed_0 6 rfl rfl)
theorem dX0_feed_7 : decode cX0_feed 7 = .ok (.sipush 400, 3) := dk_17 1 144 (dk_at dksX0_feed_0 7 rfl rfl)
theorem dX0_feed_10 : decode cX0_feed 10 = .ok (.if_icmp .le 5, 3) := dk_164 0 5 (dk_at dksX0_feed_0 10 rfl rfl)
theorem dX0_feed_13 : decode cX0_feed 13 = .ok (.iconst (-1), 1) := dk_2 (dk_at dksX0_feed_0 13 rfl rfl)
theorem dX0_feed_14 : decode cX0_feed 14 = .ok (.ireturn, 1) := dk_172 (dk_at dksX0_feed_0 14 rfl rfl)
theorem dX0_feed_15 : decode cX0_feed 15 = .ok (.aload_n 0, 1) := dk_42 (dk_at dksX0_feed_0 15 rfl rfl)
theorem dX0_feed_16 : decode cX0_feed 16 = .ok (.iload_n 1, 1) := dk_27 (dk_at dksX0_feed_0 16 rfl rfl)
theorem dX0_feed_17 : decode cX0_feed 17 = .ok (.invokevirtual 113, 3) := dk_182 0 113 (dk_at dksX0_feed_0 17 rfl rfl)
theorem dX0_feed_20 : decode cX0_feed 20 = .ok (.aload_n 0, 1) := dk_42 (dk_at dksX0_feed_0 20 rfl rfl)
theorem dX0_feed_21 : decode cX0_feed 21 = .ok (.iload_n 2, 1) := dk_28 (dk_at dksX0_feed_0 21 rfl rfl)
theorem dX0_feed_22 : decode cX0_feed 22 = .ok (.invokevirtual 113, 3) := dk_182 0 113 (dk_at dksX0_feed_1 0 rfl rfl)
theorem dX0_feed_25 : decode cX0_feed 25 = .ok (.aload_n 0, 1) := dk_42 (dk_at dksX0_feed_1 3 rfl rfl)
theorem dX0_feed_26 : decode cX0_feed 26 = .ok (.iload_n 3, 1) := dk_29 (dk_at dksX0_feed_1 4 rfl rfl)
theorem dX0_feed_27 : decode cX0_feed 27 = .ok (.invokevirtual 113, 3) := dk_182 0 113 (dk_at dksX0_feed_1 5 rfl rfl)
theorem dX0_feed_30 : decode cX0_feed 30 = .ok (.aload_n 0, 1) := dk_42 (dk_at dksX0_feed_1 8 rfl rfl)
theorem dX0_feed_31 : decode cX0_feed 31 = .ok (.iload 4, 2) := dk_21 4 (dk_at dksX0_feed_1 9 rfl rfl)
theorem dX0_feed_33 : decode cX0_feed 33 = .ok (.invokevirtual 113, 3) := dk_182 0 113 (dk_at dksX0_feed_1 11 rfl rfl)
theorem dX0_feed_36 : decode cX0_feed 36 = .ok (.aload_n 0, 1) := dk_42 (dk_at dksX0_feed_1 14 rfl rfl)
theorem dX0_feed_37 : decode cX0_feed 37 = .ok (.iload 5, 2) := dk_21 5 (dk_at dksX0_feed_1 15 rfl rfl)
theorem dX0_feed_39 : decode cX0_feed 39 = .ok (.invokevirtual 113, 3) := dk_182 0 113 (dk_at dksX0_feed_1 17 rfl rfl)
theorem dX0_feed_42 : decode cX0_feed 42 = .ok (.aload_n 0, 1) := dk_42 (dk_at dksX0_feed_1 20 rfl rfl)
theorem dX0_feed_43 : decode cX0_feed 43 = .ok (.getfield 110, 3) := dk_180 0 110 (dk_at dksX0_feed_1 21 rfl rfl)
theorem dX0_feed_46 : decode cX0_feed 46 = .ok (.ireturn, 1) := dk_172 (dk_at dksX0_feed_2 0 rfl rfl)
abbrev cX0_four : ByteArray := prog_1_method_11_code
def yX0_four : MethodName := ⟨RX0, "four", "(I)V"⟩
def dkwX0_four_1 : List UInt8 := [180, 0, 110, 4, 96, 181, 0, 110, 132, 2, 248, 167, 255, 226, 177]
abbrev dktX0_four_1 : List UInt8 := dkwX0_four_1 ++ []
def dkwX0_four_0 : List UInt8 := [16, 24, 61, 28, 155, 0, 32, 42, 180, 0, 59, 42, 180, 0, 110, 27, 28, 122, 145, 84, 42, 89]
abbrev dktX0_four_0 : List UInt8 := dkwX0_four_0 ++ dktX0_four_1
theorem dksX0_four_0 : cX0_four.data.toList.drop 0 = dktX0_four_0 := by decide +kernel
theorem dksX0_four_1 : cX0_four.data.toList.drop 22 = dktX0_four_1 := dk_seg dksX0_four_0 22 rfl rfl
theorem dX0_four_0 : decode cX0_four 0 = .ok (.bipush 24, 2) := dk_16 24 (dk_at dksX0_four_0 0 rfl rfl)
theorem dX0_four_2 : decode cX0_four 2 = .ok (.istore_n 2, 1) := dk_61 (dk_at dksX0_four_0 2 rfl rfl)
theorem dX0_four_3 : decode cX0_four 3 = .ok (.iload_n 2, 1) := dk_28 (dk_at dksX0_four_0 3 rfl rfl)
theorem dX0_four_4 : decode cX0_four 4 = .ok (.ifCond .lt 32, 3) := dk_155 0 32 (dk_at dksX0_four_0 4 rfl rfl)
theorem dX0_four_7 : decode cX0_four 7 = .ok (.aload_n 0, 1) := dk_42 (dk_at dksX0_four_0 7 rfl rfl)
theorem dX0_four_8 : decode cX0_four 8 = .ok (.getfield 59, 3) := dk_180 0 59 (dk_at dksX0_four_0 8 rfl rfl)
theorem dX0_four_11 : decode cX0_four 11 = .ok (.aload_n 0, 1) := dk_42 (dk_at dksX0_four_0 11 rfl rfl)
theorem dX0_four_12 : decode cX0_four 12 = .ok (.getfield 110, 3) := dk_180 0 110 (dk_at dksX0_four_0 12 rfl rfl)
theorem dX0_four_15 : decode cX0_four 15 = .ok (.iload_n 1, 1) := dk_27 (dk_at dksX0_four_0 15 rfl rfl)
theorem dX0_four_16 : decode cX0_four 16 = .ok (.iload_n 2, 1) := dk_28 (dk_at dksX0_four_0 16 rfl rfl)
theorem dX0_four_17 : decode cX0_four 17 = .ok (.ishr, 1) := dk_122 (dk_at dksX0_four_0 17 rfl rfl)
theorem dX0_four_18 : decode cX0_four 18 = .ok (.i2b, 1) := dk_145 (dk_at dksX0_four_0 18 rfl rfl)
theorem dX0_four_19 : decode cX0_four 19 = .ok (.bastore, 1) := dk_84 (dk_at dksX0_four_0 19 rfl rfl)
theorem dX0_four_20 : decode cX0_four 20 = .ok (.aload_n 0, 1) := dk_42 (dk_at dksX0_four_0 20 rfl rfl)
theorem dX0_four_21 : decode cX0_four 21 = .ok (.dup, 1) := dk_89 (dk_at dksX0_four_0 21 rfl rfl)
theorem dX0_four_22 : decode cX0_four 22 = .ok (.getfield 110, 3) := dk_180 0 110 (dk_at dksX0_four_1 0 rfl rfl)
theorem dX0_four_25 : decode cX0_four 25 = .ok (.iconst 1, 1) := dk_4 (dk_at dksX0_four_1 3 rfl rfl)
theorem dX0_four_26 : decode cX0_four 26 = .ok (.iadd, 1) := dk_96 (dk_at dksX0_four_1 4 rfl rfl)
theorem dX0_four_27 : decode cX0_four 27 = .ok (.putfield 110, 3) := dk_181 0 110 (dk_at dksX0_four_1 5 rfl rfl)
theorem dX0_four_30 : decode cX0_four 30 = .ok (.iinc 2 (-8), 3) := dk_132 2 248 (dk_at dksX0_four_1 8 rfl rfl)
theorem dX0_four_33 : decode cX0_four 33 = .ok (.goto (-30), 3) := dk_167 255 226 (dk_at dksX0_four_1 11 rfl rfl)
theorem dX0_four_36 : decode cX0_four 36 = .ok (.return_, 1) := dk_177 (dk_at dksX0_four_1 14 rfl rfl)
abbrev cX0_end : ByteArray := prog_1_method_13_code
def yX0_end : MethodName := ⟨RX0, "end", "(I)I"⟩
def dkwX0_end_0 : List UInt8 := [27, 133, 9, 42, 180, 0, 110, 133, 184, 0, 102, 154, 0, 5, 2, 172, 42, 27, 181, 0, 110, 27, 172]
abbrev dktX0_end_0 : List UInt8 := dkwX0_end_0 ++ []
theorem dksX0_end_0 : cX0_end.data.toList.drop 0 = dktX0_end_0 := by decide +kernel
theorem dX0_end_0 : decode cX0_end 0 = .ok (.iload_n 1, 1) := dk_27 (dk_at dksX0_end_0 0 rfl rfl)
theorem dX0_end_1 : decode cX0_end 1 = .ok (.i2l, 1) := dk_133 (dk_at dksX0_end_0 1 rfl rfl)
theorem dX0_end_2 : decode cX0_end 2 = .ok (.lconst 0, 1) := dk_9 (dk_at dksX0_end_0 2 rfl rfl)
theorem dX0_end_3 : decode cX0_end 3 = .ok (.aload_n 0, 1) := dk_42 (dk_at dksX0_end_0 3 rfl rfl)
theorem dX0_end_4 : decode cX0_end 4 = .ok (.getfield 110, 3) := dk_180 0 110 (dk_at dksX0_end_0 4 rfl rfl)
theorem dX0_end_7 : decode cX0_end 7 = .ok (.i2l, 1) := dk_133 (dk_at dksX0_end_0 7 rfl rfl)
theorem dX0_end_8 : decode cX0_end 8 = .ok (.invokestatic 102, 3) := dk_184 0 102 (dk_at dksX0_end_0 8 rfl rfl)
theorem dX0_end_11 : decode cX0_end 11 = .ok (.ifCond .ne 5, 3) := dk_154 0 5 (dk_at dksX0_end_0 11 rfl rfl)
theorem dX0_end_14 : decode cX0_end 14 = .ok (.iconst (-1), 1) := dk_2 (dk_at dksX0_end_0 14 rfl rfl)
theorem dX0_end_15 : decode cX0_end 15 = .ok (.ireturn, 1) := dk_172 (dk_at dksX0_end_0 15 rfl rfl)
theorem dX0_end_16 : decode cX0_end 16 = .ok (.aload_n 0, 1) := dk_42 (dk_at dksX0_end_0 16 rfl rfl)
theorem dX0_end_17 : decode cX0_end 17 = .ok (.iload_n 1, 1) := dk_27 (dk_at dksX0_end_0 17 rfl rfl)
theorem dX0_end_18 : decode cX0_end 18 = .ok (.putfield 110, 3) := dk_181 0 110 (dk_at dksX0_end_0 18 rfl rfl)
theorem dX0_end_21 : decode cX0_end 21 = .ok (.iload_n 1, 1) := dk_27 (dk_at dksX0_end_0 21 rfl rfl)
theorem dX0_end_22 : decode cX0_end 22 = .ok (.ireturn, 1) := dk_172 (dk_at dksX0_end_0 22 rfl rfl)
abbrev cX0_in : ByteArray := prog_1_method_1_code
def yX0_in : MethodName := ⟨RX0, "in", "(JJJ)Z"⟩
def dkwX0_in_0 : List UInt8 := [30, 32, 148, 155, 0, 14, 30, 22, 4, 148, 157, 0, 7, 4, 167, 0, 4, 3, 172]
abbrev dktX0_in_0 : List UInt8 := dkwX0_in_0 ++ []
theorem dksX0_in_0 : cX0_in.data.toList.drop 0 = dktX0_in_0 := by decide +kernel
theorem dX0_in_0 : decode cX0_in 0 = .ok (.lload_n 0, 1) := dk_30 (dk_at dksX0_in_0 0 rfl rfl)
theorem dX0_in_1 : decode cX0_in 1 = .ok (.lload_n 2, 1) := dk_32 (dk_at dksX0_in_0 1 rfl rfl)
theorem dX0_in_2 : decode cX0_in 2 = .ok (.lcmp, 1) := dk_148 (dk_at dksX0_in_0 2 rfl rfl)
theorem dX0_in_3 : decode cX0_in 3 = .ok (.ifCond .lt 14, 3) := dk_155 0 14 (dk_at dksX0_in_0 3 rfl rfl)
theorem dX0_in_6 : decode cX0_in 6 = .ok (.lload_n 0, 1) := dk_30 (dk_at dksX0_in_0 6 rfl rfl)
theorem dX0_in_7 : decode cX0_in 7 = .ok (.lload 4, 2) := dk_22 4 (dk_at dksX0_in_0 7 rfl rfl)
theorem dX0_in_9 : decode cX0_in 9 = .ok (.lcmp, 1) := dk_148 (dk_at dksX0_in_0 9 rfl rfl)
theorem dX0_in_10 : decode cX0_in 10 = .ok (.ifCond .gt 7, 3) := dk_157 0 7 (dk_at dksX0_in_0 10 rfl rfl)
theorem dX0_in_13 : decode cX0_in 13 = .ok (.iconst 1, 1) := dk_4 (dk_at dksX0_in_0 13 rfl rfl)
theorem dX0_in_14 : decode cX0_in 14 = .ok (.goto 4, 3) := dk_167 0 4 (dk_at dksX0_in_0 14 rfl rfl)
theorem dX0_in_17 : decode cX0_in 17 = .ok (.iconst 0, 1) := dk_3 (dk_at dksX0_in_0 17 rfl rfl)
theorem dX0_in_18 : decode cX0_in 18 = .ok (.ireturn, 1) := dk_172 (dk_at dksX0_in_0 18 rfl rfl)
abbrev cX0_person : ByteArray := prog_1_method_17_code
def yX0_person : MethodName := ⟨RX0, "person", "(II)I"⟩
def dkwX0_person_0 : List UInt8 := [42, 42, 27, 28, 3, 182, 0, 146, 182, 0, 150, 172]
abbrev dktX0_person_0 : List UInt8 := dkwX0_person_0 ++ []
theorem dksX0_person_0 : cX0_person.data.toList.drop 0 = dktX0_person_0 := by decide +kernel
theorem dX0_person_0 : decode cX0_person 0 = .ok (.aload_n 0, 1) := dk_42 (dk_at dksX0_person_0 0 rfl rfl)
theorem dX0_person_1 : decode cX0_person 1 = .ok (.aload_n 0, 1) := dk_42 (dk_at dksX0_person_0 1 rfl rfl)
theorem dX0_person_2 : decode cX0_person 2 = .ok (.iload_n 1, 1) := dk_27 (dk_at dksX0_person_0 2 rfl rfl)
theorem dX0_person_3 : decode cX0_person 3 = .ok (.iload_n 2, 1) := dk_28 (dk_at dksX0_person_0 3 rfl rfl)
theorem dX0_person_4 : decode cX0_person 4 = .ok (.iconst 0, 1) := dk_3 (dk_at dksX0_person_0 4 rfl rfl)
theorem dX0_person_5 : decode cX0_person 5 = .ok (.invokevirtual 146, 3) := dk_182 0 146 (dk_at dksX0_person_0 5 rfl rfl)
theorem dX0_person_8 : decode cX0_person 8 = .ok (.invokevirtual 150, 3) := dk_182 0 150 (dk_at dksX0_person_0 8 rfl rfl)
theorem dX0_person_11 : decode cX0_person 11 = .ok (.ireturn, 1) := dk_172 (dk_at dksX0_person_0 11 rfl rfl)
abbrev cX0_come : ByteArray := prog_1_method_16_code
def yX0_come : MethodName := ⟨RX0, "come", "(III)I"⟩
def dkwX0_come_4 : List UInt8 := [2, 79, 42, 182, 0, 132, 180, 0, 143, 21, 4, 29, 79, 21, 4, 172]
abbrev dktX0_come_4 : List UInt8 := dkwX0_come_4 ++ []
def dkwX0_come_3 : List UInt8 := [182, 0, 128, 87, 42, 182, 0, 132, 180, 0, 135, 21, 4, 3, 79, 42, 182, 0, 132, 180, 0, 140, 21, 4]
abbrev dktX0_come_3 : List UInt8 := dkwX0_come_3 ++ dktX0_come_4
def dkwX0_come_2 : List UInt8 := [160, 0, 6, 16, 251, 172, 42, 180, 0, 10, 180, 0, 92, 187, 0, 123, 89, 27, 28, 183, 0, 125]
abbrev dktX0_come_2 : List UInt8 := dkwX0_come_2 ++ dktX0_come_3
def dkwX0_come_1 : List UInt8 := [29, 133, 9, 20, 0, 121, 184, 0, 102, 154, 0, 5, 2, 172, 42, 182, 0, 99, 54, 4, 21, 4, 16, 10]
abbrev dktX0_come_1 : List UInt8 := dkwX0_come_1 ++ dktX0_come_2
def dkwX0_come_0 : List UInt8 := [27, 133, 9, 20, 0, 117, 184, 0, 102, 153, 0, 27, 28, 133, 9, 20, 0, 119, 184, 0, 102, 153, 0, 15]
abbrev dktX0_come_0 : List UInt8 := dkwX0_come_0 ++ dktX0_come_1
theorem dksX0_come_0 : cX0_come.data.toList.drop 0 = dktX0_come_0 := by decide +kernel
theorem dksX0_come_1 : cX0_come.data.toList.drop 24 = dktX0_come_1 := dk_seg dksX0_come_0 24 rfl rfl
theorem dksX0_come_2 : cX0_come.data.toList.drop 48 = dktX0_come_2 := dk_seg dksX0_come_1 24 rfl rfl
theorem dksX0_come_3 : cX0_come.data.toList.drop 70 = dktX0_come_3 := dk_seg dksX0_come_2 22 rfl rfl
theorem dksX0_come_4 : cX0_come.data.toList.drop 94 = dktX0_come_4 := dk_seg dksX0_come_3 24 rfl rfl
theorem dX0_come_0 : decode cX0_come 0 = .ok (.iload_n 1, 1) := dk_27 (dk_at dksX0_come_0 0 rfl rfl)
theorem dX0_come_1 : decode cX0_come 1 = .ok (.i2l, 1) := dk_133 (dk_at dksX0_come_0 1 rfl rfl)
theorem dX0_come_2 : decode cX0_come 2 = .ok (.lconst 0, 1) := dk_9 (dk_at dksX0_come_0 2 rfl rfl)
theorem dX0_come_3 : decode cX0_come 3 = .ok (.ldc2_w 117, 3) := dk_20 0 117 (dk_at dksX0_come_0 3 rfl rfl)
theorem dX0_come_6 : decode cX0_come 6 = .ok (.invokestatic 102, 3) := dk_184 0 102 (dk_at dksX0_come_0 6 rfl rfl)
theorem dX0_come_9 : decode cX0_come 9 = .ok (.ifCond .eq 27, 3) := dk_153 0 27 (dk_at dksX0_come_0 9 rfl rfl)
theorem dX0_come_12 : decode cX0_come 12 = .ok (.iload_n 2, 1) := dk_28 (dk_at dksX0_come_0 12 rfl rfl)
theorem dX0_come_13 : decode cX0_come 13 = .ok (.i2l, 1) := dk_133 (dk_at dksX0_come_0 13 rfl rfl)
theorem dX0_come_14 : decode cX0_come 14 = .ok (.lconst 0, 1) := dk_9 (dk_at dksX0_come_0 14 rfl rfl)
theorem dX0_come_15 : decode cX0_come 15 = .ok (.ldc2_w 119, 3) := dk_20 0 119 (dk_at dksX0_come_0 15 rfl rfl)
theorem dX0_come_18 : decode cX0_come 18 = .ok (.invokestatic 102, 3) := dk_184 0 102 (dk_at dksX0_come_0 18 rfl rfl)
theorem dX0_come_21 : decode cX0_come 21 = .ok (.ifCond .eq 15, 3) := dk_153 0 15 (dk_at dksX0_come_0 21 rfl rfl)
theorem dX0_come_24 : decode cX0_come 24 = .ok (.iload_n 3, 1) := dk_29 (dk_at dksX0_come_1 0 rfl rfl)
theorem dX0_come_25 : decode cX0_come 25 = .ok (.i2l, 1) := dk_133 (dk_at dksX0_come_1 1 rfl rfl)
theorem dX0_come_26 : decode cX0_come 26 = .ok (.lconst 0, 1) := dk_9 (dk_at dksX0_come_1 2 rfl rfl)
theorem dX0_come_27 : decode cX0_come 27 = .ok (.ldc2_w 121, 3) := dk_20 0 121 (dk_at dksX0_come_1 3 rfl rfl)
theorem dX0_come_30 : decode cX0_come 30 = .ok (.invokestatic 102, 3) := dk_184 0 102 (dk_at dksX0_come_1 6 rfl rfl)
theorem dX0_come_33 : decode cX0_come 33 = .ok (.ifCond .ne 5, 3) := dk_154 0 5 (dk_at dksX0_come_1 9 rfl rfl)
theorem dX0_come_36 : decode cX0_come 36 = .ok (.iconst (-1), 1) := dk_2 (dk_at dksX0_come_1 12 rfl rfl)
theorem dX0_come_37 : decode cX0_come 37 = .ok (.ireturn, 1) := dk_172 (dk_at dksX0_come_1 13 rfl rfl)
theorem dX0_come_38 : decode cX0_come 38 = .ok (.aload_n 0, 1) := dk_42 (dk_at dksX0_come_1 14 rfl rfl)
theorem dX0_come_39 : decode cX0_come 39 = .ok (.invokevirtual 99, 3) := dk_182 0 99 (dk_at dksX0_come_1 15 rfl rfl)
theorem dX0_come_42 : decode cX0_come 42 = .ok (.istore 4, 2) := dk_54 4 (dk_at dksX0_come_1 18 rfl rfl)
theorem dX0_come_44 : decode cX0_come 44 = .ok (.iload 4, 2) := dk_21 4 (dk_at dksX0_come_1 20 rfl rfl)
theorem dX0_come_46 : decode cX0_come 46 = .ok (.bipush 10, 2) := dk_16 10 (dk_at dksX0_come_1 22 rfl rfl)
theorem dX0_come_48 : decode cX0_come 48 = .ok (.if_icmp .ne 6, 3) := dk_160 0 6 (dk_at dksX0_come_2 0 rfl rfl)
theorem dX0_come_51 : decode cX0_come 51 = .ok (.bipush (-5), 2) := dk_16 251 (dk_at dksX0_come_2 3 rfl rfl)
theorem dX0_come_53 : decode cX0_come 53 = .ok (.ireturn, 1) := dk_172 (dk_at dksX0_come_2 5 rfl rfl)
theorem dX0_come_54 : decode cX0_come 54 = .ok (.aload_n 0, 1) := dk_42 (dk_at dksX0_come_2 6 rfl rfl)
theorem dX0_come_55 : decode cX0_come 55 = .ok (.getfield 10, 3) := dk_180 0 10 (dk_at dksX0_come_2 7 rfl rfl)
theorem dX0_come_58 : decode cX0_come 58 = .ok (.getfield 92, 3) := dk_180 0 92 (dk_at dksX0_come_2 10 rfl rfl)
theorem dX0_come_61 : decode cX0_come 61 = .ok (.new 123, 3) := dk_187 0 123 (dk_at dksX0_come_2 13 rfl rfl)
theorem dX0_come_64 : decode cX0_come 64 = .ok (.dup, 1) := dk_89 (dk_at dksX0_come_2 16 rfl rfl)
theorem dX0_come_65 : decode cX0_come 65 = .ok (.iload_n 1, 1) := dk_27 (dk_at dksX0_come_2 17 rfl rfl)
theorem dX0_come_66 : decode cX0_come 66 = .ok (.iload_n 2, 1) := dk_28 (dk_at dksX0_come_2 18 rfl rfl)
theorem dX0_come_67 : decode cX0_come 67 = .ok (.invokespecial 125, 3) := dk_183 0 125 (dk_at dksX0_come_2 19 rfl rfl)
theorem dX0_come_70 : decode cX0_come 70 = .ok (.invokevirtual 128, 3) := dk_182 0 128 (dk_at dksX0_come_3 0 rfl rfl)
theorem dX0_come_73 : decode cX0_come 73 = .ok (.pop, 1) := dk_87 (dk_at dksX0_come_3 3 rfl rfl)
theorem dX0_come_74 : decode cX0_come 74 = .ok (.aload_n 0, 1) := dk_42 (dk_at dksX0_come_3 4 rfl rfl)
theorem dX0_come_75 : decode cX0_come 75 = .ok (.invokevirtual 132, 3) := dk_182 0 132 (dk_at dksX0_come_3 5 rfl rfl)
theorem dX0_come_78 : decode cX0_come 78 = .ok (.getfield 135, 3) := dk_180 0 135 (dk_at dksX0_come_3 8 rfl rfl)
theorem dX0_come_81 : decode cX0_come 81 = .ok (.iload 4, 2) := dk_21 4 (dk_at dksX0_come_3 11 rfl rfl)
theorem dX0_come_83 : decode cX0_come 83 = .ok (.iconst 0, 1) := dk_3 (dk_at dksX0_come_3 13 rfl rfl)
theorem dX0_come_84 : decode cX0_come 84 = .ok (.iastore, 1) := dk_79 (dk_at dksX0_come_3 14 rfl rfl)
theorem dX0_come_85 : decode cX0_come 85 = .ok (.aload_n 0, 1) := dk_42 (dk_at dksX0_come_3 15 rfl rfl)
theorem dX0_come_86 : decode cX0_come 86 = .ok (.invokevirtual 132, 3) := dk_182 0 132 (dk_at dksX0_come_3 16 rfl rfl)
theorem dX0_come_89 : decode cX0_come 89 = .ok (.getfield 140, 3) := dk_180 0 140 (dk_at dksX0_come_3 19 rfl rfl)
theorem dX0_come_92 : decode cX0_come 92 = .ok (.iload 4, 2) := dk_21 4 (dk_at dksX0_come_3 22 rfl rfl)
theorem dX0_come_94 : decode cX0_come 94 = .ok (.iconst (-1), 1) := dk_2 (dk_at dksX0_come_4 0 rfl rfl)
theorem dX0_come_95 : decode cX0_come 95 = .ok (.iastore, 1) := dk_79 (dk_at dksX0_come_4 1 rfl rfl)
theorem dX0_come_96 : decode cX0_come 96 = .ok (.aload_n 0, 1) := dk_42 (dk_at dksX0_come_4 2 rfl rfl)
theorem dX0_come_97 : decode cX0_come 97 = .ok (.invokevirtual 132, 3) := dk_182 0 132 (dk_at dksX0_come_4 3 rfl rfl)
theorem dX0_come_100 : decode cX0_come 100 = .ok (.getfield 143, 3) := dk_180 0 143 (dk_at dksX0_come_4 6 rfl rfl)
theorem dX0_come_103 : decode cX0_come 103 = .ok (.iload 4, 2) := dk_21 4 (dk_at dksX0_come_4 9 rfl rfl)
theorem dX0_come_105 : decode cX0_come 105 = .ok (.iload_n 3, 1) := dk_29 (dk_at dksX0_come_4 11 rfl rfl)
theorem dX0_come_106 : decode cX0_come 106 = .ok (.iastore, 1) := dk_79 (dk_at dksX0_come_4 12 rfl rfl)
theorem dX0_come_107 : decode cX0_come 107 = .ok (.iload 4, 2) := dk_21 4 (dk_at dksX0_come_4 13 rfl rfl)
theorem dX0_come_109 : decode cX0_come 109 = .ok (.ireturn, 1) := dk_172 (dk_at dksX0_come_4 15 rfl rfl)
abbrev cX0_many : ByteArray := prog_1_method_8_code
def yX0_many : MethodName := ⟨RX0, "many", "()I"⟩
def dkwX0_many_0 : List UInt8 := [42, 180, 0, 10, 180, 0, 92, 182, 0, 95, 172]
abbrev dktX0_many_0 : List UInt8 := dkwX0_many_0 ++ []
theorem dksX0_many_0 : cX0_many.data.toList.drop 0 = dktX0_many_0 := by decide +kernel
theorem dX0_many_0 : decode cX0_many 0 = .ok (.aload_n 0, 1) := dk_42 (dk_at dksX0_many_0 0 rfl rfl)
theorem dX0_many_1 : decode cX0_many 1 = .ok (.getfield 10, 3) := dk_180 0 10 (dk_at dksX0_many_0 1 rfl rfl)
theorem dX0_many_4 : decode cX0_many 4 = .ok (.getfield 92, 3) := dk_180 0 92 (dk_at dksX0_many_0 4 rfl rfl)
theorem dX0_many_7 : decode cX0_many 7 = .ok (.invokevirtual 95, 3) := dk_182 0 95 (dk_at dksX0_many_0 7 rfl rfl)
theorem dX0_many_10 : decode cX0_many 10 = .ok (.ireturn, 1) := dk_172 (dk_at dksX0_many_0 10 rfl rfl)
abbrev cX0_books : ByteArray := prog_1_method_7_code
def yX0_books : MethodName := ⟨RX0, "books", "()LLitStrangers$Books;"⟩
def dkwX0_books_0 : List UInt8 := [42, 180, 0, 10, 180, 0, 88, 176]
abbrev dktX0_books_0 : List UInt8 := dkwX0_books_0 ++ []
theorem dksX0_books_0 : cX0_books.data.toList.drop 0 = dktX0_books_0 := by decide +kernel
theorem dX0_books_0 : decode cX0_books 0 = .ok (.aload_n 0, 1) := dk_42 (dk_at dksX0_books_0 0 rfl rfl)
theorem dX0_books_1 : decode cX0_books 1 = .ok (.getfield 10, 3) := dk_180 0 10 (dk_at dksX0_books_0 1 rfl rfl)
theorem dX0_books_4 : decode cX0_books 4 = .ok (.getfield 88, 3) := dk_180 0 88 (dk_at dksX0_books_0 4 rfl rfl)
theorem dX0_books_7 : decode cX0_books 7 = .ok (.areturn, 1) := dk_176 (dk_at dksX0_books_0 7 rfl rfl)
abbrev cX0_settled : ByteArray := prog_1_method_5_code
def yX0_settled : MethodName := ⟨RX0, "settled", "(I)I"⟩
def dkwX0_settled_0 : List UInt8 := [27, 155, 0, 10, 42, 180, 0, 23, 182, 0, 81, 42, 27, 182, 0, 84, 172]
abbrev dktX0_settled_0 : List UInt8 := dkwX0_settled_0 ++ []
theorem dksX0_settled_0 : cX0_settled.data.toList.drop 0 = dktX0_settled_0 := by decide +kernel
theorem dX0_settled_0 : decode cX0_settled 0 = .ok (.iload_n 1, 1) := dk_27 (dk_at dksX0_settled_0 0 rfl rfl)
theorem dX0_settled_1 : decode cX0_settled 1 = .ok (.ifCond .lt 10, 3) := dk_155 0 10 (dk_at dksX0_settled_0 1 rfl rfl)
theorem dX0_settled_4 : decode cX0_settled 4 = .ok (.aload_n 0, 1) := dk_42 (dk_at dksX0_settled_0 4 rfl rfl)
theorem dX0_settled_5 : decode cX0_settled 5 = .ok (.getfield 23, 3) := dk_180 0 23 (dk_at dksX0_settled_0 5 rfl rfl)
theorem dX0_settled_8 : decode cX0_settled 8 = .ok (.invokevirtual 81, 3) := dk_182 0 81 (dk_at dksX0_settled_0 8 rfl rfl)
theorem dX0_settled_11 : decode cX0_settled 11 = .ok (.aload_n 0, 1) := dk_42 (dk_at dksX0_settled_0 11 rfl rfl)
theorem dX0_settled_12 : decode cX0_settled 12 = .ok (.iload_n 1, 1) := dk_27 (dk_at dksX0_settled_0 12 rfl rfl)
theorem dX0_settled_13 : decode cX0_settled 13 = .ok (.invokevirtual 84, 3) := dk_182 0 84 (dk_at dksX0_settled_0 13 rfl rfl)
theorem dX0_settled_16 : decode cX0_settled 16 = .ok (.ireturn, 1) := dk_172 (dk_at dksX0_settled_0 16 rfl rfl)
abbrev cX0_tell : ByteArray := prog_1_method_4_code
def yX0_tell : MethodName := ⟨RX0, "tell", "(I)I"⟩
def dkwX0_tell_1 : List UInt8 := [27, 172]
abbrev dktX0_tell_1 : List UInt8 := dkwX0_tell_1 ++ []
def dkwX0_tell_0 : List UInt8 := [42, 27, 3, 184, 0, 72, 181, 0, 78, 27, 156, 0, 14, 42, 180, 0, 48, 27, 116, 92, 46, 4, 96, 79]
abbrev dktX0_tell_0 : List UInt8 := dkwX0_tell_0 ++ dktX0_tell_1
theorem dksX0_tell_0 : cX0_tell.data.toList.drop 0 = dktX0_tell_0 := by decide +kernel
theorem dksX0_tell_1 : cX0_tell.data.toList.drop 24 = dktX0_tell_1 := dk_seg dksX0_tell_0 24 rfl rfl
theorem dX0_tell_0 : decode cX0_tell 0 = .ok (.aload_n 0, 1) := dk_42 (dk_at dksX0_tell_0 0 rfl rfl)
theorem dX0_tell_1 : decode cX0_tell 1 = .ok (.iload_n 1, 1) := dk_27 (dk_at dksX0_tell_0 1 rfl rfl)
theorem dX0_tell_2 : decode cX0_tell 2 = .ok (.iconst 0, 1) := dk_3 (dk_at dksX0_tell_0 2 rfl rfl)
theorem dX0_tell_3 : decode cX0_tell 3 = .ok (.invokestatic 72, 3) := dk_184 0 72 (dk_at dksX0_tell_0 3 rfl rfl)
theorem dX0_tell_6 : decode cX0_tell 6 = .ok (.putfield 78, 3) := dk_181 0 78 (dk_at dksX0_tell_0 6 rfl rfl)
theorem dX0_tell_9 : decode cX0_tell 9 = .ok (.iload_n 1, 1) := dk_27 (dk_at dksX0_tell_0 9 rfl rfl)
theorem dX0_tell_10 : decode cX0_tell 10 = .ok (.ifCond .ge 14, 3) := dk_156 0 14 (dk_at dksX0_tell_0 10 rfl rfl)
theorem dX0_tell_13 : decode cX0_tell 13 = .ok (.aload_n 0, 1) := dk_42 (dk_at dksX0_tell_0 13 rfl rfl)
theorem dX0_tell_14 : decode cX0_tell 14 = .ok (.getfield 48, 3) := dk_180 0 48 (dk_at dksX0_tell_0 14 rfl rfl)
theorem dX0_tell_17 : decode cX0_tell 17 = .ok (.iload_n 1, 1) := dk_27 (dk_at dksX0_tell_0 17 rfl rfl)
theorem dX0_tell_18 : decode cX0_tell 18 = .ok (.ineg, 1) := dk_116 (dk_at dksX0_tell_0 18 rfl rfl)
theorem dX0_tell_19 : decode cX0_tell 19 = .ok (.dup2, 1) := dk_92 (dk_at dksX0_tell_0 19 rfl rfl)
theorem dX0_tell_20 : decode cX0_tell 20 = .ok (.iaload, 1) := dk_46 (dk_at dksX0_tell_0 20 rfl rfl)
theorem dX0_tell_21 : decode cX0_tell 21 = .ok (.iconst 1, 1) := dk_4 (dk_at dksX0_tell_0 21 rfl rfl)
theorem dX0_tell_22 : decode cX0_tell 22 = .ok (.iadd, 1) := dk_96 (dk_at dksX0_tell_0 22 rfl rfl)
theorem dX0_tell_23 : decode cX0_tell 23 = .ok (.iastore, 1) := dk_79 (dk_at dksX0_tell_0 23 rfl rfl)
theorem dX0_tell_24 : decode cX0_tell 24 = .ok (.iload_n 1, 1) := dk_27 (dk_at dksX0_tell_1 0 rfl rfl)
theorem dX0_tell_25 : decode cX0_tell 25 = .ok (.ireturn, 1) := dk_172 (dk_at dksX0_tell_1 1 rfl rfl)
abbrev cX0_hear : ByteArray := prog_1_method_18_code
def yX0_hear : MethodName := ⟨RX0, "hear", "(II)I"⟩
def dkwX0_hear_3 : List UInt8 := [28, 79, 42, 180, 0, 23, 182, 0, 81, 42, 29, 182, 0, 157, 172]
abbrev dktX0_hear_3 : List UInt8 := dkwX0_hear_3 ++ []
def dkwX0_hear_2 : List UInt8 := [16, 253, 182, 0, 84, 172, 42, 182, 0, 132, 180, 0, 143, 27, 46, 62, 42, 182, 0, 132, 180, 0, 143, 27]
abbrev dktX0_hear_2 : List UInt8 := dkwX0_hear_2 ++ dktX0_hear_3
def dkwX0_hear_1 : List UInt8 := [154, 0, 10, 42, 16, 254, 182, 0, 84, 172, 42, 182, 0, 132, 180, 0, 135, 27, 46, 6, 160, 0, 10, 42]
abbrev dktX0_hear_1 : List UInt8 := dkwX0_hear_1 ++ dktX0_hear_2
def dkwX0_hear_0 : List UInt8 := [28, 133, 9, 20, 0, 121, 184, 0, 102, 154, 0, 9, 42, 2, 182, 0, 84, 172, 42, 27, 182, 0, 153]
abbrev dktX0_hear_0 : List UInt8 := dkwX0_hear_0 ++ dktX0_hear_1
theorem dksX0_hear_0 : cX0_hear.data.toList.drop 0 = dktX0_hear_0 := by decide +kernel
theorem dksX0_hear_1 : cX0_hear.data.toList.drop 23 = dktX0_hear_1 := dk_seg dksX0_hear_0 23 rfl rfl
theorem dksX0_hear_2 : cX0_hear.data.toList.drop 47 = dktX0_hear_2 := dk_seg dksX0_hear_1 24 rfl rfl
theorem dksX0_hear_3 : cX0_hear.data.toList.drop 71 = dktX0_hear_3 := dk_seg dksX0_hear_2 24 rfl rfl
theorem dX0_hear_0 : decode cX0_hear 0 = .ok (.iload_n 2, 1) := dk_28 (dk_at dksX0_hear_0 0 rfl rfl)
theorem dX0_hear_1 : decode cX0_hear 1 = .ok (.i2l, 1) := dk_133 (dk_at dksX0_hear_0 1 rfl rfl)
theorem dX0_hear_2 : decode cX0_hear 2 = .ok (.lconst 0, 1) := dk_9 (dk_at dksX0_hear_0 2 rfl rfl)
theorem dX0_hear_3 : decode cX0_hear 3 = .ok (.ldc2_w 121, 3) := dk_20 0 121 (dk_at dksX0_hear_0 3 rfl rfl)
theorem dX0_hear_6 : decode cX0_hear 6 = .ok (.invokestatic 102, 3) := dk_184 0 102 (dk_at dksX0_hear_0 6 rfl rfl)
theorem dX0_hear_9 : decode cX0_hear 9 = .ok (.ifCond .ne 9, 3) := dk_154 0 9 (dk_at dksX0_hear_0 9 rfl rfl)
theorem dX0_hear_12 : decode cX0_hear 12 = .ok (.aload_n 0, 1) := dk_42 (dk_at dksX0_hear_0 12 rfl rfl)
theorem dX0_hear_13 : decode cX0_hear 13 = .ok (.iconst (-1), 1) := dk_2 (dk_at dksX0_hear_0 13 rfl rfl)
theorem dX0_hear_14 : decode cX0_hear 14 = .ok (.invokevirtual 84, 3) := dk_182 0 84 (dk_at dksX0_hear_0 14 rfl rfl)
theorem dX0_hear_17 : decode cX0_hear 17 = .ok (.ireturn, 1) := dk_172 (dk_at dksX0_hear_0 17 rfl rfl)
theorem dX0_hear_18 : decode cX0_hear 18 = .ok (.aload_n 0, 1) := dk_42 (dk_at dksX0_hear_0 18 rfl rfl)
theorem dX0_hear_19 : decode cX0_hear 19 = .ok (.iload_n 1, 1) := dk_27 (dk_at dksX0_hear_0 19 rfl rfl)
theorem dX0_hear_20 : decode cX0_hear 20 = .ok (.invokevirtual 153, 3) := dk_182 0 153 (dk_at dksX0_hear_0 20 rfl rfl)
theorem dX0_hear_23 : decode cX0_hear 23 = .ok (.ifCond .ne 10, 3) := dk_154 0 10 (dk_at dksX0_hear_1 0 rfl rfl)
theorem dX0_hear_26 : decode cX0_hear 26 = .ok (.aload_n 0, 1) := dk_42 (dk_at dksX0_hear_1 3 rfl rfl)
theorem dX0_hear_27 : decode cX0_hear 27 = .ok (.bipush (-2), 2) := dk_16 254 (dk_at dksX0_hear_1 4 rfl rfl)
theorem dX0_hear_29 : decode cX0_hear 29 = .ok (.invokevirtual 84, 3) := dk_182 0 84 (dk_at dksX0_hear_1 6 rfl rfl)
theorem dX0_hear_32 : decode cX0_hear 32 = .ok (.ireturn, 1) := dk_172 (dk_at dksX0_hear_1 9 rfl rfl)
theorem dX0_hear_33 : decode cX0_hear 33 = .ok (.aload_n 0, 1) := dk_42 (dk_at dksX0_hear_1 10 rfl rfl)
theorem dX0_hear_34 : decode cX0_hear 34 = .ok (.invokevirtual 132, 3) := dk_182 0 132 (dk_at dksX0_hear_1 11 rfl rfl)
theorem dX0_hear_37 : decode cX0_hear 37 = .ok (.getfield 135, 3) := dk_180 0 135 (dk_at dksX0_hear_1 14 rfl rfl)
theorem dX0_hear_40 : decode cX0_hear 40 = .ok (.iload_n 1, 1) := dk_27 (dk_at dksX0_hear_1 17 rfl rfl)
theorem dX0_hear_41 : decode cX0_hear 41 = .ok (.iaload, 1) := dk_46 (dk_at dksX0_hear_1 18 rfl rfl)
theorem dX0_hear_42 : decode cX0_hear 42 = .ok (.iconst 3, 1) := dk_6 (dk_at dksX0_hear_1 19 rfl rfl)
theorem dX0_hear_43 : decode cX0_hear 43 = .ok (.if_icmp .ne 10, 3) := dk_160 0 10 (dk_at dksX0_hear_1 20 rfl rfl)
theorem dX0_hear_46 : decode cX0_hear 46 = .ok (.aload_n 0, 1) := dk_42 (dk_at dksX0_hear_1 23 rfl rfl)
theorem dX0_hear_47 : decode cX0_hear 47 = .ok (.bipush (-3), 2) := dk_16 253 (dk_at dksX0_hear_2 0 rfl rfl)
theorem dX0_hear_49 : decode cX0_hear 49 = .ok (.invokevirtual 84, 3) := dk_182 0 84 (dk_at dksX0_hear_2 2 rfl rfl)
theorem dX0_hear_52 : decode cX0_hear 52 = .ok (.ireturn, 1) := dk_172 (dk_at dksX0_hear_2 5 rfl rfl)
theorem dX0_hear_53 : decode cX0_hear 53 = .ok (.aload_n 0, 1) := dk_42 (dk_at dksX0_hear_2 6 rfl rfl)
theorem dX0_hear_54 : decode cX0_hear 54 = .ok (.invokevirtual 132, 3) := dk_182 0 132 (dk_at dksX0_hear_2 7 rfl rfl)
theorem dX0_hear_57 : decode cX0_hear 57 = .ok (.getfield 143, 3) := dk_180 0 143 (dk_at dksX0_hear_2 10 rfl rfl)
theorem dX0_hear_60 : decode cX0_hear 60 = .ok (.iload_n 1, 1) := dk_27 (dk_at dksX0_hear_2 13 rfl rfl)
theorem dX0_hear_61 : decode cX0_hear 61 = .ok (.iaload, 1) := dk_46 (dk_at dksX0_hear_2 14 rfl rfl)
theorem dX0_hear_62 : decode cX0_hear 62 = .ok (.istore_n 3, 1) := dk_62 (dk_at dksX0_hear_2 15 rfl rfl)
theorem dX0_hear_63 : decode cX0_hear 63 = .ok (.aload_n 0, 1) := dk_42 (dk_at dksX0_hear_2 16 rfl rfl)
theorem dX0_hear_64 : decode cX0_hear 64 = .ok (.invokevirtual 132, 3) := dk_182 0 132 (dk_at dksX0_hear_2 17 rfl rfl)
theorem dX0_hear_67 : decode cX0_hear 67 = .ok (.getfield 143, 3) := dk_180 0 143 (dk_at dksX0_hear_2 20 rfl rfl)
theorem dX0_hear_70 : decode cX0_hear 70 = .ok (.iload_n 1, 1) := dk_27 (dk_at dksX0_hear_2 23 rfl rfl)
theorem dX0_hear_71 : decode cX0_hear 71 = .ok (.iload_n 2, 1) := dk_28 (dk_at dksX0_hear_3 0 rfl rfl)
theorem dX0_hear_72 : decode cX0_hear 72 = .ok (.iastore, 1) := dk_79 (dk_at dksX0_hear_3 1 rfl rfl)
theorem dX0_hear_73 : decode cX0_hear 73 = .ok (.aload_n 0, 1) := dk_42 (dk_at dksX0_hear_3 2 rfl rfl)
theorem dX0_hear_74 : decode cX0_hear 74 = .ok (.getfield 23, 3) := dk_180 0 23 (dk_at dksX0_hear_3 3 rfl rfl)
theorem dX0_hear_77 : decode cX0_hear 77 = .ok (.invokevirtual 81, 3) := dk_182 0 81 (dk_at dksX0_hear_3 6 rfl rfl)
theorem dX0_hear_80 : decode cX0_hear 80 = .ok (.aload_n 0, 1) := dk_42 (dk_at dksX0_hear_3 9 rfl rfl)
theorem dX0_hear_81 : decode cX0_hear 81 = .ok (.iload_n 3, 1) := dk_29 (dk_at dksX0_hear_3 10 rfl rfl)
theorem dX0_hear_82 : decode cX0_hear 82 = .ok (.invokevirtual 157, 3) := dk_182 0 157 (dk_at dksX0_hear_3 11 rfl rfl)
theorem dX0_hear_85 : decode cX0_hear 85 = .ok (.ireturn, 1) := dk_172 (dk_at dksX0_hear_3 14 rfl rfl)
abbrev cX0_isPerson : ByteArray := prog_1_method_9_code
def yX0_isPerson : MethodName := ⟨RX0, "isPerson", "(I)Z"⟩
def dkwX0_isPerson_0 : List UInt8 := [27, 133, 9, 42, 182, 0, 99, 4, 100, 133, 184, 0, 102, 172]
abbrev dktX0_isPerson_0 : List UInt8 := dkwX0_isPerson_0 ++ []
theorem dksX0_isPerson_0 : cX0_isPerson.data.toList.drop 0 = dktX0_isPerson_0 := by decide +kernel
theorem dX0_isPerson_0 : decode cX0_isPerson 0 = .ok (.iload_n 1, 1) := dk_27 (dk_at dksX0_isPerson_0 0 rfl rfl)
theorem dX0_isPerson_1 : decode cX0_isPerson 1 = .ok (.i2l, 1) := dk_133 (dk_at dksX0_isPerson_0 1 rfl rfl)
theorem dX0_isPerson_2 : decode cX0_isPerson 2 = .ok (.lconst 0, 1) := dk_9 (dk_at dksX0_isPerson_0 2 rfl rfl)
theorem dX0_isPerson_3 : decode cX0_isPerson 3 = .ok (.aload_n 0, 1) := dk_42 (dk_at dksX0_isPerson_0 3 rfl rfl)
theorem dX0_isPerson_4 : decode cX0_isPerson 4 = .ok (.invokevirtual 99, 3) := dk_182 0 99 (dk_at dksX0_isPerson_0 4 rfl rfl)
theorem dX0_isPerson_7 : decode cX0_isPerson 7 = .ok (.iconst 1, 1) := dk_4 (dk_at dksX0_isPerson_0 7 rfl rfl)
theorem dX0_isPerson_8 : decode cX0_isPerson 8 = .ok (.isub, 1) := dk_100 (dk_at dksX0_isPerson_0 8 rfl rfl)
theorem dX0_isPerson_9 : decode cX0_isPerson 9 = .ok (.i2l, 1) := dk_133 (dk_at dksX0_isPerson_0 9 rfl rfl)
theorem dX0_isPerson_10 : decode cX0_isPerson 10 = .ok (.invokestatic 102, 3) := dk_184 0 102 (dk_at dksX0_isPerson_0 10 rfl rfl)
theorem dX0_isPerson_13 : decode cX0_isPerson 13 = .ok (.ireturn, 1) := dk_172 (dk_at dksX0_isPerson_0 13 rfl rfl)
abbrev cX0_was : ByteArray := prog_1_method_6_code
def yX0_was : MethodName := ⟨RX0, "was", "(I)I"⟩
def dkwX0_was_0 : List UInt8 := [42, 3, 181, 0, 78, 27, 172]
abbrev dktX0_was_0 : List UInt8 := dkwX0_was_0 ++ []
theorem dksX0_was_0 : cX0_was.data.toList.drop 0 = dktX0_was_0 := by decide +kernel
theorem dX0_was_0 : decode cX0_was 0 = .ok (.aload_n 0, 1) := dk_42 (dk_at dksX0_was_0 0 rfl rfl)
theorem dX0_was_1 : decode cX0_was 1 = .ok (.iconst 0, 1) := dk_3 (dk_at dksX0_was_0 1 rfl rfl)
theorem dX0_was_2 : decode cX0_was 2 = .ok (.putfield 78, 3) := dk_181 0 78 (dk_at dksX0_was_0 2 rfl rfl)
theorem dX0_was_5 : decode cX0_was 5 = .ok (.iload_n 1, 1) := dk_27 (dk_at dksX0_was_0 5 rfl rfl)
theorem dX0_was_6 : decode cX0_was 6 = .ok (.ireturn, 1) := dk_172 (dk_at dksX0_was_0 6 rfl rfl)
abbrev cX0_of : ByteArray := prog_1_method_19_code
def yX0_of : MethodName := ⟨RX0, "of", "(II)I"⟩
def dkwX0_of_5 : List UInt8 := [182, 0, 132, 180, 0, 140, 27, 46, 167, 0, 4, 2, 172, 42, 182, 0, 132, 27, 182, 0, 170, 172, 2, 172]
abbrev dktX0_of_5 : List UInt8 := dkwX0_of_5 ++ []
def dkwX0_of_4 : List UInt8 := [42, 182, 0, 132, 180, 0, 135, 27, 46, 172, 42, 182, 0, 132, 180, 0, 135, 27, 46, 4, 160, 0, 15, 42]
abbrev dktX0_of_4 : List UInt8 := dkwX0_of_4 ++ dktX0_of_5
def dkwX0_of_3 : List UInt8 := [180, 0, 92, 27, 182, 0, 160, 192, 0, 123, 180, 0, 167, 172, 42, 182, 0, 132, 180, 0, 143, 27, 46, 172]
abbrev dktX0_of_3 : List UInt8 := dkwX0_of_3 ++ dktX0_of_4
def dkwX0_of_2 : List UInt8 := [42, 180, 0, 10, 180, 0, 92, 27, 182, 0, 160, 192, 0, 123, 180, 0, 164, 172, 42, 180, 0, 10]
abbrev dktX0_of_2 : List UInt8 := dkwX0_of_2 ++ dktX0_of_3
def dkwX0_of_1 : List UInt8 := [170, 0, 0, 0, 129, 0, 0, 0, 0, 0, 0, 0, 5, 0, 0, 0, 37, 0, 0, 0, 55, 0, 0, 0, 73, 0, 0, 0, 83, 0, 0, 0, 93, 0, 0, 0, 120]
abbrev dktX0_of_1 : List UInt8 := dkwX0_of_1 ++ dktX0_of_2
def dkwX0_of_0 : List UInt8 := [42, 27, 182, 0, 153, 154, 0, 5, 2, 172, 28]
abbrev dktX0_of_0 : List UInt8 := dkwX0_of_0 ++ dktX0_of_1
theorem dksX0_of_0 : cX0_of.data.toList.drop 0 = dktX0_of_0 := by decide +kernel
theorem dksX0_of_1 : cX0_of.data.toList.drop 11 = dktX0_of_1 := dk_seg dksX0_of_0 11 rfl rfl
theorem dksX0_of_2 : cX0_of.data.toList.drop 48 = dktX0_of_2 := dk_seg dksX0_of_1 37 rfl rfl
theorem dksX0_of_3 : cX0_of.data.toList.drop 70 = dktX0_of_3 := dk_seg dksX0_of_2 22 rfl rfl
theorem dksX0_of_4 : cX0_of.data.toList.drop 94 = dktX0_of_4 := dk_seg dksX0_of_3 24 rfl rfl
theorem dksX0_of_5 : cX0_of.data.toList.drop 118 = dktX0_of_5 := dk_seg dksX0_of_4 24 rfl rfl
theorem dX0_of_0 : decode cX0_of 0 = .ok (.aload_n 0, 1) := dk_42 (dk_at dksX0_of_0 0 rfl rfl)
theorem dX0_of_1 : decode cX0_of 1 = .ok (.iload_n 1, 1) := dk_27 (dk_at dksX0_of_0 1 rfl rfl)
theorem dX0_of_2 : decode cX0_of 2 = .ok (.invokevirtual 153, 3) := dk_182 0 153 (dk_at dksX0_of_0 2 rfl rfl)
theorem dX0_of_5 : decode cX0_of 5 = .ok (.ifCond .ne 5, 3) := dk_154 0 5 (dk_at dksX0_of_0 5 rfl rfl)
theorem dX0_of_8 : decode cX0_of 8 = .ok (.iconst (-1), 1) := dk_2 (dk_at dksX0_of_0 8 rfl rfl)
theorem dX0_of_9 : decode cX0_of 9 = .ok (.ireturn, 1) := dk_172 (dk_at dksX0_of_0 9 rfl rfl)
theorem dX0_of_10 : decode cX0_of 10 = .ok (.iload_n 2, 1) := dk_28 (dk_at dksX0_of_0 10 rfl rfl)
theorem dX0_of_11 : decode cX0_of 11 = .ok (.tableswitch 129 0 5 #[37, 55, 73, 83, 93, 120], 37) := by decide +kernel
theorem dX0_of_48 : decode cX0_of 48 = .ok (.aload_n 0, 1) := dk_42 (dk_at dksX0_of_2 0 rfl rfl)
theorem dX0_of_49 : decode cX0_of 49 = .ok (.getfield 10, 3) := dk_180 0 10 (dk_at dksX0_of_2 1 rfl rfl)
theorem dX0_of_52 : decode cX0_of 52 = .ok (.getfield 92, 3) := dk_180 0 92 (dk_at dksX0_of_2 4 rfl rfl)
theorem dX0_of_55 : decode cX0_of 55 = .ok (.iload_n 1, 1) := dk_27 (dk_at dksX0_of_2 7 rfl rfl)
theorem dX0_of_56 : decode cX0_of 56 = .ok (.invokevirtual 160, 3) := dk_182 0 160 (dk_at dksX0_of_2 8 rfl rfl)
theorem dX0_of_59 : decode cX0_of 59 = .ok (.checkcast 123, 3) := dk_192 0 123 (dk_at dksX0_of_2 11 rfl rfl)
theorem dX0_of_62 : decode cX0_of 62 = .ok (.getfield 164, 3) := dk_180 0 164 (dk_at dksX0_of_2 14 rfl rfl)
theorem dX0_of_65 : decode cX0_of 65 = .ok (.ireturn, 1) := dk_172 (dk_at dksX0_of_2 17 rfl rfl)
theorem dX0_of_66 : decode cX0_of 66 = .ok (.aload_n 0, 1) := dk_42 (dk_at dksX0_of_2 18 rfl rfl)
theorem dX0_of_67 : decode cX0_of 67 = .ok (.getfield 10, 3) := dk_180 0 10 (dk_at dksX0_of_2 19 rfl rfl)
theorem dX0_of_70 : decode cX0_of 70 = .ok (.getfield 92, 3) := dk_180 0 92 (dk_at dksX0_of_3 0 rfl rfl)
theorem dX0_of_73 : decode cX0_of 73 = .ok (.iload_n 1, 1) := dk_27 (dk_at dksX0_of_3 3 rfl rfl)
theorem dX0_of_74 : decode cX0_of 74 = .ok (.invokevirtual 160, 3) := dk_182 0 160 (dk_at dksX0_of_3 4 rfl rfl)
theorem dX0_of_77 : decode cX0_of 77 = .ok (.checkcast 123, 3) := dk_192 0 123 (dk_at dksX0_of_3 7 rfl rfl)
theorem dX0_of_80 : decode cX0_of 80 = .ok (.getfield 167, 3) := dk_180 0 167 (dk_at dksX0_of_3 10 rfl rfl)
theorem dX0_of_83 : decode cX0_of 83 = .ok (.ireturn, 1) := dk_172 (dk_at dksX0_of_3 13 rfl rfl)
theorem dX0_of_84 : decode cX0_of 84 = .ok (.aload_n 0, 1) := dk_42 (dk_at dksX0_of_3 14 rfl rfl)
theorem dX0_of_85 : decode cX0_of 85 = .ok (.invokevirtual 132, 3) := dk_182 0 132 (dk_at dksX0_of_3 15 rfl rfl)
theorem dX0_of_88 : decode cX0_of 88 = .ok (.getfield 143, 3) := dk_180 0 143 (dk_at dksX0_of_3 18 rfl rfl)
theorem dX0_of_91 : decode cX0_of 91 = .ok (.iload_n 1, 1) := dk_27 (dk_at dksX0_of_3 21 rfl rfl)
theorem dX0_of_92 : decode cX0_of 92 = .ok (.iaload, 1) := dk_46 (dk_at dksX0_of_3 22 rfl rfl)
theorem dX0_of_93 : decode cX0_of 93 = .ok (.ireturn, 1) := dk_172 (dk_at dksX0_of_3 23 rfl rfl)
theorem dX0_of_94 : decode cX0_of 94 = .ok (.aload_n 0, 1) := dk_42 (dk_at dksX0_of_4 0 rfl rfl)
theorem dX0_of_95 : decode cX0_of 95 = .ok (.invokevirtual 132, 3) := dk_182 0 132 (dk_at dksX0_of_4 1 rfl rfl)
theorem dX0_of_98 : decode cX0_of 98 = .ok (.getfield 135, 3) := dk_180 0 135 (dk_at dksX0_of_4 4 rfl rfl)
theorem dX0_of_101 : decode cX0_of 101 = .ok (.iload_n 1, 1) := dk_27 (dk_at dksX0_of_4 7 rfl rfl)
theorem dX0_of_102 : decode cX0_of 102 = .ok (.iaload, 1) := dk_46 (dk_at dksX0_of_4 8 rfl rfl)
theorem dX0_of_103 : decode cX0_of 103 = .ok (.ireturn, 1) := dk_172 (dk_at dksX0_of_4 9 rfl rfl)
theorem dX0_of_104 : decode cX0_of 104 = .ok (.aload_n 0, 1) := dk_42 (dk_at dksX0_of_4 10 rfl rfl)
theorem dX0_of_105 : decode cX0_of 105 = .ok (.invokevirtual 132, 3) := dk_182 0 132 (dk_at dksX0_of_4 11 rfl rfl)
theorem dX0_of_108 : decode cX0_of 108 = .ok (.getfield 135, 3) := dk_180 0 135 (dk_at dksX0_of_4 14 rfl rfl)
theorem dX0_of_111 : decode cX0_of 111 = .ok (.iload_n 1, 1) := dk_27 (dk_at dksX0_of_4 17 rfl rfl)
theorem dX0_of_112 : decode cX0_of 112 = .ok (.iaload, 1) := dk_46 (dk_at dksX0_of_4 18 rfl rfl)
theorem dX0_of_113 : decode cX0_of 113 = .ok (.iconst 1, 1) := dk_4 (dk_at dksX0_of_4 19 rfl rfl)
theorem dX0_of_114 : decode cX0_of 114 = .ok (.if_icmp .ne 15, 3) := dk_160 0 15 (dk_at dksX0_of_4 20 rfl rfl)
theorem dX0_of_117 : decode cX0_of 117 = .ok (.aload_n 0, 1) := dk_42 (dk_at dksX0_of_4 23 rfl rfl)
theorem dX0_of_118 : decode cX0_of 118 = .ok (.invokevirtual 132, 3) := dk_182 0 132 (dk_at dksX0_of_5 0 rfl rfl)
theorem dX0_of_121 : decode cX0_of 121 = .ok (.getfield 140, 3) := dk_180 0 140 (dk_at dksX0_of_5 3 rfl rfl)
theorem dX0_of_124 : decode cX0_of 124 = .ok (.iload_n 1, 1) := dk_27 (dk_at dksX0_of_5 6 rfl rfl)
theorem dX0_of_125 : decode cX0_of 125 = .ok (.iaload, 1) := dk_46 (dk_at dksX0_of_5 7 rfl rfl)
theorem dX0_of_126 : decode cX0_of 126 = .ok (.goto 4, 3) := dk_167 0 4 (dk_at dksX0_of_5 8 rfl rfl)
theorem dX0_of_129 : decode cX0_of 129 = .ok (.iconst (-1), 1) := dk_2 (dk_at dksX0_of_5 11 rfl rfl)
theorem dX0_of_130 : decode cX0_of 130 = .ok (.ireturn, 1) := dk_172 (dk_at dksX0_of_5 12 rfl rfl)
theorem dX0_of_131 : decode cX0_of 131 = .ok (.aload_n 0, 1) := dk_42 (dk_at dksX0_of_5 13 rfl rfl)
theorem dX0_of_132 : decode cX0_of 132 = .ok (.invokevirtual 132, 3) := dk_182 0 132 (dk_at dksX0_of_5 14 rfl rfl)
theorem dX0_of_135 : decode cX0_of 135 = .ok (.iload_n 1, 1) := dk_27 (dk_at dksX0_of_5 17 rfl rfl)
theorem dX0_of_136 : decode cX0_of 136 = .ok (.invokevirtual 170, 3) := dk_182 0 170 (dk_at dksX0_of_5 18 rfl rfl)
theorem dX0_of_139 : decode cX0_of 139 = .ok (.ireturn, 1) := dk_172 (dk_at dksX0_of_5 21 rfl rfl)
theorem dX0_of_140 : decode cX0_of 140 = .ok (.iconst (-1), 1) := dk_2 (dk_at dksX0_of_5 22 rfl rfl)
theorem dX0_of_141 : decode cX0_of 141 = .ok (.ireturn, 1) := dk_172 (dk_at dksX0_of_5 23 rfl rfl)
abbrev cX0_talk : ByteArray := prog_1_method_20_code
def yX0_talk : MethodName := ⟨RX0, "talk", "(III)I"⟩
def dkwX0_talk_4 : List UInt8 := [130, 79, 42, 21, 4, 182, 0, 157, 172]
abbrev dktX0_talk_4 : List UInt8 := dkwX0_talk_4 ++ []
def dkwX0_talk_3 : List UInt8 := [180, 0, 173, 27, 92, 46, 4, 28, 120, 130, 79, 42, 180, 0, 10, 180, 0, 173, 28, 92, 46, 4, 27, 120]
abbrev dktX0_talk_3 : List UInt8 := dkwX0_talk_3 ++ dktX0_talk_4
def dkwX0_talk_2 : List UInt8 := [180, 0, 10, 180, 0, 173, 27, 46, 28, 122, 4, 126, 54, 4, 21, 4, 29, 159, 0, 33, 42, 180, 0, 10]
abbrev dktX0_talk_2 : List UInt8 := dkwX0_talk_2 ++ dktX0_talk_3
def dkwX0_talk_1 : List UInt8 := [182, 0, 153, 153, 0, 11, 42, 28, 182, 0, 153, 154, 0, 10, 42, 16, 254, 182, 0, 84, 172, 42]
abbrev dktX0_talk_1 : List UInt8 := dkwX0_talk_1 ++ dktX0_talk_2
def dkwX0_talk_0 : List UInt8 := [27, 28, 159, 0, 13, 29, 133, 9, 10, 184, 0, 102, 154, 0, 9, 42, 2, 182, 0, 84, 172, 42, 27]
abbrev dktX0_talk_0 : List UInt8 := dkwX0_talk_0 ++ dktX0_talk_1
theorem dksX0_talk_0 : cX0_talk.data.toList.drop 0 = dktX0_talk_0 := by decide +kernel
theorem dksX0_talk_1 : cX0_talk.data.toList.drop 23 = dktX0_talk_1 := dk_seg dksX0_talk_0 23 rfl rfl
theorem dksX0_talk_2 : cX0_talk.data.toList.drop 45 = dktX0_talk_2 := dk_seg dksX0_talk_1 22 rfl rfl
theorem dksX0_talk_3 : cX0_talk.data.toList.drop 69 = dktX0_talk_3 := dk_seg dksX0_talk_2 24 rfl rfl
theorem dksX0_talk_4 : cX0_talk.data.toList.drop 93 = dktX0_talk_4 := dk_seg dksX0_talk_3 24 rfl rfl
theorem dX0_talk_0 : decode cX0_talk 0 = .ok (.iload_n 1, 1) := dk_27 (dk_at dksX0_talk_0 0 rfl rfl)
theorem dX0_talk_1 : decode cX0_talk 1 = .ok (.iload_n 2, 1) := dk_28 (dk_at dksX0_talk_0 1 rfl rfl)
theorem dX0_talk_2 : decode cX0_talk 2 = .ok (.if_icmp .eq 13, 3) := dk_159 0 13 (dk_at dksX0_talk_0 2 rfl rfl)
theorem dX0_talk_5 : decode cX0_talk 5 = .ok (.iload_n 3, 1) := dk_29 (dk_at dksX0_talk_0 5 rfl rfl)
theorem dX0_talk_6 : decode cX0_talk 6 = .ok (.i2l, 1) := dk_133 (dk_at dksX0_talk_0 6 rfl rfl)
theorem dX0_talk_7 : decode cX0_talk 7 = .ok (.lconst 0, 1) := dk_9 (dk_at dksX0_talk_0 7 rfl rfl)
theorem dX0_talk_8 : decode cX0_talk 8 = .ok (.lconst 1, 1) := dk_10 (dk_at dksX0_talk_0 8 rfl rfl)
theorem dX0_talk_9 : decode cX0_talk 9 = .ok (.invokestatic 102, 3) := dk_184 0 102 (dk_at dksX0_talk_0 9 rfl rfl)
theorem dX0_talk_12 : decode cX0_talk 12 = .ok (.ifCond .ne 9, 3) := dk_154 0 9 (dk_at dksX0_talk_0 12 rfl rfl)
theorem dX0_talk_15 : decode cX0_talk 15 = .ok (.aload_n 0, 1) := dk_42 (dk_at dksX0_talk_0 15 rfl rfl)
theorem dX0_talk_16 : decode cX0_talk 16 = .ok (.iconst (-1), 1) := dk_2 (dk_at dksX0_talk_0 16 rfl rfl)
theorem dX0_talk_17 : decode cX0_talk 17 = .ok (.invokevirtual 84, 3) := dk_182 0 84 (dk_at dksX0_talk_0 17 rfl rfl)
theorem dX0_talk_20 : decode cX0_talk 20 = .ok (.ireturn, 1) := dk_172 (dk_at dksX0_talk_0 20 rfl rfl)
theorem dX0_talk_21 : decode cX0_talk 21 = .ok (.aload_n 0, 1) := dk_42 (dk_at dksX0_talk_0 21 rfl rfl)
theorem dX0_talk_22 : decode cX0_talk 22 = .ok (.iload_n 1, 1) := dk_27 (dk_at dksX0_talk_0 22 rfl rfl)
theorem dX0_talk_23 : decode cX0_talk 23 = .ok (.invokevirtual 153, 3) := dk_182 0 153 (dk_at dksX0_talk_1 0 rfl rfl)
theorem dX0_talk_26 : decode cX0_talk 26 = .ok (.ifCond .eq 11, 3) := dk_153 0 11 (dk_at dksX0_talk_1 3 rfl rfl)
theorem dX0_talk_29 : decode cX0_talk 29 = .ok (.aload_n 0, 1) := dk_42 (dk_at dksX0_talk_1 6 rfl rfl)
theorem dX0_talk_30 : decode cX0_talk 30 = .ok (.iload_n 2, 1) := dk_28 (dk_at dksX0_talk_1 7 rfl rfl)
theorem dX0_talk_31 : decode cX0_talk 31 = .ok (.invokevirtual 153, 3) := dk_182 0 153 (dk_at dksX0_talk_1 8 rfl rfl)
theorem dX0_talk_34 : decode cX0_talk 34 = .ok (.ifCond .ne 10, 3) := dk_154 0 10 (dk_at dksX0_talk_1 11 rfl rfl)
theorem dX0_talk_37 : decode cX0_talk 37 = .ok (.aload_n 0, 1) := dk_42 (dk_at dksX0_talk_1 14 rfl rfl)
theorem dX0_talk_38 : decode cX0_talk 38 = .ok (.bipush (-2), 2) := dk_16 254 (dk_at dksX0_talk_1 15 rfl rfl)
theorem dX0_talk_40 : decode cX0_talk 40 = .ok (.invokevirtual 84, 3) := dk_182 0 84 (dk_at dksX0_talk_1 17 rfl rfl)
theorem dX0_talk_43 : decode cX0_talk 43 = .ok (.ireturn, 1) := dk_172 (dk_at dksX0_talk_1 20 rfl rfl)
theorem dX0_talk_44 : decode cX0_talk 44 = .ok (.aload_n 0, 1) := dk_42 (dk_at dksX0_talk_1 21 rfl rfl)
theorem dX0_talk_45 : decode cX0_talk 45 = .ok (.getfield 10, 3) := dk_180 0 10 (dk_at dksX0_talk_2 0 rfl rfl)
theorem dX0_talk_48 : decode cX0_talk 48 = .ok (.getfield 173, 3) := dk_180 0 173 (dk_at dksX0_talk_2 3 rfl rfl)
theorem dX0_talk_51 : decode cX0_talk 51 = .ok (.iload_n 1, 1) := dk_27 (dk_at dksX0_talk_2 6 rfl rfl)
theorem dX0_talk_52 : decode cX0_talk 52 = .ok (.iaload, 1) := dk_46 (dk_at dksX0_talk_2 7 rfl rfl)
theorem dX0_talk_53 : decode cX0_talk 53 = .ok (.iload_n 2, 1) := dk_28 (dk_at dksX0_talk_2 8 rfl rfl)
theorem dX0_talk_54 : decode cX0_talk 54 = .ok (.ishr, 1) := dk_122 (dk_at dksX0_talk_2 9 rfl rfl)
theorem dX0_talk_55 : decode cX0_talk 55 = .ok (.iconst 1, 1) := dk_4 (dk_at dksX0_talk_2 10 rfl rfl)
theorem dX0_talk_56 : decode cX0_talk 56 = .ok (.iand, 1) := dk_126 (dk_at dksX0_talk_2 11 rfl rfl)
theorem dX0_talk_57 : decode cX0_talk 57 = .ok (.istore 4, 2) := dk_54 4 (dk_at dksX0_talk_2 12 rfl rfl)
theorem dX0_talk_59 : decode cX0_talk 59 = .ok (.iload 4, 2) := dk_21 4 (dk_at dksX0_talk_2 14 rfl rfl)
theorem dX0_talk_61 : decode cX0_talk 61 = .ok (.iload_n 3, 1) := dk_29 (dk_at dksX0_talk_2 16 rfl rfl)
theorem dX0_talk_62 : decode cX0_talk 62 = .ok (.if_icmp .eq 33, 3) := dk_159 0 33 (dk_at dksX0_talk_2 17 rfl rfl)
theorem dX0_talk_65 : decode cX0_talk 65 = .ok (.aload_n 0, 1) := dk_42 (dk_at dksX0_talk_2 20 rfl rfl)
theorem dX0_talk_66 : decode cX0_talk 66 = .ok (.getfield 10, 3) := dk_180 0 10 (dk_at dksX0_talk_2 21 rfl rfl)
theorem dX0_talk_69 : decode cX0_talk 69 = .ok (.getfield 173, 3) := dk_180 0 173 (dk_at dksX0_talk_3 0 rfl rfl)
theorem dX0_talk_72 : decode cX0_talk 72 = .ok (.iload_n 1, 1) := dk_27 (dk_at dksX0_talk_3 3 rfl rfl)
theorem dX0_talk_73 : decode cX0_talk 73 = .ok (.dup2, 1) := dk_92 (dk_at dksX0_talk_3 4 rfl rfl)
theorem dX0_talk_74 : decode cX0_talk 74 = .ok (.iaload, 1) := dk_46 (dk_at dksX0_talk_3 5 rfl rfl)
theorem dX0_talk_75 : decode cX0_talk 75 = .ok (.iconst 1, 1) := dk_4 (dk_at dksX0_talk_3 6 rfl rfl)
theorem dX0_talk_76 : decode cX0_talk 76 = .ok (.iload_n 2, 1) := dk_28 (dk_at dksX0_talk_3 7 rfl rfl)
theorem dX0_talk_77 : decode cX0_talk 77 = .ok (.ishl, 1) := dk_120 (dk_at dksX0_talk_3 8 rfl rfl)
theorem dX0_talk_78 : decode cX0_talk 78 = .ok (.ixor, 1) := dk_130 (dk_at dksX0_talk_3 9 rfl rfl)
theorem dX0_talk_79 : decode cX0_talk 79 = .ok (.iastore, 1) := dk_79 (dk_at dksX0_talk_3 10 rfl rfl)
theorem dX0_talk_80 : decode cX0_talk 80 = .ok (.aload_n 0, 1) := dk_42 (dk_at dksX0_talk_3 11 rfl rfl)
theorem dX0_talk_81 : decode cX0_talk 81 = .ok (.getfield 10, 3) := dk_180 0 10 (dk_at dksX0_talk_3 12 rfl rfl)
theorem dX0_talk_84 : decode cX0_talk 84 = .ok (.getfield 173, 3) := dk_180 0 173 (dk_at dksX0_talk_3 15 rfl rfl)
theorem dX0_talk_87 : decode cX0_talk 87 = .ok (.iload_n 2, 1) := dk_28 (dk_at dksX0_talk_3 18 rfl rfl)
theorem dX0_talk_88 : decode cX0_talk 88 = .ok (.dup2, 1) := dk_92 (dk_at dksX0_talk_3 19 rfl rfl)
theorem dX0_talk_89 : decode cX0_talk 89 = .ok (.iaload, 1) := dk_46 (dk_at dksX0_talk_3 20 rfl rfl)
theorem dX0_talk_90 : decode cX0_talk 90 = .ok (.iconst 1, 1) := dk_4 (dk_at dksX0_talk_3 21 rfl rfl)
theorem dX0_talk_91 : decode cX0_talk 91 = .ok (.iload_n 1, 1) := dk_27 (dk_at dksX0_talk_3 22 rfl rfl)
theorem dX0_talk_92 : decode cX0_talk 92 = .ok (.ishl, 1) := dk_120 (dk_at dksX0_talk_3 23 rfl rfl)
theorem dX0_talk_93 : decode cX0_talk 93 = .ok (.ixor, 1) := dk_130 (dk_at dksX0_talk_4 0 rfl rfl)
theorem dX0_talk_94 : decode cX0_talk 94 = .ok (.iastore, 1) := dk_79 (dk_at dksX0_talk_4 1 rfl rfl)
theorem dX0_talk_95 : decode cX0_talk 95 = .ok (.aload_n 0, 1) := dk_42 (dk_at dksX0_talk_4 2 rfl rfl)
theorem dX0_talk_96 : decode cX0_talk 96 = .ok (.iload 4, 2) := dk_21 4 (dk_at dksX0_talk_4 3 rfl rfl)
theorem dX0_talk_98 : decode cX0_talk 98 = .ok (.invokevirtual 157, 3) := dk_182 0 157 (dk_at dksX0_talk_4 5 rfl rfl)
theorem dX0_talk_101 : decode cX0_talk 101 = .ok (.ireturn, 1) := dk_172 (dk_at dksX0_talk_4 8 rfl rfl)
abbrev cX0_fog : ByteArray := prog_1_method_21_code
def yX0_fog : MethodName := ⟨RX0, "fog", "(II)I"⟩
def dkwX0_fog_2 : List UInt8 := [180, 0, 10, 180, 0, 106, 27, 28, 4, 160, 0, 7, 4, 167, 0, 4, 3, 84, 42, 29, 182, 0, 157, 172]
abbrev dktX0_fog_2 : List UInt8 := dkwX0_fog_2 ++ []
def dkwX0_fog_1 : List UInt8 := [182, 0, 84, 172, 42, 180, 0, 10, 180, 0, 106, 27, 51, 153, 0, 7, 4, 167, 0, 4, 3, 62, 42]
abbrev dktX0_fog_1 : List UInt8 := dkwX0_fog_1 ++ dktX0_fog_2
def dkwX0_fog_0 : List UInt8 := [27, 133, 9, 20, 0, 176, 184, 0, 102, 153, 0, 13, 28, 133, 9, 10, 184, 0, 102, 154, 0, 9, 42, 2]
abbrev dktX0_fog_0 : List UInt8 := dkwX0_fog_0 ++ dktX0_fog_1
theorem dksX0_fog_0 : cX0_fog.data.toList.drop 0 = dktX0_fog_0 := by decide +kernel
theorem dksX0_fog_1 : cX0_fog.data.toList.drop 24 = dktX0_fog_1 := dk_seg dksX0_fog_0 24 rfl rfl
theorem dksX0_fog_2 : cX0_fog.data.toList.drop 47 = dktX0_fog_2 := dk_seg dksX0_fog_1 23 rfl rfl
theorem dX0_fog_0 : decode cX0_fog 0 = .ok (.iload_n 1, 1) := dk_27 (dk_at dksX0_fog_0 0 rfl rfl)
theorem dX0_fog_1 : decode cX0_fog 1 = .ok (.i2l, 1) := dk_133 (dk_at dksX0_fog_0 1 rfl rfl)
theorem dX0_fog_2 : decode cX0_fog 2 = .ok (.lconst 0, 1) := dk_9 (dk_at dksX0_fog_0 2 rfl rfl)
theorem dX0_fog_3 : decode cX0_fog 3 = .ok (.ldc2_w 176, 3) := dk_20 0 176 (dk_at dksX0_fog_0 3 rfl rfl)
theorem dX0_fog_6 : decode cX0_fog 6 = .ok (.invokestatic 102, 3) := dk_184 0 102 (dk_at dksX0_fog_0 6 rfl rfl)
theorem dX0_fog_9 : decode cX0_fog 9 = .ok (.ifCond .eq 13, 3) := dk_153 0 13 (dk_at dksX0_fog_0 9 rfl rfl)
theorem dX0_fog_12 : decode cX0_fog 12 = .ok (.iload_n 2, 1) := dk_28 (dk_at dksX0_fog_0 12 rfl rfl)
theorem dX0_fog_13 : decode cX0_fog 13 = .ok (.i2l, 1) := dk_133 (dk_at dksX0_fog_0 13 rfl rfl)
theorem dX0_fog_14 : decode cX0_fog 14 = .ok (.lconst 0, 1) := dk_9 (dk_at dksX0_fog_0 14 rfl rfl)
theorem dX0_fog_15 : decode cX0_fog 15 = .ok (.lconst 1, 1) := dk_10 (dk_at dksX0_fog_0 15 rfl rfl)
theorem dX0_fog_16 : decode cX0_fog 16 = .ok (.invokestatic 102, 3) := dk_184 0 102 (dk_at dksX0_fog_0 16 rfl rfl)
theorem dX0_fog_19 : decode cX0_fog 19 = .ok (.ifCond .ne 9, 3) := dk_154 0 9 (dk_at dksX0_fog_0 19 rfl rfl)
theorem dX0_fog_22 : decode cX0_fog 22 = .ok (.aload_n 0, 1) := dk_42 (dk_at dksX0_fog_0 22 rfl rfl)
theorem dX0_fog_23 : decode cX0_fog 23 = .ok (.iconst (-1), 1) := dk_2 (dk_at dksX0_fog_0 23 rfl rfl)
theorem dX0_fog_24 : decode cX0_fog 24 = .ok (.invokevirtual 84, 3) := dk_182 0 84 (dk_at dksX0_fog_1 0 rfl rfl)
theorem dX0_fog_27 : decode cX0_fog 27 = .ok (.ireturn, 1) := dk_172 (dk_at dksX0_fog_1 3 rfl rfl)
theorem dX0_fog_28 : decode cX0_fog 28 = .ok (.aload_n 0, 1) := dk_42 (dk_at dksX0_fog_1 4 rfl rfl)
theorem dX0_fog_29 : decode cX0_fog 29 = .ok (.getfield 10, 3) := dk_180 0 10 (dk_at dksX0_fog_1 5 rfl rfl)
theorem dX0_fog_32 : decode cX0_fog 32 = .ok (.getfield 106, 3) := dk_180 0 106 (dk_at dksX0_fog_1 8 rfl rfl)
theorem dX0_fog_35 : decode cX0_fog 35 = .ok (.iload_n 1, 1) := dk_27 (dk_at dksX0_fog_1 11 rfl rfl)
theorem dX0_fog_36 : decode cX0_fog 36 = .ok (.baload, 1) := dk_51 (dk_at dksX0_fog_1 12 rfl rfl)
theorem dX0_fog_37 : decode cX0_fog 37 = .ok (.ifCond .eq 7, 3) := dk_153 0 7 (dk_at dksX0_fog_1 13 rfl rfl)
theorem dX0_fog_40 : decode cX0_fog 40 = .ok (.iconst 1, 1) := dk_4 (dk_at dksX0_fog_1 16 rfl rfl)
theorem dX0_fog_41 : decode cX0_fog 41 = .ok (.goto 4, 3) := dk_167 0 4 (dk_at dksX0_fog_1 17 rfl rfl)
theorem dX0_fog_44 : decode cX0_fog 44 = .ok (.iconst 0, 1) := dk_3 (dk_at dksX0_fog_1 20 rfl rfl)
theorem dX0_fog_45 : decode cX0_fog 45 = .ok (.istore_n 3, 1) := dk_62 (dk_at dksX0_fog_1 21 rfl rfl)
theorem dX0_fog_46 : decode cX0_fog 46 = .ok (.aload_n 0, 1) := dk_42 (dk_at dksX0_fog_1 22 rfl rfl)
theorem dX0_fog_47 : decode cX0_fog 47 = .ok (.getfield 10, 3) := dk_180 0 10 (dk_at dksX0_fog_2 0 rfl rfl)
theorem dX0_fog_50 : decode cX0_fog 50 = .ok (.getfield 106, 3) := dk_180 0 106 (dk_at dksX0_fog_2 3 rfl rfl)
theorem dX0_fog_53 : decode cX0_fog 53 = .ok (.iload_n 1, 1) := dk_27 (dk_at dksX0_fog_2 6 rfl rfl)
theorem dX0_fog_54 : decode cX0_fog 54 = .ok (.iload_n 2, 1) := dk_28 (dk_at dksX0_fog_2 7 rfl rfl)
theorem dX0_fog_55 : decode cX0_fog 55 = .ok (.iconst 1, 1) := dk_4 (dk_at dksX0_fog_2 8 rfl rfl)
theorem dX0_fog_56 : decode cX0_fog 56 = .ok (.if_icmp .ne 7, 3) := dk_160 0 7 (dk_at dksX0_fog_2 9 rfl rfl)
theorem dX0_fog_59 : decode cX0_fog 59 = .ok (.iconst 1, 1) := dk_4 (dk_at dksX0_fog_2 12 rfl rfl)
theorem dX0_fog_60 : decode cX0_fog 60 = .ok (.goto 4, 3) := dk_167 0 4 (dk_at dksX0_fog_2 13 rfl rfl)
theorem dX0_fog_63 : decode cX0_fog 63 = .ok (.iconst 0, 1) := dk_3 (dk_at dksX0_fog_2 16 rfl rfl)
theorem dX0_fog_64 : decode cX0_fog 64 = .ok (.bastore, 1) := dk_84 (dk_at dksX0_fog_2 17 rfl rfl)
theorem dX0_fog_65 : decode cX0_fog 65 = .ok (.aload_n 0, 1) := dk_42 (dk_at dksX0_fog_2 18 rfl rfl)
theorem dX0_fog_66 : decode cX0_fog 66 = .ok (.iload_n 3, 1) := dk_29 (dk_at dksX0_fog_2 19 rfl rfl)
theorem dX0_fog_67 : decode cX0_fog 67 = .ok (.invokevirtual 157, 3) := dk_182 0 157 (dk_at dksX0_fog_2 20 rfl rfl)
theorem dX0_fog_70 : decode cX0_fog 70 = .ok (.ireturn, 1) := dk_172 (dk_at dksX0_fog_2 23 rfl rfl)
abbrev cX0_terms : ByteArray := prog_1_method_24_code
def yX0_terms : MethodName := ⟨RX0, "terms", "(II)I"⟩
def dkwX0_terms_5 : List UInt8 := [182, 0, 81, 42, 29, 182, 0, 157, 172]
abbrev dktX0_terms_5 : List UInt8 := dkwX0_terms_5 ++ []
def dkwX0_terms_4 : List UInt8 := [180, 0, 10, 28, 181, 0, 181, 27, 5, 160, 0, 11, 42, 180, 0, 10, 28, 181, 0, 184, 42, 180, 0, 23]
abbrev dktX0_terms_4 : List UInt8 := dkwX0_terms_4 ++ dktX0_terms_5
def dkwX0_terms_3 : List UInt8 := [27, 182, 0, 197, 62, 27, 154, 0, 11, 42, 182, 0, 132, 28, 181, 0, 178, 27, 4, 160, 0, 11, 42]
abbrev dktX0_terms_3 : List UInt8 := dkwX0_terms_3 ++ dktX0_terms_4
def dkwX0_terms_2 : List UInt8 := [2, 182, 0, 84, 172, 27, 154, 0, 17, 42, 182, 0, 193, 153, 0, 10, 42, 16, 253, 182, 0, 84, 172, 42]
abbrev dktX0_terms_2 : List UInt8 := dkwX0_terms_2 ++ dktX0_terms_3
def dkwX0_terms_1 : List UInt8 := [167, 0, 17, 27, 4, 160, 0, 9, 20, 0, 189, 167, 0, 6, 20, 0, 191, 184, 0, 102, 154, 0, 9, 42]
abbrev dktX0_terms_1 : List UInt8 := dkwX0_terms_1 ++ dktX0_terms_2
def dkwX0_terms_0 : List UInt8 := [27, 133, 9, 20, 0, 121, 184, 0, 102, 153, 0, 36, 28, 133, 9, 27, 154, 0, 9, 20, 0, 187]
abbrev dktX0_terms_0 : List UInt8 := dkwX0_terms_0 ++ dktX0_terms_1
theorem dksX0_terms_0 : cX0_terms.data.toList.drop 0 = dktX0_terms_0 := by decide +kernel
theorem dksX0_terms_1 : cX0_terms.data.toList.drop 22 = dktX0_terms_1 := dk_seg dksX0_terms_0 22 rfl rfl
theorem dksX0_terms_2 : cX0_terms.data.toList.drop 46 = dktX0_terms_2 := dk_seg dksX0_terms_1 24 rfl rfl
theorem dksX0_terms_3 : cX0_terms.data.toList.drop 70 = dktX0_terms_3 := dk_seg dksX0_terms_2 24 rfl rfl
theorem dksX0_terms_4 : cX0_terms.data.toList.drop 93 = dktX0_terms_4 := dk_seg dksX0_terms_3 23 rfl rfl
theorem dksX0_terms_5 : cX0_terms.data.toList.drop 117 = dktX0_terms_5 := dk_seg dksX0_terms_4 24 rfl rfl
theorem dX0_terms_0 : decode cX0_terms 0 = .ok (.iload_n 1, 1) := dk_27 (dk_at dksX0_terms_0 0 rfl rfl)
theorem dX0_terms_1 : decode cX0_terms 1 = .ok (.i2l, 1) := dk_133 (dk_at dksX0_terms_0 1 rfl rfl)
theorem dX0_terms_2 : decode cX0_terms 2 = .ok (.lconst 0, 1) := dk_9 (dk_at dksX0_terms_0 2 rfl rfl)
theorem dX0_terms_3 : decode cX0_terms 3 = .ok (.ldc2_w 121, 3) := dk_20 0 121 (dk_at dksX0_terms_0 3 rfl rfl)
theorem dX0_terms_6 : decode cX0_terms 6 = .ok (.invokestatic 102, 3) := dk_184 0 102 (dk_at dksX0_terms_0 6 rfl rfl)
theorem dX0_terms_9 : decode cX0_terms 9 = .ok (.ifCond .eq 36, 3) := dk_153 0 36 (dk_at dksX0_terms_0 9 rfl rfl)
theorem dX0_terms_12 : decode cX0_terms 12 = .ok (.iload_n 2, 1) := dk_28 (dk_at dksX0_terms_0 12 rfl rfl)
theorem dX0_terms_13 : decode cX0_terms 13 = .ok (.i2l, 1) := dk_133 (dk_at dksX0_terms_0 13 rfl rfl)
theorem dX0_terms_14 : decode cX0_terms 14 = .ok (.lconst 0, 1) := dk_9 (dk_at dksX0_terms_0 14 rfl rfl)
theorem dX0_terms_15 : decode cX0_terms 15 = .ok (.iload_n 1, 1) := dk_27 (dk_at dksX0_terms_0 15 rfl rfl)
theorem dX0_terms_16 : decode cX0_terms 16 = .ok (.ifCond .ne 9, 3) := dk_154 0 9 (dk_at dksX0_terms_0 16 rfl rfl)
theorem dX0_terms_19 : decode cX0_terms 19 = .ok (.ldc2_w 187, 3) := dk_20 0 187 (dk_at dksX0_terms_0 19 rfl rfl)
theorem dX0_terms_22 : decode cX0_terms 22 = .ok (.goto 17, 3) := dk_167 0 17 (dk_at dksX0_terms_1 0 rfl rfl)
theorem dX0_terms_25 : decode cX0_terms 25 = .ok (.iload_n 1, 1) := dk_27 (dk_at dksX0_terms_1 3 rfl rfl)
theorem dX0_terms_26 : decode cX0_terms 26 = .ok (.iconst 1, 1) := dk_4 (dk_at dksX0_terms_1 4 rfl rfl)
theorem dX0_terms_27 : decode cX0_terms 27 = .ok (.if_icmp .ne 9, 3) := dk_160 0 9 (dk_at dksX0_terms_1 5 rfl rfl)
theorem dX0_terms_30 : decode cX0_terms 30 = .ok (.ldc2_w 189, 3) := dk_20 0 189 (dk_at dksX0_terms_1 8 rfl rfl)
theorem dX0_terms_33 : decode cX0_terms 33 = .ok (.goto 6, 3) := dk_167 0 6 (dk_at dksX0_terms_1 11 rfl rfl)
theorem dX0_terms_36 : decode cX0_terms 36 = .ok (.ldc2_w 191, 3) := dk_20 0 191 (dk_at dksX0_terms_1 14 rfl rfl)
theorem dX0_terms_39 : decode cX0_terms 39 = .ok (.invokestatic 102, 3) := dk_184 0 102 (dk_at dksX0_terms_1 17 rfl rfl)
theorem dX0_terms_42 : decode cX0_terms 42 = .ok (.ifCond .ne 9, 3) := dk_154 0 9 (dk_at dksX0_terms_1 20 rfl rfl)
theorem dX0_terms_45 : decode cX0_terms 45 = .ok (.aload_n 0, 1) := dk_42 (dk_at dksX0_terms_1 23 rfl rfl)
theorem dX0_terms_46 : decode cX0_terms 46 = .ok (.iconst (-1), 1) := dk_2 (dk_at dksX0_terms_2 0 rfl rfl)
theorem dX0_terms_47 : decode cX0_terms 47 = .ok (.invokevirtual 84, 3) := dk_182 0 84 (dk_at dksX0_terms_2 1 rfl rfl)
theorem dX0_terms_50 : decode cX0_terms 50 = .ok (.ireturn, 1) := dk_172 (dk_at dksX0_terms_2 4 rfl rfl)
theorem dX0_terms_51 : decode cX0_terms 51 = .ok (.iload_n 1, 1) := dk_27 (dk_at dksX0_terms_2 5 rfl rfl)
theorem dX0_terms_52 : decode cX0_terms 52 = .ok (.ifCond .ne 17, 3) := dk_154 0 17 (dk_at dksX0_terms_2 6 rfl rfl)
theorem dX0_terms_55 : decode cX0_terms 55 = .ok (.aload_n 0, 1) := dk_42 (dk_at dksX0_terms_2 9 rfl rfl)
theorem dX0_terms_56 : decode cX0_terms 56 = .ok (.invokevirtual 193, 3) := dk_182 0 193 (dk_at dksX0_terms_2 10 rfl rfl)
theorem dX0_terms_59 : decode cX0_terms 59 = .ok (.ifCond .eq 10, 3) := dk_153 0 10 (dk_at dksX0_terms_2 13 rfl rfl)
theorem dX0_terms_62 : decode cX0_terms 62 = .ok (.aload_n 0, 1) := dk_42 (dk_at dksX0_terms_2 16 rfl rfl)
theorem dX0_terms_63 : decode cX0_terms 63 = .ok (.bipush (-3), 2) := dk_16 253 (dk_at dksX0_terms_2 17 rfl rfl)
theorem dX0_terms_65 : decode cX0_terms 65 = .ok (.invokevirtual 84, 3) := dk_182 0 84 (dk_at dksX0_terms_2 19 rfl rfl)
theorem dX0_terms_68 : decode cX0_terms 68 = .ok (.ireturn, 1) := dk_172 (dk_at dksX0_terms_2 22 rfl rfl)
theorem dX0_terms_69 : decode cX0_terms 69 = .ok (.aload_n 0, 1) := dk_42 (dk_at dksX0_terms_2 23 rfl rfl)
theorem dX0_terms_70 : decode cX0_terms 70 = .ok (.iload_n 1, 1) := dk_27 (dk_at dksX0_terms_3 0 rfl rfl)
theorem dX0_terms_71 : decode cX0_terms 71 = .ok (.invokevirtual 197, 3) := dk_182 0 197 (dk_at dksX0_terms_3 1 rfl rfl)
theorem dX0_terms_74 : decode cX0_terms 74 = .ok (.istore_n 3, 1) := dk_62 (dk_at dksX0_terms_3 4 rfl rfl)
theorem dX0_terms_75 : decode cX0_terms 75 = .ok (.iload_n 1, 1) := dk_27 (dk_at dksX0_terms_3 5 rfl rfl)
theorem dX0_terms_76 : decode cX0_terms 76 = .ok (.ifCond .ne 11, 3) := dk_154 0 11 (dk_at dksX0_terms_3 6 rfl rfl)
theorem dX0_terms_79 : decode cX0_terms 79 = .ok (.aload_n 0, 1) := dk_42 (dk_at dksX0_terms_3 9 rfl rfl)
theorem dX0_terms_80 : decode cX0_terms 80 = .ok (.invokevirtual 132, 3) := dk_182 0 132 (dk_at dksX0_terms_3 10 rfl rfl)
theorem dX0_terms_83 : decode cX0_terms 83 = .ok (.iload_n 2, 1) := dk_28 (dk_at dksX0_terms_3 13 rfl rfl)
theorem dX0_terms_84 : decode cX0_terms 84 = .ok (.putfield 178, 3) := dk_181 0 178 (dk_at dksX0_terms_3 14 rfl rfl)
theorem dX0_terms_87 : decode cX0_terms 87 = .ok (.iload_n 1, 1) := dk_27 (dk_at dksX0_terms_3 17 rfl rfl)
theorem dX0_terms_88 : decode cX0_terms 88 = .ok (.iconst 1, 1) := dk_4 (dk_at dksX0_terms_3 18 rfl rfl)
theorem dX0_terms_89 : decode cX0_terms 89 = .ok (.if_icmp .ne 11, 3) := dk_160 0 11 (dk_at dksX0_terms_3 19 rfl rfl)
theorem dX0_terms_92 : decode cX0_terms 92 = .ok (.aload_n 0, 1) := dk_42 (dk_at dksX0_terms_3 22 rfl rfl)
theorem dX0_terms_93 : decode cX0_terms 93 = .ok (.getfield 10, 3) := dk_180 0 10 (dk_at dksX0_terms_4 0 rfl rfl)
theorem dX0_terms_96 : decode cX0_terms 96 = .ok (.iload_n 2, 1) := dk_28 (dk_at dksX0_terms_4 3 rfl rfl)
theorem dX0_terms_97 : decode cX0_terms 97 = .ok (.putfield 181, 3) := dk_181 0 181 (dk_at dksX0_terms_4 4 rfl rfl)
theorem dX0_terms_100 : decode cX0_terms 100 = .ok (.iload_n 1, 1) := dk_27 (dk_at dksX0_terms_4 7 rfl rfl)
theorem dX0_terms_101 : decode cX0_terms 101 = .ok (.iconst 2, 1) := dk_5 (dk_at dksX0_terms_4 8 rfl rfl)
theorem dX0_terms_102 : decode cX0_terms 102 = .ok (.if_icmp .ne 11, 3) := dk_160 0 11 (dk_at dksX0_terms_4 9 rfl rfl)
theorem dX0_terms_105 : decode cX0_terms 105 = .ok (.aload_n 0, 1) := dk_42 (dk_at dksX0_terms_4 12 rfl rfl)
theorem dX0_terms_106 : decode cX0_terms 106 = .ok (.getfield 10, 3) := dk_180 0 10 (dk_at dksX0_terms_4 13 rfl rfl)
theorem dX0_terms_109 : decode cX0_terms 109 = .ok (.iload_n 2, 1) := dk_28 (dk_at dksX0_terms_4 16 rfl rfl)
theorem dX0_terms_110 : decode cX0_terms 110 = .ok (.putfield 184, 3) := dk_181 0 184 (dk_at dksX0_terms_4 17 rfl rfl)
theorem dX0_terms_113 : decode cX0_terms 113 = .ok (.aload_n 0, 1) := dk_42 (dk_at dksX0_terms_4 20 rfl rfl)
theorem dX0_terms_114 : decode cX0_terms 114 = .ok (.getfield 23, 3) := dk_180 0 23 (dk_at dksX0_terms_4 21 rfl rfl)
theorem dX0_terms_117 : decode cX0_terms 117 = .ok (.invokevirtual 81, 3) := dk_182 0 81 (dk_at dksX0_terms_5 0 rfl rfl)
theorem dX0_terms_120 : decode cX0_terms 120 = .ok (.aload_n 0, 1) := dk_42 (dk_at dksX0_terms_5 3 rfl rfl)
theorem dX0_terms_121 : decode cX0_terms 121 = .ok (.iload_n 3, 1) := dk_29 (dk_at dksX0_terms_5 4 rfl rfl)
theorem dX0_terms_122 : decode cX0_terms 122 = .ok (.invokevirtual 157, 3) := dk_182 0 157 (dk_at dksX0_terms_5 5 rfl rfl)
theorem dX0_terms_125 : decode cX0_terms 125 = .ok (.ireturn, 1) := dk_172 (dk_at dksX0_terms_5 8 rfl rfl)
abbrev cX0_isAnyComing : ByteArray := prog_1_method_22_code
def yX0_isAnyComing : MethodName := ⟨RX0, "isAnyComing", "()Z"⟩
def dkwX0_isAnyComing_1 : List UInt8 := [172, 132, 1, 1, 167, 255, 230, 3, 172]
abbrev dktX0_isAnyComing_1 : List UInt8 := dkwX0_isAnyComing_1 ++ []
def dkwX0_isAnyComing_0 : List UInt8 := [3, 60, 27, 42, 182, 0, 99, 162, 0, 24, 42, 182, 0, 132, 180, 0, 135, 27, 46, 4, 160, 0, 5, 4]
abbrev dktX0_isAnyComing_0 : List UInt8 := dkwX0_isAnyComing_0 ++ dktX0_isAnyComing_1
theorem dksX0_isAnyComing_0 : cX0_isAnyComing.data.toList.drop 0 = dktX0_isAnyComing_0 := by decide +kernel
theorem dksX0_isAnyComing_1 : cX0_isAnyComing.data.toList.drop 24 = dktX0_isAnyComing_1 := dk_seg dksX0_isAnyComing_0 24 rfl rfl
theorem dX0_isAnyComing_0 : decode cX0_isAnyComing 0 = .ok (.iconst 0, 1) := dk_3 (dk_at dksX0_isAnyComing_0 0 rfl rfl)
theorem dX0_isAnyComing_1 : decode cX0_isAnyComing 1 = .ok (.istore_n 1, 1) := dk_60 (dk_at dksX0_isAnyComing_0 1 rfl rfl)
theorem dX0_isAnyComing_2 : decode cX0_isAnyComing 2 = .ok (.iload_n 1, 1) := dk_27 (dk_at dksX0_isAnyComing_0 2 rfl rfl)
theorem dX0_isAnyComing_3 : decode cX0_isAnyComing 3 = .ok (.aload_n 0, 1) := dk_42 (dk_at dksX0_isAnyComing_0 3 rfl rfl)
theorem dX0_isAnyComing_4 : decode cX0_isAnyComing 4 = .ok (.invokevirtual 99, 3) := dk_182 0 99 (dk_at dksX0_isAnyComing_0 4 rfl rfl)
theorem dX0_isAnyComing_7 : decode cX0_isAnyComing 7 = .ok (.if_icmp .ge 24, 3) := dk_162 0 24 (dk_at dksX0_isAnyComing_0 7 rfl rfl)
theorem dX0_isAnyComing_10 : decode cX0_isAnyComing 10 = .ok (.aload_n 0, 1) := dk_42 (dk_at dksX0_isAnyComing_0 10 rfl rfl)
theorem dX0_isAnyComing_11 : decode cX0_isAnyComing 11 = .ok (.invokevirtual 132, 3) := dk_182 0 132 (dk_at dksX0_isAnyComing_0 11 rfl rfl)
theorem dX0_isAnyComing_14 : decode cX0_isAnyComing 14 = .ok (.getfield 135, 3) := dk_180 0 135 (dk_at dksX0_isAnyComing_0 14 rfl rfl)
theorem dX0_isAnyComing_17 : decode cX0_isAnyComing 17 = .ok (.iload_n 1, 1) := dk_27 (dk_at dksX0_isAnyComing_0 17 rfl rfl)
theorem dX0_isAnyComing_18 : decode cX0_isAnyComing 18 = .ok (.iaload, 1) := dk_46 (dk_at dksX0_isAnyComing_0 18 rfl rfl)
theorem dX0_isAnyComing_19 : decode cX0_isAnyComing 19 = .ok (.iconst 1, 1) := dk_4 (dk_at dksX0_isAnyComing_0 19 rfl rfl)
theorem dX0_isAnyComing_20 : decode cX0_isAnyComing 20 = .ok (.if_icmp .ne 5, 3) := dk_160 0 5 (dk_at dksX0_isAnyComing_0 20 rfl rfl)
theorem dX0_isAnyComing_23 : decode cX0_isAnyComing 23 = .ok (.iconst 1, 1) := dk_4 (dk_at dksX0_isAnyComing_0 23 rfl rfl)
theorem dX0_isAnyComing_24 : decode cX0_isAnyComing 24 = .ok (.ireturn, 1) := dk_172 (dk_at dksX0_isAnyComing_1 0 rfl rfl)
theorem dX0_isAnyComing_25 : decode cX0_isAnyComing 25 = .ok (.iinc 1 1, 3) := dk_132 1 1 (dk_at dksX0_isAnyComing_1 1 rfl rfl)
theorem dX0_isAnyComing_28 : decode cX0_isAnyComing 28 = .ok (.goto (-26), 3) := dk_167 255 230 (dk_at dksX0_isAnyComing_1 4 rfl rfl)
theorem dX0_isAnyComing_31 : decode cX0_isAnyComing 31 = .ok (.iconst 0, 1) := dk_3 (dk_at dksX0_isAnyComing_1 7 rfl rfl)
theorem dX0_isAnyComing_32 : decode cX0_isAnyComing 32 = .ok (.ireturn, 1) := dk_172 (dk_at dksX0_isAnyComing_1 8 rfl rfl)
abbrev cX0_term : ByteArray := prog_1_method_23_code
def yX0_term : MethodName := ⟨RX0, "term", "(I)I"⟩
def dkwX0_term_1 : List UInt8 := [180, 0, 181, 167, 0, 10, 42, 180, 0, 10, 180, 0, 184, 172]
abbrev dktX0_term_1 : List UInt8 := dkwX0_term_1 ++ []
def dkwX0_term_0 : List UInt8 := [27, 154, 0, 13, 42, 182, 0, 132, 180, 0, 178, 167, 0, 25, 27, 4, 160, 0, 13, 42, 180, 0, 10]
abbrev dktX0_term_0 : List UInt8 := dkwX0_term_0 ++ dktX0_term_1
theorem dksX0_term_0 : cX0_term.data.toList.drop 0 = dktX0_term_0 := by decide +kernel
theorem dksX0_term_1 : cX0_term.data.toList.drop 23 = dktX0_term_1 := dk_seg dksX0_term_0 23 rfl rfl
theorem dX0_term_0 : decode cX0_term 0 = .ok (.iload_n 1, 1) := dk_27 (dk_at dksX0_term_0 0 rfl rfl)
theorem dX0_term_1 : decode cX0_term 1 = .ok (.ifCond .ne 13, 3) := dk_154 0 13 (dk_at dksX0_term_0 1 rfl rfl)
theorem dX0_term_4 : decode cX0_term 4 = .ok (.aload_n 0, 1) := dk_42 (dk_at dksX0_term_0 4 rfl rfl)
theorem dX0_term_5 : decode cX0_term 5 = .ok (.invokevirtual 132, 3) := dk_182 0 132 (dk_at dksX0_term_0 5 rfl rfl)
theorem dX0_term_8 : decode cX0_term 8 = .ok (.getfield 178, 3) := dk_180 0 178 (dk_at dksX0_term_0 8 rfl rfl)
theorem dX0_term_11 : decode cX0_term 11 = .ok (.goto 25, 3) := dk_167 0 25 (dk_at dksX0_term_0 11 rfl rfl)
theorem dX0_term_14 : decode cX0_term 14 = .ok (.iload_n 1, 1) := dk_27 (dk_at dksX0_term_0 14 rfl rfl)
theorem dX0_term_15 : decode cX0_term 15 = .ok (.iconst 1, 1) := dk_4 (dk_at dksX0_term_0 15 rfl rfl)
theorem dX0_term_16 : decode cX0_term 16 = .ok (.if_icmp .ne 13, 3) := dk_160 0 13 (dk_at dksX0_term_0 16 rfl rfl)
theorem dX0_term_19 : decode cX0_term 19 = .ok (.aload_n 0, 1) := dk_42 (dk_at dksX0_term_0 19 rfl rfl)
theorem dX0_term_20 : decode cX0_term 20 = .ok (.getfield 10, 3) := dk_180 0 10 (dk_at dksX0_term_0 20 rfl rfl)
theorem dX0_term_23 : decode cX0_term 23 = .ok (.getfield 181, 3) := dk_180 0 181 (dk_at dksX0_term_1 0 rfl rfl)
theorem dX0_term_26 : decode cX0_term 26 = .ok (.goto 10, 3) := dk_167 0 10 (dk_at dksX0_term_1 3 rfl rfl)
theorem dX0_term_29 : decode cX0_term 29 = .ok (.aload_n 0, 1) := dk_42 (dk_at dksX0_term_1 6 rfl rfl)
theorem dX0_term_30 : decode cX0_term 30 = .ok (.getfield 10, 3) := dk_180 0 10 (dk_at dksX0_term_1 7 rfl rfl)
theorem dX0_term_33 : decode cX0_term 33 = .ok (.getfield 184, 3) := dk_180 0 184 (dk_at dksX0_term_1 10 rfl rfl)
theorem dX0_term_36 : decode cX0_term 36 = .ok (.ireturn, 1) := dk_172 (dk_at dksX0_term_1 13 rfl rfl)
abbrev cX0_row : ByteArray := prog_1_method_26_code
def yX0_row : MethodName := ⟨RX0, "row", "()I"⟩
def dkwX0_row_12 : List UInt8 := [132, 3, 3, 167, 255, 21, 42, 28, 182, 0, 150, 172]
abbrev dktX0_row_12 : List UInt8 := dkwX0_row_12 ++ []
def dkwX0_row_11 : List UInt8 := [96, 61, 42, 89, 180, 0, 206, 21, 7, 153, 0, 7, 3, 167, 0, 4, 4, 96, 181, 0, 206, 25, 6, 191]
abbrev dktX0_row_11 : List UInt8 := dkwX0_row_11 ++ dktX0_row_12
def dkwX0_row_10 : List UInt8 := [182, 0, 146, 155, 0, 7, 4, 167, 0, 4, 3, 54, 7, 28, 21, 7, 153, 0, 7, 4, 167, 0, 4, 3]
abbrev dktX0_row_10 : List UInt8 := dkwX0_row_10 ++ dktX0_row_11
def dkwX0_row_9 : List UInt8 := [58, 6, 21, 4, 2, 159, 0, 28, 42, 43, 29, 184, 0, 209, 43, 29, 4, 96, 184, 0, 209, 21, 4]
abbrev dktX0_row_9 : List UInt8 := dkwX0_row_9 ++ dktX0_row_10
def dkwX0_row_8 : List UInt8 := [96, 61, 42, 89, 180, 0, 206, 21, 5, 153, 0, 7, 3, 167, 0, 4, 4, 96, 181, 0, 206, 167, 0, 74]
abbrev dktX0_row_8 : List UInt8 := dkwX0_row_8 ++ dktX0_row_9
def dkwX0_row_7 : List UInt8 := [182, 0, 146, 155, 0, 7, 4, 167, 0, 4, 3, 54, 5, 28, 21, 5, 153, 0, 7, 4, 167, 0, 4, 3]
abbrev dktX0_row_7 : List UInt8 := dkwX0_row_7 ++ dktX0_row_8
def dkwX0_row_6 : List UInt8 := [54, 4, 21, 4, 2, 159, 0, 28, 42, 43, 29, 184, 0, 209, 43, 29, 4, 96, 184, 0, 209, 21, 4]
abbrev dktX0_row_6 : List UInt8 := dkwX0_row_6 ++ dktX0_row_7
def dkwX0_row_5 : List UInt8 := [180, 0, 206, 21, 5, 153, 0, 7, 3, 167, 0, 4, 4, 96, 181, 0, 206, 167, 0, 148, 58, 5, 2]
abbrev dktX0_row_5 : List UInt8 := dkwX0_row_5 ++ dktX0_row_6
def dkwX0_row_4 : List UInt8 := [4, 167, 0, 4, 3, 54, 5, 28, 21, 5, 153, 0, 7, 4, 167, 0, 4, 3, 96, 61, 42, 89]
abbrev dktX0_row_4 : List UInt8 := dkwX0_row_4 ++ dktX0_row_5
def dkwX0_row_3 : List UInt8 := [159, 0, 28, 42, 43, 29, 184, 0, 209, 43, 29, 4, 96, 184, 0, 209, 21, 4, 182, 0, 146, 155, 0, 7]
abbrev dktX0_row_3 : List UInt8 := dkwX0_row_3 ++ dktX0_row_4
def dkwX0_row_2 : List UInt8 := [61, 3, 62, 29, 43, 190, 162, 0, 235, 2, 54, 4, 43, 29, 5, 96, 184, 0, 209, 54, 4, 21, 4, 2]
abbrev dktX0_row_2 : List UInt8 := dkwX0_row_2 ++ dktX0_row_3
def dkwX0_row_1 : List UInt8 := [180, 0, 59, 3, 43, 3, 42, 180, 0, 110, 184, 0, 200, 42, 3, 181, 0, 110, 42, 3, 181, 0, 206, 3]
abbrev dktX0_row_1 : List UInt8 := dkwX0_row_1 ++ dktX0_row_2
def dkwX0_row_0 : List UInt8 := [42, 180, 0, 110, 154, 0, 10, 42, 16, 250, 182, 0, 84, 172, 42, 180, 0, 110, 188, 8, 76, 42]
abbrev dktX0_row_0 : List UInt8 := dkwX0_row_0 ++ dktX0_row_1
theorem dksX0_row_0 : cX0_row.data.toList.drop 0 = dktX0_row_0 := by decide +kernel
theorem dksX0_row_1 : cX0_row.data.toList.drop 22 = dktX0_row_1 := dk_seg dksX0_row_0 22 rfl rfl
theorem dksX0_row_2 : cX0_row.data.toList.drop 46 = dktX0_row_2 := dk_seg dksX0_row_1 24 rfl rfl
theorem dksX0_row_3 : cX0_row.data.toList.drop 70 = dktX0_row_3 := dk_seg dksX0_row_2 24 rfl rfl
theorem dksX0_row_4 : cX0_row.data.toList.drop 94 = dktX0_row_4 := dk_seg dksX0_row_3 24 rfl rfl
theorem dksX0_row_5 : cX0_row.data.toList.drop 116 = dktX0_row_5 := dk_seg dksX0_row_4 22 rfl rfl
theorem dksX0_row_6 : cX0_row.data.toList.drop 139 = dktX0_row_6 := dk_seg dksX0_row_5 23 rfl rfl
theorem dksX0_row_7 : cX0_row.data.toList.drop 162 = dktX0_row_7 := dk_seg dksX0_row_6 23 rfl rfl
theorem dksX0_row_8 : cX0_row.data.toList.drop 186 = dktX0_row_8 := dk_seg dksX0_row_7 24 rfl rfl
theorem dksX0_row_9 : cX0_row.data.toList.drop 210 = dktX0_row_9 := dk_seg dksX0_row_8 24 rfl rfl
theorem dksX0_row_10 : cX0_row.data.toList.drop 233 = dktX0_row_10 := dk_seg dksX0_row_9 23 rfl rfl
theorem dksX0_row_11 : cX0_row.data.toList.drop 257 = dktX0_row_11 := dk_seg dksX0_row_10 24 rfl rfl
theorem dksX0_row_12 : cX0_row.data.toList.drop 281 = dktX0_row_12 := dk_seg dksX0_row_11 24 rfl rfl
theorem dX0_row_0 : decode cX0_row 0 = .ok (.aload_n 0, 1) := dk_42 (dk_at dksX0_row_0 0 rfl rfl)
theorem dX0_row_1 : decode cX0_row 1 = .ok (.getfield 110, 3) := dk_180 0 110 (dk_at dksX0_row_0 1 rfl rfl)
theorem dX0_row_4 : decode cX0_row 4 = .ok (.ifCond .ne 10, 3) := dk_154 0 10 (dk_at dksX0_row_0 4 rfl rfl)
theorem dX0_row_7 : decode cX0_row 7 = .ok (.aload_n 0, 1) := dk_42 (dk_at dksX0_row_0 7 rfl rfl)
theorem dX0_row_8 : decode cX0_row 8 = .ok (.bipush (-6), 2) := dk_16 250 (dk_at dksX0_row_0 8 rfl rfl)
theorem dX0_row_10 : decode cX0_row 10 = .ok (.invokevirtual 84, 3) := dk_182 0 84 (dk_at dksX0_row_0 10 rfl rfl)
theorem dX0_row_13 : decode cX0_row 13 = .ok (.ireturn, 1) := dk_172 (dk_at dksX0_row_0 13 rfl rfl)
theorem dX0_row_14 : decode cX0_row 14 = .ok (.aload_n 0, 1) := dk_42 (dk_at dksX0_row_0 14 rfl rfl)
theorem dX0_row_15 : decode cX0_row 15 = .ok (.getfield 110, 3) := dk_180 0 110 (dk_at dksX0_row_0 15 rfl rfl)
theorem dX0_row_18 : decode cX0_row 18 = .ok (.newarray .byte, 2) := dk_188_8 (dk_at dksX0_row_0 18 rfl rfl)
theorem dX0_row_20 : decode cX0_row 20 = .ok (.astore_n 1, 1) := dk_76 (dk_at dksX0_row_0 20 rfl rfl)
theorem dX0_row_21 : decode cX0_row 21 = .ok (.aload_n 0, 1) := dk_42 (dk_at dksX0_row_0 21 rfl rfl)
theorem dX0_row_22 : decode cX0_row 22 = .ok (.getfield 59, 3) := dk_180 0 59 (dk_at dksX0_row_1 0 rfl rfl)
theorem dX0_row_25 : decode cX0_row 25 = .ok (.iconst 0, 1) := dk_3 (dk_at dksX0_row_1 3 rfl rfl)
theorem dX0_row_26 : decode cX0_row 26 = .ok (.aload_n 1, 1) := dk_43 (dk_at dksX0_row_1 4 rfl rfl)
theorem dX0_row_27 : decode cX0_row 27 = .ok (.iconst 0, 1) := dk_3 (dk_at dksX0_row_1 5 rfl rfl)
theorem dX0_row_28 : decode cX0_row 28 = .ok (.aload_n 0, 1) := dk_42 (dk_at dksX0_row_1 6 rfl rfl)
theorem dX0_row_29 : decode cX0_row 29 = .ok (.getfield 110, 3) := dk_180 0 110 (dk_at dksX0_row_1 7 rfl rfl)
theorem dX0_row_32 : decode cX0_row 32 = .ok (.invokestatic 200, 3) := dk_184 0 200 (dk_at dksX0_row_1 10 rfl rfl)
theorem dX0_row_35 : decode cX0_row 35 = .ok (.aload_n 0, 1) := dk_42 (dk_at dksX0_row_1 13 rfl rfl)
theorem dX0_row_36 : decode cX0_row 36 = .ok (.iconst 0, 1) := dk_3 (dk_at dksX0_row_1 14 rfl rfl)
theorem dX0_row_37 : decode cX0_row 37 = .ok (.putfield 110, 3) := dk_181 0 110 (dk_at dksX0_row_1 15 rfl rfl)
theorem dX0_row_40 : decode cX0_row 40 = .ok (.aload_n 0, 1) := dk_42 (dk_at dksX0_row_1 18 rfl rfl)
theorem dX0_row_41 : decode cX0_row 41 = .ok (.iconst 0, 1) := dk_3 (dk_at dksX0_row_1 19 rfl rfl)
theorem dX0_row_42 : decode cX0_row 42 = .ok (.putfield 206, 3) := dk_181 0 206 (dk_at dksX0_row_1 20 rfl rfl)
theorem dX0_row_45 : decode cX0_row 45 = .ok (.iconst 0, 1) := dk_3 (dk_at dksX0_row_1 23 rfl rfl)
theorem dX0_row_46 : decode cX0_row 46 = .ok (.istore_n 2, 1) := dk_61 (dk_at dksX0_row_2 0 rfl rfl)
theorem dX0_row_47 : decode cX0_row 47 = .ok (.iconst 0, 1) := dk_3 (dk_at dksX0_row_2 1 rfl rfl)
theorem dX0_row_48 : decode cX0_row 48 = .ok (.istore_n 3, 1) := dk_62 (dk_at dksX0_row_2 2 rfl rfl)
theorem dX0_row_49 : decode cX0_row 49 = .ok (.iload_n 3, 1) := dk_29 (dk_at dksX0_row_2 3 rfl rfl)
theorem dX0_row_50 : decode cX0_row 50 = .ok (.aload_n 1, 1) := dk_43 (dk_at dksX0_row_2 4 rfl rfl)
theorem dX0_row_51 : decode cX0_row 51 = .ok (.arraylength, 1) := dk_190 (dk_at dksX0_row_2 5 rfl rfl)
theorem dX0_row_52 : decode cX0_row 52 = .ok (.if_icmp .ge 235, 3) := dk_162 0 235 (dk_at dksX0_row_2 6 rfl rfl)
theorem dX0_row_55 : decode cX0_row 55 = .ok (.iconst (-1), 1) := dk_2 (dk_at dksX0_row_2 9 rfl rfl)
theorem dX0_row_56 : decode cX0_row 56 = .ok (.istore 4, 2) := dk_54 4 (dk_at dksX0_row_2 10 rfl rfl)
theorem dX0_row_58 : decode cX0_row 58 = .ok (.aload_n 1, 1) := dk_43 (dk_at dksX0_row_2 12 rfl rfl)
theorem dX0_row_59 : decode cX0_row 59 = .ok (.iload_n 3, 1) := dk_29 (dk_at dksX0_row_2 13 rfl rfl)
theorem dX0_row_60 : decode cX0_row 60 = .ok (.iconst 2, 1) := dk_5 (dk_at dksX0_row_2 14 rfl rfl)
theorem dX0_row_61 : decode cX0_row 61 = .ok (.iadd, 1) := dk_96 (dk_at dksX0_row_2 15 rfl rfl)
theorem dX0_row_62 : decode cX0_row 62 = .ok (.invokestatic 209, 3) := dk_184 0 209 (dk_at dksX0_row_2 16 rfl rfl)
theorem dX0_row_65 : decode cX0_row 65 = .ok (.istore 4, 2) := dk_54 4 (dk_at dksX0_row_2 19 rfl rfl)
theorem dX0_row_67 : decode cX0_row 67 = .ok (.iload 4, 2) := dk_21 4 (dk_at dksX0_row_2 21 rfl rfl)
theorem dX0_row_69 : decode cX0_row 69 = .ok (.iconst (-1), 1) := dk_2 (dk_at dksX0_row_2 23 rfl rfl)
theorem dX0_row_70 : decode cX0_row 70 = .ok (.if_icmp .eq 28, 3) := dk_159 0 28 (dk_at dksX0_row_3 0 rfl rfl)
theorem dX0_row_73 : decode cX0_row 73 = .ok (.aload_n 0, 1) := dk_42 (dk_at dksX0_row_3 3 rfl rfl)
theorem dX0_row_74 : decode cX0_row 74 = .ok (.aload_n 1, 1) := dk_43 (dk_at dksX0_row_3 4 rfl rfl)
theorem dX0_row_75 : decode cX0_row 75 = .ok (.iload_n 3, 1) := dk_29 (dk_at dksX0_row_3 5 rfl rfl)
theorem dX0_row_76 : decode cX0_row 76 = .ok (.invokestatic 209, 3) := dk_184 0 209 (dk_at dksX0_row_3 6 rfl rfl)
theorem dX0_row_79 : decode cX0_row 79 = .ok (.aload_n 1, 1) := dk_43 (dk_at dksX0_row_3 9 rfl rfl)
theorem dX0_row_80 : decode cX0_row 80 = .ok (.iload_n 3, 1) := dk_29 (dk_at dksX0_row_3 10 rfl rfl)
theorem dX0_row_81 : decode cX0_row 81 = .ok (.iconst 1, 1) := dk_4 (dk_at dksX0_row_3 11 rfl rfl)
theorem dX0_row_82 : decode cX0_row 82 = .ok (.iadd, 1) := dk_96 (dk_at dksX0_row_3 12 rfl rfl)
theorem dX0_row_83 : decode cX0_row 83 = .ok (.invokestatic 209, 3) := dk_184 0 209 (dk_at dksX0_row_3 13 rfl rfl)
theorem dX0_row_86 : decode cX0_row 86 = .ok (.iload 4, 2) := dk_21 4 (dk_at dksX0_row_3 16 rfl rfl)
theorem dX0_row_88 : decode cX0_row 88 = .ok (.invokevirtual 146, 3) := dk_182 0 146 (dk_at dksX0_row_3 18 rfl rfl)
theorem dX0_row_91 : decode cX0_row 91 = .ok (.ifCond .lt 7, 3) := dk_155 0 7 (dk_at dksX0_row_3 21 rfl rfl)
theorem dX0_row_94 : decode cX0_row 94 = .ok (.iconst 1, 1) := dk_4 (dk_at dksX0_row_4 0 rfl rfl)
theorem dX0_row_95 : decode cX0_row 95 = .ok (.goto 4, 3) := dk_167 0 4 (dk_at dksX0_row_4 1 rfl rfl)
theorem dX0_row_98 : decode cX0_row 98 = .ok (.iconst 0, 1) := dk_3 (dk_at dksX0_row_4 4 rfl rfl)
theorem dX0_row_99 : decode cX0_row 99 = .ok (.istore 5, 2) := dk_54 5 (dk_at dksX0_row_4 5 rfl rfl)
theorem dX0_row_101 : decode cX0_row 101 = .ok (.iload_n 2, 1) := dk_28 (dk_at dksX0_row_4 7 rfl rfl)
theorem dX0_row_102 : decode cX0_row 102 = .ok (.iload 5, 2) := dk_21 5 (dk_at dksX0_row_4 8 rfl rfl)
theorem dX0_row_104 : decode cX0_row 104 = .ok (.ifCond .eq 7, 3) := dk_153 0 7 (dk_at dksX0_row_4 10 rfl rfl)
theorem dX0_row_107 : decode cX0_row 107 = .ok (.iconst 1, 1) := dk_4 (dk_at dksX0_row_4 13 rfl rfl)
theorem dX0_row_108 : decode cX0_row 108 = .ok (.goto 4, 3) := dk_167 0 4 (dk_at dksX0_row_4 14 rfl rfl)
theorem dX0_row_111 : decode cX0_row 111 = .ok (.iconst 0, 1) := dk_3 (dk_at dksX0_row_4 17 rfl rfl)
theorem dX0_row_112 : decode cX0_row 112 = .ok (.iadd, 1) := dk_96 (dk_at dksX0_row_4 18 rfl rfl)
theorem dX0_row_113 : decode cX0_row 113 = .ok (.istore_n 2, 1) := dk_61 (dk_at dksX0_row_4 19 rfl rfl)
theorem dX0_row_114 : decode cX0_row 114 = .ok (.aload_n 0, 1) := dk_42 (dk_at dksX0_row_4 20 rfl rfl)
theorem dX0_row_115 : decode cX0_row 115 = .ok (.dup, 1) := dk_89 (dk_at dksX0_row_4 21 rfl rfl)
theorem dX0_row_116 : decode cX0_row 116 = .ok (.getfield 206, 3) := dk_180 0 206 (dk_at dksX0_row_5 0 rfl rfl)
theorem dX0_row_119 : decode cX0_row 119 = .ok (.iload 5, 2) := dk_21 5 (dk_at dksX0_row_5 3 rfl rfl)
theorem dX0_row_121 : decode cX0_row 121 = .ok (.ifCond .eq 7, 3) := dk_153 0 7 (dk_at dksX0_row_5 5 rfl rfl)
theorem dX0_row_124 : decode cX0_row 124 = .ok (.iconst 0, 1) := dk_3 (dk_at dksX0_row_5 8 rfl rfl)
theorem dX0_row_125 : decode cX0_row 125 = .ok (.goto 4, 3) := dk_167 0 4 (dk_at dksX0_row_5 9 rfl rfl)
theorem dX0_row_128 : decode cX0_row 128 = .ok (.iconst 1, 1) := dk_4 (dk_at dksX0_row_5 12 rfl rfl)
theorem dX0_row_129 : decode cX0_row 129 = .ok (.iadd, 1) := dk_96 (dk_at dksX0_row_5 13 rfl rfl)
theorem dX0_row_130 : decode cX0_row 130 = .ok (.putfield 206, 3) := dk_181 0 206 (dk_at dksX0_row_5 14 rfl rfl)
theorem dX0_row_133 : decode cX0_row 133 = .ok (.goto 148, 3) := dk_167 0 148 (dk_at dksX0_row_5 17 rfl rfl)
theorem dX0_row_136 : decode cX0_row 136 = .ok (.astore 5, 2) := dk_58 5 (dk_at dksX0_row_5 20 rfl rfl)
theorem dX0_row_138 : decode cX0_row 138 = .ok (.iconst (-1), 1) := dk_2 (dk_at dksX0_row_5 22 rfl rfl)
theorem dX0_row_139 : decode cX0_row 139 = .ok (.istore 4, 2) := dk_54 4 (dk_at dksX0_row_6 0 rfl rfl)
theorem dX0_row_141 : decode cX0_row 141 = .ok (.iload 4, 2) := dk_21 4 (dk_at dksX0_row_6 2 rfl rfl)
theorem dX0_row_143 : decode cX0_row 143 = .ok (.iconst (-1), 1) := dk_2 (dk_at dksX0_row_6 4 rfl rfl)
theorem dX0_row_144 : decode cX0_row 144 = .ok (.if_icmp .eq 28, 3) := dk_159 0 28 (dk_at dksX0_row_6 5 rfl rfl)
theorem dX0_row_147 : decode cX0_row 147 = .ok (.aload_n 0, 1) := dk_42 (dk_at dksX0_row_6 8 rfl rfl)
theorem dX0_row_148 : decode cX0_row 148 = .ok (.aload_n 1, 1) := dk_43 (dk_at dksX0_row_6 9 rfl rfl)
theorem dX0_row_149 : decode cX0_row 149 = .ok (.iload_n 3, 1) := dk_29 (dk_at dksX0_row_6 10 rfl rfl)
theorem dX0_row_150 : decode cX0_row 150 = .ok (.invokestatic 209, 3) := dk_184 0 209 (dk_at dksX0_row_6 11 rfl rfl)
theorem dX0_row_153 : decode cX0_row 153 = .ok (.aload_n 1, 1) := dk_43 (dk_at dksX0_row_6 14 rfl rfl)
theorem dX0_row_154 : decode cX0_row 154 = .ok (.iload_n 3, 1) := dk_29 (dk_at dksX0_row_6 15 rfl rfl)
theorem dX0_row_155 : decode cX0_row 155 = .ok (.iconst 1, 1) := dk_4 (dk_at dksX0_row_6 16 rfl rfl)
theorem dX0_row_156 : decode cX0_row 156 = .ok (.iadd, 1) := dk_96 (dk_at dksX0_row_6 17 rfl rfl)
theorem dX0_row_157 : decode cX0_row 157 = .ok (.invokestatic 209, 3) := dk_184 0 209 (dk_at dksX0_row_6 18 rfl rfl)
theorem dX0_row_160 : decode cX0_row 160 = .ok (.iload 4, 2) := dk_21 4 (dk_at dksX0_row_6 21 rfl rfl)
theorem dX0_row_162 : decode cX0_row 162 = .ok (.invokevirtual 146, 3) := dk_182 0 146 (dk_at dksX0_row_7 0 rfl rfl)
theorem dX0_row_165 : decode cX0_row 165 = .ok (.ifCond .lt 7, 3) := dk_155 0 7 (dk_at dksX0_row_7 3 rfl rfl)
theorem dX0_row_168 : decode cX0_row 168 = .ok (.iconst 1, 1) := dk_4 (dk_at dksX0_row_7 6 rfl rfl)
theorem dX0_row_169 : decode cX0_row 169 = .ok (.goto 4, 3) := dk_167 0 4 (dk_at dksX0_row_7 7 rfl rfl)
theorem dX0_row_172 : decode cX0_row 172 = .ok (.iconst 0, 1) := dk_3 (dk_at dksX0_row_7 10 rfl rfl)
theorem dX0_row_173 : decode cX0_row 173 = .ok (.istore 5, 2) := dk_54 5 (dk_at dksX0_row_7 11 rfl rfl)
theorem dX0_row_175 : decode cX0_row 175 = .ok (.iload_n 2, 1) := dk_28 (dk_at dksX0_row_7 13 rfl rfl)
theorem dX0_row_176 : decode cX0_row 176 = .ok (.iload 5, 2) := dk_21 5 (dk_at dksX0_row_7 14 rfl rfl)
theorem dX0_row_178 : decode cX0_row 178 = .ok (.ifCond .eq 7, 3) := dk_153 0 7 (dk_at dksX0_row_7 16 rfl rfl)
theorem dX0_row_181 : decode cX0_row 181 = .ok (.iconst 1, 1) := dk_4 (dk_at dksX0_row_7 19 rfl rfl)
theorem dX0_row_182 : decode cX0_row 182 = .ok (.goto 4, 3) := dk_167 0 4 (dk_at dksX0_row_7 20 rfl rfl)
theorem dX0_row_185 : decode cX0_row 185 = .ok (.iconst 0, 1) := dk_3 (dk_at dksX0_row_7 23 rfl rfl)
theorem dX0_row_186 : decode cX0_row 186 = .ok (.iadd, 1) := dk_96 (dk_at dksX0_row_8 0 rfl rfl)
theorem dX0_row_187 : decode cX0_row 187 = .ok (.istore_n 2, 1) := dk_61 (dk_at dksX0_row_8 1 rfl rfl)
theorem dX0_row_188 : decode cX0_row 188 = .ok (.aload_n 0, 1) := dk_42 (dk_at dksX0_row_8 2 rfl rfl)
theorem dX0_row_189 : decode cX0_row 189 = .ok (.dup, 1) := dk_89 (dk_at dksX0_row_8 3 rfl rfl)
theorem dX0_row_190 : decode cX0_row 190 = .ok (.getfield 206, 3) := dk_180 0 206 (dk_at dksX0_row_8 4 rfl rfl)
theorem dX0_row_193 : decode cX0_row 193 = .ok (.iload 5, 2) := dk_21 5 (dk_at dksX0_row_8 7 rfl rfl)
theorem dX0_row_195 : decode cX0_row 195 = .ok (.ifCond .eq 7, 3) := dk_153 0 7 (dk_at dksX0_row_8 9 rfl rfl)
theorem dX0_row_198 : decode cX0_row 198 = .ok (.iconst 0, 1) := dk_3 (dk_at dksX0_row_8 12 rfl rfl)
theorem dX0_row_199 : decode cX0_row 199 = .ok (.goto 4, 3) := dk_167 0 4 (dk_at dksX0_row_8 13 rfl rfl)
theorem dX0_row_202 : decode cX0_row 202 = .ok (.iconst 1, 1) := dk_4 (dk_at dksX0_row_8 16 rfl rfl)
theorem dX0_row_203 : decode cX0_row 203 = .ok (.iadd, 1) := dk_96 (dk_at dksX0_row_8 17 rfl rfl)
theorem dX0_row_204 : decode cX0_row 204 = .ok (.putfield 206, 3) := dk_181 0 206 (dk_at dksX0_row_8 18 rfl rfl)
theorem dX0_row_207 : decode cX0_row 207 = .ok (.goto 74, 3) := dk_167 0 74 (dk_at dksX0_row_8 21 rfl rfl)
theorem dX0_row_210 : decode cX0_row 210 = .ok (.astore 6, 2) := dk_58 6 (dk_at dksX0_row_9 0 rfl rfl)
theorem dX0_row_212 : decode cX0_row 212 = .ok (.iload 4, 2) := dk_21 4 (dk_at dksX0_row_9 2 rfl rfl)
theorem dX0_row_214 : decode cX0_row 214 = .ok (.iconst (-1), 1) := dk_2 (dk_at dksX0_row_9 4 rfl rfl)
theorem dX0_row_215 : decode cX0_row 215 = .ok (.if_icmp .eq 28, 3) := dk_159 0 28 (dk_at dksX0_row_9 5 rfl rfl)
theorem dX0_row_218 : decode cX0_row 218 = .ok (.aload_n 0, 1) := dk_42 (dk_at dksX0_row_9 8 rfl rfl)
theorem dX0_row_219 : decode cX0_row 219 = .ok (.aload_n 1, 1) := dk_43 (dk_at dksX0_row_9 9 rfl rfl)
theorem dX0_row_220 : decode cX0_row 220 = .ok (.iload_n 3, 1) := dk_29 (dk_at dksX0_row_9 10 rfl rfl)
theorem dX0_row_221 : decode cX0_row 221 = .ok (.invokestatic 209, 3) := dk_184 0 209 (dk_at dksX0_row_9 11 rfl rfl)
theorem dX0_row_224 : decode cX0_row 224 = .ok (.aload_n 1, 1) := dk_43 (dk_at dksX0_row_9 14 rfl rfl)
theorem dX0_row_225 : decode cX0_row 225 = .ok (.iload_n 3, 1) := dk_29 (dk_at dksX0_row_9 15 rfl rfl)
theorem dX0_row_226 : decode cX0_row 226 = .ok (.iconst 1, 1) := dk_4 (dk_at dksX0_row_9 16 rfl rfl)
theorem dX0_row_227 : decode cX0_row 227 = .ok (.iadd, 1) := dk_96 (dk_at dksX0_row_9 17 rfl rfl)
theorem dX0_row_228 : decode cX0_row 228 = .ok (.invokestatic 209, 3) := dk_184 0 209 (dk_at dksX0_row_9 18 rfl rfl)
theorem dX0_row_231 : decode cX0_row 231 = .ok (.iload 4, 2) := dk_21 4 (dk_at dksX0_row_9 21 rfl rfl)
theorem dX0_row_233 : decode cX0_row 233 = .ok (.invokevirtual 146, 3) := dk_182 0 146 (dk_at dksX0_row_10 0 rfl rfl)
theorem dX0_row_236 : decode cX0_row 236 = .ok (.ifCond .lt 7, 3) := dk_155 0 7 (dk_at dksX0_row_10 3 rfl rfl)
theorem dX0_row_239 : decode cX0_row 239 = .ok (.iconst 1, 1) := dk_4 (dk_at dksX0_row_10 6 rfl rfl)
theorem dX0_row_240 : decode cX0_row 240 = .ok (.goto 4, 3) := dk_167 0 4 (dk_at dksX0_row_10 7 rfl rfl)
theorem dX0_row_243 : decode cX0_row 243 = .ok (.iconst 0, 1) := dk_3 (dk_at dksX0_row_10 10 rfl rfl)
theorem dX0_row_244 : decode cX0_row 244 = .ok (.istore 7, 2) := dk_54 7 (dk_at dksX0_row_10 11 rfl rfl)
theorem dX0_row_246 : decode cX0_row 246 = .ok (.iload_n 2, 1) := dk_28 (dk_at dksX0_row_10 13 rfl rfl)
theorem dX0_row_247 : decode cX0_row 247 = .ok (.iload 7, 2) := dk_21 7 (dk_at dksX0_row_10 14 rfl rfl)
theorem dX0_row_249 : decode cX0_row 249 = .ok (.ifCond .eq 7, 3) := dk_153 0 7 (dk_at dksX0_row_10 16 rfl rfl)
theorem dX0_row_252 : decode cX0_row 252 = .ok (.iconst 1, 1) := dk_4 (dk_at dksX0_row_10 19 rfl rfl)
theorem dX0_row_253 : decode cX0_row 253 = .ok (.goto 4, 3) := dk_167 0 4 (dk_at dksX0_row_10 20 rfl rfl)
theorem dX0_row_256 : decode cX0_row 256 = .ok (.iconst 0, 1) := dk_3 (dk_at dksX0_row_10 23 rfl rfl)
theorem dX0_row_257 : decode cX0_row 257 = .ok (.iadd, 1) := dk_96 (dk_at dksX0_row_11 0 rfl rfl)
theorem dX0_row_258 : decode cX0_row 258 = .ok (.istore_n 2, 1) := dk_61 (dk_at dksX0_row_11 1 rfl rfl)
theorem dX0_row_259 : decode cX0_row 259 = .ok (.aload_n 0, 1) := dk_42 (dk_at dksX0_row_11 2 rfl rfl)
theorem dX0_row_260 : decode cX0_row 260 = .ok (.dup, 1) := dk_89 (dk_at dksX0_row_11 3 rfl rfl)
theorem dX0_row_261 : decode cX0_row 261 = .ok (.getfield 206, 3) := dk_180 0 206 (dk_at dksX0_row_11 4 rfl rfl)
theorem dX0_row_264 : decode cX0_row 264 = .ok (.iload 7, 2) := dk_21 7 (dk_at dksX0_row_11 7 rfl rfl)
theorem dX0_row_266 : decode cX0_row 266 = .ok (.ifCond .eq 7, 3) := dk_153 0 7 (dk_at dksX0_row_11 9 rfl rfl)
theorem dX0_row_269 : decode cX0_row 269 = .ok (.iconst 0, 1) := dk_3 (dk_at dksX0_row_11 12 rfl rfl)
theorem dX0_row_270 : decode cX0_row 270 = .ok (.goto 4, 3) := dk_167 0 4 (dk_at dksX0_row_11 13 rfl rfl)
theorem dX0_row_273 : decode cX0_row 273 = .ok (.iconst 1, 1) := dk_4 (dk_at dksX0_row_11 16 rfl rfl)
theorem dX0_row_274 : decode cX0_row 274 = .ok (.iadd, 1) := dk_96 (dk_at dksX0_row_11 17 rfl rfl)
theorem dX0_row_275 : decode cX0_row 275 = .ok (.putfield 206, 3) := dk_181 0 206 (dk_at dksX0_row_11 18 rfl rfl)
theorem dX0_row_278 : decode cX0_row 278 = .ok (.aload 6, 2) := dk_25 6 (dk_at dksX0_row_11 21 rfl rfl)
theorem dX0_row_280 : decode cX0_row 280 = .ok (.athrow, 1) := dk_191 (dk_at dksX0_row_11 23 rfl rfl)
theorem dX0_row_281 : decode cX0_row 281 = .ok (.iinc 3 3, 3) := dk_132 3 3 (dk_at dksX0_row_12 0 rfl rfl)
theorem dX0_row_284 : decode cX0_row 284 = .ok (.goto (-235), 3) := dk_167 255 21 (dk_at dksX0_row_12 3 rfl rfl)
theorem dX0_row_287 : decode cX0_row 287 = .ok (.aload_n 0, 1) := dk_42 (dk_at dksX0_row_12 6 rfl rfl)
theorem dX0_row_288 : decode cX0_row 288 = .ok (.iload_n 2, 1) := dk_28 (dk_at dksX0_row_12 7 rfl rfl)
theorem dX0_row_289 : decode cX0_row 289 = .ok (.invokevirtual 150, 3) := dk_182 0 150 (dk_at dksX0_row_12 8 rfl rfl)
theorem dX0_row_292 : decode cX0_row 292 = .ok (.ireturn, 1) := dk_172 (dk_at dksX0_row_12 11 rfl rfl)
abbrev cX0_byteAt : ByteArray := prog_1_method_25_code
def yX0_byteAt : MethodName := ⟨RX0, "byteAt", "([BI)I"⟩
def dkwX0_byteAt_0 : List UInt8 := [42, 27, 51, 17, 0, 255, 126, 172]
abbrev dktX0_byteAt_0 : List UInt8 := dkwX0_byteAt_0 ++ []
theorem dksX0_byteAt_0 : cX0_byteAt.data.toList.drop 0 = dktX0_byteAt_0 := by decide +kernel
theorem dX0_byteAt_0 : decode cX0_byteAt 0 = .ok (.aload_n 0, 1) := dk_42 (dk_at dksX0_byteAt_0 0 rfl rfl)
theorem dX0_byteAt_1 : decode cX0_byteAt 1 = .ok (.iload_n 1, 1) := dk_27 (dk_at dksX0_byteAt_0 1 rfl rfl)
theorem dX0_byteAt_2 : decode cX0_byteAt 2 = .ok (.baload, 1) := dk_51 (dk_at dksX0_byteAt_0 2 rfl rfl)
theorem dX0_byteAt_3 : decode cX0_byteAt 3 = .ok (.sipush 255, 3) := dk_17 0 255 (dk_at dksX0_byteAt_0 3 rfl rfl)
theorem dX0_byteAt_6 : decode cX0_byteAt 6 = .ok (.iand, 1) := dk_126 (dk_at dksX0_byteAt_0 6 rfl rfl)
theorem dX0_byteAt_7 : decode cX0_byteAt 7 = .ok (.ireturn, 1) := dk_172 (dk_at dksX0_byteAt_0 7 rfl rfl)
abbrev cX0_salt : ByteArray := prog_1_method_27_code
def yX0_salt : MethodName := ⟨RX0, "salt", "()I"⟩
theorem dX0_salt_0 : decode cX0_salt 0 = .ok (.aload_n 0, 1) := by decide +kernel
theorem dX0_salt_1 : decode cX0_salt 1 = .ok (.getfield 206, 3) := by decide +kernel
theorem dX0_salt_4 : decode cX0_salt 4 = .ok (.ireturn, 1) := by decide +kernel
abbrev cX0_law : ByteArray := prog_1_method_28_code
def yX0_law : MethodName := ⟨RX0, "law", "()I"⟩
def dkwX0_law_4 : List UInt8 := [182, 0, 84, 61, 42, 3, 181, 0, 110, 28, 172, 78, 42, 3, 181, 0, 110, 45, 191]
abbrev dktX0_law_4 : List UInt8 := dkwX0_law_4 ++ []
def dkwX0_law_3 : List UInt8 := [182, 0, 84, 60, 42, 3, 181, 0, 110, 27, 172, 76, 42, 43, 180, 0, 227, 181, 0, 52, 42, 16, 250]
abbrev dktX0_law_3 : List UInt8 := dkwX0_law_3 ++ dktX0_law_4
def dkwX0_law_2 : List UInt8 := [182, 0, 128, 87, 42, 2, 181, 0, 52, 42, 42, 180, 0, 10, 180, 0, 215, 182, 0, 95, 4, 100]
abbrev dktX0_law_2 : List UInt8 := dkwX0_law_2 ++ dktX0_law_3
def dkwX0_law_1 : List UInt8 := [182, 0, 84, 172, 42, 180, 0, 10, 180, 0, 215, 187, 0, 218, 89, 42, 183, 0, 220, 182, 0, 221]
abbrev dktX0_law_1 : List UInt8 := dkwX0_law_1 ++ dktX0_law_2
def dkwX0_law_0 : List UInt8 := [42, 180, 0, 10, 180, 0, 215, 182, 0, 95, 16, 6, 160, 0, 15, 42, 3, 181, 0, 110, 42, 16, 251]
abbrev dktX0_law_0 : List UInt8 := dkwX0_law_0 ++ dktX0_law_1
theorem dksX0_law_0 : cX0_law.data.toList.drop 0 = dktX0_law_0 := by decide +kernel
theorem dksX0_law_1 : cX0_law.data.toList.drop 23 = dktX0_law_1 := dk_seg dksX0_law_0 23 rfl rfl
theorem dksX0_law_2 : cX0_law.data.toList.drop 45 = dktX0_law_2 := dk_seg dksX0_law_1 22 rfl rfl
theorem dksX0_law_3 : cX0_law.data.toList.drop 67 = dktX0_law_3 := dk_seg dksX0_law_2 22 rfl rfl
theorem dksX0_law_4 : cX0_law.data.toList.drop 90 = dktX0_law_4 := dk_seg dksX0_law_3 23 rfl rfl
theorem dX0_law_0 : decode cX0_law 0 = .ok (.aload_n 0, 1) := dk_42 (dk_at dksX0_law_0 0 rfl rfl)
theorem dX0_law_1 : decode cX0_law 1 = .ok (.getfield 10, 3) := dk_180 0 10 (dk_at dksX0_law_0 1 rfl rfl)
theorem dX0_law_4 : decode cX0_law 4 = .ok (.getfield 215, 3) := dk_180 0 215 (dk_at dksX0_law_0 4 rfl rfl)
theorem dX0_law_7 : decode cX0_law 7 = .ok (.invokevirtual 95, 3) := dk_182 0 95 (dk_at dksX0_law_0 7 rfl rfl)
theorem dX0_law_10 : decode cX0_law 10 = .ok (.bipush 6, 2) := dk_16 6 (dk_at dksX0_law_0 10 rfl rfl)
theorem dX0_law_12 : decode cX0_law 12 = .ok (.if_icmp .ne 15, 3) := dk_160 0 15 (dk_at dksX0_law_0 12 rfl rfl)
theorem dX0_law_15 : decode cX0_law 15 = .ok (.aload_n 0, 1) := dk_42 (dk_at dksX0_law_0 15 rfl rfl)
theorem dX0_law_16 : decode cX0_law 16 = .ok (.iconst 0, 1) := dk_3 (dk_at dksX0_law_0 16 rfl rfl)
theorem dX0_law_17 : decode cX0_law 17 = .ok (.putfield 110, 3) := dk_181 0 110 (dk_at dksX0_law_0 17 rfl rfl)
theorem dX0_law_20 : decode cX0_law 20 = .ok (.aload_n 0, 1) := dk_42 (dk_at dksX0_law_0 20 rfl rfl)
theorem dX0_law_21 : decode cX0_law 21 = .ok (.bipush (-5), 2) := dk_16 251 (dk_at dksX0_law_0 21 rfl rfl)
theorem dX0_law_23 : decode cX0_law 23 = .ok (.invokevirtual 84, 3) := dk_182 0 84 (dk_at dksX0_law_1 0 rfl rfl)
theorem dX0_law_26 : decode cX0_law 26 = .ok (.ireturn, 1) := dk_172 (dk_at dksX0_law_1 3 rfl rfl)
theorem dX0_law_27 : decode cX0_law 27 = .ok (.aload_n 0, 1) := dk_42 (dk_at dksX0_law_1 4 rfl rfl)
theorem dX0_law_28 : decode cX0_law 28 = .ok (.getfield 10, 3) := dk_180 0 10 (dk_at dksX0_law_1 5 rfl rfl)
theorem dX0_law_31 : decode cX0_law 31 = .ok (.getfield 215, 3) := dk_180 0 215 (dk_at dksX0_law_1 8 rfl rfl)
theorem dX0_law_34 : decode cX0_law 34 = .ok (.new 218, 3) := dk_187 0 218 (dk_at dksX0_law_1 11 rfl rfl)
theorem dX0_law_37 : decode cX0_law 37 = .ok (.dup, 1) := dk_89 (dk_at dksX0_law_1 14 rfl rfl)
theorem dX0_law_38 : decode cX0_law 38 = .ok (.aload_n 0, 1) := dk_42 (dk_at dksX0_law_1 15 rfl rfl)
theorem dX0_law_39 : decode cX0_law 39 = .ok (.invokespecial 220, 3) := dk_183 0 220 (dk_at dksX0_law_1 16 rfl rfl)
theorem dX0_law_42 : decode cX0_law 42 = .ok (.invokevirtual 221, 3) := dk_182 0 221 (dk_at dksX0_law_1 19 rfl rfl)
theorem dX0_law_45 : decode cX0_law 45 = .ok (.invokevirtual 128, 3) := dk_182 0 128 (dk_at dksX0_law_2 0 rfl rfl)
theorem dX0_law_48 : decode cX0_law 48 = .ok (.pop, 1) := dk_87 (dk_at dksX0_law_2 3 rfl rfl)
theorem dX0_law_49 : decode cX0_law 49 = .ok (.aload_n 0, 1) := dk_42 (dk_at dksX0_law_2 4 rfl rfl)
theorem dX0_law_50 : decode cX0_law 50 = .ok (.iconst (-1), 1) := dk_2 (dk_at dksX0_law_2 5 rfl rfl)
theorem dX0_law_51 : decode cX0_law 51 = .ok (.putfield 52, 3) := dk_181 0 52 (dk_at dksX0_law_2 6 rfl rfl)
theorem dX0_law_54 : decode cX0_law 54 = .ok (.aload_n 0, 1) := dk_42 (dk_at dksX0_law_2 9 rfl rfl)
theorem dX0_law_55 : decode cX0_law 55 = .ok (.aload_n 0, 1) := dk_42 (dk_at dksX0_law_2 10 rfl rfl)
theorem dX0_law_56 : decode cX0_law 56 = .ok (.getfield 10, 3) := dk_180 0 10 (dk_at dksX0_law_2 11 rfl rfl)
theorem dX0_law_59 : decode cX0_law 59 = .ok (.getfield 215, 3) := dk_180 0 215 (dk_at dksX0_law_2 14 rfl rfl)
theorem dX0_law_62 : decode cX0_law 62 = .ok (.invokevirtual 95, 3) := dk_182 0 95 (dk_at dksX0_law_2 17 rfl rfl)
theorem dX0_law_65 : decode cX0_law 65 = .ok (.iconst 1, 1) := dk_4 (dk_at dksX0_law_2 20 rfl rfl)
theorem dX0_law_66 : decode cX0_law 66 = .ok (.isub, 1) := dk_100 (dk_at dksX0_law_2 21 rfl rfl)
theorem dX0_law_67 : decode cX0_law 67 = .ok (.invokevirtual 84, 3) := dk_182 0 84 (dk_at dksX0_law_3 0 rfl rfl)
theorem dX0_law_70 : decode cX0_law 70 = .ok (.istore_n 1, 1) := dk_60 (dk_at dksX0_law_3 3 rfl rfl)
theorem dX0_law_71 : decode cX0_law 71 = .ok (.aload_n 0, 1) := dk_42 (dk_at dksX0_law_3 4 rfl rfl)
theorem dX0_law_72 : decode cX0_law 72 = .ok (.iconst 0, 1) := dk_3 (dk_at dksX0_law_3 5 rfl rfl)
theorem dX0_law_73 : decode cX0_law 73 = .ok (.putfield 110, 3) := dk_181 0 110 (dk_at dksX0_law_3 6 rfl rfl)
theorem dX0_law_76 : decode cX0_law 76 = .ok (.iload_n 1, 1) := dk_27 (dk_at dksX0_law_3 9 rfl rfl)
theorem dX0_law_77 : decode cX0_law 77 = .ok (.ireturn, 1) := dk_172 (dk_at dksX0_law_3 10 rfl rfl)
theorem dX0_law_78 : decode cX0_law 78 = .ok (.astore_n 1, 1) := dk_76 (dk_at dksX0_law_3 11 rfl rfl)
theorem dX0_law_79 : decode cX0_law 79 = .ok (.aload_n 0, 1) := dk_42 (dk_at dksX0_law_3 12 rfl rfl)
theorem dX0_law_80 : decode cX0_law 80 = .ok (.aload_n 1, 1) := dk_43 (dk_at dksX0_law_3 13 rfl rfl)
theorem dX0_law_81 : decode cX0_law 81 = .ok (.getfield 227, 3) := dk_180 0 227 (dk_at dksX0_law_3 14 rfl rfl)
theorem dX0_law_84 : decode cX0_law 84 = .ok (.putfield 52, 3) := dk_181 0 52 (dk_at dksX0_law_3 17 rfl rfl)
theorem dX0_law_87 : decode cX0_law 87 = .ok (.aload_n 0, 1) := dk_42 (dk_at dksX0_law_3 20 rfl rfl)
theorem dX0_law_88 : decode cX0_law 88 = .ok (.bipush (-6), 2) := dk_16 250 (dk_at dksX0_law_3 21 rfl rfl)
theorem dX0_law_90 : decode cX0_law 90 = .ok (.invokevirtual 84, 3) := dk_182 0 84 (dk_at dksX0_law_4 0 rfl rfl)
theorem dX0_law_93 : decode cX0_law 93 = .ok (.istore_n 2, 1) := dk_61 (dk_at dksX0_law_4 3 rfl rfl)
theorem dX0_law_94 : decode cX0_law 94 = .ok (.aload_n 0, 1) := dk_42 (dk_at dksX0_law_4 4 rfl rfl)
theorem dX0_law_95 : decode cX0_law 95 = .ok (.iconst 0, 1) := dk_3 (dk_at dksX0_law_4 5 rfl rfl)
theorem dX0_law_96 : decode cX0_law 96 = .ok (.putfield 110, 3) := dk_181 0 110 (dk_at dksX0_law_4 6 rfl rfl)
theorem dX0_law_99 : decode cX0_law 99 = .ok (.iload_n 2, 1) := dk_28 (dk_at dksX0_law_4 9 rfl rfl)
theorem dX0_law_100 : decode cX0_law 100 = .ok (.ireturn, 1) := dk_172 (dk_at dksX0_law_4 10 rfl rfl)
theorem dX0_law_101 : decode cX0_law 101 = .ok (.astore_n 3, 1) := dk_78 (dk_at dksX0_law_4 11 rfl rfl)
theorem dX0_law_102 : decode cX0_law 102 = .ok (.aload_n 0, 1) := dk_42 (dk_at dksX0_law_4 12 rfl rfl)
theorem dX0_law_103 : decode cX0_law 103 = .ok (.iconst 0, 1) := dk_3 (dk_at dksX0_law_4 13 rfl rfl)
theorem dX0_law_104 : decode cX0_law 104 = .ok (.putfield 110, 3) := dk_181 0 110 (dk_at dksX0_law_4 14 rfl rfl)
theorem dX0_law_107 : decode cX0_law 107 = .ok (.aload_n 3, 1) := dk_45 (dk_at dksX0_law_4 17 rfl rfl)
theorem dX0_law_108 : decode cX0_law 108 = .ok (.athrow, 1) := dk_191 (dk_at dksX0_law_4 18 rfl rfl)
abbrev cX0_isLetter : ByteArray := prog_1_method_14_code
def yX0_isLetter : MethodName := ⟨RX0, "isLetter", "(I)Z"⟩
def dkwX0_isLetter_0 : List UInt8 := [26, 16, 97, 161, 0, 13, 26, 16, 122, 163, 0, 7, 4, 167, 0, 4, 3, 172]
abbrev dktX0_isLetter_0 : List UInt8 := dkwX0_isLetter_0 ++ []
theorem dksX0_isLetter_0 : cX0_isLetter.data.toList.drop 0 = dktX0_isLetter_0 := by decide +kernel
theorem dX0_isLetter_0 : decode cX0_isLetter 0 = .ok (.iload_n 0, 1) := dk_26 (dk_at dksX0_isLetter_0 0 rfl rfl)
theorem dX0_isLetter_1 : decode cX0_isLetter 1 = .ok (.bipush 97, 2) := dk_16 97 (dk_at dksX0_isLetter_0 1 rfl rfl)
theorem dX0_isLetter_3 : decode cX0_isLetter 3 = .ok (.if_icmp .lt 13, 3) := dk_161 0 13 (dk_at dksX0_isLetter_0 3 rfl rfl)
theorem dX0_isLetter_6 : decode cX0_isLetter 6 = .ok (.iload_n 0, 1) := dk_26 (dk_at dksX0_isLetter_0 6 rfl rfl)
theorem dX0_isLetter_7 : decode cX0_isLetter 7 = .ok (.bipush 122, 2) := dk_16 122 (dk_at dksX0_isLetter_0 7 rfl rfl)
theorem dX0_isLetter_9 : decode cX0_isLetter 9 = .ok (.if_icmp .gt 7, 3) := dk_163 0 7 (dk_at dksX0_isLetter_0 9 rfl rfl)
theorem dX0_isLetter_12 : decode cX0_isLetter 12 = .ok (.iconst 1, 1) := dk_4 (dk_at dksX0_isLetter_0 12 rfl rfl)
theorem dX0_isLetter_13 : decode cX0_isLetter 13 = .ok (.goto 4, 3) := dk_167 0 4 (dk_at dksX0_isLetter_0 13 rfl rfl)
theorem dX0_isLetter_16 : decode cX0_isLetter 16 = .ok (.iconst 0, 1) := dk_3 (dk_at dksX0_isLetter_0 16 rfl rfl)
theorem dX0_isLetter_17 : decode cX0_isLetter 17 = .ok (.ireturn, 1) := dk_172 (dk_at dksX0_isLetter_0 17 rfl rfl)
abbrev cX0_isDigit : ByteArray := prog_1_method_15_code
def yX0_isDigit : MethodName := ⟨RX0, "isDigit", "(I)Z"⟩
def dkwX0_isDigit_0 : List UInt8 := [26, 16, 48, 161, 0, 13, 26, 16, 57, 163, 0, 7, 4, 167, 0, 4, 3, 172]
abbrev dktX0_isDigit_0 : List UInt8 := dkwX0_isDigit_0 ++ []
theorem dksX0_isDigit_0 : cX0_isDigit.data.toList.drop 0 = dktX0_isDigit_0 := by decide +kernel
theorem dX0_isDigit_0 : decode cX0_isDigit 0 = .ok (.iload_n 0, 1) := dk_26 (dk_at dksX0_isDigit_0 0 rfl rfl)
theorem dX0_isDigit_1 : decode cX0_isDigit 1 = .ok (.bipush 48, 2) := dk_16 48 (dk_at dksX0_isDigit_0 1 rfl rfl)
theorem dX0_isDigit_3 : decode cX0_isDigit 3 = .ok (.if_icmp .lt 13, 3) := dk_161 0 13 (dk_at dksX0_isDigit_0 3 rfl rfl)
theorem dX0_isDigit_6 : decode cX0_isDigit 6 = .ok (.iload_n 0, 1) := dk_26 (dk_at dksX0_isDigit_0 6 rfl rfl)
theorem dX0_isDigit_7 : decode cX0_isDigit 7 = .ok (.bipush 57, 2) := dk_16 57 (dk_at dksX0_isDigit_0 7 rfl rfl)
theorem dX0_isDigit_9 : decode cX0_isDigit 9 = .ok (.if_icmp .gt 7, 3) := dk_163 0 7 (dk_at dksX0_isDigit_0 9 rfl rfl)
theorem dX0_isDigit_12 : decode cX0_isDigit 12 = .ok (.iconst 1, 1) := dk_4 (dk_at dksX0_isDigit_0 12 rfl rfl)
theorem dX0_isDigit_13 : decode cX0_isDigit 13 = .ok (.goto 4, 3) := dk_167 0 4 (dk_at dksX0_isDigit_0 13 rfl rfl)
theorem dX0_isDigit_16 : decode cX0_isDigit 16 = .ok (.iconst 0, 1) := dk_3 (dk_at dksX0_isDigit_0 16 rfl rfl)
theorem dX0_isDigit_17 : decode cX0_isDigit 17 = .ok (.ireturn, 1) := dk_172 (dk_at dksX0_isDigit_0 17 rfl rfl)
abbrev cX0_fault : ByteArray := prog_1_method_29_code
def yX0_fault : MethodName := ⟨RX0, "fault", "()I"⟩
theorem dX0_fault_0 : decode cX0_fault 0 = .ok (.aload_n 0, 1) := by decide +kernel
theorem dX0_fault_1 : decode cX0_fault 1 = .ok (.getfield 52, 3) := by decide +kernel
theorem dX0_fault_4 : decode cX0_fault 4 = .ok (.ireturn, 1) := by decide +kernel
abbrev cX0_force : ByteArray := prog_1_method_30_code
def yX0_force : MethodName := ⟨RX0, "force", "(I)I"⟩
def dkwX0_force_2 : List UInt8 := [181, 0, 230, 42, 28, 182, 0, 157, 172]
abbrev dktX0_force_2 : List UInt8 := dkwX0_force_2 ++ []
def dkwX0_force_1 : List UInt8 := [154, 0, 10, 42, 16, 254, 182, 0, 84, 172, 42, 180, 0, 10, 180, 0, 230, 61, 42, 180, 0, 10, 27]
abbrev dktX0_force_1 : List UInt8 := dkwX0_force_1 ++ dktX0_force_2
def dkwX0_force_0 : List UInt8 := [27, 2, 159, 0, 32, 27, 133, 9, 42, 180, 0, 10, 180, 0, 215, 182, 0, 95, 4, 100, 133, 184, 0, 102]
abbrev dktX0_force_0 : List UInt8 := dkwX0_force_0 ++ dktX0_force_1
theorem dksX0_force_0 : cX0_force.data.toList.drop 0 = dktX0_force_0 := by decide +kernel
theorem dksX0_force_1 : cX0_force.data.toList.drop 24 = dktX0_force_1 := dk_seg dksX0_force_0 24 rfl rfl
theorem dksX0_force_2 : cX0_force.data.toList.drop 47 = dktX0_force_2 := dk_seg dksX0_force_1 23 rfl rfl
theorem dX0_force_0 : decode cX0_force 0 = .ok (.iload_n 1, 1) := dk_27 (dk_at dksX0_force_0 0 rfl rfl)
theorem dX0_force_1 : decode cX0_force 1 = .ok (.iconst (-1), 1) := dk_2 (dk_at dksX0_force_0 1 rfl rfl)
theorem dX0_force_2 : decode cX0_force 2 = .ok (.if_icmp .eq 32, 3) := dk_159 0 32 (dk_at dksX0_force_0 2 rfl rfl)
theorem dX0_force_5 : decode cX0_force 5 = .ok (.iload_n 1, 1) := dk_27 (dk_at dksX0_force_0 5 rfl rfl)
theorem dX0_force_6 : decode cX0_force 6 = .ok (.i2l, 1) := dk_133 (dk_at dksX0_force_0 6 rfl rfl)
theorem dX0_force_7 : decode cX0_force 7 = .ok (.lconst 0, 1) := dk_9 (dk_at dksX0_force_0 7 rfl rfl)
theorem dX0_force_8 : decode cX0_force 8 = .ok (.aload_n 0, 1) := dk_42 (dk_at dksX0_force_0 8 rfl rfl)
theorem dX0_force_9 : decode cX0_force 9 = .ok (.getfield 10, 3) := dk_180 0 10 (dk_at dksX0_force_0 9 rfl rfl)
theorem dX0_force_12 : decode cX0_force 12 = .ok (.getfield 215, 3) := dk_180 0 215 (dk_at dksX0_force_0 12 rfl rfl)
theorem dX0_force_15 : decode cX0_force 15 = .ok (.invokevirtual 95, 3) := dk_182 0 95 (dk_at dksX0_force_0 15 rfl rfl)
theorem dX0_force_18 : decode cX0_force 18 = .ok (.iconst 1, 1) := dk_4 (dk_at dksX0_force_0 18 rfl rfl)
theorem dX0_force_19 : decode cX0_force 19 = .ok (.isub, 1) := dk_100 (dk_at dksX0_force_0 19 rfl rfl)
theorem dX0_force_20 : decode cX0_force 20 = .ok (.i2l, 1) := dk_133 (dk_at dksX0_force_0 20 rfl rfl)
theorem dX0_force_21 : decode cX0_force 21 = .ok (.invokestatic 102, 3) := dk_184 0 102 (dk_at dksX0_force_0 21 rfl rfl)
theorem dX0_force_24 : decode cX0_force 24 = .ok (.ifCond .ne 10, 3) := dk_154 0 10 (dk_at dksX0_force_1 0 rfl rfl)
theorem dX0_force_27 : decode cX0_force 27 = .ok (.aload_n 0, 1) := dk_42 (dk_at dksX0_force_1 3 rfl rfl)
theorem dX0_force_28 : decode cX0_force 28 = .ok (.bipush (-2), 2) := dk_16 254 (dk_at dksX0_force_1 4 rfl rfl)
theorem dX0_force_30 : decode cX0_force 30 = .ok (.invokevirtual 84, 3) := dk_182 0 84 (dk_at dksX0_force_1 6 rfl rfl)
theorem dX0_force_33 : decode cX0_force 33 = .ok (.ireturn, 1) := dk_172 (dk_at dksX0_force_1 9 rfl rfl)
theorem dX0_force_34 : decode cX0_force 34 = .ok (.aload_n 0, 1) := dk_42 (dk_at dksX0_force_1 10 rfl rfl)
theorem dX0_force_35 : decode cX0_force 35 = .ok (.getfield 10, 3) := dk_180 0 10 (dk_at dksX0_force_1 11 rfl rfl)
theorem dX0_force_38 : decode cX0_force 38 = .ok (.getfield 230, 3) := dk_180 0 230 (dk_at dksX0_force_1 14 rfl rfl)
theorem dX0_force_41 : decode cX0_force 41 = .ok (.istore_n 2, 1) := dk_61 (dk_at dksX0_force_1 17 rfl rfl)
theorem dX0_force_42 : decode cX0_force 42 = .ok (.aload_n 0, 1) := dk_42 (dk_at dksX0_force_1 18 rfl rfl)
theorem dX0_force_43 : decode cX0_force 43 = .ok (.getfield 10, 3) := dk_180 0 10 (dk_at dksX0_force_1 19 rfl rfl)
theorem dX0_force_46 : decode cX0_force 46 = .ok (.iload_n 1, 1) := dk_27 (dk_at dksX0_force_1 22 rfl rfl)
theorem dX0_force_47 : decode cX0_force 47 = .ok (.putfield 230, 3) := dk_181 0 230 (dk_at dksX0_force_2 0 rfl rfl)
theorem dX0_force_50 : decode cX0_force 50 = .ok (.aload_n 0, 1) := dk_42 (dk_at dksX0_force_2 3 rfl rfl)
theorem dX0_force_51 : decode cX0_force 51 = .ok (.iload_n 2, 1) := dk_28 (dk_at dksX0_force_2 4 rfl rfl)
theorem dX0_force_52 : decode cX0_force 52 = .ok (.invokevirtual 157, 3) := dk_182 0 157 (dk_at dksX0_force_2 5 rfl rfl)
theorem dX0_force_55 : decode cX0_force 55 = .ok (.ireturn, 1) := dk_172 (dk_at dksX0_force_2 8 rfl rfl)
abbrev cX0_asks : ByteArray := prog_1_method_41_code
def yX0_asks : MethodName := ⟨RX0, "asks", "(III)I"⟩
def dkwX0_asks_5 : List UInt8 := [182, 1, 28, 153, 0, 7, 4, 167, 0, 4, 3, 172, 42, 27, 28, 182, 1, 32, 172]
abbrev dktX0_asks_5 : List UInt8 := dkwX0_asks_5 ++ []
def dkwX0_asks_4 : List UInt8 := [180, 0, 143, 27, 46, 42, 182, 0, 132, 180, 0, 178, 42, 42, 182, 0, 132, 180, 0, 178, 182, 1, 0]
abbrev dktX0_asks_4 : List UInt8 := dkwX0_asks_4 ++ dktX0_asks_5
def dkwX0_asks_3 : List UInt8 := [42, 27, 182, 1, 19, 172, 42, 27, 182, 1, 22, 172, 42, 27, 182, 1, 25, 172, 42, 27, 42, 182, 0, 132]
abbrev dktX0_asks_3 : List UInt8 := dkwX0_asks_3 ++ dktX0_asks_4
def dkwX0_asks_2 : List UInt8 := [170, 0, 0, 0, 0, 0, 90, 0, 0, 0, 0, 0, 0, 0, 3, 0, 0, 0, 31, 0, 0, 0, 37, 0, 0, 0, 43, 0, 0, 0, 49]
abbrev dktX0_asks_2 : List UInt8 := dkwX0_asks_2 ++ dktX0_asks_3
def dkwX0_asks_1 : List UInt8 := [160, 0, 18, 42, 28, 182, 0, 153, 153, 0, 8, 28, 27, 160, 0, 5, 2, 172, 29]
abbrev dktX0_asks_1 : List UInt8 := dkwX0_asks_1 ++ dktX0_asks_2
def dkwX0_asks_0 : List UInt8 := [42, 27, 182, 0, 153, 153, 0, 33, 29, 133, 9, 20, 1, 17, 184, 0, 102, 153, 0, 21, 29, 7]
abbrev dktX0_asks_0 : List UInt8 := dkwX0_asks_0 ++ dktX0_asks_1
theorem dksX0_asks_0 : cX0_asks.data.toList.drop 0 = dktX0_asks_0 := by decide +kernel
theorem dksX0_asks_1 : cX0_asks.data.toList.drop 22 = dktX0_asks_1 := dk_seg dksX0_asks_0 22 rfl rfl
theorem dksX0_asks_2 : cX0_asks.data.toList.drop 41 = dktX0_asks_2 := dk_seg dksX0_asks_1 19 rfl rfl
theorem dksX0_asks_3 : cX0_asks.data.toList.drop 72 = dktX0_asks_3 := dk_seg dksX0_asks_2 31 rfl rfl
theorem dksX0_asks_4 : cX0_asks.data.toList.drop 96 = dktX0_asks_4 := dk_seg dksX0_asks_3 24 rfl rfl
theorem dksX0_asks_5 : cX0_asks.data.toList.drop 119 = dktX0_asks_5 := dk_seg dksX0_asks_4 23 rfl rfl
theorem dX0_asks_0 : decode cX0_asks 0 = .ok (.aload_n 0, 1) := dk_42 (dk_at dksX0_asks_0 0 rfl rfl)
theorem dX0_asks_1 : decode cX0_asks 1 = .ok (.iload_n 1, 1) := dk_27 (dk_at dksX0_asks_0 1 rfl rfl)
theorem dX0_asks_2 : decode cX0_asks 2 = .ok (.invokevirtual 153, 3) := dk_182 0 153 (dk_at dksX0_asks_0 2 rfl rfl)
theorem dX0_asks_5 : decode cX0_asks 5 = .ok (.ifCond .eq 33, 3) := dk_153 0 33 (dk_at dksX0_asks_0 5 rfl rfl)
theorem dX0_asks_8 : decode cX0_asks 8 = .ok (.iload_n 3, 1) := dk_29 (dk_at dksX0_asks_0 8 rfl rfl)
theorem dX0_asks_9 : decode cX0_asks 9 = .ok (.i2l, 1) := dk_133 (dk_at dksX0_asks_0 9 rfl rfl)
theorem dX0_asks_10 : decode cX0_asks 10 = .ok (.lconst 0, 1) := dk_9 (dk_at dksX0_asks_0 10 rfl rfl)
theorem dX0_asks_11 : decode cX0_asks 11 = .ok (.ldc2_w 273, 3) := dk_20 1 17 (dk_at dksX0_asks_0 11 rfl rfl)
theorem dX0_asks_14 : decode cX0_asks 14 = .ok (.invokestatic 102, 3) := dk_184 0 102 (dk_at dksX0_asks_0 14 rfl rfl)
theorem dX0_asks_17 : decode cX0_asks 17 = .ok (.ifCond .eq 21, 3) := dk_153 0 21 (dk_at dksX0_asks_0 17 rfl rfl)
theorem dX0_asks_20 : decode cX0_asks 20 = .ok (.iload_n 3, 1) := dk_29 (dk_at dksX0_asks_0 20 rfl rfl)
theorem dX0_asks_21 : decode cX0_asks 21 = .ok (.iconst 4, 1) := dk_7 (dk_at dksX0_asks_0 21 rfl rfl)
theorem dX0_asks_22 : decode cX0_asks 22 = .ok (.if_icmp .ne 18, 3) := dk_160 0 18 (dk_at dksX0_asks_1 0 rfl rfl)
theorem dX0_asks_25 : decode cX0_asks 25 = .ok (.aload_n 0, 1) := dk_42 (dk_at dksX0_asks_1 3 rfl rfl)
theorem dX0_asks_26 : decode cX0_asks 26 = .ok (.iload_n 2, 1) := dk_28 (dk_at dksX0_asks_1 4 rfl rfl)
theorem dX0_asks_27 : decode cX0_asks 27 = .ok (.invokevirtual 153, 3) := dk_182 0 153 (dk_at dksX0_asks_1 5 rfl rfl)
theorem dX0_asks_30 : decode cX0_asks 30 = .ok (.ifCond .eq 8, 3) := dk_153 0 8 (dk_at dksX0_asks_1 8 rfl rfl)
theorem dX0_asks_33 : decode cX0_asks 33 = .ok (.iload_n 2, 1) := dk_28 (dk_at dksX0_asks_1 11 rfl rfl)
theorem dX0_asks_34 : decode cX0_asks 34 = .ok (.iload_n 1, 1) := dk_27 (dk_at dksX0_asks_1 12 rfl rfl)
theorem dX0_asks_35 : decode cX0_asks 35 = .ok (.if_icmp .ne 5, 3) := dk_160 0 5 (dk_at dksX0_asks_1 13 rfl rfl)
theorem dX0_asks_38 : decode cX0_asks 38 = .ok (.iconst (-1), 1) := dk_2 (dk_at dksX0_asks_1 16 rfl rfl)
theorem dX0_asks_39 : decode cX0_asks 39 = .ok (.ireturn, 1) := dk_172 (dk_at dksX0_asks_1 17 rfl rfl)
theorem dX0_asks_40 : decode cX0_asks 40 = .ok (.iload_n 3, 1) := dk_29 (dk_at dksX0_asks_1 18 rfl rfl)
theorem dX0_asks_41 : decode cX0_asks 41 = .ok (.tableswitch 90 0 3 #[31, 37, 43, 49], 31) := by decide +kernel
theorem dX0_asks_72 : decode cX0_asks 72 = .ok (.aload_n 0, 1) := dk_42 (dk_at dksX0_asks_3 0 rfl rfl)
theorem dX0_asks_73 : decode cX0_asks 73 = .ok (.iload_n 1, 1) := dk_27 (dk_at dksX0_asks_3 1 rfl rfl)
theorem dX0_asks_74 : decode cX0_asks 74 = .ok (.invokevirtual 275, 3) := dk_182 1 19 (dk_at dksX0_asks_3 2 rfl rfl)
theorem dX0_asks_77 : decode cX0_asks 77 = .ok (.ireturn, 1) := dk_172 (dk_at dksX0_asks_3 5 rfl rfl)
theorem dX0_asks_78 : decode cX0_asks 78 = .ok (.aload_n 0, 1) := dk_42 (dk_at dksX0_asks_3 6 rfl rfl)
theorem dX0_asks_79 : decode cX0_asks 79 = .ok (.iload_n 1, 1) := dk_27 (dk_at dksX0_asks_3 7 rfl rfl)
theorem dX0_asks_80 : decode cX0_asks 80 = .ok (.invokevirtual 278, 3) := dk_182 1 22 (dk_at dksX0_asks_3 8 rfl rfl)
theorem dX0_asks_83 : decode cX0_asks 83 = .ok (.ireturn, 1) := dk_172 (dk_at dksX0_asks_3 11 rfl rfl)
theorem dX0_asks_84 : decode cX0_asks 84 = .ok (.aload_n 0, 1) := dk_42 (dk_at dksX0_asks_3 12 rfl rfl)
theorem dX0_asks_85 : decode cX0_asks 85 = .ok (.iload_n 1, 1) := dk_27 (dk_at dksX0_asks_3 13 rfl rfl)
theorem dX0_asks_86 : decode cX0_asks 86 = .ok (.invokevirtual 281, 3) := dk_182 1 25 (dk_at dksX0_asks_3 14 rfl rfl)
theorem dX0_asks_89 : decode cX0_asks 89 = .ok (.ireturn, 1) := dk_172 (dk_at dksX0_asks_3 17 rfl rfl)
theorem dX0_asks_90 : decode cX0_asks 90 = .ok (.aload_n 0, 1) := dk_42 (dk_at dksX0_asks_3 18 rfl rfl)
theorem dX0_asks_91 : decode cX0_asks 91 = .ok (.iload_n 1, 1) := dk_27 (dk_at dksX0_asks_3 19 rfl rfl)
theorem dX0_asks_92 : decode cX0_asks 92 = .ok (.aload_n 0, 1) := dk_42 (dk_at dksX0_asks_3 20 rfl rfl)
theorem dX0_asks_93 : decode cX0_asks 93 = .ok (.invokevirtual 132, 3) := dk_182 0 132 (dk_at dksX0_asks_3 21 rfl rfl)
theorem dX0_asks_96 : decode cX0_asks 96 = .ok (.getfield 143, 3) := dk_180 0 143 (dk_at dksX0_asks_4 0 rfl rfl)
theorem dX0_asks_99 : decode cX0_asks 99 = .ok (.iload_n 1, 1) := dk_27 (dk_at dksX0_asks_4 3 rfl rfl)
theorem dX0_asks_100 : decode cX0_asks 100 = .ok (.iaload, 1) := dk_46 (dk_at dksX0_asks_4 4 rfl rfl)
theorem dX0_asks_101 : decode cX0_asks 101 = .ok (.aload_n 0, 1) := dk_42 (dk_at dksX0_asks_4 5 rfl rfl)
theorem dX0_asks_102 : decode cX0_asks 102 = .ok (.invokevirtual 132, 3) := dk_182 0 132 (dk_at dksX0_asks_4 6 rfl rfl)
theorem dX0_asks_105 : decode cX0_asks 105 = .ok (.getfield 178, 3) := dk_180 0 178 (dk_at dksX0_asks_4 9 rfl rfl)
theorem dX0_asks_108 : decode cX0_asks 108 = .ok (.aload_n 0, 1) := dk_42 (dk_at dksX0_asks_4 12 rfl rfl)
theorem dX0_asks_109 : decode cX0_asks 109 = .ok (.aload_n 0, 1) := dk_42 (dk_at dksX0_asks_4 13 rfl rfl)
theorem dX0_asks_110 : decode cX0_asks 110 = .ok (.invokevirtual 132, 3) := dk_182 0 132 (dk_at dksX0_asks_4 14 rfl rfl)
theorem dX0_asks_113 : decode cX0_asks 113 = .ok (.getfield 178, 3) := dk_180 0 178 (dk_at dksX0_asks_4 17 rfl rfl)
theorem dX0_asks_116 : decode cX0_asks 116 = .ok (.invokevirtual 256, 3) := dk_182 1 0 (dk_at dksX0_asks_4 20 rfl rfl)
theorem dX0_asks_119 : decode cX0_asks 119 = .ok (.invokevirtual 284, 3) := dk_182 1 28 (dk_at dksX0_asks_5 0 rfl rfl)
theorem dX0_asks_122 : decode cX0_asks 122 = .ok (.ifCond .eq 7, 3) := dk_153 0 7 (dk_at dksX0_asks_5 3 rfl rfl)
theorem dX0_asks_125 : decode cX0_asks 125 = .ok (.iconst 1, 1) := dk_4 (dk_at dksX0_asks_5 6 rfl rfl)
theorem dX0_asks_126 : decode cX0_asks 126 = .ok (.goto 4, 3) := dk_167 0 4 (dk_at dksX0_asks_5 7 rfl rfl)
theorem dX0_asks_129 : decode cX0_asks 129 = .ok (.iconst 0, 1) := dk_3 (dk_at dksX0_asks_5 10 rfl rfl)
theorem dX0_asks_130 : decode cX0_asks 130 = .ok (.ireturn, 1) := dk_172 (dk_at dksX0_asks_5 11 rfl rfl)
theorem dX0_asks_131 : decode cX0_asks 131 = .ok (.aload_n 0, 1) := dk_42 (dk_at dksX0_asks_5 12 rfl rfl)
theorem dX0_asks_132 : decode cX0_asks 132 = .ok (.iload_n 1, 1) := dk_27 (dk_at dksX0_asks_5 13 rfl rfl)
theorem dX0_asks_133 : decode cX0_asks 133 = .ok (.iload_n 2, 1) := dk_28 (dk_at dksX0_asks_5 14 rfl rfl)
theorem dX0_asks_134 : decode cX0_asks 134 = .ok (.invokevirtual 288, 3) := dk_182 1 32 (dk_at dksX0_asks_5 15 rfl rfl)
theorem dX0_asks_137 : decode cX0_asks 137 = .ok (.ireturn, 1) := dk_172 (dk_at dksX0_asks_5 18 rfl rfl)
abbrev cX0_takes : ByteArray := prog_1_method_36_code
def yX0_takes : MethodName := ⟨RX0, "takes", "(I)I"⟩
def dkwX0_takes_1 : List UInt8 := [133, 16, 60, 182, 1, 10, 172]
abbrev dktX0_takes_1 : List UInt8 := dkwX0_takes_1 ++ []
def dkwX0_takes_0 : List UInt8 := [42, 27, 182, 1, 7, 42, 3, 42, 180, 0, 10, 180, 0, 92, 27, 182, 0, 160, 192, 0, 123, 180, 0, 164]
abbrev dktX0_takes_0 : List UInt8 := dkwX0_takes_0 ++ dktX0_takes_1
theorem dksX0_takes_0 : cX0_takes.data.toList.drop 0 = dktX0_takes_0 := by decide +kernel
theorem dksX0_takes_1 : cX0_takes.data.toList.drop 24 = dktX0_takes_1 := dk_seg dksX0_takes_0 24 rfl rfl
theorem dX0_takes_0 : decode cX0_takes 0 = .ok (.aload_n 0, 1) := dk_42 (dk_at dksX0_takes_0 0 rfl rfl)
theorem dX0_takes_1 : decode cX0_takes 1 = .ok (.iload_n 1, 1) := dk_27 (dk_at dksX0_takes_0 1 rfl rfl)
theorem dX0_takes_2 : decode cX0_takes 2 = .ok (.invokevirtual 263, 3) := dk_182 1 7 (dk_at dksX0_takes_0 2 rfl rfl)
theorem dX0_takes_5 : decode cX0_takes 5 = .ok (.aload_n 0, 1) := dk_42 (dk_at dksX0_takes_0 5 rfl rfl)
theorem dX0_takes_6 : decode cX0_takes 6 = .ok (.iconst 0, 1) := dk_3 (dk_at dksX0_takes_0 6 rfl rfl)
theorem dX0_takes_7 : decode cX0_takes 7 = .ok (.aload_n 0, 1) := dk_42 (dk_at dksX0_takes_0 7 rfl rfl)
theorem dX0_takes_8 : decode cX0_takes 8 = .ok (.getfield 10, 3) := dk_180 0 10 (dk_at dksX0_takes_0 8 rfl rfl)
theorem dX0_takes_11 : decode cX0_takes 11 = .ok (.getfield 92, 3) := dk_180 0 92 (dk_at dksX0_takes_0 11 rfl rfl)
theorem dX0_takes_14 : decode cX0_takes 14 = .ok (.iload_n 1, 1) := dk_27 (dk_at dksX0_takes_0 14 rfl rfl)
theorem dX0_takes_15 : decode cX0_takes 15 = .ok (.invokevirtual 160, 3) := dk_182 0 160 (dk_at dksX0_takes_0 15 rfl rfl)
theorem dX0_takes_18 : decode cX0_takes 18 = .ok (.checkcast 123, 3) := dk_192 0 123 (dk_at dksX0_takes_0 18 rfl rfl)
theorem dX0_takes_21 : decode cX0_takes 21 = .ok (.getfield 164, 3) := dk_180 0 164 (dk_at dksX0_takes_0 21 rfl rfl)
theorem dX0_takes_24 : decode cX0_takes 24 = .ok (.i2l, 1) := dk_133 (dk_at dksX0_takes_1 0 rfl rfl)
theorem dX0_takes_25 : decode cX0_takes 25 = .ok (.bipush 60, 2) := dk_16 60 (dk_at dksX0_takes_1 1 rfl rfl)
theorem dX0_takes_27 : decode cX0_takes 27 = .ok (.invokevirtual 266, 3) := dk_182 1 10 (dk_at dksX0_takes_1 3 rfl rfl)
theorem dX0_takes_30 : decode cX0_takes 30 = .ok (.ireturn, 1) := dk_172 (dk_at dksX0_takes_1 6 rfl rfl)
abbrev cX0_askNow : ByteArray := prog_1_method_35_code
def yX0_askNow : MethodName := ⟨RX0, "askNow", "(I)V"⟩
def dkwX0_askNow_1 : List UInt8 := [180, 0, 178, 182, 1, 0, 182, 1, 3, 177]
abbrev dktX0_askNow_1 : List UInt8 := dkwX0_askNow_1 ++ []
def dkwX0_askNow_0 : List UInt8 := [42, 27, 42, 182, 0, 132, 180, 0, 143, 27, 46, 42, 182, 0, 132, 180, 0, 178, 42, 42, 182, 0, 132]
abbrev dktX0_askNow_0 : List UInt8 := dkwX0_askNow_0 ++ dktX0_askNow_1
theorem dksX0_askNow_0 : cX0_askNow.data.toList.drop 0 = dktX0_askNow_0 := by decide +kernel
theorem dksX0_askNow_1 : cX0_askNow.data.toList.drop 23 = dktX0_askNow_1 := dk_seg dksX0_askNow_0 23 rfl rfl
theorem dX0_askNow_0 : decode cX0_askNow 0 = .ok (.aload_n 0, 1) := dk_42 (dk_at dksX0_askNow_0 0 rfl rfl)
theorem dX0_askNow_1 : decode cX0_askNow 1 = .ok (.iload_n 1, 1) := dk_27 (dk_at dksX0_askNow_0 1 rfl rfl)
theorem dX0_askNow_2 : decode cX0_askNow 2 = .ok (.aload_n 0, 1) := dk_42 (dk_at dksX0_askNow_0 2 rfl rfl)
theorem dX0_askNow_3 : decode cX0_askNow 3 = .ok (.invokevirtual 132, 3) := dk_182 0 132 (dk_at dksX0_askNow_0 3 rfl rfl)
theorem dX0_askNow_6 : decode cX0_askNow 6 = .ok (.getfield 143, 3) := dk_180 0 143 (dk_at dksX0_askNow_0 6 rfl rfl)
theorem dX0_askNow_9 : decode cX0_askNow 9 = .ok (.iload_n 1, 1) := dk_27 (dk_at dksX0_askNow_0 9 rfl rfl)
theorem dX0_askNow_10 : decode cX0_askNow 10 = .ok (.iaload, 1) := dk_46 (dk_at dksX0_askNow_0 10 rfl rfl)
theorem dX0_askNow_11 : decode cX0_askNow 11 = .ok (.aload_n 0, 1) := dk_42 (dk_at dksX0_askNow_0 11 rfl rfl)
theorem dX0_askNow_12 : decode cX0_askNow 12 = .ok (.invokevirtual 132, 3) := dk_182 0 132 (dk_at dksX0_askNow_0 12 rfl rfl)
theorem dX0_askNow_15 : decode cX0_askNow 15 = .ok (.getfield 178, 3) := dk_180 0 178 (dk_at dksX0_askNow_0 15 rfl rfl)
theorem dX0_askNow_18 : decode cX0_askNow 18 = .ok (.aload_n 0, 1) := dk_42 (dk_at dksX0_askNow_0 18 rfl rfl)
theorem dX0_askNow_19 : decode cX0_askNow 19 = .ok (.aload_n 0, 1) := dk_42 (dk_at dksX0_askNow_0 19 rfl rfl)
theorem dX0_askNow_20 : decode cX0_askNow 20 = .ok (.invokevirtual 132, 3) := dk_182 0 132 (dk_at dksX0_askNow_0 20 rfl rfl)
theorem dX0_askNow_23 : decode cX0_askNow 23 = .ok (.getfield 178, 3) := dk_180 0 178 (dk_at dksX0_askNow_1 0 rfl rfl)
theorem dX0_askNow_26 : decode cX0_askNow 26 = .ok (.invokevirtual 256, 3) := dk_182 1 0 (dk_at dksX0_askNow_1 3 rfl rfl)
theorem dX0_askNow_29 : decode cX0_askNow 29 = .ok (.invokevirtual 259, 3) := dk_182 1 3 (dk_at dksX0_askNow_1 6 rfl rfl)
theorem dX0_askNow_32 : decode cX0_askNow 32 = .ok (.return_, 1) := dk_177 (dk_at dksX0_askNow_1 9 rfl rfl)
abbrev cX0_isFog : ByteArray := prog_1_method_10_code
def yX0_isFog : MethodName := ⟨RX0, "isFog", "(I)Z"⟩
def dkwX0_isFog_0 : List UInt8 := [27, 16, 100, 162, 0, 19, 42, 180, 0, 10, 180, 0, 106, 27, 51, 153, 0, 7, 4, 167, 0, 4, 3, 172]
abbrev dktX0_isFog_0 : List UInt8 := dkwX0_isFog_0 ++ []
theorem dksX0_isFog_0 : cX0_isFog.data.toList.drop 0 = dktX0_isFog_0 := by decide +kernel
theorem dX0_isFog_0 : decode cX0_isFog 0 = .ok (.iload_n 1, 1) := dk_27 (dk_at dksX0_isFog_0 0 rfl rfl)
theorem dX0_isFog_1 : decode cX0_isFog 1 = .ok (.bipush 100, 2) := dk_16 100 (dk_at dksX0_isFog_0 1 rfl rfl)
theorem dX0_isFog_3 : decode cX0_isFog 3 = .ok (.if_icmp .ge 19, 3) := dk_162 0 19 (dk_at dksX0_isFog_0 3 rfl rfl)
theorem dX0_isFog_6 : decode cX0_isFog 6 = .ok (.aload_n 0, 1) := dk_42 (dk_at dksX0_isFog_0 6 rfl rfl)
theorem dX0_isFog_7 : decode cX0_isFog 7 = .ok (.getfield 10, 3) := dk_180 0 10 (dk_at dksX0_isFog_0 7 rfl rfl)
theorem dX0_isFog_10 : decode cX0_isFog 10 = .ok (.getfield 106, 3) := dk_180 0 106 (dk_at dksX0_isFog_0 10 rfl rfl)
theorem dX0_isFog_13 : decode cX0_isFog 13 = .ok (.iload_n 1, 1) := dk_27 (dk_at dksX0_isFog_0 13 rfl rfl)
theorem dX0_isFog_14 : decode cX0_isFog 14 = .ok (.baload, 1) := dk_51 (dk_at dksX0_isFog_0 14 rfl rfl)
theorem dX0_isFog_15 : decode cX0_isFog 15 = .ok (.ifCond .eq 7, 3) := dk_153 0 7 (dk_at dksX0_isFog_0 15 rfl rfl)
theorem dX0_isFog_18 : decode cX0_isFog 18 = .ok (.iconst 1, 1) := dk_4 (dk_at dksX0_isFog_0 18 rfl rfl)
theorem dX0_isFog_19 : decode cX0_isFog 19 = .ok (.goto 4, 3) := dk_167 0 4 (dk_at dksX0_isFog_0 19 rfl rfl)
theorem dX0_isFog_22 : decode cX0_isFog 22 = .ok (.iconst 0, 1) := dk_3 (dk_at dksX0_isFog_0 22 rfl rfl)
theorem dX0_isFog_23 : decode cX0_isFog 23 = .ok (.ireturn, 1) := dk_172 (dk_at dksX0_isFog_0 23 rfl rfl)
abbrev cX0_askOn : ByteArray := prog_1_method_33_code
def yX0_askOn : MethodName := ⟨RX0, "askOn", "(IIIZ)V"⟩
def dkwX0_askOn_0 : List UInt8 := [42, 27, 28, 2, 29, 21, 4, 153, 0, 7, 4, 167, 0, 4, 3, 182, 0, 239, 177]
abbrev dktX0_askOn_0 : List UInt8 := dkwX0_askOn_0 ++ []
theorem dksX0_askOn_0 : cX0_askOn.data.toList.drop 0 = dktX0_askOn_0 := by decide +kernel
theorem dX0_askOn_0 : decode cX0_askOn 0 = .ok (.aload_n 0, 1) := dk_42 (dk_at dksX0_askOn_0 0 rfl rfl)
theorem dX0_askOn_1 : decode cX0_askOn 1 = .ok (.iload_n 1, 1) := dk_27 (dk_at dksX0_askOn_0 1 rfl rfl)
theorem dX0_askOn_2 : decode cX0_askOn 2 = .ok (.iload_n 2, 1) := dk_28 (dk_at dksX0_askOn_0 2 rfl rfl)
theorem dX0_askOn_3 : decode cX0_askOn 3 = .ok (.iconst (-1), 1) := dk_2 (dk_at dksX0_askOn_0 3 rfl rfl)
theorem dX0_askOn_4 : decode cX0_askOn 4 = .ok (.iload_n 3, 1) := dk_29 (dk_at dksX0_askOn_0 4 rfl rfl)
theorem dX0_askOn_5 : decode cX0_askOn 5 = .ok (.iload 4, 2) := dk_21 4 (dk_at dksX0_askOn_0 5 rfl rfl)
theorem dX0_askOn_7 : decode cX0_askOn 7 = .ok (.ifCond .eq 7, 3) := dk_153 0 7 (dk_at dksX0_askOn_0 7 rfl rfl)
theorem dX0_askOn_10 : decode cX0_askOn 10 = .ok (.iconst 1, 1) := dk_4 (dk_at dksX0_askOn_0 10 rfl rfl)
theorem dX0_askOn_11 : decode cX0_askOn 11 = .ok (.goto 4, 3) := dk_167 0 4 (dk_at dksX0_askOn_0 11 rfl rfl)
theorem dX0_askOn_14 : decode cX0_askOn 14 = .ok (.iconst 0, 1) := dk_3 (dk_at dksX0_askOn_0 14 rfl rfl)
theorem dX0_askOn_15 : decode cX0_askOn 15 = .ok (.invokevirtual 239, 3) := dk_182 0 239 (dk_at dksX0_askOn_0 15 rfl rfl)
theorem dX0_askOn_18 : decode cX0_askOn 18 = .ok (.return_, 1) := dk_177 (dk_at dksX0_askOn_0 18 rfl rfl)
abbrev cX0_ask : ByteArray := prog_1_method_32_code
def yX0_ask : MethodName := ⟨RX0, "ask", "(IIIII)V"⟩
def dkwX0_ask_9 : List UInt8 := [180, 0, 184, 133, 80, 177]
abbrev dktX0_ask_9 : List UInt8 := dkwX0_ask_9 ++ []
def dkwX0_ask_8 : List UInt8 := [180, 0, 233, 16, 8, 21, 5, 133, 80, 42, 180, 0, 30, 180, 0, 233, 16, 9, 42, 180, 0, 10]
abbrev dktX0_ask_8 : List UInt8 := dkwX0_ask_8 ++ dktX0_ask_9
def dkwX0_ask_7 : List UInt8 := [180, 0, 164, 133, 80, 42, 180, 0, 30, 180, 0, 233, 16, 7, 21, 4, 133, 80, 42, 180, 0, 30]
abbrev dktX0_ask_7 : List UInt8 := dkwX0_ask_7 ++ dktX0_ask_8
def dkwX0_ask_6 : List UInt8 := [160, 0, 9, 20, 0, 237, 167, 0, 21, 42, 180, 0, 10, 180, 0, 92, 29, 182, 0, 160, 192, 0, 123]
abbrev dktX0_ask_6 : List UInt8 := dkwX0_ask_6 ++ dktX0_ask_7
def dkwX0_ask_5 : List UInt8 := [182, 0, 160, 192, 0, 123, 180, 0, 167, 133, 80, 42, 180, 0, 30, 180, 0, 233, 16, 6, 29, 2]
abbrev dktX0_ask_5 : List UInt8 := dkwX0_ask_5 ++ dktX0_ask_6
def dkwX0_ask_4 : List UInt8 := [180, 0, 233, 8, 29, 2, 160, 0, 9, 20, 0, 237, 167, 0, 21, 42, 180, 0, 10, 180, 0, 92, 29]
abbrev dktX0_ask_4 : List UInt8 := dkwX0_ask_4 ++ dktX0_ask_5
def dkwX0_ask_3 : List UInt8 := [180, 0, 233, 6, 28, 133, 80, 42, 180, 0, 30, 180, 0, 233, 7, 29, 133, 80, 42, 180, 0, 30]
abbrev dktX0_ask_3 : List UInt8 := dkwX0_ask_3 ++ dktX0_ask_4
def dkwX0_ask_2 : List UInt8 := [180, 0, 10, 180, 0, 92, 27, 182, 0, 160, 192, 0, 123, 180, 0, 167, 133, 80, 42, 180, 0, 30]
abbrev dktX0_ask_2 : List UInt8 := dkwX0_ask_2 ++ dktX0_ask_3
def dkwX0_ask_1 : List UInt8 := [180, 0, 92, 27, 182, 0, 160, 192, 0, 123, 180, 0, 164, 133, 80, 42, 180, 0, 30, 180, 0, 233, 5, 42]
abbrev dktX0_ask_1 : List UInt8 := dkwX0_ask_1 ++ dktX0_ask_2
def dkwX0_ask_0 : List UInt8 := [42, 180, 0, 30, 180, 0, 233, 3, 27, 133, 80, 42, 180, 0, 30, 180, 0, 233, 4, 42, 180, 0, 10]
abbrev dktX0_ask_0 : List UInt8 := dkwX0_ask_0 ++ dktX0_ask_1
theorem dksX0_ask_0 : cX0_ask.data.toList.drop 0 = dktX0_ask_0 := by decide +kernel
theorem dksX0_ask_1 : cX0_ask.data.toList.drop 23 = dktX0_ask_1 := dk_seg dksX0_ask_0 23 rfl rfl
theorem dksX0_ask_2 : cX0_ask.data.toList.drop 47 = dktX0_ask_2 := dk_seg dksX0_ask_1 24 rfl rfl
theorem dksX0_ask_3 : cX0_ask.data.toList.drop 69 = dktX0_ask_3 := dk_seg dksX0_ask_2 22 rfl rfl
theorem dksX0_ask_4 : cX0_ask.data.toList.drop 91 = dktX0_ask_4 := dk_seg dksX0_ask_3 22 rfl rfl
theorem dksX0_ask_5 : cX0_ask.data.toList.drop 114 = dktX0_ask_5 := dk_seg dksX0_ask_4 23 rfl rfl
theorem dksX0_ask_6 : cX0_ask.data.toList.drop 136 = dktX0_ask_6 := dk_seg dksX0_ask_5 22 rfl rfl
theorem dksX0_ask_7 : cX0_ask.data.toList.drop 159 = dktX0_ask_7 := dk_seg dksX0_ask_6 23 rfl rfl
theorem dksX0_ask_8 : cX0_ask.data.toList.drop 181 = dktX0_ask_8 := dk_seg dksX0_ask_7 22 rfl rfl
theorem dksX0_ask_9 : cX0_ask.data.toList.drop 203 = dktX0_ask_9 := dk_seg dksX0_ask_8 22 rfl rfl
theorem dX0_ask_0 : decode cX0_ask 0 = .ok (.aload_n 0, 1) := dk_42 (dk_at dksX0_ask_0 0 rfl rfl)
theorem dX0_ask_1 : decode cX0_ask 1 = .ok (.getfield 30, 3) := dk_180 0 30 (dk_at dksX0_ask_0 1 rfl rfl)
theorem dX0_ask_4 : decode cX0_ask 4 = .ok (.getfield 233, 3) := dk_180 0 233 (dk_at dksX0_ask_0 4 rfl rfl)
theorem dX0_ask_7 : decode cX0_ask 7 = .ok (.iconst 0, 1) := dk_3 (dk_at dksX0_ask_0 7 rfl rfl)
theorem dX0_ask_8 : decode cX0_ask 8 = .ok (.iload_n 1, 1) := dk_27 (dk_at dksX0_ask_0 8 rfl rfl)
theorem dX0_ask_9 : decode cX0_ask 9 = .ok (.i2l, 1) := dk_133 (dk_at dksX0_ask_0 9 rfl rfl)
theorem dX0_ask_10 : decode cX0_ask 10 = .ok (.lastore, 1) := dk_80 (dk_at dksX0_ask_0 10 rfl rfl)
theorem dX0_ask_11 : decode cX0_ask 11 = .ok (.aload_n 0, 1) := dk_42 (dk_at dksX0_ask_0 11 rfl rfl)
theorem dX0_ask_12 : decode cX0_ask 12 = .ok (.getfield 30, 3) := dk_180 0 30 (dk_at dksX0_ask_0 12 rfl rfl)
theorem dX0_ask_15 : decode cX0_ask 15 = .ok (.getfield 233, 3) := dk_180 0 233 (dk_at dksX0_ask_0 15 rfl rfl)
theorem dX0_ask_18 : decode cX0_ask 18 = .ok (.iconst 1, 1) := dk_4 (dk_at dksX0_ask_0 18 rfl rfl)
theorem dX0_ask_19 : decode cX0_ask 19 = .ok (.aload_n 0, 1) := dk_42 (dk_at dksX0_ask_0 19 rfl rfl)
theorem dX0_ask_20 : decode cX0_ask 20 = .ok (.getfield 10, 3) := dk_180 0 10 (dk_at dksX0_ask_0 20 rfl rfl)
theorem dX0_ask_23 : decode cX0_ask 23 = .ok (.getfield 92, 3) := dk_180 0 92 (dk_at dksX0_ask_1 0 rfl rfl)
theorem dX0_ask_26 : decode cX0_ask 26 = .ok (.iload_n 1, 1) := dk_27 (dk_at dksX0_ask_1 3 rfl rfl)
theorem dX0_ask_27 : decode cX0_ask 27 = .ok (.invokevirtual 160, 3) := dk_182 0 160 (dk_at dksX0_ask_1 4 rfl rfl)
theorem dX0_ask_30 : decode cX0_ask 30 = .ok (.checkcast 123, 3) := dk_192 0 123 (dk_at dksX0_ask_1 7 rfl rfl)
theorem dX0_ask_33 : decode cX0_ask 33 = .ok (.getfield 164, 3) := dk_180 0 164 (dk_at dksX0_ask_1 10 rfl rfl)
theorem dX0_ask_36 : decode cX0_ask 36 = .ok (.i2l, 1) := dk_133 (dk_at dksX0_ask_1 13 rfl rfl)
theorem dX0_ask_37 : decode cX0_ask 37 = .ok (.lastore, 1) := dk_80 (dk_at dksX0_ask_1 14 rfl rfl)
theorem dX0_ask_38 : decode cX0_ask 38 = .ok (.aload_n 0, 1) := dk_42 (dk_at dksX0_ask_1 15 rfl rfl)
theorem dX0_ask_39 : decode cX0_ask 39 = .ok (.getfield 30, 3) := dk_180 0 30 (dk_at dksX0_ask_1 16 rfl rfl)
theorem dX0_ask_42 : decode cX0_ask 42 = .ok (.getfield 233, 3) := dk_180 0 233 (dk_at dksX0_ask_1 19 rfl rfl)
theorem dX0_ask_45 : decode cX0_ask 45 = .ok (.iconst 2, 1) := dk_5 (dk_at dksX0_ask_1 22 rfl rfl)
theorem dX0_ask_46 : decode cX0_ask 46 = .ok (.aload_n 0, 1) := dk_42 (dk_at dksX0_ask_1 23 rfl rfl)
theorem dX0_ask_47 : decode cX0_ask 47 = .ok (.getfield 10, 3) := dk_180 0 10 (dk_at dksX0_ask_2 0 rfl rfl)
theorem dX0_ask_50 : decode cX0_ask 50 = .ok (.getfield 92, 3) := dk_180 0 92 (dk_at dksX0_ask_2 3 rfl rfl)
theorem dX0_ask_53 : decode cX0_ask 53 = .ok (.iload_n 1, 1) := dk_27 (dk_at dksX0_ask_2 6 rfl rfl)
theorem dX0_ask_54 : decode cX0_ask 54 = .ok (.invokevirtual 160, 3) := dk_182 0 160 (dk_at dksX0_ask_2 7 rfl rfl)
theorem dX0_ask_57 : decode cX0_ask 57 = .ok (.checkcast 123, 3) := dk_192 0 123 (dk_at dksX0_ask_2 10 rfl rfl)
theorem dX0_ask_60 : decode cX0_ask 60 = .ok (.getfield 167, 3) := dk_180 0 167 (dk_at dksX0_ask_2 13 rfl rfl)
theorem dX0_ask_63 : decode cX0_ask 63 = .ok (.i2l, 1) := dk_133 (dk_at dksX0_ask_2 16 rfl rfl)
theorem dX0_ask_64 : decode cX0_ask 64 = .ok (.lastore, 1) := dk_80 (dk_at dksX0_ask_2 17 rfl rfl)
theorem dX0_ask_65 : decode cX0_ask 65 = .ok (.aload_n 0, 1) := dk_42 (dk_at dksX0_ask_2 18 rfl rfl)
theorem dX0_ask_66 : decode cX0_ask 66 = .ok (.getfield 30, 3) := dk_180 0 30 (dk_at dksX0_ask_2 19 rfl rfl)
theorem dX0_ask_69 : decode cX0_ask 69 = .ok (.getfield 233, 3) := dk_180 0 233 (dk_at dksX0_ask_3 0 rfl rfl)
theorem dX0_ask_72 : decode cX0_ask 72 = .ok (.iconst 3, 1) := dk_6 (dk_at dksX0_ask_3 3 rfl rfl)
theorem dX0_ask_73 : decode cX0_ask 73 = .ok (.iload_n 2, 1) := dk_28 (dk_at dksX0_ask_3 4 rfl rfl)
theorem dX0_ask_74 : decode cX0_ask 74 = .ok (.i2l, 1) := dk_133 (dk_at dksX0_ask_3 5 rfl rfl)
theorem dX0_ask_75 : decode cX0_ask 75 = .ok (.lastore, 1) := dk_80 (dk_at dksX0_ask_3 6 rfl rfl)
theorem dX0_ask_76 : decode cX0_ask 76 = .ok (.aload_n 0, 1) := dk_42 (dk_at dksX0_ask_3 7 rfl rfl)
theorem dX0_ask_77 : decode cX0_ask 77 = .ok (.getfield 30, 3) := dk_180 0 30 (dk_at dksX0_ask_3 8 rfl rfl)
theorem dX0_ask_80 : decode cX0_ask 80 = .ok (.getfield 233, 3) := dk_180 0 233 (dk_at dksX0_ask_3 11 rfl rfl)
theorem dX0_ask_83 : decode cX0_ask 83 = .ok (.iconst 4, 1) := dk_7 (dk_at dksX0_ask_3 14 rfl rfl)
theorem dX0_ask_84 : decode cX0_ask 84 = .ok (.iload_n 3, 1) := dk_29 (dk_at dksX0_ask_3 15 rfl rfl)
theorem dX0_ask_85 : decode cX0_ask 85 = .ok (.i2l, 1) := dk_133 (dk_at dksX0_ask_3 16 rfl rfl)
theorem dX0_ask_86 : decode cX0_ask 86 = .ok (.lastore, 1) := dk_80 (dk_at dksX0_ask_3 17 rfl rfl)
theorem dX0_ask_87 : decode cX0_ask 87 = .ok (.aload_n 0, 1) := dk_42 (dk_at dksX0_ask_3 18 rfl rfl)
theorem dX0_ask_88 : decode cX0_ask 88 = .ok (.getfield 30, 3) := dk_180 0 30 (dk_at dksX0_ask_3 19 rfl rfl)
theorem dX0_ask_91 : decode cX0_ask 91 = .ok (.getfield 233, 3) := dk_180 0 233 (dk_at dksX0_ask_4 0 rfl rfl)
theorem dX0_ask_94 : decode cX0_ask 94 = .ok (.iconst 5, 1) := dk_8 (dk_at dksX0_ask_4 3 rfl rfl)
theorem dX0_ask_95 : decode cX0_ask 95 = .ok (.iload_n 3, 1) := dk_29 (dk_at dksX0_ask_4 4 rfl rfl)
theorem dX0_ask_96 : decode cX0_ask 96 = .ok (.iconst (-1), 1) := dk_2 (dk_at dksX0_ask_4 5 rfl rfl)
theorem dX0_ask_97 : decode cX0_ask 97 = .ok (.if_icmp .ne 9, 3) := dk_160 0 9 (dk_at dksX0_ask_4 6 rfl rfl)
theorem dX0_ask_100 : decode cX0_ask 100 = .ok (.ldc2_w 237, 3) := dk_20 0 237 (dk_at dksX0_ask_4 9 rfl rfl)
theorem dX0_ask_103 : decode cX0_ask 103 = .ok (.goto 21, 3) := dk_167 0 21 (dk_at dksX0_ask_4 12 rfl rfl)
theorem dX0_ask_106 : decode cX0_ask 106 = .ok (.aload_n 0, 1) := dk_42 (dk_at dksX0_ask_4 15 rfl rfl)
theorem dX0_ask_107 : decode cX0_ask 107 = .ok (.getfield 10, 3) := dk_180 0 10 (dk_at dksX0_ask_4 16 rfl rfl)
theorem dX0_ask_110 : decode cX0_ask 110 = .ok (.getfield 92, 3) := dk_180 0 92 (dk_at dksX0_ask_4 19 rfl rfl)
theorem dX0_ask_113 : decode cX0_ask 113 = .ok (.iload_n 3, 1) := dk_29 (dk_at dksX0_ask_4 22 rfl rfl)
theorem dX0_ask_114 : decode cX0_ask 114 = .ok (.invokevirtual 160, 3) := dk_182 0 160 (dk_at dksX0_ask_5 0 rfl rfl)
theorem dX0_ask_117 : decode cX0_ask 117 = .ok (.checkcast 123, 3) := dk_192 0 123 (dk_at dksX0_ask_5 3 rfl rfl)
theorem dX0_ask_120 : decode cX0_ask 120 = .ok (.getfield 167, 3) := dk_180 0 167 (dk_at dksX0_ask_5 6 rfl rfl)
theorem dX0_ask_123 : decode cX0_ask 123 = .ok (.i2l, 1) := dk_133 (dk_at dksX0_ask_5 9 rfl rfl)
theorem dX0_ask_124 : decode cX0_ask 124 = .ok (.lastore, 1) := dk_80 (dk_at dksX0_ask_5 10 rfl rfl)
theorem dX0_ask_125 : decode cX0_ask 125 = .ok (.aload_n 0, 1) := dk_42 (dk_at dksX0_ask_5 11 rfl rfl)
theorem dX0_ask_126 : decode cX0_ask 126 = .ok (.getfield 30, 3) := dk_180 0 30 (dk_at dksX0_ask_5 12 rfl rfl)
theorem dX0_ask_129 : decode cX0_ask 129 = .ok (.getfield 233, 3) := dk_180 0 233 (dk_at dksX0_ask_5 15 rfl rfl)
theorem dX0_ask_132 : decode cX0_ask 132 = .ok (.bipush 6, 2) := dk_16 6 (dk_at dksX0_ask_5 18 rfl rfl)
theorem dX0_ask_134 : decode cX0_ask 134 = .ok (.iload_n 3, 1) := dk_29 (dk_at dksX0_ask_5 20 rfl rfl)
theorem dX0_ask_135 : decode cX0_ask 135 = .ok (.iconst (-1), 1) := dk_2 (dk_at dksX0_ask_5 21 rfl rfl)
theorem dX0_ask_136 : decode cX0_ask 136 = .ok (.if_icmp .ne 9, 3) := dk_160 0 9 (dk_at dksX0_ask_6 0 rfl rfl)
theorem dX0_ask_139 : decode cX0_ask 139 = .ok (.ldc2_w 237, 3) := dk_20 0 237 (dk_at dksX0_ask_6 3 rfl rfl)
theorem dX0_ask_142 : decode cX0_ask 142 = .ok (.goto 21, 3) := dk_167 0 21 (dk_at dksX0_ask_6 6 rfl rfl)
theorem dX0_ask_145 : decode cX0_ask 145 = .ok (.aload_n 0, 1) := dk_42 (dk_at dksX0_ask_6 9 rfl rfl)
theorem dX0_ask_146 : decode cX0_ask 146 = .ok (.getfield 10, 3) := dk_180 0 10 (dk_at dksX0_ask_6 10 rfl rfl)
theorem dX0_ask_149 : decode cX0_ask 149 = .ok (.getfield 92, 3) := dk_180 0 92 (dk_at dksX0_ask_6 13 rfl rfl)
theorem dX0_ask_152 : decode cX0_ask 152 = .ok (.iload_n 3, 1) := dk_29 (dk_at dksX0_ask_6 16 rfl rfl)
theorem dX0_ask_153 : decode cX0_ask 153 = .ok (.invokevirtual 160, 3) := dk_182 0 160 (dk_at dksX0_ask_6 17 rfl rfl)
theorem dX0_ask_156 : decode cX0_ask 156 = .ok (.checkcast 123, 3) := dk_192 0 123 (dk_at dksX0_ask_6 20 rfl rfl)
theorem dX0_ask_159 : decode cX0_ask 159 = .ok (.getfield 164, 3) := dk_180 0 164 (dk_at dksX0_ask_7 0 rfl rfl)
theorem dX0_ask_162 : decode cX0_ask 162 = .ok (.i2l, 1) := dk_133 (dk_at dksX0_ask_7 3 rfl rfl)
theorem dX0_ask_163 : decode cX0_ask 163 = .ok (.lastore, 1) := dk_80 (dk_at dksX0_ask_7 4 rfl rfl)
theorem dX0_ask_164 : decode cX0_ask 164 = .ok (.aload_n 0, 1) := dk_42 (dk_at dksX0_ask_7 5 rfl rfl)
theorem dX0_ask_165 : decode cX0_ask 165 = .ok (.getfield 30, 3) := dk_180 0 30 (dk_at dksX0_ask_7 6 rfl rfl)
theorem dX0_ask_168 : decode cX0_ask 168 = .ok (.getfield 233, 3) := dk_180 0 233 (dk_at dksX0_ask_7 9 rfl rfl)
theorem dX0_ask_171 : decode cX0_ask 171 = .ok (.bipush 7, 2) := dk_16 7 (dk_at dksX0_ask_7 12 rfl rfl)
theorem dX0_ask_173 : decode cX0_ask 173 = .ok (.iload 4, 2) := dk_21 4 (dk_at dksX0_ask_7 14 rfl rfl)
theorem dX0_ask_175 : decode cX0_ask 175 = .ok (.i2l, 1) := dk_133 (dk_at dksX0_ask_7 16 rfl rfl)
theorem dX0_ask_176 : decode cX0_ask 176 = .ok (.lastore, 1) := dk_80 (dk_at dksX0_ask_7 17 rfl rfl)
theorem dX0_ask_177 : decode cX0_ask 177 = .ok (.aload_n 0, 1) := dk_42 (dk_at dksX0_ask_7 18 rfl rfl)
theorem dX0_ask_178 : decode cX0_ask 178 = .ok (.getfield 30, 3) := dk_180 0 30 (dk_at dksX0_ask_7 19 rfl rfl)
theorem dX0_ask_181 : decode cX0_ask 181 = .ok (.getfield 233, 3) := dk_180 0 233 (dk_at dksX0_ask_8 0 rfl rfl)
theorem dX0_ask_184 : decode cX0_ask 184 = .ok (.bipush 8, 2) := dk_16 8 (dk_at dksX0_ask_8 3 rfl rfl)
theorem dX0_ask_186 : decode cX0_ask 186 = .ok (.iload 5, 2) := dk_21 5 (dk_at dksX0_ask_8 5 rfl rfl)
theorem dX0_ask_188 : decode cX0_ask 188 = .ok (.i2l, 1) := dk_133 (dk_at dksX0_ask_8 7 rfl rfl)
theorem dX0_ask_189 : decode cX0_ask 189 = .ok (.lastore, 1) := dk_80 (dk_at dksX0_ask_8 8 rfl rfl)
theorem dX0_ask_190 : decode cX0_ask 190 = .ok (.aload_n 0, 1) := dk_42 (dk_at dksX0_ask_8 9 rfl rfl)
theorem dX0_ask_191 : decode cX0_ask 191 = .ok (.getfield 30, 3) := dk_180 0 30 (dk_at dksX0_ask_8 10 rfl rfl)
theorem dX0_ask_194 : decode cX0_ask 194 = .ok (.getfield 233, 3) := dk_180 0 233 (dk_at dksX0_ask_8 13 rfl rfl)
theorem dX0_ask_197 : decode cX0_ask 197 = .ok (.bipush 9, 2) := dk_16 9 (dk_at dksX0_ask_8 16 rfl rfl)
theorem dX0_ask_199 : decode cX0_ask 199 = .ok (.aload_n 0, 1) := dk_42 (dk_at dksX0_ask_8 18 rfl rfl)
theorem dX0_ask_200 : decode cX0_ask 200 = .ok (.getfield 10, 3) := dk_180 0 10 (dk_at dksX0_ask_8 19 rfl rfl)
theorem dX0_ask_203 : decode cX0_ask 203 = .ok (.getfield 184, 3) := dk_180 0 184 (dk_at dksX0_ask_9 0 rfl rfl)
theorem dX0_ask_206 : decode cX0_ask 206 = .ok (.i2l, 1) := dk_133 (dk_at dksX0_ask_9 3 rfl rfl)
theorem dX0_ask_207 : decode cX0_ask 207 = .ok (.lastore, 1) := dk_80 (dk_at dksX0_ask_9 4 rfl rfl)
theorem dX0_ask_208 : decode cX0_ask 208 = .ok (.return_, 1) := dk_177 (dk_at dksX0_ask_9 5 rfl rfl)
abbrev cX0_tells : ByteArray := prog_1_method_34_code
def yX0_tells : MethodName := ⟨RX0, "tells", "(IJI)I"⟩
def dkwX0_tells_1 : List UInt8 := [172]
abbrev dktX0_tells_1 : List UInt8 := dkwX0_tells_1 ++ []
def dkwX0_tells_0 : List UInt8 := [9, 21, 4, 133, 42, 182, 0, 243, 27, 42, 180, 0, 30, 32, 182, 0, 246, 184, 0, 250, 184, 0, 253, 136]
abbrev dktX0_tells_0 : List UInt8 := dkwX0_tells_0 ++ dktX0_tells_1
theorem dksX0_tells_0 : cX0_tells.data.toList.drop 0 = dktX0_tells_0 := by decide +kernel
theorem dksX0_tells_1 : cX0_tells.data.toList.drop 24 = dktX0_tells_1 := dk_seg dksX0_tells_0 24 rfl rfl
theorem dX0_tells_0 : decode cX0_tells 0 = .ok (.lconst 0, 1) := dk_9 (dk_at dksX0_tells_0 0 rfl rfl)
theorem dX0_tells_1 : decode cX0_tells 1 = .ok (.iload 4, 2) := dk_21 4 (dk_at dksX0_tells_0 1 rfl rfl)
theorem dX0_tells_3 : decode cX0_tells 3 = .ok (.i2l, 1) := dk_133 (dk_at dksX0_tells_0 3 rfl rfl)
theorem dX0_tells_4 : decode cX0_tells 4 = .ok (.aload_n 0, 1) := dk_42 (dk_at dksX0_tells_0 4 rfl rfl)
theorem dX0_tells_5 : decode cX0_tells 5 = .ok (.invokevirtual 243, 3) := dk_182 0 243 (dk_at dksX0_tells_0 5 rfl rfl)
theorem dX0_tells_8 : decode cX0_tells 8 = .ok (.iload_n 1, 1) := dk_27 (dk_at dksX0_tells_0 8 rfl rfl)
theorem dX0_tells_9 : decode cX0_tells 9 = .ok (.aload_n 0, 1) := dk_42 (dk_at dksX0_tells_0 9 rfl rfl)
theorem dX0_tells_10 : decode cX0_tells 10 = .ok (.getfield 30, 3) := dk_180 0 30 (dk_at dksX0_tells_0 10 rfl rfl)
theorem dX0_tells_13 : decode cX0_tells 13 = .ok (.lload_n 2, 1) := dk_32 (dk_at dksX0_tells_0 13 rfl rfl)
theorem dX0_tells_14 : decode cX0_tells 14 = .ok (.invokevirtual 246, 3) := dk_182 0 246 (dk_at dksX0_tells_0 14 rfl rfl)
theorem dX0_tells_17 : decode cX0_tells 17 = .ok (.invokestatic 250, 3) := dk_184 0 250 (dk_at dksX0_tells_0 17 rfl rfl)
theorem dX0_tells_20 : decode cX0_tells 20 = .ok (.invokestatic 253, 3) := dk_184 0 253 (dk_at dksX0_tells_0 20 rfl rfl)
theorem dX0_tells_23 : decode cX0_tells 23 = .ok (.l2i, 1) := dk_136 (dk_at dksX0_tells_0 23 rfl rfl)
theorem dX0_tells_24 : decode cX0_tells 24 = .ok (.ireturn, 1) := dk_172 (dk_at dksX0_tells_1 0 rfl rfl)
abbrev cX0_law1 : ByteArray := prog_1_method_31_code
def yX0_law1 : MethodName := ⟨RX0, "law1", "()LLitStrangers$Text;"⟩
def dkwX0_law1_1 : List UInt8 := [180, 0, 215, 42, 180, 0, 10, 180, 0, 230, 182, 0, 160, 192, 0, 37, 176]
abbrev dktX0_law1_1 : List UInt8 := dkwX0_law1_1 ++ []
def dkwX0_law1_0 : List UInt8 := [42, 180, 0, 10, 180, 0, 230, 2, 160, 0, 10, 42, 180, 0, 44, 167, 0, 23, 42, 180, 0, 10]
abbrev dktX0_law1_0 : List UInt8 := dkwX0_law1_0 ++ dktX0_law1_1
theorem dksX0_law1_0 : cX0_law1.data.toList.drop 0 = dktX0_law1_0 := by decide +kernel
theorem dksX0_law1_1 : cX0_law1.data.toList.drop 22 = dktX0_law1_1 := dk_seg dksX0_law1_0 22 rfl rfl
theorem dX0_law1_0 : decode cX0_law1 0 = .ok (.aload_n 0, 1) := dk_42 (dk_at dksX0_law1_0 0 rfl rfl)
theorem dX0_law1_1 : decode cX0_law1 1 = .ok (.getfield 10, 3) := dk_180 0 10 (dk_at dksX0_law1_0 1 rfl rfl)
theorem dX0_law1_4 : decode cX0_law1 4 = .ok (.getfield 230, 3) := dk_180 0 230 (dk_at dksX0_law1_0 4 rfl rfl)
theorem dX0_law1_7 : decode cX0_law1 7 = .ok (.iconst (-1), 1) := dk_2 (dk_at dksX0_law1_0 7 rfl rfl)
theorem dX0_law1_8 : decode cX0_law1 8 = .ok (.if_icmp .ne 10, 3) := dk_160 0 10 (dk_at dksX0_law1_0 8 rfl rfl)
theorem dX0_law1_11 : decode cX0_law1 11 = .ok (.aload_n 0, 1) := dk_42 (dk_at dksX0_law1_0 11 rfl rfl)
theorem dX0_law1_12 : decode cX0_law1 12 = .ok (.getfield 44, 3) := dk_180 0 44 (dk_at dksX0_law1_0 12 rfl rfl)
theorem dX0_law1_15 : decode cX0_law1 15 = .ok (.goto 23, 3) := dk_167 0 23 (dk_at dksX0_law1_0 15 rfl rfl)
theorem dX0_law1_18 : decode cX0_law1 18 = .ok (.aload_n 0, 1) := dk_42 (dk_at dksX0_law1_0 18 rfl rfl)
theorem dX0_law1_19 : decode cX0_law1 19 = .ok (.getfield 10, 3) := dk_180 0 10 (dk_at dksX0_law1_0 19 rfl rfl)
theorem dX0_law1_22 : decode cX0_law1 22 = .ok (.getfield 215, 3) := dk_180 0 215 (dk_at dksX0_law1_1 0 rfl rfl)
theorem dX0_law1_25 : decode cX0_law1 25 = .ok (.aload_n 0, 1) := dk_42 (dk_at dksX0_law1_1 3 rfl rfl)
theorem dX0_law1_26 : decode cX0_law1 26 = .ok (.getfield 10, 3) := dk_180 0 10 (dk_at dksX0_law1_1 4 rfl rfl)
theorem dX0_law1_29 : decode cX0_law1 29 = .ok (.getfield 230, 3) := dk_180 0 230 (dk_at dksX0_law1_1 7 rfl rfl)
theorem dX0_law1_32 : decode cX0_law1 32 = .ok (.invokevirtual 160, 3) := dk_182 0 160 (dk_at dksX0_law1_1 10 rfl rfl)
theorem dX0_law1_35 : decode cX0_law1 35 = .ok (.checkcast 37, 3) := dk_192 0 37 (dk_at dksX0_law1_1 13 rfl rfl)
theorem dX0_law1_38 : decode cX0_law1 38 = .ok (.areturn, 1) := dk_176 (dk_at dksX0_law1_1 16 rfl rfl)
abbrev cX0_costs : ByteArray := prog_1_method_37_code
def yX0_costs : MethodName := ⟨RX0, "costs", "(I)I"⟩
def dkwX0_costs_1 : List UInt8 := [133, 17, 3, 231, 182, 1, 10, 172]
abbrev dktX0_costs_1 : List UInt8 := dkwX0_costs_1 ++ []
def dkwX0_costs_0 : List UInt8 := [42, 27, 182, 1, 7, 42, 4, 42, 180, 0, 10, 180, 0, 92, 27, 182, 0, 160, 192, 0, 123, 180, 0, 164]
abbrev dktX0_costs_0 : List UInt8 := dkwX0_costs_0 ++ dktX0_costs_1
theorem dksX0_costs_0 : cX0_costs.data.toList.drop 0 = dktX0_costs_0 := by decide +kernel
theorem dksX0_costs_1 : cX0_costs.data.toList.drop 24 = dktX0_costs_1 := dk_seg dksX0_costs_0 24 rfl rfl
theorem dX0_costs_0 : decode cX0_costs 0 = .ok (.aload_n 0, 1) := dk_42 (dk_at dksX0_costs_0 0 rfl rfl)
theorem dX0_costs_1 : decode cX0_costs 1 = .ok (.iload_n 1, 1) := dk_27 (dk_at dksX0_costs_0 1 rfl rfl)
theorem dX0_costs_2 : decode cX0_costs 2 = .ok (.invokevirtual 263, 3) := dk_182 1 7 (dk_at dksX0_costs_0 2 rfl rfl)
theorem dX0_costs_5 : decode cX0_costs 5 = .ok (.aload_n 0, 1) := dk_42 (dk_at dksX0_costs_0 5 rfl rfl)
theorem dX0_costs_6 : decode cX0_costs 6 = .ok (.iconst 1, 1) := dk_4 (dk_at dksX0_costs_0 6 rfl rfl)
theorem dX0_costs_7 : decode cX0_costs 7 = .ok (.aload_n 0, 1) := dk_42 (dk_at dksX0_costs_0 7 rfl rfl)
theorem dX0_costs_8 : decode cX0_costs 8 = .ok (.getfield 10, 3) := dk_180 0 10 (dk_at dksX0_costs_0 8 rfl rfl)
theorem dX0_costs_11 : decode cX0_costs 11 = .ok (.getfield 92, 3) := dk_180 0 92 (dk_at dksX0_costs_0 11 rfl rfl)
theorem dX0_costs_14 : decode cX0_costs 14 = .ok (.iload_n 1, 1) := dk_27 (dk_at dksX0_costs_0 14 rfl rfl)
theorem dX0_costs_15 : decode cX0_costs 15 = .ok (.invokevirtual 160, 3) := dk_182 0 160 (dk_at dksX0_costs_0 15 rfl rfl)
theorem dX0_costs_18 : decode cX0_costs 18 = .ok (.checkcast 123, 3) := dk_192 0 123 (dk_at dksX0_costs_0 18 rfl rfl)
theorem dX0_costs_21 : decode cX0_costs 21 = .ok (.getfield 164, 3) := dk_180 0 164 (dk_at dksX0_costs_0 21 rfl rfl)
theorem dX0_costs_24 : decode cX0_costs 24 = .ok (.i2l, 1) := dk_133 (dk_at dksX0_costs_1 0 rfl rfl)
theorem dX0_costs_25 : decode cX0_costs 25 = .ok (.sipush 999, 3) := dk_17 3 231 (dk_at dksX0_costs_1 1 rfl rfl)
theorem dX0_costs_28 : decode cX0_costs 28 = .ok (.invokevirtual 266, 3) := dk_182 1 10 (dk_at dksX0_costs_1 4 rfl rfl)
theorem dX0_costs_31 : decode cX0_costs 31 = .ok (.ireturn, 1) := dk_172 (dk_at dksX0_costs_1 7 rfl rfl)
abbrev cX0_lodges : ByteArray := prog_1_method_38_code
def yX0_lodges : MethodName := ⟨RX0, "lodges", "(I)I"⟩
def dkwX0_lodges_0 : List UInt8 := [42, 27, 182, 1, 7, 42, 5, 10, 16, 99, 182, 1, 10, 172]
abbrev dktX0_lodges_0 : List UInt8 := dkwX0_lodges_0 ++ []
theorem dksX0_lodges_0 : cX0_lodges.data.toList.drop 0 = dktX0_lodges_0 := by decide +kernel
theorem dX0_lodges_0 : decode cX0_lodges 0 = .ok (.aload_n 0, 1) := dk_42 (dk_at dksX0_lodges_0 0 rfl rfl)
theorem dX0_lodges_1 : decode cX0_lodges 1 = .ok (.iload_n 1, 1) := dk_27 (dk_at dksX0_lodges_0 1 rfl rfl)
theorem dX0_lodges_2 : decode cX0_lodges 2 = .ok (.invokevirtual 263, 3) := dk_182 1 7 (dk_at dksX0_lodges_0 2 rfl rfl)
theorem dX0_lodges_5 : decode cX0_lodges 5 = .ok (.aload_n 0, 1) := dk_42 (dk_at dksX0_lodges_0 5 rfl rfl)
theorem dX0_lodges_6 : decode cX0_lodges 6 = .ok (.iconst 2, 1) := dk_5 (dk_at dksX0_lodges_0 6 rfl rfl)
theorem dX0_lodges_7 : decode cX0_lodges 7 = .ok (.lconst 1, 1) := dk_10 (dk_at dksX0_lodges_0 7 rfl rfl)
theorem dX0_lodges_8 : decode cX0_lodges 8 = .ok (.bipush 99, 2) := dk_16 99 (dk_at dksX0_lodges_0 8 rfl rfl)
theorem dX0_lodges_10 : decode cX0_lodges 10 = .ok (.invokevirtual 266, 3) := dk_182 1 10 (dk_at dksX0_lodges_0 10 rfl rfl)
theorem dX0_lodges_13 : decode cX0_lodges 13 = .ok (.ireturn, 1) := dk_172 (dk_at dksX0_lodges_0 13 rfl rfl)
abbrev cX0_isBarred : ByteArray := prog_1_method_40_code
def yX0_isBarred : MethodName := ⟨RX0, "isBarred", "(IIIZ)Z"⟩
def dkwX0_isBarred_0 : List UInt8 := [42, 27, 28, 29, 21, 4, 182, 1, 3, 42, 182, 0, 243, 7, 42, 180, 0, 30, 182, 1, 13, 172]
abbrev dktX0_isBarred_0 : List UInt8 := dkwX0_isBarred_0 ++ []
theorem dksX0_isBarred_0 : cX0_isBarred.data.toList.drop 0 = dktX0_isBarred_0 := by decide +kernel
theorem dX0_isBarred_0 : decode cX0_isBarred 0 = .ok (.aload_n 0, 1) := dk_42 (dk_at dksX0_isBarred_0 0 rfl rfl)
theorem dX0_isBarred_1 : decode cX0_isBarred 1 = .ok (.iload_n 1, 1) := dk_27 (dk_at dksX0_isBarred_0 1 rfl rfl)
theorem dX0_isBarred_2 : decode cX0_isBarred 2 = .ok (.iload_n 2, 1) := dk_28 (dk_at dksX0_isBarred_0 2 rfl rfl)
theorem dX0_isBarred_3 : decode cX0_isBarred 3 = .ok (.iload_n 3, 1) := dk_29 (dk_at dksX0_isBarred_0 3 rfl rfl)
theorem dX0_isBarred_4 : decode cX0_isBarred 4 = .ok (.iload 4, 2) := dk_21 4 (dk_at dksX0_isBarred_0 4 rfl rfl)
theorem dX0_isBarred_6 : decode cX0_isBarred 6 = .ok (.invokevirtual 259, 3) := dk_182 1 3 (dk_at dksX0_isBarred_0 6 rfl rfl)
theorem dX0_isBarred_9 : decode cX0_isBarred 9 = .ok (.aload_n 0, 1) := dk_42 (dk_at dksX0_isBarred_0 9 rfl rfl)
theorem dX0_isBarred_10 : decode cX0_isBarred 10 = .ok (.invokevirtual 243, 3) := dk_182 0 243 (dk_at dksX0_isBarred_0 10 rfl rfl)
theorem dX0_isBarred_13 : decode cX0_isBarred 13 = .ok (.iconst 4, 1) := dk_7 (dk_at dksX0_isBarred_0 13 rfl rfl)
theorem dX0_isBarred_14 : decode cX0_isBarred 14 = .ok (.aload_n 0, 1) := dk_42 (dk_at dksX0_isBarred_0 14 rfl rfl)
theorem dX0_isBarred_15 : decode cX0_isBarred 15 = .ok (.getfield 30, 3) := dk_180 0 30 (dk_at dksX0_isBarred_0 15 rfl rfl)
theorem dX0_isBarred_18 : decode cX0_isBarred 18 = .ok (.invokevirtual 269, 3) := dk_182 1 13 (dk_at dksX0_isBarred_0 18 rfl rfl)
theorem dX0_isBarred_21 : decode cX0_isBarred 21 = .ok (.ireturn, 1) := dk_172 (dk_at dksX0_isBarred_0 21 rfl rfl)
abbrev cX0_spoils : ByteArray := prog_1_method_39_code
def yX0_spoils : MethodName := ⟨RX0, "spoils", "(II)I"⟩
def dkwX0_spoils_0 : List UInt8 := [42, 27, 2, 28, 2, 2, 182, 0, 239, 42, 6, 10, 5, 182, 1, 10, 172]
abbrev dktX0_spoils_0 : List UInt8 := dkwX0_spoils_0 ++ []
theorem dksX0_spoils_0 : cX0_spoils.data.toList.drop 0 = dktX0_spoils_0 := by decide +kernel
theorem dX0_spoils_0 : decode cX0_spoils 0 = .ok (.aload_n 0, 1) := dk_42 (dk_at dksX0_spoils_0 0 rfl rfl)
theorem dX0_spoils_1 : decode cX0_spoils 1 = .ok (.iload_n 1, 1) := dk_27 (dk_at dksX0_spoils_0 1 rfl rfl)
theorem dX0_spoils_2 : decode cX0_spoils 2 = .ok (.iconst (-1), 1) := dk_2 (dk_at dksX0_spoils_0 2 rfl rfl)
theorem dX0_spoils_3 : decode cX0_spoils 3 = .ok (.iload_n 2, 1) := dk_28 (dk_at dksX0_spoils_0 3 rfl rfl)
theorem dX0_spoils_4 : decode cX0_spoils 4 = .ok (.iconst (-1), 1) := dk_2 (dk_at dksX0_spoils_0 4 rfl rfl)
theorem dX0_spoils_5 : decode cX0_spoils 5 = .ok (.iconst (-1), 1) := dk_2 (dk_at dksX0_spoils_0 5 rfl rfl)
theorem dX0_spoils_6 : decode cX0_spoils 6 = .ok (.invokevirtual 239, 3) := dk_182 0 239 (dk_at dksX0_spoils_0 6 rfl rfl)
theorem dX0_spoils_9 : decode cX0_spoils 9 = .ok (.aload_n 0, 1) := dk_42 (dk_at dksX0_spoils_0 9 rfl rfl)
theorem dX0_spoils_10 : decode cX0_spoils 10 = .ok (.iconst 3, 1) := dk_6 (dk_at dksX0_spoils_0 10 rfl rfl)
theorem dX0_spoils_11 : decode cX0_spoils 11 = .ok (.lconst 1, 1) := dk_10 (dk_at dksX0_spoils_0 11 rfl rfl)
theorem dX0_spoils_12 : decode cX0_spoils 12 = .ok (.iconst 2, 1) := dk_5 (dk_at dksX0_spoils_0 12 rfl rfl)
theorem dX0_spoils_13 : decode cX0_spoils 13 = .ok (.invokevirtual 266, 3) := dk_182 1 10 (dk_at dksX0_spoils_0 13 rfl rfl)
theorem dX0_spoils_16 : decode cX0_spoils 16 = .ok (.ireturn, 1) := dk_172 (dk_at dksX0_spoils_0 16 rfl rfl)
abbrev cX0_send : ByteArray := prog_1_method_44_code
def yX0_send : MethodName := ⟨RX0, "send", "(I)I"⟩
def dkwX0_send_0 : List UInt8 := [42, 42, 27, 182, 1, 54, 182, 0, 84, 172]
abbrev dktX0_send_0 : List UInt8 := dkwX0_send_0 ++ []
theorem dksX0_send_0 : cX0_send.data.toList.drop 0 = dktX0_send_0 := by decide +kernel
theorem dX0_send_0 : decode cX0_send 0 = .ok (.aload_n 0, 1) := dk_42 (dk_at dksX0_send_0 0 rfl rfl)
theorem dX0_send_1 : decode cX0_send 1 = .ok (.aload_n 0, 1) := dk_42 (dk_at dksX0_send_0 1 rfl rfl)
theorem dX0_send_2 : decode cX0_send 2 = .ok (.iload_n 1, 1) := dk_27 (dk_at dksX0_send_0 2 rfl rfl)
theorem dX0_send_3 : decode cX0_send 3 = .ok (.invokevirtual 310, 3) := dk_182 1 54 (dk_at dksX0_send_0 3 rfl rfl)
theorem dX0_send_6 : decode cX0_send 6 = .ok (.invokevirtual 84, 3) := dk_182 0 84 (dk_at dksX0_send_0 6 rfl rfl)
theorem dX0_send_9 : decode cX0_send 9 = .ok (.ireturn, 1) := dk_172 (dk_at dksX0_send_0 9 rfl rfl)
abbrev cX0_sendNow : ByteArray := prog_1_method_43_code
def yX0_sendNow : MethodName := ⟨RX0, "sendNow", "(I)I"⟩
def dkwX0_sendNow_3 : List UInt8 := [182, 0, 132, 180, 0, 178, 28, 96, 79, 42, 182, 0, 132, 89, 180, 1, 51, 29, 96, 181, 1, 51, 29, 172]
abbrev dktX0_sendNow_3 : List UInt8 := dkwX0_sendNow_3 ++ []
def dkwX0_sendNow_2 : List UInt8 := [180, 0, 135, 27, 28, 154, 0, 7, 5, 167, 0, 4, 4, 79, 42, 182, 0, 132, 180, 0, 140, 27, 42]
abbrev dktX0_sendNow_2 : List UInt8 := dkwX0_sendNow_2 ++ dktX0_sendNow_3
def dkwX0_sendNow_1 : List UInt8 := [16, 253, 172, 42, 3, 182, 1, 48, 42, 27, 182, 1, 19, 61, 42, 27, 182, 1, 22, 62, 42, 182, 0, 132]
abbrev dktX0_sendNow_1 : List UInt8 := dkwX0_sendNow_1 ++ dktX0_sendNow_2
def dkwX0_sendNow_0 : List UInt8 := [42, 27, 182, 0, 153, 154, 0, 6, 16, 254, 172, 42, 182, 0, 132, 180, 0, 135, 27, 46, 153, 0, 6]
abbrev dktX0_sendNow_0 : List UInt8 := dkwX0_sendNow_0 ++ dktX0_sendNow_1
theorem dksX0_sendNow_0 : cX0_sendNow.data.toList.drop 0 = dktX0_sendNow_0 := by decide +kernel
theorem dksX0_sendNow_1 : cX0_sendNow.data.toList.drop 23 = dktX0_sendNow_1 := dk_seg dksX0_sendNow_0 23 rfl rfl
theorem dksX0_sendNow_2 : cX0_sendNow.data.toList.drop 47 = dktX0_sendNow_2 := dk_seg dksX0_sendNow_1 24 rfl rfl
theorem dksX0_sendNow_3 : cX0_sendNow.data.toList.drop 70 = dktX0_sendNow_3 := dk_seg dksX0_sendNow_2 23 rfl rfl
theorem dX0_sendNow_0 : decode cX0_sendNow 0 = .ok (.aload_n 0, 1) := dk_42 (dk_at dksX0_sendNow_0 0 rfl rfl)
theorem dX0_sendNow_1 : decode cX0_sendNow 1 = .ok (.iload_n 1, 1) := dk_27 (dk_at dksX0_sendNow_0 1 rfl rfl)
theorem dX0_sendNow_2 : decode cX0_sendNow 2 = .ok (.invokevirtual 153, 3) := dk_182 0 153 (dk_at dksX0_sendNow_0 2 rfl rfl)
theorem dX0_sendNow_5 : decode cX0_sendNow 5 = .ok (.ifCond .ne 6, 3) := dk_154 0 6 (dk_at dksX0_sendNow_0 5 rfl rfl)
theorem dX0_sendNow_8 : decode cX0_sendNow 8 = .ok (.bipush (-2), 2) := dk_16 254 (dk_at dksX0_sendNow_0 8 rfl rfl)
theorem dX0_sendNow_10 : decode cX0_sendNow 10 = .ok (.ireturn, 1) := dk_172 (dk_at dksX0_sendNow_0 10 rfl rfl)
theorem dX0_sendNow_11 : decode cX0_sendNow 11 = .ok (.aload_n 0, 1) := dk_42 (dk_at dksX0_sendNow_0 11 rfl rfl)
theorem dX0_sendNow_12 : decode cX0_sendNow 12 = .ok (.invokevirtual 132, 3) := dk_182 0 132 (dk_at dksX0_sendNow_0 12 rfl rfl)
theorem dX0_sendNow_15 : decode cX0_sendNow 15 = .ok (.getfield 135, 3) := dk_180 0 135 (dk_at dksX0_sendNow_0 15 rfl rfl)
theorem dX0_sendNow_18 : decode cX0_sendNow 18 = .ok (.iload_n 1, 1) := dk_27 (dk_at dksX0_sendNow_0 18 rfl rfl)
theorem dX0_sendNow_19 : decode cX0_sendNow 19 = .ok (.iaload, 1) := dk_46 (dk_at dksX0_sendNow_0 19 rfl rfl)
theorem dX0_sendNow_20 : decode cX0_sendNow 20 = .ok (.ifCond .eq 6, 3) := dk_153 0 6 (dk_at dksX0_sendNow_0 20 rfl rfl)
theorem dX0_sendNow_23 : decode cX0_sendNow 23 = .ok (.bipush (-3), 2) := dk_16 253 (dk_at dksX0_sendNow_1 0 rfl rfl)
theorem dX0_sendNow_25 : decode cX0_sendNow 25 = .ok (.ireturn, 1) := dk_172 (dk_at dksX0_sendNow_1 2 rfl rfl)
theorem dX0_sendNow_26 : decode cX0_sendNow 26 = .ok (.aload_n 0, 1) := dk_42 (dk_at dksX0_sendNow_1 3 rfl rfl)
theorem dX0_sendNow_27 : decode cX0_sendNow 27 = .ok (.iconst 0, 1) := dk_3 (dk_at dksX0_sendNow_1 4 rfl rfl)
theorem dX0_sendNow_28 : decode cX0_sendNow 28 = .ok (.invokevirtual 304, 3) := dk_182 1 48 (dk_at dksX0_sendNow_1 5 rfl rfl)
theorem dX0_sendNow_31 : decode cX0_sendNow 31 = .ok (.aload_n 0, 1) := dk_42 (dk_at dksX0_sendNow_1 8 rfl rfl)
theorem dX0_sendNow_32 : decode cX0_sendNow 32 = .ok (.iload_n 1, 1) := dk_27 (dk_at dksX0_sendNow_1 9 rfl rfl)
theorem dX0_sendNow_33 : decode cX0_sendNow 33 = .ok (.invokevirtual 275, 3) := dk_182 1 19 (dk_at dksX0_sendNow_1 10 rfl rfl)
theorem dX0_sendNow_36 : decode cX0_sendNow 36 = .ok (.istore_n 2, 1) := dk_61 (dk_at dksX0_sendNow_1 13 rfl rfl)
theorem dX0_sendNow_37 : decode cX0_sendNow 37 = .ok (.aload_n 0, 1) := dk_42 (dk_at dksX0_sendNow_1 14 rfl rfl)
theorem dX0_sendNow_38 : decode cX0_sendNow 38 = .ok (.iload_n 1, 1) := dk_27 (dk_at dksX0_sendNow_1 15 rfl rfl)
theorem dX0_sendNow_39 : decode cX0_sendNow 39 = .ok (.invokevirtual 278, 3) := dk_182 1 22 (dk_at dksX0_sendNow_1 16 rfl rfl)
theorem dX0_sendNow_42 : decode cX0_sendNow 42 = .ok (.istore_n 3, 1) := dk_62 (dk_at dksX0_sendNow_1 19 rfl rfl)
theorem dX0_sendNow_43 : decode cX0_sendNow 43 = .ok (.aload_n 0, 1) := dk_42 (dk_at dksX0_sendNow_1 20 rfl rfl)
theorem dX0_sendNow_44 : decode cX0_sendNow 44 = .ok (.invokevirtual 132, 3) := dk_182 0 132 (dk_at dksX0_sendNow_1 21 rfl rfl)
theorem dX0_sendNow_47 : decode cX0_sendNow 47 = .ok (.getfield 135, 3) := dk_180 0 135 (dk_at dksX0_sendNow_2 0 rfl rfl)
theorem dX0_sendNow_50 : decode cX0_sendNow 50 = .ok (.iload_n 1, 1) := dk_27 (dk_at dksX0_sendNow_2 3 rfl rfl)
theorem dX0_sendNow_51 : decode cX0_sendNow 51 = .ok (.iload_n 2, 1) := dk_28 (dk_at dksX0_sendNow_2 4 rfl rfl)
theorem dX0_sendNow_52 : decode cX0_sendNow 52 = .ok (.ifCond .ne 7, 3) := dk_154 0 7 (dk_at dksX0_sendNow_2 5 rfl rfl)
theorem dX0_sendNow_55 : decode cX0_sendNow 55 = .ok (.iconst 2, 1) := dk_5 (dk_at dksX0_sendNow_2 8 rfl rfl)
theorem dX0_sendNow_56 : decode cX0_sendNow 56 = .ok (.goto 4, 3) := dk_167 0 4 (dk_at dksX0_sendNow_2 9 rfl rfl)
theorem dX0_sendNow_59 : decode cX0_sendNow 59 = .ok (.iconst 1, 1) := dk_4 (dk_at dksX0_sendNow_2 12 rfl rfl)
theorem dX0_sendNow_60 : decode cX0_sendNow 60 = .ok (.iastore, 1) := dk_79 (dk_at dksX0_sendNow_2 13 rfl rfl)
theorem dX0_sendNow_61 : decode cX0_sendNow 61 = .ok (.aload_n 0, 1) := dk_42 (dk_at dksX0_sendNow_2 14 rfl rfl)
theorem dX0_sendNow_62 : decode cX0_sendNow 62 = .ok (.invokevirtual 132, 3) := dk_182 0 132 (dk_at dksX0_sendNow_2 15 rfl rfl)
theorem dX0_sendNow_65 : decode cX0_sendNow 65 = .ok (.getfield 140, 3) := dk_180 0 140 (dk_at dksX0_sendNow_2 18 rfl rfl)
theorem dX0_sendNow_68 : decode cX0_sendNow 68 = .ok (.iload_n 1, 1) := dk_27 (dk_at dksX0_sendNow_2 21 rfl rfl)
theorem dX0_sendNow_69 : decode cX0_sendNow 69 = .ok (.aload_n 0, 1) := dk_42 (dk_at dksX0_sendNow_2 22 rfl rfl)
theorem dX0_sendNow_70 : decode cX0_sendNow 70 = .ok (.invokevirtual 132, 3) := dk_182 0 132 (dk_at dksX0_sendNow_3 0 rfl rfl)
theorem dX0_sendNow_73 : decode cX0_sendNow 73 = .ok (.getfield 178, 3) := dk_180 0 178 (dk_at dksX0_sendNow_3 3 rfl rfl)
theorem dX0_sendNow_76 : decode cX0_sendNow 76 = .ok (.iload_n 2, 1) := dk_28 (dk_at dksX0_sendNow_3 6 rfl rfl)
theorem dX0_sendNow_77 : decode cX0_sendNow 77 = .ok (.iadd, 1) := dk_96 (dk_at dksX0_sendNow_3 7 rfl rfl)
theorem dX0_sendNow_78 : decode cX0_sendNow 78 = .ok (.iastore, 1) := dk_79 (dk_at dksX0_sendNow_3 8 rfl rfl)
theorem dX0_sendNow_79 : decode cX0_sendNow 79 = .ok (.aload_n 0, 1) := dk_42 (dk_at dksX0_sendNow_3 9 rfl rfl)
theorem dX0_sendNow_80 : decode cX0_sendNow 80 = .ok (.invokevirtual 132, 3) := dk_182 0 132 (dk_at dksX0_sendNow_3 10 rfl rfl)
theorem dX0_sendNow_83 : decode cX0_sendNow 83 = .ok (.dup, 1) := dk_89 (dk_at dksX0_sendNow_3 13 rfl rfl)
theorem dX0_sendNow_84 : decode cX0_sendNow 84 = .ok (.getfield 307, 3) := dk_180 1 51 (dk_at dksX0_sendNow_3 14 rfl rfl)
theorem dX0_sendNow_87 : decode cX0_sendNow 87 = .ok (.iload_n 3, 1) := dk_29 (dk_at dksX0_sendNow_3 17 rfl rfl)
theorem dX0_sendNow_88 : decode cX0_sendNow 88 = .ok (.iadd, 1) := dk_96 (dk_at dksX0_sendNow_3 18 rfl rfl)
theorem dX0_sendNow_89 : decode cX0_sendNow 89 = .ok (.putfield 307, 3) := dk_181 1 51 (dk_at dksX0_sendNow_3 19 rfl rfl)
theorem dX0_sendNow_92 : decode cX0_sendNow 92 = .ok (.iload_n 3, 1) := dk_29 (dk_at dksX0_sendNow_3 22 rfl rfl)
theorem dX0_sendNow_93 : decode cX0_sendNow 93 = .ok (.ireturn, 1) := dk_172 (dk_at dksX0_sendNow_3 23 rfl rfl)
abbrev cX0_remember : ByteArray := prog_1_method_42_code
def yX0_remember : MethodName := ⟨RX0, "remember", "(I)V"⟩
def dkwX0_remember_2 : List UInt8 := [183, 1, 45, 182, 0, 128, 87, 177]
abbrev dktX0_remember_2 : List UInt8 := dkwX0_remember_2 ++ []
def dkwX0_remember_1 : List UInt8 := [180, 0, 23, 187, 1, 38, 89, 27, 187, 0, 136, 89, 183, 1, 40, 42, 182, 0, 132, 182, 1, 41]
abbrev dktX0_remember_1 : List UInt8 := dkwX0_remember_1 ++ dktX0_remember_2
def dkwX0_remember_0 : List UInt8 := [42, 180, 0, 23, 182, 0, 95, 16, 16, 160, 0, 12, 42, 180, 0, 23, 3, 182, 1, 35, 87, 42]
abbrev dktX0_remember_0 : List UInt8 := dkwX0_remember_0 ++ dktX0_remember_1
theorem dksX0_remember_0 : cX0_remember.data.toList.drop 0 = dktX0_remember_0 := by decide +kernel
theorem dksX0_remember_1 : cX0_remember.data.toList.drop 22 = dktX0_remember_1 := dk_seg dksX0_remember_0 22 rfl rfl
theorem dksX0_remember_2 : cX0_remember.data.toList.drop 44 = dktX0_remember_2 := dk_seg dksX0_remember_1 22 rfl rfl
theorem dX0_remember_0 : decode cX0_remember 0 = .ok (.aload_n 0, 1) := dk_42 (dk_at dksX0_remember_0 0 rfl rfl)
theorem dX0_remember_1 : decode cX0_remember 1 = .ok (.getfield 23, 3) := dk_180 0 23 (dk_at dksX0_remember_0 1 rfl rfl)
theorem dX0_remember_4 : decode cX0_remember 4 = .ok (.invokevirtual 95, 3) := dk_182 0 95 (dk_at dksX0_remember_0 4 rfl rfl)
theorem dX0_remember_7 : decode cX0_remember 7 = .ok (.bipush 16, 2) := dk_16 16 (dk_at dksX0_remember_0 7 rfl rfl)
theorem dX0_remember_9 : decode cX0_remember 9 = .ok (.if_icmp .ne 12, 3) := dk_160 0 12 (dk_at dksX0_remember_0 9 rfl rfl)
theorem dX0_remember_12 : decode cX0_remember 12 = .ok (.aload_n 0, 1) := dk_42 (dk_at dksX0_remember_0 12 rfl rfl)
theorem dX0_remember_13 : decode cX0_remember 13 = .ok (.getfield 23, 3) := dk_180 0 23 (dk_at dksX0_remember_0 13 rfl rfl)
theorem dX0_remember_16 : decode cX0_remember 16 = .ok (.iconst 0, 1) := dk_3 (dk_at dksX0_remember_0 16 rfl rfl)
theorem dX0_remember_17 : decode cX0_remember 17 = .ok (.invokevirtual 291, 3) := dk_182 1 35 (dk_at dksX0_remember_0 17 rfl rfl)
theorem dX0_remember_20 : decode cX0_remember 20 = .ok (.pop, 1) := dk_87 (dk_at dksX0_remember_0 20 rfl rfl)
theorem dX0_remember_21 : decode cX0_remember 21 = .ok (.aload_n 0, 1) := dk_42 (dk_at dksX0_remember_0 21 rfl rfl)
theorem dX0_remember_22 : decode cX0_remember 22 = .ok (.getfield 23, 3) := dk_180 0 23 (dk_at dksX0_remember_1 0 rfl rfl)
theorem dX0_remember_25 : decode cX0_remember 25 = .ok (.new 294, 3) := dk_187 1 38 (dk_at dksX0_remember_1 3 rfl rfl)
theorem dX0_remember_28 : decode cX0_remember 28 = .ok (.dup, 1) := dk_89 (dk_at dksX0_remember_1 6 rfl rfl)
theorem dX0_remember_29 : decode cX0_remember 29 = .ok (.iload_n 1, 1) := dk_27 (dk_at dksX0_remember_1 7 rfl rfl)
theorem dX0_remember_30 : decode cX0_remember 30 = .ok (.new 136, 3) := dk_187 0 136 (dk_at dksX0_remember_1 8 rfl rfl)
theorem dX0_remember_33 : decode cX0_remember 33 = .ok (.dup, 1) := dk_89 (dk_at dksX0_remember_1 11 rfl rfl)
theorem dX0_remember_34 : decode cX0_remember 34 = .ok (.invokespecial 296, 3) := dk_183 1 40 (dk_at dksX0_remember_1 12 rfl rfl)
theorem dX0_remember_37 : decode cX0_remember 37 = .ok (.aload_n 0, 1) := dk_42 (dk_at dksX0_remember_1 15 rfl rfl)
theorem dX0_remember_38 : decode cX0_remember 38 = .ok (.invokevirtual 132, 3) := dk_182 0 132 (dk_at dksX0_remember_1 16 rfl rfl)
theorem dX0_remember_41 : decode cX0_remember 41 = .ok (.invokevirtual 297, 3) := dk_182 1 41 (dk_at dksX0_remember_1 19 rfl rfl)
theorem dX0_remember_44 : decode cX0_remember 44 = .ok (.invokespecial 301, 3) := dk_183 1 45 (dk_at dksX0_remember_2 0 rfl rfl)
theorem dX0_remember_47 : decode cX0_remember 47 = .ok (.invokevirtual 128, 3) := dk_182 0 128 (dk_at dksX0_remember_2 3 rfl rfl)
theorem dX0_remember_50 : decode cX0_remember 50 = .ok (.pop, 1) := dk_87 (dk_at dksX0_remember_2 6 rfl rfl)
theorem dX0_remember_51 : decode cX0_remember 51 = .ok (.return_, 1) := dk_177 (dk_at dksX0_remember_2 7 rfl rfl)
abbrev cX0_light : ByteArray := prog_1_method_49_code
def yX0_light : MethodName := ⟨RX0, "light", "(I)I"⟩
def dkwX0_light_0 : List UInt8 := [42, 42, 27, 182, 1, 75, 182, 0, 84, 172]
abbrev dktX0_light_0 : List UInt8 := dkwX0_light_0 ++ []
theorem dksX0_light_0 : cX0_light.data.toList.drop 0 = dktX0_light_0 := by decide +kernel
theorem dX0_light_0 : decode cX0_light 0 = .ok (.aload_n 0, 1) := dk_42 (dk_at dksX0_light_0 0 rfl rfl)
theorem dX0_light_1 : decode cX0_light 1 = .ok (.aload_n 0, 1) := dk_42 (dk_at dksX0_light_0 1 rfl rfl)
theorem dX0_light_2 : decode cX0_light 2 = .ok (.iload_n 1, 1) := dk_27 (dk_at dksX0_light_0 2 rfl rfl)
theorem dX0_light_3 : decode cX0_light 3 = .ok (.invokevirtual 331, 3) := dk_182 1 75 (dk_at dksX0_light_0 3 rfl rfl)
theorem dX0_light_6 : decode cX0_light 6 = .ok (.invokevirtual 84, 3) := dk_182 0 84 (dk_at dksX0_light_0 6 rfl rfl)
theorem dX0_light_9 : decode cX0_light 9 = .ok (.ireturn, 1) := dk_172 (dk_at dksX0_light_0 9 rfl rfl)
abbrev cX0_lightNow : ByteArray := prog_1_method_46_code
def yX0_lightNow : MethodName := ⟨RX0, "lightNow", "(I)I"⟩
def dkwX0_lightNow_10 : List UInt8 := [182, 0, 132, 89, 180, 1, 69, 4, 96, 181, 1, 69, 42, 182, 1, 72, 28, 172]
abbrev dktX0_lightNow_10 : List UInt8 := dkwX0_lightNow_10 ++ []
def dkwX0_lightNow_9 : List UInt8 := [162, 0, 22, 27, 29, 184, 1, 59, 153, 0, 8, 42, 29, 182, 1, 66, 132, 3, 1, 167, 255, 232, 42]
abbrev dktX0_lightNow_9 : List UInt8 := dkwX0_lightNow_9 ++ dktX0_lightNow_10
def dkwX0_lightNow_8 : List UInt8 := [182, 0, 132, 180, 0, 135, 29, 6, 79, 132, 3, 1, 167, 255, 227, 3, 62, 29, 42, 182, 0, 99]
abbrev dktX0_lightNow_8 : List UInt8 := dkwX0_lightNow_8 ++ dktX0_lightNow_9
def dkwX0_lightNow_7 : List UInt8 := [182, 1, 48, 3, 62, 29, 42, 182, 0, 99, 162, 0, 27, 27, 29, 184, 1, 59, 153, 0, 13, 42]
abbrev dktX0_lightNow_7 : List UInt8 := dkwX0_lightNow_7 ++ dktX0_lightNow_8
def dkwX0_lightNow_6 : List UInt8 := [182, 1, 62, 161, 0, 16, 42, 182, 0, 132, 180, 0, 178, 17, 3, 231, 160, 0, 6, 16, 253, 172, 42, 4]
abbrev dktX0_lightNow_6 : List UInt8 := dkwX0_lightNow_6 ++ dktX0_lightNow_7
def dkwX0_lightNow_5 : List UInt8 := [182, 0, 170, 96, 61, 132, 3, 1, 167, 255, 161, 28, 42, 42, 42, 182, 0, 132, 180, 0, 178, 182, 1, 0]
abbrev dktX0_lightNow_5 : List UInt8 := dkwX0_lightNow_5 ++ dktX0_lightNow_6
def dkwX0_lightNow_4 : List UInt8 := [182, 0, 132, 180, 0, 178, 182, 1, 0, 182, 1, 28, 153, 0, 6, 16, 253, 172, 28, 42, 182, 0, 132, 29]
abbrev dktX0_lightNow_4 : List UInt8 := dkwX0_lightNow_4 ++ dktX0_lightNow_5
def dkwX0_lightNow_3 : List UInt8 := [153, 0, 38, 42, 29, 42, 182, 0, 132, 180, 0, 143, 29, 46, 42, 182, 0, 132, 180, 0, 178, 42, 42]
abbrev dktX0_lightNow_3 : List UInt8 := dkwX0_lightNow_3 ++ dktX0_lightNow_4
def dkwX0_lightNow_2 : List UInt8 := [167, 0, 76, 42, 182, 0, 132, 180, 0, 135, 29, 46, 5, 160, 0, 49, 42, 182, 0, 132, 29, 182, 0, 170]
abbrev dktX0_lightNow_2 : List UInt8 := dkwX0_lightNow_2 ++ dktX0_lightNow_3
def dkwX0_lightNow_1 : List UInt8 := [16, 254, 172, 3, 61, 3, 62, 29, 42, 182, 0, 99, 162, 0, 93, 27, 29, 184, 1, 59, 154, 0, 6]
abbrev dktX0_lightNow_1 : List UInt8 := dkwX0_lightNow_1 ++ dktX0_lightNow_2
def dkwX0_lightNow_0 : List UInt8 := [27, 133, 10, 20, 1, 57, 184, 0, 102, 154, 0, 5, 2, 172, 27, 42, 182, 0, 99, 122, 153, 0, 6]
abbrev dktX0_lightNow_0 : List UInt8 := dkwX0_lightNow_0 ++ dktX0_lightNow_1
theorem dksX0_lightNow_0 : cX0_lightNow.data.toList.drop 0 = dktX0_lightNow_0 := by decide +kernel
theorem dksX0_lightNow_1 : cX0_lightNow.data.toList.drop 23 = dktX0_lightNow_1 := dk_seg dksX0_lightNow_0 23 rfl rfl
theorem dksX0_lightNow_2 : cX0_lightNow.data.toList.drop 46 = dktX0_lightNow_2 := dk_seg dksX0_lightNow_1 23 rfl rfl
theorem dksX0_lightNow_3 : cX0_lightNow.data.toList.drop 70 = dktX0_lightNow_3 := dk_seg dksX0_lightNow_2 24 rfl rfl
theorem dksX0_lightNow_4 : cX0_lightNow.data.toList.drop 93 = dktX0_lightNow_4 := dk_seg dksX0_lightNow_3 23 rfl rfl
theorem dksX0_lightNow_5 : cX0_lightNow.data.toList.drop 117 = dktX0_lightNow_5 := dk_seg dksX0_lightNow_4 24 rfl rfl
theorem dksX0_lightNow_6 : cX0_lightNow.data.toList.drop 141 = dktX0_lightNow_6 := dk_seg dksX0_lightNow_5 24 rfl rfl
theorem dksX0_lightNow_7 : cX0_lightNow.data.toList.drop 165 = dktX0_lightNow_7 := dk_seg dksX0_lightNow_6 24 rfl rfl
theorem dksX0_lightNow_8 : cX0_lightNow.data.toList.drop 187 = dktX0_lightNow_8 := dk_seg dksX0_lightNow_7 22 rfl rfl
theorem dksX0_lightNow_9 : cX0_lightNow.data.toList.drop 209 = dktX0_lightNow_9 := dk_seg dksX0_lightNow_8 22 rfl rfl
theorem dksX0_lightNow_10 : cX0_lightNow.data.toList.drop 232 = dktX0_lightNow_10 := dk_seg dksX0_lightNow_9 23 rfl rfl
theorem dX0_lightNow_0 : decode cX0_lightNow 0 = .ok (.iload_n 1, 1) := dk_27 (dk_at dksX0_lightNow_0 0 rfl rfl)
theorem dX0_lightNow_1 : decode cX0_lightNow 1 = .ok (.i2l, 1) := dk_133 (dk_at dksX0_lightNow_0 1 rfl rfl)
theorem dX0_lightNow_2 : decode cX0_lightNow 2 = .ok (.lconst 1, 1) := dk_10 (dk_at dksX0_lightNow_0 2 rfl rfl)
theorem dX0_lightNow_3 : decode cX0_lightNow 3 = .ok (.ldc2_w 313, 3) := dk_20 1 57 (dk_at dksX0_lightNow_0 3 rfl rfl)
theorem dX0_lightNow_6 : decode cX0_lightNow 6 = .ok (.invokestatic 102, 3) := dk_184 0 102 (dk_at dksX0_lightNow_0 6 rfl rfl)
theorem dX0_lightNow_9 : decode cX0_lightNow 9 = .ok (.ifCond .ne 5, 3) := dk_154 0 5 (dk_at dksX0_lightNow_0 9 rfl rfl)
theorem dX0_lightNow_12 : decode cX0_lightNow 12 = .ok (.iconst (-1), 1) := dk_2 (dk_at dksX0_lightNow_0 12 rfl rfl)
theorem dX0_lightNow_13 : decode cX0_lightNow 13 = .ok (.ireturn, 1) := dk_172 (dk_at dksX0_lightNow_0 13 rfl rfl)
theorem dX0_lightNow_14 : decode cX0_lightNow 14 = .ok (.iload_n 1, 1) := dk_27 (dk_at dksX0_lightNow_0 14 rfl rfl)
theorem dX0_lightNow_15 : decode cX0_lightNow 15 = .ok (.aload_n 0, 1) := dk_42 (dk_at dksX0_lightNow_0 15 rfl rfl)
theorem dX0_lightNow_16 : decode cX0_lightNow 16 = .ok (.invokevirtual 99, 3) := dk_182 0 99 (dk_at dksX0_lightNow_0 16 rfl rfl)
theorem dX0_lightNow_19 : decode cX0_lightNow 19 = .ok (.ishr, 1) := dk_122 (dk_at dksX0_lightNow_0 19 rfl rfl)
theorem dX0_lightNow_20 : decode cX0_lightNow 20 = .ok (.ifCond .eq 6, 3) := dk_153 0 6 (dk_at dksX0_lightNow_0 20 rfl rfl)
theorem dX0_lightNow_23 : decode cX0_lightNow 23 = .ok (.bipush (-2), 2) := dk_16 254 (dk_at dksX0_lightNow_1 0 rfl rfl)
theorem dX0_lightNow_25 : decode cX0_lightNow 25 = .ok (.ireturn, 1) := dk_172 (dk_at dksX0_lightNow_1 2 rfl rfl)
theorem dX0_lightNow_26 : decode cX0_lightNow 26 = .ok (.iconst 0, 1) := dk_3 (dk_at dksX0_lightNow_1 3 rfl rfl)
theorem dX0_lightNow_27 : decode cX0_lightNow 27 = .ok (.istore_n 2, 1) := dk_61 (dk_at dksX0_lightNow_1 4 rfl rfl)
theorem dX0_lightNow_28 : decode cX0_lightNow 28 = .ok (.iconst 0, 1) := dk_3 (dk_at dksX0_lightNow_1 5 rfl rfl)
theorem dX0_lightNow_29 : decode cX0_lightNow 29 = .ok (.istore_n 3, 1) := dk_62 (dk_at dksX0_lightNow_1 6 rfl rfl)
theorem dX0_lightNow_30 : decode cX0_lightNow 30 = .ok (.iload_n 3, 1) := dk_29 (dk_at dksX0_lightNow_1 7 rfl rfl)
theorem dX0_lightNow_31 : decode cX0_lightNow 31 = .ok (.aload_n 0, 1) := dk_42 (dk_at dksX0_lightNow_1 8 rfl rfl)
theorem dX0_lightNow_32 : decode cX0_lightNow 32 = .ok (.invokevirtual 99, 3) := dk_182 0 99 (dk_at dksX0_lightNow_1 9 rfl rfl)
theorem dX0_lightNow_35 : decode cX0_lightNow 35 = .ok (.if_icmp .ge 93, 3) := dk_162 0 93 (dk_at dksX0_lightNow_1 12 rfl rfl)
theorem dX0_lightNow_38 : decode cX0_lightNow 38 = .ok (.iload_n 1, 1) := dk_27 (dk_at dksX0_lightNow_1 15 rfl rfl)
theorem dX0_lightNow_39 : decode cX0_lightNow 39 = .ok (.iload_n 3, 1) := dk_29 (dk_at dksX0_lightNow_1 16 rfl rfl)
theorem dX0_lightNow_40 : decode cX0_lightNow 40 = .ok (.invokestatic 315, 3) := dk_184 1 59 (dk_at dksX0_lightNow_1 17 rfl rfl)
theorem dX0_lightNow_43 : decode cX0_lightNow 43 = .ok (.ifCond .ne 6, 3) := dk_154 0 6 (dk_at dksX0_lightNow_1 20 rfl rfl)
theorem dX0_lightNow_46 : decode cX0_lightNow 46 = .ok (.goto 76, 3) := dk_167 0 76 (dk_at dksX0_lightNow_2 0 rfl rfl)
theorem dX0_lightNow_49 : decode cX0_lightNow 49 = .ok (.aload_n 0, 1) := dk_42 (dk_at dksX0_lightNow_2 3 rfl rfl)
theorem dX0_lightNow_50 : decode cX0_lightNow 50 = .ok (.invokevirtual 132, 3) := dk_182 0 132 (dk_at dksX0_lightNow_2 4 rfl rfl)
theorem dX0_lightNow_53 : decode cX0_lightNow 53 = .ok (.getfield 135, 3) := dk_180 0 135 (dk_at dksX0_lightNow_2 7 rfl rfl)
theorem dX0_lightNow_56 : decode cX0_lightNow 56 = .ok (.iload_n 3, 1) := dk_29 (dk_at dksX0_lightNow_2 10 rfl rfl)
theorem dX0_lightNow_57 : decode cX0_lightNow 57 = .ok (.iaload, 1) := dk_46 (dk_at dksX0_lightNow_2 11 rfl rfl)
theorem dX0_lightNow_58 : decode cX0_lightNow 58 = .ok (.iconst 2, 1) := dk_5 (dk_at dksX0_lightNow_2 12 rfl rfl)
theorem dX0_lightNow_59 : decode cX0_lightNow 59 = .ok (.if_icmp .ne 49, 3) := dk_160 0 49 (dk_at dksX0_lightNow_2 13 rfl rfl)
theorem dX0_lightNow_62 : decode cX0_lightNow 62 = .ok (.aload_n 0, 1) := dk_42 (dk_at dksX0_lightNow_2 16 rfl rfl)
theorem dX0_lightNow_63 : decode cX0_lightNow 63 = .ok (.invokevirtual 132, 3) := dk_182 0 132 (dk_at dksX0_lightNow_2 17 rfl rfl)
theorem dX0_lightNow_66 : decode cX0_lightNow 66 = .ok (.iload_n 3, 1) := dk_29 (dk_at dksX0_lightNow_2 20 rfl rfl)
theorem dX0_lightNow_67 : decode cX0_lightNow 67 = .ok (.invokevirtual 170, 3) := dk_182 0 170 (dk_at dksX0_lightNow_2 21 rfl rfl)
theorem dX0_lightNow_70 : decode cX0_lightNow 70 = .ok (.ifCond .eq 38, 3) := dk_153 0 38 (dk_at dksX0_lightNow_3 0 rfl rfl)
theorem dX0_lightNow_73 : decode cX0_lightNow 73 = .ok (.aload_n 0, 1) := dk_42 (dk_at dksX0_lightNow_3 3 rfl rfl)
theorem dX0_lightNow_74 : decode cX0_lightNow 74 = .ok (.iload_n 3, 1) := dk_29 (dk_at dksX0_lightNow_3 4 rfl rfl)
theorem dX0_lightNow_75 : decode cX0_lightNow 75 = .ok (.aload_n 0, 1) := dk_42 (dk_at dksX0_lightNow_3 5 rfl rfl)
theorem dX0_lightNow_76 : decode cX0_lightNow 76 = .ok (.invokevirtual 132, 3) := dk_182 0 132 (dk_at dksX0_lightNow_3 6 rfl rfl)
theorem dX0_lightNow_79 : decode cX0_lightNow 79 = .ok (.getfield 143, 3) := dk_180 0 143 (dk_at dksX0_lightNow_3 9 rfl rfl)
theorem dX0_lightNow_82 : decode cX0_lightNow 82 = .ok (.iload_n 3, 1) := dk_29 (dk_at dksX0_lightNow_3 12 rfl rfl)
theorem dX0_lightNow_83 : decode cX0_lightNow 83 = .ok (.iaload, 1) := dk_46 (dk_at dksX0_lightNow_3 13 rfl rfl)
theorem dX0_lightNow_84 : decode cX0_lightNow 84 = .ok (.aload_n 0, 1) := dk_42 (dk_at dksX0_lightNow_3 14 rfl rfl)
theorem dX0_lightNow_85 : decode cX0_lightNow 85 = .ok (.invokevirtual 132, 3) := dk_182 0 132 (dk_at dksX0_lightNow_3 15 rfl rfl)
theorem dX0_lightNow_88 : decode cX0_lightNow 88 = .ok (.getfield 178, 3) := dk_180 0 178 (dk_at dksX0_lightNow_3 18 rfl rfl)
theorem dX0_lightNow_91 : decode cX0_lightNow 91 = .ok (.aload_n 0, 1) := dk_42 (dk_at dksX0_lightNow_3 21 rfl rfl)
theorem dX0_lightNow_92 : decode cX0_lightNow 92 = .ok (.aload_n 0, 1) := dk_42 (dk_at dksX0_lightNow_3 22 rfl rfl)
theorem dX0_lightNow_93 : decode cX0_lightNow 93 = .ok (.invokevirtual 132, 3) := dk_182 0 132 (dk_at dksX0_lightNow_4 0 rfl rfl)
theorem dX0_lightNow_96 : decode cX0_lightNow 96 = .ok (.getfield 178, 3) := dk_180 0 178 (dk_at dksX0_lightNow_4 3 rfl rfl)
theorem dX0_lightNow_99 : decode cX0_lightNow 99 = .ok (.invokevirtual 256, 3) := dk_182 1 0 (dk_at dksX0_lightNow_4 6 rfl rfl)
theorem dX0_lightNow_102 : decode cX0_lightNow 102 = .ok (.invokevirtual 284, 3) := dk_182 1 28 (dk_at dksX0_lightNow_4 9 rfl rfl)
theorem dX0_lightNow_105 : decode cX0_lightNow 105 = .ok (.ifCond .eq 6, 3) := dk_153 0 6 (dk_at dksX0_lightNow_4 12 rfl rfl)
theorem dX0_lightNow_108 : decode cX0_lightNow 108 = .ok (.bipush (-3), 2) := dk_16 253 (dk_at dksX0_lightNow_4 15 rfl rfl)
theorem dX0_lightNow_110 : decode cX0_lightNow 110 = .ok (.ireturn, 1) := dk_172 (dk_at dksX0_lightNow_4 17 rfl rfl)
theorem dX0_lightNow_111 : decode cX0_lightNow 111 = .ok (.iload_n 2, 1) := dk_28 (dk_at dksX0_lightNow_4 18 rfl rfl)
theorem dX0_lightNow_112 : decode cX0_lightNow 112 = .ok (.aload_n 0, 1) := dk_42 (dk_at dksX0_lightNow_4 19 rfl rfl)
theorem dX0_lightNow_113 : decode cX0_lightNow 113 = .ok (.invokevirtual 132, 3) := dk_182 0 132 (dk_at dksX0_lightNow_4 20 rfl rfl)
theorem dX0_lightNow_116 : decode cX0_lightNow 116 = .ok (.iload_n 3, 1) := dk_29 (dk_at dksX0_lightNow_4 23 rfl rfl)
theorem dX0_lightNow_117 : decode cX0_lightNow 117 = .ok (.invokevirtual 170, 3) := dk_182 0 170 (dk_at dksX0_lightNow_5 0 rfl rfl)
theorem dX0_lightNow_120 : decode cX0_lightNow 120 = .ok (.iadd, 1) := dk_96 (dk_at dksX0_lightNow_5 3 rfl rfl)
theorem dX0_lightNow_121 : decode cX0_lightNow 121 = .ok (.istore_n 2, 1) := dk_61 (dk_at dksX0_lightNow_5 4 rfl rfl)
theorem dX0_lightNow_122 : decode cX0_lightNow 122 = .ok (.iinc 3 1, 3) := dk_132 3 1 (dk_at dksX0_lightNow_5 5 rfl rfl)
theorem dX0_lightNow_125 : decode cX0_lightNow 125 = .ok (.goto (-95), 3) := dk_167 255 161 (dk_at dksX0_lightNow_5 8 rfl rfl)
theorem dX0_lightNow_128 : decode cX0_lightNow 128 = .ok (.iload_n 2, 1) := dk_28 (dk_at dksX0_lightNow_5 11 rfl rfl)
theorem dX0_lightNow_129 : decode cX0_lightNow 129 = .ok (.aload_n 0, 1) := dk_42 (dk_at dksX0_lightNow_5 12 rfl rfl)
theorem dX0_lightNow_130 : decode cX0_lightNow 130 = .ok (.aload_n 0, 1) := dk_42 (dk_at dksX0_lightNow_5 13 rfl rfl)
theorem dX0_lightNow_131 : decode cX0_lightNow 131 = .ok (.aload_n 0, 1) := dk_42 (dk_at dksX0_lightNow_5 14 rfl rfl)
theorem dX0_lightNow_132 : decode cX0_lightNow 132 = .ok (.invokevirtual 132, 3) := dk_182 0 132 (dk_at dksX0_lightNow_5 15 rfl rfl)
theorem dX0_lightNow_135 : decode cX0_lightNow 135 = .ok (.getfield 178, 3) := dk_180 0 178 (dk_at dksX0_lightNow_5 18 rfl rfl)
theorem dX0_lightNow_138 : decode cX0_lightNow 138 = .ok (.invokevirtual 256, 3) := dk_182 1 0 (dk_at dksX0_lightNow_5 21 rfl rfl)
theorem dX0_lightNow_141 : decode cX0_lightNow 141 = .ok (.invokevirtual 318, 3) := dk_182 1 62 (dk_at dksX0_lightNow_6 0 rfl rfl)
theorem dX0_lightNow_144 : decode cX0_lightNow 144 = .ok (.if_icmp .lt 16, 3) := dk_161 0 16 (dk_at dksX0_lightNow_6 3 rfl rfl)
theorem dX0_lightNow_147 : decode cX0_lightNow 147 = .ok (.aload_n 0, 1) := dk_42 (dk_at dksX0_lightNow_6 6 rfl rfl)
theorem dX0_lightNow_148 : decode cX0_lightNow 148 = .ok (.invokevirtual 132, 3) := dk_182 0 132 (dk_at dksX0_lightNow_6 7 rfl rfl)
theorem dX0_lightNow_151 : decode cX0_lightNow 151 = .ok (.getfield 178, 3) := dk_180 0 178 (dk_at dksX0_lightNow_6 10 rfl rfl)
theorem dX0_lightNow_154 : decode cX0_lightNow 154 = .ok (.sipush 999, 3) := dk_17 3 231 (dk_at dksX0_lightNow_6 13 rfl rfl)
theorem dX0_lightNow_157 : decode cX0_lightNow 157 = .ok (.if_icmp .ne 6, 3) := dk_160 0 6 (dk_at dksX0_lightNow_6 16 rfl rfl)
theorem dX0_lightNow_160 : decode cX0_lightNow 160 = .ok (.bipush (-3), 2) := dk_16 253 (dk_at dksX0_lightNow_6 19 rfl rfl)
theorem dX0_lightNow_162 : decode cX0_lightNow 162 = .ok (.ireturn, 1) := dk_172 (dk_at dksX0_lightNow_6 21 rfl rfl)
theorem dX0_lightNow_163 : decode cX0_lightNow 163 = .ok (.aload_n 0, 1) := dk_42 (dk_at dksX0_lightNow_6 22 rfl rfl)
theorem dX0_lightNow_164 : decode cX0_lightNow 164 = .ok (.iconst 1, 1) := dk_4 (dk_at dksX0_lightNow_6 23 rfl rfl)
theorem dX0_lightNow_165 : decode cX0_lightNow 165 = .ok (.invokevirtual 304, 3) := dk_182 1 48 (dk_at dksX0_lightNow_7 0 rfl rfl)
theorem dX0_lightNow_168 : decode cX0_lightNow 168 = .ok (.iconst 0, 1) := dk_3 (dk_at dksX0_lightNow_7 3 rfl rfl)
theorem dX0_lightNow_169 : decode cX0_lightNow 169 = .ok (.istore_n 3, 1) := dk_62 (dk_at dksX0_lightNow_7 4 rfl rfl)
theorem dX0_lightNow_170 : decode cX0_lightNow 170 = .ok (.iload_n 3, 1) := dk_29 (dk_at dksX0_lightNow_7 5 rfl rfl)
theorem dX0_lightNow_171 : decode cX0_lightNow 171 = .ok (.aload_n 0, 1) := dk_42 (dk_at dksX0_lightNow_7 6 rfl rfl)
theorem dX0_lightNow_172 : decode cX0_lightNow 172 = .ok (.invokevirtual 99, 3) := dk_182 0 99 (dk_at dksX0_lightNow_7 7 rfl rfl)
theorem dX0_lightNow_175 : decode cX0_lightNow 175 = .ok (.if_icmp .ge 27, 3) := dk_162 0 27 (dk_at dksX0_lightNow_7 10 rfl rfl)
theorem dX0_lightNow_178 : decode cX0_lightNow 178 = .ok (.iload_n 1, 1) := dk_27 (dk_at dksX0_lightNow_7 13 rfl rfl)
theorem dX0_lightNow_179 : decode cX0_lightNow 179 = .ok (.iload_n 3, 1) := dk_29 (dk_at dksX0_lightNow_7 14 rfl rfl)
theorem dX0_lightNow_180 : decode cX0_lightNow 180 = .ok (.invokestatic 315, 3) := dk_184 1 59 (dk_at dksX0_lightNow_7 15 rfl rfl)
theorem dX0_lightNow_183 : decode cX0_lightNow 183 = .ok (.ifCond .eq 13, 3) := dk_153 0 13 (dk_at dksX0_lightNow_7 18 rfl rfl)
theorem dX0_lightNow_186 : decode cX0_lightNow 186 = .ok (.aload_n 0, 1) := dk_42 (dk_at dksX0_lightNow_7 21 rfl rfl)
theorem dX0_lightNow_187 : decode cX0_lightNow 187 = .ok (.invokevirtual 132, 3) := dk_182 0 132 (dk_at dksX0_lightNow_8 0 rfl rfl)
theorem dX0_lightNow_190 : decode cX0_lightNow 190 = .ok (.getfield 135, 3) := dk_180 0 135 (dk_at dksX0_lightNow_8 3 rfl rfl)
theorem dX0_lightNow_193 : decode cX0_lightNow 193 = .ok (.iload_n 3, 1) := dk_29 (dk_at dksX0_lightNow_8 6 rfl rfl)
theorem dX0_lightNow_194 : decode cX0_lightNow 194 = .ok (.iconst 3, 1) := dk_6 (dk_at dksX0_lightNow_8 7 rfl rfl)
theorem dX0_lightNow_195 : decode cX0_lightNow 195 = .ok (.iastore, 1) := dk_79 (dk_at dksX0_lightNow_8 8 rfl rfl)
theorem dX0_lightNow_196 : decode cX0_lightNow 196 = .ok (.iinc 3 1, 3) := dk_132 3 1 (dk_at dksX0_lightNow_8 9 rfl rfl)
theorem dX0_lightNow_199 : decode cX0_lightNow 199 = .ok (.goto (-29), 3) := dk_167 255 227 (dk_at dksX0_lightNow_8 12 rfl rfl)
theorem dX0_lightNow_202 : decode cX0_lightNow 202 = .ok (.iconst 0, 1) := dk_3 (dk_at dksX0_lightNow_8 15 rfl rfl)
theorem dX0_lightNow_203 : decode cX0_lightNow 203 = .ok (.istore_n 3, 1) := dk_62 (dk_at dksX0_lightNow_8 16 rfl rfl)
theorem dX0_lightNow_204 : decode cX0_lightNow 204 = .ok (.iload_n 3, 1) := dk_29 (dk_at dksX0_lightNow_8 17 rfl rfl)
theorem dX0_lightNow_205 : decode cX0_lightNow 205 = .ok (.aload_n 0, 1) := dk_42 (dk_at dksX0_lightNow_8 18 rfl rfl)
theorem dX0_lightNow_206 : decode cX0_lightNow 206 = .ok (.invokevirtual 99, 3) := dk_182 0 99 (dk_at dksX0_lightNow_8 19 rfl rfl)
theorem dX0_lightNow_209 : decode cX0_lightNow 209 = .ok (.if_icmp .ge 22, 3) := dk_162 0 22 (dk_at dksX0_lightNow_9 0 rfl rfl)
theorem dX0_lightNow_212 : decode cX0_lightNow 212 = .ok (.iload_n 1, 1) := dk_27 (dk_at dksX0_lightNow_9 3 rfl rfl)
theorem dX0_lightNow_213 : decode cX0_lightNow 213 = .ok (.iload_n 3, 1) := dk_29 (dk_at dksX0_lightNow_9 4 rfl rfl)
theorem dX0_lightNow_214 : decode cX0_lightNow 214 = .ok (.invokestatic 315, 3) := dk_184 1 59 (dk_at dksX0_lightNow_9 5 rfl rfl)
theorem dX0_lightNow_217 : decode cX0_lightNow 217 = .ok (.ifCond .eq 8, 3) := dk_153 0 8 (dk_at dksX0_lightNow_9 8 rfl rfl)
theorem dX0_lightNow_220 : decode cX0_lightNow 220 = .ok (.aload_n 0, 1) := dk_42 (dk_at dksX0_lightNow_9 11 rfl rfl)
theorem dX0_lightNow_221 : decode cX0_lightNow 221 = .ok (.iload_n 3, 1) := dk_29 (dk_at dksX0_lightNow_9 12 rfl rfl)
theorem dX0_lightNow_222 : decode cX0_lightNow 222 = .ok (.invokevirtual 322, 3) := dk_182 1 66 (dk_at dksX0_lightNow_9 13 rfl rfl)
theorem dX0_lightNow_225 : decode cX0_lightNow 225 = .ok (.iinc 3 1, 3) := dk_132 3 1 (dk_at dksX0_lightNow_9 16 rfl rfl)
theorem dX0_lightNow_228 : decode cX0_lightNow 228 = .ok (.goto (-24), 3) := dk_167 255 232 (dk_at dksX0_lightNow_9 19 rfl rfl)
theorem dX0_lightNow_231 : decode cX0_lightNow 231 = .ok (.aload_n 0, 1) := dk_42 (dk_at dksX0_lightNow_9 22 rfl rfl)
theorem dX0_lightNow_232 : decode cX0_lightNow 232 = .ok (.invokevirtual 132, 3) := dk_182 0 132 (dk_at dksX0_lightNow_10 0 rfl rfl)
theorem dX0_lightNow_235 : decode cX0_lightNow 235 = .ok (.dup, 1) := dk_89 (dk_at dksX0_lightNow_10 3 rfl rfl)
theorem dX0_lightNow_236 : decode cX0_lightNow 236 = .ok (.getfield 325, 3) := dk_180 1 69 (dk_at dksX0_lightNow_10 4 rfl rfl)
theorem dX0_lightNow_239 : decode cX0_lightNow 239 = .ok (.iconst 1, 1) := dk_4 (dk_at dksX0_lightNow_10 7 rfl rfl)
theorem dX0_lightNow_240 : decode cX0_lightNow 240 = .ok (.iadd, 1) := dk_96 (dk_at dksX0_lightNow_10 8 rfl rfl)
theorem dX0_lightNow_241 : decode cX0_lightNow 241 = .ok (.putfield 325, 3) := dk_181 1 69 (dk_at dksX0_lightNow_10 9 rfl rfl)
theorem dX0_lightNow_244 : decode cX0_lightNow 244 = .ok (.aload_n 0, 1) := dk_42 (dk_at dksX0_lightNow_10 12 rfl rfl)
theorem dX0_lightNow_245 : decode cX0_lightNow 245 = .ok (.invokevirtual 328, 3) := dk_182 1 72 (dk_at dksX0_lightNow_10 13 rfl rfl)
theorem dX0_lightNow_248 : decode cX0_lightNow 248 = .ok (.iload_n 2, 1) := dk_28 (dk_at dksX0_lightNow_10 16 rfl rfl)
theorem dX0_lightNow_249 : decode cX0_lightNow 249 = .ok (.ireturn, 1) := dk_172 (dk_at dksX0_lightNow_10 17 rfl rfl)
abbrev cX0_has : ByteArray := prog_1_method_2_code
def yX0_has : MethodName := ⟨RX0, "has", "(II)Z"⟩
def dkwX0_has_0 : List UInt8 := [26, 27, 122, 4, 126, 4, 160, 0, 7, 4, 167, 0, 4, 3, 172]
abbrev dktX0_has_0 : List UInt8 := dkwX0_has_0 ++ []
theorem dksX0_has_0 : cX0_has.data.toList.drop 0 = dktX0_has_0 := by decide +kernel
theorem dX0_has_0 : decode cX0_has 0 = .ok (.iload_n 0, 1) := dk_26 (dk_at dksX0_has_0 0 rfl rfl)
theorem dX0_has_1 : decode cX0_has 1 = .ok (.iload_n 1, 1) := dk_27 (dk_at dksX0_has_0 1 rfl rfl)
theorem dX0_has_2 : decode cX0_has 2 = .ok (.ishr, 1) := dk_122 (dk_at dksX0_has_0 2 rfl rfl)
theorem dX0_has_3 : decode cX0_has 3 = .ok (.iconst 1, 1) := dk_4 (dk_at dksX0_has_0 3 rfl rfl)
theorem dX0_has_4 : decode cX0_has 4 = .ok (.iand, 1) := dk_126 (dk_at dksX0_has_0 4 rfl rfl)
theorem dX0_has_5 : decode cX0_has 5 = .ok (.iconst 1, 1) := dk_4 (dk_at dksX0_has_0 5 rfl rfl)
theorem dX0_has_6 : decode cX0_has 6 = .ok (.if_icmp .ne 7, 3) := dk_160 0 7 (dk_at dksX0_has_0 6 rfl rfl)
theorem dX0_has_9 : decode cX0_has 9 = .ok (.iconst 1, 1) := dk_4 (dk_at dksX0_has_0 9 rfl rfl)
theorem dX0_has_10 : decode cX0_has 10 = .ok (.goto 4, 3) := dk_167 0 4 (dk_at dksX0_has_0 10 rfl rfl)
theorem dX0_has_13 : decode cX0_has 13 = .ok (.iconst 0, 1) := dk_3 (dk_at dksX0_has_0 13 rfl rfl)
theorem dX0_has_14 : decode cX0_has 14 = .ok (.ireturn, 1) := dk_172 (dk_at dksX0_has_0 14 rfl rfl)
abbrev cX0_need : ByteArray := prog_1_method_45_code
def yX0_need : MethodName := ⟨RX0, "need", "(Z)I"⟩
def dkwX0_need_0 : List UInt8 := [27, 153, 0, 7, 7, 167, 0, 4, 5, 172]
abbrev dktX0_need_0 : List UInt8 := dkwX0_need_0 ++ []
theorem dksX0_need_0 : cX0_need.data.toList.drop 0 = dktX0_need_0 := by decide +kernel
theorem dX0_need_0 : decode cX0_need 0 = .ok (.iload_n 1, 1) := dk_27 (dk_at dksX0_need_0 0 rfl rfl)
theorem dX0_need_1 : decode cX0_need 1 = .ok (.ifCond .eq 7, 3) := dk_153 0 7 (dk_at dksX0_need_0 1 rfl rfl)
theorem dX0_need_4 : decode cX0_need 4 = .ok (.iconst 4, 1) := dk_7 (dk_at dksX0_need_0 4 rfl rfl)
theorem dX0_need_5 : decode cX0_need 5 = .ok (.goto 4, 3) := dk_167 0 4 (dk_at dksX0_need_0 5 rfl rfl)
theorem dX0_need_8 : decode cX0_need 8 = .ok (.iconst 2, 1) := dk_5 (dk_at dksX0_need_0 8 rfl rfl)
theorem dX0_need_9 : decode cX0_need 9 = .ok (.ireturn, 1) := dk_172 (dk_at dksX0_need_0 9 rfl rfl)
abbrev cX0_spread : ByteArray := prog_1_method_47_code
def yX0_spread : MethodName := ⟨RX0, "spread", "(I)V"⟩
def dkwX0_spread_3 : List UInt8 := [167, 255, 187, 177]
abbrev dktX0_spread_3 : List UInt8 := dkwX0_spread_3 ++ []
def dkwX0_spread_2 : List UInt8 := [5, 42, 182, 0, 132, 180, 0, 143, 28, 46, 42, 27, 28, 182, 1, 32, 96, 184, 0, 72, 79, 132, 2, 1]
abbrev dktX0_spread_2 : List UInt8 := dkwX0_spread_2 ++ dktX0_spread_3
def dkwX0_spread_1 : List UInt8 := [153, 0, 45, 42, 182, 0, 132, 180, 0, 135, 28, 46, 6, 159, 0, 32, 42, 182, 0, 132, 180, 0, 143, 28]
abbrev dktX0_spread_1 : List UInt8 := dkwX0_spread_1 ++ dktX0_spread_2
def dkwX0_spread_0 : List UInt8 := [3, 61, 28, 42, 182, 0, 99, 162, 0, 67, 42, 180, 0, 10, 180, 0, 173, 27, 46, 28, 184, 1, 59]
abbrev dktX0_spread_0 : List UInt8 := dkwX0_spread_0 ++ dktX0_spread_1
theorem dksX0_spread_0 : cX0_spread.data.toList.drop 0 = dktX0_spread_0 := by decide +kernel
theorem dksX0_spread_1 : cX0_spread.data.toList.drop 23 = dktX0_spread_1 := dk_seg dksX0_spread_0 23 rfl rfl
theorem dksX0_spread_2 : cX0_spread.data.toList.drop 47 = dktX0_spread_2 := dk_seg dksX0_spread_1 24 rfl rfl
theorem dksX0_spread_3 : cX0_spread.data.toList.drop 71 = dktX0_spread_3 := dk_seg dksX0_spread_2 24 rfl rfl
theorem dX0_spread_0 : decode cX0_spread 0 = .ok (.iconst 0, 1) := dk_3 (dk_at dksX0_spread_0 0 rfl rfl)
theorem dX0_spread_1 : decode cX0_spread 1 = .ok (.istore_n 2, 1) := dk_61 (dk_at dksX0_spread_0 1 rfl rfl)
theorem dX0_spread_2 : decode cX0_spread 2 = .ok (.iload_n 2, 1) := dk_28 (dk_at dksX0_spread_0 2 rfl rfl)
theorem dX0_spread_3 : decode cX0_spread 3 = .ok (.aload_n 0, 1) := dk_42 (dk_at dksX0_spread_0 3 rfl rfl)
theorem dX0_spread_4 : decode cX0_spread 4 = .ok (.invokevirtual 99, 3) := dk_182 0 99 (dk_at dksX0_spread_0 4 rfl rfl)
theorem dX0_spread_7 : decode cX0_spread 7 = .ok (.if_icmp .ge 67, 3) := dk_162 0 67 (dk_at dksX0_spread_0 7 rfl rfl)
theorem dX0_spread_10 : decode cX0_spread 10 = .ok (.aload_n 0, 1) := dk_42 (dk_at dksX0_spread_0 10 rfl rfl)
theorem dX0_spread_11 : decode cX0_spread 11 = .ok (.getfield 10, 3) := dk_180 0 10 (dk_at dksX0_spread_0 11 rfl rfl)
theorem dX0_spread_14 : decode cX0_spread 14 = .ok (.getfield 173, 3) := dk_180 0 173 (dk_at dksX0_spread_0 14 rfl rfl)
theorem dX0_spread_17 : decode cX0_spread 17 = .ok (.iload_n 1, 1) := dk_27 (dk_at dksX0_spread_0 17 rfl rfl)
theorem dX0_spread_18 : decode cX0_spread 18 = .ok (.iaload, 1) := dk_46 (dk_at dksX0_spread_0 18 rfl rfl)
theorem dX0_spread_19 : decode cX0_spread 19 = .ok (.iload_n 2, 1) := dk_28 (dk_at dksX0_spread_0 19 rfl rfl)
theorem dX0_spread_20 : decode cX0_spread 20 = .ok (.invokestatic 315, 3) := dk_184 1 59 (dk_at dksX0_spread_0 20 rfl rfl)
theorem dX0_spread_23 : decode cX0_spread 23 = .ok (.ifCond .eq 45, 3) := dk_153 0 45 (dk_at dksX0_spread_1 0 rfl rfl)
theorem dX0_spread_26 : decode cX0_spread 26 = .ok (.aload_n 0, 1) := dk_42 (dk_at dksX0_spread_1 3 rfl rfl)
theorem dX0_spread_27 : decode cX0_spread 27 = .ok (.invokevirtual 132, 3) := dk_182 0 132 (dk_at dksX0_spread_1 4 rfl rfl)
theorem dX0_spread_30 : decode cX0_spread 30 = .ok (.getfield 135, 3) := dk_180 0 135 (dk_at dksX0_spread_1 7 rfl rfl)
theorem dX0_spread_33 : decode cX0_spread 33 = .ok (.iload_n 2, 1) := dk_28 (dk_at dksX0_spread_1 10 rfl rfl)
theorem dX0_spread_34 : decode cX0_spread 34 = .ok (.iaload, 1) := dk_46 (dk_at dksX0_spread_1 11 rfl rfl)
theorem dX0_spread_35 : decode cX0_spread 35 = .ok (.iconst 3, 1) := dk_6 (dk_at dksX0_spread_1 12 rfl rfl)
theorem dX0_spread_36 : decode cX0_spread 36 = .ok (.if_icmp .eq 32, 3) := dk_159 0 32 (dk_at dksX0_spread_1 13 rfl rfl)
theorem dX0_spread_39 : decode cX0_spread 39 = .ok (.aload_n 0, 1) := dk_42 (dk_at dksX0_spread_1 16 rfl rfl)
theorem dX0_spread_40 : decode cX0_spread 40 = .ok (.invokevirtual 132, 3) := dk_182 0 132 (dk_at dksX0_spread_1 17 rfl rfl)
theorem dX0_spread_43 : decode cX0_spread 43 = .ok (.getfield 143, 3) := dk_180 0 143 (dk_at dksX0_spread_1 20 rfl rfl)
theorem dX0_spread_46 : decode cX0_spread 46 = .ok (.iload_n 2, 1) := dk_28 (dk_at dksX0_spread_1 23 rfl rfl)
theorem dX0_spread_47 : decode cX0_spread 47 = .ok (.iconst 2, 1) := dk_5 (dk_at dksX0_spread_2 0 rfl rfl)
theorem dX0_spread_48 : decode cX0_spread 48 = .ok (.aload_n 0, 1) := dk_42 (dk_at dksX0_spread_2 1 rfl rfl)
theorem dX0_spread_49 : decode cX0_spread 49 = .ok (.invokevirtual 132, 3) := dk_182 0 132 (dk_at dksX0_spread_2 2 rfl rfl)
theorem dX0_spread_52 : decode cX0_spread 52 = .ok (.getfield 143, 3) := dk_180 0 143 (dk_at dksX0_spread_2 5 rfl rfl)
theorem dX0_spread_55 : decode cX0_spread 55 = .ok (.iload_n 2, 1) := dk_28 (dk_at dksX0_spread_2 8 rfl rfl)
theorem dX0_spread_56 : decode cX0_spread 56 = .ok (.iaload, 1) := dk_46 (dk_at dksX0_spread_2 9 rfl rfl)
theorem dX0_spread_57 : decode cX0_spread 57 = .ok (.aload_n 0, 1) := dk_42 (dk_at dksX0_spread_2 10 rfl rfl)
theorem dX0_spread_58 : decode cX0_spread 58 = .ok (.iload_n 1, 1) := dk_27 (dk_at dksX0_spread_2 11 rfl rfl)
theorem dX0_spread_59 : decode cX0_spread 59 = .ok (.iload_n 2, 1) := dk_28 (dk_at dksX0_spread_2 12 rfl rfl)
theorem dX0_spread_60 : decode cX0_spread 60 = .ok (.invokevirtual 288, 3) := dk_182 1 32 (dk_at dksX0_spread_2 13 rfl rfl)
theorem dX0_spread_63 : decode cX0_spread 63 = .ok (.iadd, 1) := dk_96 (dk_at dksX0_spread_2 16 rfl rfl)
theorem dX0_spread_64 : decode cX0_spread 64 = .ok (.invokestatic 72, 3) := dk_184 0 72 (dk_at dksX0_spread_2 17 rfl rfl)
theorem dX0_spread_67 : decode cX0_spread 67 = .ok (.iastore, 1) := dk_79 (dk_at dksX0_spread_2 20 rfl rfl)
theorem dX0_spread_68 : decode cX0_spread 68 = .ok (.iinc 2 1, 3) := dk_132 2 1 (dk_at dksX0_spread_2 21 rfl rfl)
theorem dX0_spread_71 : decode cX0_spread 71 = .ok (.goto (-69), 3) := dk_167 255 187 (dk_at dksX0_spread_3 0 rfl rfl)
theorem dX0_spread_74 : decode cX0_spread 74 = .ok (.return_, 1) := dk_177 (dk_at dksX0_spread_3 3 rfl rfl)
abbrev cX0_night : ByteArray := prog_1_method_48_code
def yX0_night : MethodName := ⟨RX0, "night", "()V"⟩
def dkwX0_night_5 : List UInt8 := [79, 132, 1, 1, 167, 255, 203, 177]
abbrev dktX0_night_5 : List UInt8 := dkwX0_night_5 ++ []
def dkwX0_night_4 : List UInt8 := [180, 0, 140, 27, 46, 42, 182, 0, 132, 180, 0, 178, 163, 0, 13, 42, 182, 0, 132, 180, 0, 135, 27, 5]
abbrev dktX0_night_4 : List UInt8 := dkwX0_night_4 ++ dktX0_night_5
def dkwX0_night_3 : List UInt8 := [182, 0, 99, 162, 0, 51, 42, 182, 0, 132, 180, 0, 135, 27, 46, 4, 160, 0, 32, 42, 182, 0, 132]
abbrev dktX0_night_3 : List UInt8 := dkwX0_night_3 ++ dktX0_night_4
def dkwX0_night_2 : List UInt8 := [132, 1, 1, 167, 255, 211, 42, 182, 0, 132, 89, 180, 0, 178, 4, 96, 181, 0, 178, 3, 60, 27, 42]
abbrev dktX0_night_2 : List UInt8 := dkwX0_night_2 ++ dktX0_night_3
def dkwX0_night_1 : List UInt8 := [180, 0, 135, 27, 46, 5, 160, 0, 11, 42, 27, 182, 1, 25, 167, 0, 4, 3, 96, 181, 1, 51]
abbrev dktX0_night_1 : List UInt8 := dkwX0_night_1 ++ dktX0_night_2
def dkwX0_night_0 : List UInt8 := [3, 60, 27, 42, 182, 0, 99, 162, 0, 43, 42, 182, 0, 132, 89, 180, 1, 51, 42, 182, 0, 132]
abbrev dktX0_night_0 : List UInt8 := dkwX0_night_0 ++ dktX0_night_1
theorem dksX0_night_0 : cX0_night.data.toList.drop 0 = dktX0_night_0 := by decide +kernel
theorem dksX0_night_1 : cX0_night.data.toList.drop 22 = dktX0_night_1 := dk_seg dksX0_night_0 22 rfl rfl
theorem dksX0_night_2 : cX0_night.data.toList.drop 44 = dktX0_night_2 := dk_seg dksX0_night_1 22 rfl rfl
theorem dksX0_night_3 : cX0_night.data.toList.drop 67 = dktX0_night_3 := dk_seg dksX0_night_2 23 rfl rfl
theorem dksX0_night_4 : cX0_night.data.toList.drop 90 = dktX0_night_4 := dk_seg dksX0_night_3 23 rfl rfl
theorem dksX0_night_5 : cX0_night.data.toList.drop 114 = dktX0_night_5 := dk_seg dksX0_night_4 24 rfl rfl
theorem dX0_night_0 : decode cX0_night 0 = .ok (.iconst 0, 1) := dk_3 (dk_at dksX0_night_0 0 rfl rfl)
theorem dX0_night_1 : decode cX0_night 1 = .ok (.istore_n 1, 1) := dk_60 (dk_at dksX0_night_0 1 rfl rfl)
theorem dX0_night_2 : decode cX0_night 2 = .ok (.iload_n 1, 1) := dk_27 (dk_at dksX0_night_0 2 rfl rfl)
theorem dX0_night_3 : decode cX0_night 3 = .ok (.aload_n 0, 1) := dk_42 (dk_at dksX0_night_0 3 rfl rfl)
theorem dX0_night_4 : decode cX0_night 4 = .ok (.invokevirtual 99, 3) := dk_182 0 99 (dk_at dksX0_night_0 4 rfl rfl)
theorem dX0_night_7 : decode cX0_night 7 = .ok (.if_icmp .ge 43, 3) := dk_162 0 43 (dk_at dksX0_night_0 7 rfl rfl)
theorem dX0_night_10 : decode cX0_night 10 = .ok (.aload_n 0, 1) := dk_42 (dk_at dksX0_night_0 10 rfl rfl)
theorem dX0_night_11 : decode cX0_night 11 = .ok (.invokevirtual 132, 3) := dk_182 0 132 (dk_at dksX0_night_0 11 rfl rfl)
theorem dX0_night_14 : decode cX0_night 14 = .ok (.dup, 1) := dk_89 (dk_at dksX0_night_0 14 rfl rfl)
theorem dX0_night_15 : decode cX0_night 15 = .ok (.getfield 307, 3) := dk_180 1 51 (dk_at dksX0_night_0 15 rfl rfl)
theorem dX0_night_18 : decode cX0_night 18 = .ok (.aload_n 0, 1) := dk_42 (dk_at dksX0_night_0 18 rfl rfl)
theorem dX0_night_19 : decode cX0_night 19 = .ok (.invokevirtual 132, 3) := dk_182 0 132 (dk_at dksX0_night_0 19 rfl rfl)
theorem dX0_night_22 : decode cX0_night 22 = .ok (.getfield 135, 3) := dk_180 0 135 (dk_at dksX0_night_1 0 rfl rfl)
theorem dX0_night_25 : decode cX0_night 25 = .ok (.iload_n 1, 1) := dk_27 (dk_at dksX0_night_1 3 rfl rfl)
theorem dX0_night_26 : decode cX0_night 26 = .ok (.iaload, 1) := dk_46 (dk_at dksX0_night_1 4 rfl rfl)
theorem dX0_night_27 : decode cX0_night 27 = .ok (.iconst 2, 1) := dk_5 (dk_at dksX0_night_1 5 rfl rfl)
theorem dX0_night_28 : decode cX0_night 28 = .ok (.if_icmp .ne 11, 3) := dk_160 0 11 (dk_at dksX0_night_1 6 rfl rfl)
theorem dX0_night_31 : decode cX0_night 31 = .ok (.aload_n 0, 1) := dk_42 (dk_at dksX0_night_1 9 rfl rfl)
theorem dX0_night_32 : decode cX0_night 32 = .ok (.iload_n 1, 1) := dk_27 (dk_at dksX0_night_1 10 rfl rfl)
theorem dX0_night_33 : decode cX0_night 33 = .ok (.invokevirtual 281, 3) := dk_182 1 25 (dk_at dksX0_night_1 11 rfl rfl)
theorem dX0_night_36 : decode cX0_night 36 = .ok (.goto 4, 3) := dk_167 0 4 (dk_at dksX0_night_1 14 rfl rfl)
theorem dX0_night_39 : decode cX0_night 39 = .ok (.iconst 0, 1) := dk_3 (dk_at dksX0_night_1 17 rfl rfl)
theorem dX0_night_40 : decode cX0_night 40 = .ok (.iadd, 1) := dk_96 (dk_at dksX0_night_1 18 rfl rfl)
theorem dX0_night_41 : decode cX0_night 41 = .ok (.putfield 307, 3) := dk_181 1 51 (dk_at dksX0_night_1 19 rfl rfl)
theorem dX0_night_44 : decode cX0_night 44 = .ok (.iinc 1 1, 3) := dk_132 1 1 (dk_at dksX0_night_2 0 rfl rfl)
theorem dX0_night_47 : decode cX0_night 47 = .ok (.goto (-45), 3) := dk_167 255 211 (dk_at dksX0_night_2 3 rfl rfl)
theorem dX0_night_50 : decode cX0_night 50 = .ok (.aload_n 0, 1) := dk_42 (dk_at dksX0_night_2 6 rfl rfl)
theorem dX0_night_51 : decode cX0_night 51 = .ok (.invokevirtual 132, 3) := dk_182 0 132 (dk_at dksX0_night_2 7 rfl rfl)
theorem dX0_night_54 : decode cX0_night 54 = .ok (.dup, 1) := dk_89 (dk_at dksX0_night_2 10 rfl rfl)
theorem dX0_night_55 : decode cX0_night 55 = .ok (.getfield 178, 3) := dk_180 0 178 (dk_at dksX0_night_2 11 rfl rfl)
theorem dX0_night_58 : decode cX0_night 58 = .ok (.iconst 1, 1) := dk_4 (dk_at dksX0_night_2 14 rfl rfl)
theorem dX0_night_59 : decode cX0_night 59 = .ok (.iadd, 1) := dk_96 (dk_at dksX0_night_2 15 rfl rfl)
theorem dX0_night_60 : decode cX0_night 60 = .ok (.putfield 178, 3) := dk_181 0 178 (dk_at dksX0_night_2 16 rfl rfl)
theorem dX0_night_63 : decode cX0_night 63 = .ok (.iconst 0, 1) := dk_3 (dk_at dksX0_night_2 19 rfl rfl)
theorem dX0_night_64 : decode cX0_night 64 = .ok (.istore_n 1, 1) := dk_60 (dk_at dksX0_night_2 20 rfl rfl)
theorem dX0_night_65 : decode cX0_night 65 = .ok (.iload_n 1, 1) := dk_27 (dk_at dksX0_night_2 21 rfl rfl)
theorem dX0_night_66 : decode cX0_night 66 = .ok (.aload_n 0, 1) := dk_42 (dk_at dksX0_night_2 22 rfl rfl)
theorem dX0_night_67 : decode cX0_night 67 = .ok (.invokevirtual 99, 3) := dk_182 0 99 (dk_at dksX0_night_3 0 rfl rfl)
theorem dX0_night_70 : decode cX0_night 70 = .ok (.if_icmp .ge 51, 3) := dk_162 0 51 (dk_at dksX0_night_3 3 rfl rfl)
theorem dX0_night_73 : decode cX0_night 73 = .ok (.aload_n 0, 1) := dk_42 (dk_at dksX0_night_3 6 rfl rfl)
theorem dX0_night_74 : decode cX0_night 74 = .ok (.invokevirtual 132, 3) := dk_182 0 132 (dk_at dksX0_night_3 7 rfl rfl)
theorem dX0_night_77 : decode cX0_night 77 = .ok (.getfield 135, 3) := dk_180 0 135 (dk_at dksX0_night_3 10 rfl rfl)
theorem dX0_night_80 : decode cX0_night 80 = .ok (.iload_n 1, 1) := dk_27 (dk_at dksX0_night_3 13 rfl rfl)
theorem dX0_night_81 : decode cX0_night 81 = .ok (.iaload, 1) := dk_46 (dk_at dksX0_night_3 14 rfl rfl)
theorem dX0_night_82 : decode cX0_night 82 = .ok (.iconst 1, 1) := dk_4 (dk_at dksX0_night_3 15 rfl rfl)
theorem dX0_night_83 : decode cX0_night 83 = .ok (.if_icmp .ne 32, 3) := dk_160 0 32 (dk_at dksX0_night_3 16 rfl rfl)
theorem dX0_night_86 : decode cX0_night 86 = .ok (.aload_n 0, 1) := dk_42 (dk_at dksX0_night_3 19 rfl rfl)
theorem dX0_night_87 : decode cX0_night 87 = .ok (.invokevirtual 132, 3) := dk_182 0 132 (dk_at dksX0_night_3 20 rfl rfl)
theorem dX0_night_90 : decode cX0_night 90 = .ok (.getfield 140, 3) := dk_180 0 140 (dk_at dksX0_night_4 0 rfl rfl)
theorem dX0_night_93 : decode cX0_night 93 = .ok (.iload_n 1, 1) := dk_27 (dk_at dksX0_night_4 3 rfl rfl)
theorem dX0_night_94 : decode cX0_night 94 = .ok (.iaload, 1) := dk_46 (dk_at dksX0_night_4 4 rfl rfl)
theorem dX0_night_95 : decode cX0_night 95 = .ok (.aload_n 0, 1) := dk_42 (dk_at dksX0_night_4 5 rfl rfl)
theorem dX0_night_96 : decode cX0_night 96 = .ok (.invokevirtual 132, 3) := dk_182 0 132 (dk_at dksX0_night_4 6 rfl rfl)
theorem dX0_night_99 : decode cX0_night 99 = .ok (.getfield 178, 3) := dk_180 0 178 (dk_at dksX0_night_4 9 rfl rfl)
theorem dX0_night_102 : decode cX0_night 102 = .ok (.if_icmp .gt 13, 3) := dk_163 0 13 (dk_at dksX0_night_4 12 rfl rfl)
theorem dX0_night_105 : decode cX0_night 105 = .ok (.aload_n 0, 1) := dk_42 (dk_at dksX0_night_4 15 rfl rfl)
theorem dX0_night_106 : decode cX0_night 106 = .ok (.invokevirtual 132, 3) := dk_182 0 132 (dk_at dksX0_night_4 16 rfl rfl)
theorem dX0_night_109 : decode cX0_night 109 = .ok (.getfield 135, 3) := dk_180 0 135 (dk_at dksX0_night_4 19 rfl rfl)
theorem dX0_night_112 : decode cX0_night 112 = .ok (.iload_n 1, 1) := dk_27 (dk_at dksX0_night_4 22 rfl rfl)
theorem dX0_night_113 : decode cX0_night 113 = .ok (.iconst 2, 1) := dk_5 (dk_at dksX0_night_4 23 rfl rfl)
theorem dX0_night_114 : decode cX0_night 114 = .ok (.iastore, 1) := dk_79 (dk_at dksX0_night_5 0 rfl rfl)
theorem dX0_night_115 : decode cX0_night 115 = .ok (.iinc 1 1, 3) := dk_132 1 1 (dk_at dksX0_night_5 1 rfl rfl)
theorem dX0_night_118 : decode cX0_night 118 = .ok (.goto (-53), 3) := dk_167 255 203 (dk_at dksX0_night_5 4 rfl rfl)
theorem dX0_night_121 : decode cX0_night 121 = .ok (.return_, 1) := dk_177 (dk_at dksX0_night_5 7 rfl rfl)
abbrev cX0_dark : ByteArray := prog_1_method_51_code
def yX0_dark : MethodName := ⟨RX0, "dark", "()I"⟩
def dkwX0_dark_0 : List UInt8 := [42, 42, 182, 1, 81, 182, 0, 84, 172]
abbrev dktX0_dark_0 : List UInt8 := dkwX0_dark_0 ++ []
theorem dksX0_dark_0 : cX0_dark.data.toList.drop 0 = dktX0_dark_0 := by decide +kernel
theorem dX0_dark_0 : decode cX0_dark 0 = .ok (.aload_n 0, 1) := dk_42 (dk_at dksX0_dark_0 0 rfl rfl)
theorem dX0_dark_1 : decode cX0_dark 1 = .ok (.aload_n 0, 1) := dk_42 (dk_at dksX0_dark_0 1 rfl rfl)
theorem dX0_dark_2 : decode cX0_dark 2 = .ok (.invokevirtual 337, 3) := dk_182 1 81 (dk_at dksX0_dark_0 2 rfl rfl)
theorem dX0_dark_5 : decode cX0_dark 5 = .ok (.invokevirtual 84, 3) := dk_182 0 84 (dk_at dksX0_dark_0 5 rfl rfl)
theorem dX0_dark_8 : decode cX0_dark 8 = .ok (.ireturn, 1) := dk_172 (dk_at dksX0_dark_0 8 rfl rfl)
abbrev cX0_darkNow : ByteArray := prog_1_method_50_code
def yX0_darkNow : MethodName := ⟨RX0, "darkNow", "()I"⟩
def dkwX0_darkNow_1 : List UInt8 := [182, 0, 132, 89, 180, 1, 78, 4, 96, 181, 1, 78, 42, 182, 1, 72, 42, 182, 0, 132, 180, 1, 78, 172]
abbrev dktX0_darkNow_1 : List UInt8 := dkwX0_darkNow_1 ++ []
def dkwX0_darkNow_0 : List UInt8 := [42, 182, 0, 132, 180, 0, 178, 17, 3, 231, 160, 0, 6, 16, 253, 172, 42, 5, 182, 1, 48, 42]
abbrev dktX0_darkNow_0 : List UInt8 := dkwX0_darkNow_0 ++ dktX0_darkNow_1
theorem dksX0_darkNow_0 : cX0_darkNow.data.toList.drop 0 = dktX0_darkNow_0 := by decide +kernel
theorem dksX0_darkNow_1 : cX0_darkNow.data.toList.drop 22 = dktX0_darkNow_1 := dk_seg dksX0_darkNow_0 22 rfl rfl
theorem dX0_darkNow_0 : decode cX0_darkNow 0 = .ok (.aload_n 0, 1) := dk_42 (dk_at dksX0_darkNow_0 0 rfl rfl)
theorem dX0_darkNow_1 : decode cX0_darkNow 1 = .ok (.invokevirtual 132, 3) := dk_182 0 132 (dk_at dksX0_darkNow_0 1 rfl rfl)
theorem dX0_darkNow_4 : decode cX0_darkNow 4 = .ok (.getfield 178, 3) := dk_180 0 178 (dk_at dksX0_darkNow_0 4 rfl rfl)
theorem dX0_darkNow_7 : decode cX0_darkNow 7 = .ok (.sipush 999, 3) := dk_17 3 231 (dk_at dksX0_darkNow_0 7 rfl rfl)
theorem dX0_darkNow_10 : decode cX0_darkNow 10 = .ok (.if_icmp .ne 6, 3) := dk_160 0 6 (dk_at dksX0_darkNow_0 10 rfl rfl)
theorem dX0_darkNow_13 : decode cX0_darkNow 13 = .ok (.bipush (-3), 2) := dk_16 253 (dk_at dksX0_darkNow_0 13 rfl rfl)
theorem dX0_darkNow_15 : decode cX0_darkNow 15 = .ok (.ireturn, 1) := dk_172 (dk_at dksX0_darkNow_0 15 rfl rfl)
theorem dX0_darkNow_16 : decode cX0_darkNow 16 = .ok (.aload_n 0, 1) := dk_42 (dk_at dksX0_darkNow_0 16 rfl rfl)
theorem dX0_darkNow_17 : decode cX0_darkNow 17 = .ok (.iconst 2, 1) := dk_5 (dk_at dksX0_darkNow_0 17 rfl rfl)
theorem dX0_darkNow_18 : decode cX0_darkNow 18 = .ok (.invokevirtual 304, 3) := dk_182 1 48 (dk_at dksX0_darkNow_0 18 rfl rfl)
theorem dX0_darkNow_21 : decode cX0_darkNow 21 = .ok (.aload_n 0, 1) := dk_42 (dk_at dksX0_darkNow_0 21 rfl rfl)
theorem dX0_darkNow_22 : decode cX0_darkNow 22 = .ok (.invokevirtual 132, 3) := dk_182 0 132 (dk_at dksX0_darkNow_1 0 rfl rfl)
theorem dX0_darkNow_25 : decode cX0_darkNow 25 = .ok (.dup, 1) := dk_89 (dk_at dksX0_darkNow_1 3 rfl rfl)
theorem dX0_darkNow_26 : decode cX0_darkNow 26 = .ok (.getfield 334, 3) := dk_180 1 78 (dk_at dksX0_darkNow_1 4 rfl rfl)
theorem dX0_darkNow_29 : decode cX0_darkNow 29 = .ok (.iconst 1, 1) := dk_4 (dk_at dksX0_darkNow_1 7 rfl rfl)
theorem dX0_darkNow_30 : decode cX0_darkNow 30 = .ok (.iadd, 1) := dk_96 (dk_at dksX0_darkNow_1 8 rfl rfl)
theorem dX0_darkNow_31 : decode cX0_darkNow 31 = .ok (.putfield 334, 3) := dk_181 1 78 (dk_at dksX0_darkNow_1 9 rfl rfl)
theorem dX0_darkNow_34 : decode cX0_darkNow 34 = .ok (.aload_n 0, 1) := dk_42 (dk_at dksX0_darkNow_1 12 rfl rfl)
theorem dX0_darkNow_35 : decode cX0_darkNow 35 = .ok (.invokevirtual 328, 3) := dk_182 1 72 (dk_at dksX0_darkNow_1 13 rfl rfl)
theorem dX0_darkNow_38 : decode cX0_darkNow 38 = .ok (.aload_n 0, 1) := dk_42 (dk_at dksX0_darkNow_1 16 rfl rfl)
theorem dX0_darkNow_39 : decode cX0_darkNow 39 = .ok (.invokevirtual 132, 3) := dk_182 0 132 (dk_at dksX0_darkNow_1 17 rfl rfl)
theorem dX0_darkNow_42 : decode cX0_darkNow 42 = .ok (.getfield 334, 3) := dk_180 1 78 (dk_at dksX0_darkNow_1 20 rfl rfl)
theorem dX0_darkNow_45 : decode cX0_darkNow 45 = .ok (.ireturn, 1) := dk_172 (dk_at dksX0_darkNow_1 23 rfl rfl)
abbrev cX0_undo : ByteArray := prog_1_method_52_code
def yX0_undo : MethodName := ⟨RX0, "undo", "()I"⟩
def dkwX0_undo_2 : List UInt8 := [182, 1, 41, 87, 42, 43, 180, 1, 88, 182, 0, 84, 172]
abbrev dktX0_undo_2 : List UInt8 := dkwX0_undo_2 ++ []
def dkwX0_undo_1 : List UInt8 := [180, 0, 23, 182, 0, 95, 4, 100, 182, 1, 35, 192, 1, 38, 76, 42, 182, 0, 132, 43, 180, 1, 87]
abbrev dktX0_undo_1 : List UInt8 := dkwX0_undo_1 ++ dktX0_undo_2
def dkwX0_undo_0 : List UInt8 := [42, 180, 0, 23, 182, 1, 84, 153, 0, 10, 42, 16, 253, 182, 0, 84, 172, 42, 180, 0, 23, 42]
abbrev dktX0_undo_0 : List UInt8 := dkwX0_undo_0 ++ dktX0_undo_1
theorem dksX0_undo_0 : cX0_undo.data.toList.drop 0 = dktX0_undo_0 := by decide +kernel
theorem dksX0_undo_1 : cX0_undo.data.toList.drop 22 = dktX0_undo_1 := dk_seg dksX0_undo_0 22 rfl rfl
theorem dksX0_undo_2 : cX0_undo.data.toList.drop 45 = dktX0_undo_2 := dk_seg dksX0_undo_1 23 rfl rfl
theorem dX0_undo_0 : decode cX0_undo 0 = .ok (.aload_n 0, 1) := dk_42 (dk_at dksX0_undo_0 0 rfl rfl)
theorem dX0_undo_1 : decode cX0_undo 1 = .ok (.getfield 23, 3) := dk_180 0 23 (dk_at dksX0_undo_0 1 rfl rfl)
theorem dX0_undo_4 : decode cX0_undo 4 = .ok (.invokevirtual 340, 3) := dk_182 1 84 (dk_at dksX0_undo_0 4 rfl rfl)
theorem dX0_undo_7 : decode cX0_undo 7 = .ok (.ifCond .eq 10, 3) := dk_153 0 10 (dk_at dksX0_undo_0 7 rfl rfl)
theorem dX0_undo_10 : decode cX0_undo 10 = .ok (.aload_n 0, 1) := dk_42 (dk_at dksX0_undo_0 10 rfl rfl)
theorem dX0_undo_11 : decode cX0_undo 11 = .ok (.bipush (-3), 2) := dk_16 253 (dk_at dksX0_undo_0 11 rfl rfl)
theorem dX0_undo_13 : decode cX0_undo 13 = .ok (.invokevirtual 84, 3) := dk_182 0 84 (dk_at dksX0_undo_0 13 rfl rfl)
theorem dX0_undo_16 : decode cX0_undo 16 = .ok (.ireturn, 1) := dk_172 (dk_at dksX0_undo_0 16 rfl rfl)
theorem dX0_undo_17 : decode cX0_undo 17 = .ok (.aload_n 0, 1) := dk_42 (dk_at dksX0_undo_0 17 rfl rfl)
theorem dX0_undo_18 : decode cX0_undo 18 = .ok (.getfield 23, 3) := dk_180 0 23 (dk_at dksX0_undo_0 18 rfl rfl)
theorem dX0_undo_21 : decode cX0_undo 21 = .ok (.aload_n 0, 1) := dk_42 (dk_at dksX0_undo_0 21 rfl rfl)
theorem dX0_undo_22 : decode cX0_undo 22 = .ok (.getfield 23, 3) := dk_180 0 23 (dk_at dksX0_undo_1 0 rfl rfl)
theorem dX0_undo_25 : decode cX0_undo 25 = .ok (.invokevirtual 95, 3) := dk_182 0 95 (dk_at dksX0_undo_1 3 rfl rfl)
theorem dX0_undo_28 : decode cX0_undo 28 = .ok (.iconst 1, 1) := dk_4 (dk_at dksX0_undo_1 6 rfl rfl)
theorem dX0_undo_29 : decode cX0_undo 29 = .ok (.isub, 1) := dk_100 (dk_at dksX0_undo_1 7 rfl rfl)
theorem dX0_undo_30 : decode cX0_undo 30 = .ok (.invokevirtual 291, 3) := dk_182 1 35 (dk_at dksX0_undo_1 8 rfl rfl)
theorem dX0_undo_33 : decode cX0_undo 33 = .ok (.checkcast 294, 3) := dk_192 1 38 (dk_at dksX0_undo_1 11 rfl rfl)
theorem dX0_undo_36 : decode cX0_undo 36 = .ok (.astore_n 1, 1) := dk_76 (dk_at dksX0_undo_1 14 rfl rfl)
theorem dX0_undo_37 : decode cX0_undo 37 = .ok (.aload_n 0, 1) := dk_42 (dk_at dksX0_undo_1 15 rfl rfl)
theorem dX0_undo_38 : decode cX0_undo 38 = .ok (.invokevirtual 132, 3) := dk_182 0 132 (dk_at dksX0_undo_1 16 rfl rfl)
theorem dX0_undo_41 : decode cX0_undo 41 = .ok (.aload_n 1, 1) := dk_43 (dk_at dksX0_undo_1 19 rfl rfl)
theorem dX0_undo_42 : decode cX0_undo 42 = .ok (.getfield 343, 3) := dk_180 1 87 (dk_at dksX0_undo_1 20 rfl rfl)
theorem dX0_undo_45 : decode cX0_undo 45 = .ok (.invokevirtual 297, 3) := dk_182 1 41 (dk_at dksX0_undo_2 0 rfl rfl)
theorem dX0_undo_48 : decode cX0_undo 48 = .ok (.pop, 1) := dk_87 (dk_at dksX0_undo_2 3 rfl rfl)
theorem dX0_undo_49 : decode cX0_undo 49 = .ok (.aload_n 0, 1) := dk_42 (dk_at dksX0_undo_2 4 rfl rfl)
theorem dX0_undo_50 : decode cX0_undo 50 = .ok (.aload_n 1, 1) := dk_43 (dk_at dksX0_undo_2 5 rfl rfl)
theorem dX0_undo_51 : decode cX0_undo 51 = .ok (.getfield 344, 3) := dk_180 1 88 (dk_at dksX0_undo_2 6 rfl rfl)
theorem dX0_undo_54 : decode cX0_undo 54 = .ok (.invokevirtual 84, 3) := dk_182 0 84 (dk_at dksX0_undo_2 9 rfl rfl)
theorem dX0_undo_57 : decode cX0_undo 57 = .ok (.ireturn, 1) := dk_172 (dk_at dksX0_undo_2 12 rfl rfl)
abbrev cX0_last : ByteArray := prog_1_method_53_code
def yX0_last : MethodName := ⟨RX0, "last", "(I)I"⟩
def dkwX0_last_2 : List UInt8 := [167, 0, 4, 2, 172]
abbrev dktX0_last_2 : List UInt8 := dkwX0_last_2 ++ []
def dkwX0_last_1 : List UInt8 := [27, 133, 9, 28, 4, 100, 133, 184, 0, 102, 153, 0, 15, 42, 180, 0, 68, 27, 3, 182, 1, 98]
abbrev dktX0_last_1 : List UInt8 := dkwX0_last_1 ++ dktX0_last_2
def dkwX0_last_0 : List UInt8 := [42, 180, 0, 68, 3, 3, 182, 1, 91, 3, 3, 182, 1, 95, 61, 27, 2, 160, 0, 7, 28, 167, 0, 29]
abbrev dktX0_last_0 : List UInt8 := dkwX0_last_0 ++ dktX0_last_1
theorem dksX0_last_0 : cX0_last.data.toList.drop 0 = dktX0_last_0 := by decide +kernel
theorem dksX0_last_1 : cX0_last.data.toList.drop 24 = dktX0_last_1 := dk_seg dksX0_last_0 24 rfl rfl
theorem dksX0_last_2 : cX0_last.data.toList.drop 46 = dktX0_last_2 := dk_seg dksX0_last_1 22 rfl rfl
theorem dX0_last_0 : decode cX0_last 0 = .ok (.aload_n 0, 1) := dk_42 (dk_at dksX0_last_0 0 rfl rfl)
theorem dX0_last_1 : decode cX0_last 1 = .ok (.getfield 68, 3) := dk_180 0 68 (dk_at dksX0_last_0 1 rfl rfl)
theorem dX0_last_4 : decode cX0_last 4 = .ok (.iconst 0, 1) := dk_3 (dk_at dksX0_last_0 4 rfl rfl)
theorem dX0_last_5 : decode cX0_last 5 = .ok (.iconst 0, 1) := dk_3 (dk_at dksX0_last_0 5 rfl rfl)
theorem dX0_last_6 : decode cX0_last 6 = .ok (.invokevirtual 347, 3) := dk_182 1 91 (dk_at dksX0_last_0 6 rfl rfl)
theorem dX0_last_9 : decode cX0_last 9 = .ok (.iconst 0, 1) := dk_3 (dk_at dksX0_last_0 9 rfl rfl)
theorem dX0_last_10 : decode cX0_last 10 = .ok (.iconst 0, 1) := dk_3 (dk_at dksX0_last_0 10 rfl rfl)
theorem dX0_last_11 : decode cX0_last 11 = .ok (.invokevirtual 351, 3) := dk_182 1 95 (dk_at dksX0_last_0 11 rfl rfl)
theorem dX0_last_14 : decode cX0_last 14 = .ok (.istore_n 2, 1) := dk_61 (dk_at dksX0_last_0 14 rfl rfl)
theorem dX0_last_15 : decode cX0_last 15 = .ok (.iload_n 1, 1) := dk_27 (dk_at dksX0_last_0 15 rfl rfl)
theorem dX0_last_16 : decode cX0_last 16 = .ok (.iconst (-1), 1) := dk_2 (dk_at dksX0_last_0 16 rfl rfl)
theorem dX0_last_17 : decode cX0_last 17 = .ok (.if_icmp .ne 7, 3) := dk_160 0 7 (dk_at dksX0_last_0 17 rfl rfl)
theorem dX0_last_20 : decode cX0_last 20 = .ok (.iload_n 2, 1) := dk_28 (dk_at dksX0_last_0 20 rfl rfl)
theorem dX0_last_21 : decode cX0_last 21 = .ok (.goto 29, 3) := dk_167 0 29 (dk_at dksX0_last_0 21 rfl rfl)
theorem dX0_last_24 : decode cX0_last 24 = .ok (.iload_n 1, 1) := dk_27 (dk_at dksX0_last_1 0 rfl rfl)
theorem dX0_last_25 : decode cX0_last 25 = .ok (.i2l, 1) := dk_133 (dk_at dksX0_last_1 1 rfl rfl)
theorem dX0_last_26 : decode cX0_last 26 = .ok (.lconst 0, 1) := dk_9 (dk_at dksX0_last_1 2 rfl rfl)
theorem dX0_last_27 : decode cX0_last 27 = .ok (.iload_n 2, 1) := dk_28 (dk_at dksX0_last_1 3 rfl rfl)
theorem dX0_last_28 : decode cX0_last 28 = .ok (.iconst 1, 1) := dk_4 (dk_at dksX0_last_1 4 rfl rfl)
theorem dX0_last_29 : decode cX0_last 29 = .ok (.isub, 1) := dk_100 (dk_at dksX0_last_1 5 rfl rfl)
theorem dX0_last_30 : decode cX0_last 30 = .ok (.i2l, 1) := dk_133 (dk_at dksX0_last_1 6 rfl rfl)
theorem dX0_last_31 : decode cX0_last 31 = .ok (.invokestatic 102, 3) := dk_184 0 102 (dk_at dksX0_last_1 7 rfl rfl)
theorem dX0_last_34 : decode cX0_last 34 = .ok (.ifCond .eq 15, 3) := dk_153 0 15 (dk_at dksX0_last_1 10 rfl rfl)
theorem dX0_last_37 : decode cX0_last 37 = .ok (.aload_n 0, 1) := dk_42 (dk_at dksX0_last_1 13 rfl rfl)
theorem dX0_last_38 : decode cX0_last 38 = .ok (.getfield 68, 3) := dk_180 0 68 (dk_at dksX0_last_1 14 rfl rfl)
theorem dX0_last_41 : decode cX0_last 41 = .ok (.iload_n 1, 1) := dk_27 (dk_at dksX0_last_1 17 rfl rfl)
theorem dX0_last_42 : decode cX0_last 42 = .ok (.iconst 0, 1) := dk_3 (dk_at dksX0_last_1 18 rfl rfl)
theorem dX0_last_43 : decode cX0_last 43 = .ok (.invokevirtual 354, 3) := dk_182 1 98 (dk_at dksX0_last_1 19 rfl rfl)
theorem dX0_last_46 : decode cX0_last 46 = .ok (.goto 4, 3) := dk_167 0 4 (dk_at dksX0_last_2 0 rfl rfl)
theorem dX0_last_49 : decode cX0_last 49 = .ok (.iconst (-1), 1) := dk_2 (dk_at dksX0_last_2 3 rfl rfl)
theorem dX0_last_50 : decode cX0_last 50 = .ok (.ireturn, 1) := dk_172 (dk_at dksX0_last_2 4 rfl rfl)
abbrev cX0_cheap : ByteArray := prog_1_method_54_code
def yX0_cheap : MethodName := ⟨RX0, "cheap", "(II)I"⟩
def dkwX0_cheap_3 : List UInt8 := [42, 180, 0, 68, 28, 4, 182, 1, 98, 172]
abbrev dktX0_cheap_3 : List UInt8 := dkwX0_cheap_3 ++ []
def dkwX0_cheap_2 : List UInt8 := [182, 1, 105, 62, 29, 19, 1, 108, 160, 0, 7, 2, 167, 0, 21, 28, 2, 160, 0, 7, 29, 167, 0, 12]
abbrev dktX0_cheap_2 : List UInt8 := dkwX0_cheap_2 ++ dktX0_cheap_3
def dkwX0_cheap_1 : List UInt8 := [154, 0, 5, 2, 172, 42, 180, 0, 68, 3, 3, 182, 1, 91, 27, 181, 1, 102, 42, 180, 0, 68, 3, 3]
abbrev dktX0_cheap_1 : List UInt8 := dkwX0_cheap_1 ++ dktX0_cheap_2
def dkwX0_cheap_0 : List UInt8 := [27, 133, 10, 20, 0, 189, 184, 0, 102, 153, 0, 18, 28, 133, 20, 0, 237, 27, 4, 100, 133, 184, 0, 102]
abbrev dktX0_cheap_0 : List UInt8 := dkwX0_cheap_0 ++ dktX0_cheap_1
theorem dksX0_cheap_0 : cX0_cheap.data.toList.drop 0 = dktX0_cheap_0 := by decide +kernel
theorem dksX0_cheap_1 : cX0_cheap.data.toList.drop 24 = dktX0_cheap_1 := dk_seg dksX0_cheap_0 24 rfl rfl
theorem dksX0_cheap_2 : cX0_cheap.data.toList.drop 48 = dktX0_cheap_2 := dk_seg dksX0_cheap_1 24 rfl rfl
theorem dksX0_cheap_3 : cX0_cheap.data.toList.drop 72 = dktX0_cheap_3 := dk_seg dksX0_cheap_2 24 rfl rfl
theorem dX0_cheap_0 : decode cX0_cheap 0 = .ok (.iload_n 1, 1) := dk_27 (dk_at dksX0_cheap_0 0 rfl rfl)
theorem dX0_cheap_1 : decode cX0_cheap 1 = .ok (.i2l, 1) := dk_133 (dk_at dksX0_cheap_0 1 rfl rfl)
theorem dX0_cheap_2 : decode cX0_cheap 2 = .ok (.lconst 1, 1) := dk_10 (dk_at dksX0_cheap_0 2 rfl rfl)
theorem dX0_cheap_3 : decode cX0_cheap 3 = .ok (.ldc2_w 189, 3) := dk_20 0 189 (dk_at dksX0_cheap_0 3 rfl rfl)
theorem dX0_cheap_6 : decode cX0_cheap 6 = .ok (.invokestatic 102, 3) := dk_184 0 102 (dk_at dksX0_cheap_0 6 rfl rfl)
theorem dX0_cheap_9 : decode cX0_cheap 9 = .ok (.ifCond .eq 18, 3) := dk_153 0 18 (dk_at dksX0_cheap_0 9 rfl rfl)
theorem dX0_cheap_12 : decode cX0_cheap 12 = .ok (.iload_n 2, 1) := dk_28 (dk_at dksX0_cheap_0 12 rfl rfl)
theorem dX0_cheap_13 : decode cX0_cheap 13 = .ok (.i2l, 1) := dk_133 (dk_at dksX0_cheap_0 13 rfl rfl)
theorem dX0_cheap_14 : decode cX0_cheap 14 = .ok (.ldc2_w 237, 3) := dk_20 0 237 (dk_at dksX0_cheap_0 14 rfl rfl)
theorem dX0_cheap_17 : decode cX0_cheap 17 = .ok (.iload_n 1, 1) := dk_27 (dk_at dksX0_cheap_0 17 rfl rfl)
theorem dX0_cheap_18 : decode cX0_cheap 18 = .ok (.iconst 1, 1) := dk_4 (dk_at dksX0_cheap_0 18 rfl rfl)
theorem dX0_cheap_19 : decode cX0_cheap 19 = .ok (.isub, 1) := dk_100 (dk_at dksX0_cheap_0 19 rfl rfl)
theorem dX0_cheap_20 : decode cX0_cheap 20 = .ok (.i2l, 1) := dk_133 (dk_at dksX0_cheap_0 20 rfl rfl)
theorem dX0_cheap_21 : decode cX0_cheap 21 = .ok (.invokestatic 102, 3) := dk_184 0 102 (dk_at dksX0_cheap_0 21 rfl rfl)
theorem dX0_cheap_24 : decode cX0_cheap 24 = .ok (.ifCond .ne 5, 3) := dk_154 0 5 (dk_at dksX0_cheap_1 0 rfl rfl)
theorem dX0_cheap_27 : decode cX0_cheap 27 = .ok (.iconst (-1), 1) := dk_2 (dk_at dksX0_cheap_1 3 rfl rfl)
theorem dX0_cheap_28 : decode cX0_cheap 28 = .ok (.ireturn, 1) := dk_172 (dk_at dksX0_cheap_1 4 rfl rfl)
theorem dX0_cheap_29 : decode cX0_cheap 29 = .ok (.aload_n 0, 1) := dk_42 (dk_at dksX0_cheap_1 5 rfl rfl)
theorem dX0_cheap_30 : decode cX0_cheap 30 = .ok (.getfield 68, 3) := dk_180 0 68 (dk_at dksX0_cheap_1 6 rfl rfl)
theorem dX0_cheap_33 : decode cX0_cheap 33 = .ok (.iconst 0, 1) := dk_3 (dk_at dksX0_cheap_1 9 rfl rfl)
theorem dX0_cheap_34 : decode cX0_cheap 34 = .ok (.iconst 0, 1) := dk_3 (dk_at dksX0_cheap_1 10 rfl rfl)
theorem dX0_cheap_35 : decode cX0_cheap 35 = .ok (.invokevirtual 347, 3) := dk_182 1 91 (dk_at dksX0_cheap_1 11 rfl rfl)
theorem dX0_cheap_38 : decode cX0_cheap 38 = .ok (.iload_n 1, 1) := dk_27 (dk_at dksX0_cheap_1 14 rfl rfl)
theorem dX0_cheap_39 : decode cX0_cheap 39 = .ok (.putfield 358, 3) := dk_181 1 102 (dk_at dksX0_cheap_1 15 rfl rfl)
theorem dX0_cheap_42 : decode cX0_cheap 42 = .ok (.aload_n 0, 1) := dk_42 (dk_at dksX0_cheap_1 18 rfl rfl)
theorem dX0_cheap_43 : decode cX0_cheap 43 = .ok (.getfield 68, 3) := dk_180 0 68 (dk_at dksX0_cheap_1 19 rfl rfl)
theorem dX0_cheap_46 : decode cX0_cheap 46 = .ok (.iconst 0, 1) := dk_3 (dk_at dksX0_cheap_1 22 rfl rfl)
theorem dX0_cheap_47 : decode cX0_cheap 47 = .ok (.iconst 0, 1) := dk_3 (dk_at dksX0_cheap_1 23 rfl rfl)
theorem dX0_cheap_48 : decode cX0_cheap 48 = .ok (.invokevirtual 361, 3) := dk_182 1 105 (dk_at dksX0_cheap_2 0 rfl rfl)
theorem dX0_cheap_51 : decode cX0_cheap 51 = .ok (.istore_n 3, 1) := dk_62 (dk_at dksX0_cheap_2 3 rfl rfl)
theorem dX0_cheap_52 : decode cX0_cheap 52 = .ok (.iload_n 3, 1) := dk_29 (dk_at dksX0_cheap_2 4 rfl rfl)
theorem dX0_cheap_53 : decode cX0_cheap 53 = .ok (.ldc_w 364, 3) := dk_19 1 108 (dk_at dksX0_cheap_2 5 rfl rfl)
theorem dX0_cheap_56 : decode cX0_cheap 56 = .ok (.if_icmp .ne 7, 3) := dk_160 0 7 (dk_at dksX0_cheap_2 8 rfl rfl)
theorem dX0_cheap_59 : decode cX0_cheap 59 = .ok (.iconst (-1), 1) := dk_2 (dk_at dksX0_cheap_2 11 rfl rfl)
theorem dX0_cheap_60 : decode cX0_cheap 60 = .ok (.goto 21, 3) := dk_167 0 21 (dk_at dksX0_cheap_2 12 rfl rfl)
theorem dX0_cheap_63 : decode cX0_cheap 63 = .ok (.iload_n 2, 1) := dk_28 (dk_at dksX0_cheap_2 15 rfl rfl)
theorem dX0_cheap_64 : decode cX0_cheap 64 = .ok (.iconst (-1), 1) := dk_2 (dk_at dksX0_cheap_2 16 rfl rfl)
theorem dX0_cheap_65 : decode cX0_cheap 65 = .ok (.if_icmp .ne 7, 3) := dk_160 0 7 (dk_at dksX0_cheap_2 17 rfl rfl)
theorem dX0_cheap_68 : decode cX0_cheap 68 = .ok (.iload_n 3, 1) := dk_29 (dk_at dksX0_cheap_2 20 rfl rfl)
theorem dX0_cheap_69 : decode cX0_cheap 69 = .ok (.goto 12, 3) := dk_167 0 12 (dk_at dksX0_cheap_2 21 rfl rfl)
theorem dX0_cheap_72 : decode cX0_cheap 72 = .ok (.aload_n 0, 1) := dk_42 (dk_at dksX0_cheap_3 0 rfl rfl)
theorem dX0_cheap_73 : decode cX0_cheap 73 = .ok (.getfield 68, 3) := dk_180 0 68 (dk_at dksX0_cheap_3 1 rfl rfl)
theorem dX0_cheap_76 : decode cX0_cheap 76 = .ok (.iload_n 2, 1) := dk_28 (dk_at dksX0_cheap_3 4 rfl rfl)
theorem dX0_cheap_77 : decode cX0_cheap 77 = .ok (.iconst 1, 1) := dk_4 (dk_at dksX0_cheap_3 5 rfl rfl)
theorem dX0_cheap_78 : decode cX0_cheap 78 = .ok (.invokevirtual 354, 3) := dk_182 1 98 (dk_at dksX0_cheap_3 6 rfl rfl)
theorem dX0_cheap_81 : decode cX0_cheap 81 = .ok (.ireturn, 1) := dk_172 (dk_at dksX0_cheap_3 9 rfl rfl)
abbrev cX0_ways : ByteArray := prog_1_method_55_code
def yX0_ways : MethodName := ⟨RX0, "ways", "(I)J"⟩
def dkwX0_ways_1 : List UInt8 := [182, 1, 91, 27, 181, 1, 102, 42, 180, 0, 68, 3, 3, 182, 1, 109, 173]
abbrev dktX0_ways_1 : List UInt8 := dkwX0_ways_1 ++ []
def dkwX0_ways_0 : List UInt8 := [27, 133, 9, 20, 0, 189, 184, 0, 102, 154, 0, 7, 20, 0, 237, 173, 42, 180, 0, 68, 3, 3]
abbrev dktX0_ways_0 : List UInt8 := dkwX0_ways_0 ++ dktX0_ways_1
theorem dksX0_ways_0 : cX0_ways.data.toList.drop 0 = dktX0_ways_0 := by decide +kernel
theorem dksX0_ways_1 : cX0_ways.data.toList.drop 22 = dktX0_ways_1 := dk_seg dksX0_ways_0 22 rfl rfl
theorem dX0_ways_0 : decode cX0_ways 0 = .ok (.iload_n 1, 1) := dk_27 (dk_at dksX0_ways_0 0 rfl rfl)
theorem dX0_ways_1 : decode cX0_ways 1 = .ok (.i2l, 1) := dk_133 (dk_at dksX0_ways_0 1 rfl rfl)
theorem dX0_ways_2 : decode cX0_ways 2 = .ok (.lconst 0, 1) := dk_9 (dk_at dksX0_ways_0 2 rfl rfl)
theorem dX0_ways_3 : decode cX0_ways 3 = .ok (.ldc2_w 189, 3) := dk_20 0 189 (dk_at dksX0_ways_0 3 rfl rfl)
theorem dX0_ways_6 : decode cX0_ways 6 = .ok (.invokestatic 102, 3) := dk_184 0 102 (dk_at dksX0_ways_0 6 rfl rfl)
theorem dX0_ways_9 : decode cX0_ways 9 = .ok (.ifCond .ne 7, 3) := dk_154 0 7 (dk_at dksX0_ways_0 9 rfl rfl)
theorem dX0_ways_12 : decode cX0_ways 12 = .ok (.ldc2_w 237, 3) := dk_20 0 237 (dk_at dksX0_ways_0 12 rfl rfl)
theorem dX0_ways_15 : decode cX0_ways 15 = .ok (.lreturn, 1) := dk_173 (dk_at dksX0_ways_0 15 rfl rfl)
theorem dX0_ways_16 : decode cX0_ways 16 = .ok (.aload_n 0, 1) := dk_42 (dk_at dksX0_ways_0 16 rfl rfl)
theorem dX0_ways_17 : decode cX0_ways 17 = .ok (.getfield 68, 3) := dk_180 0 68 (dk_at dksX0_ways_0 17 rfl rfl)
theorem dX0_ways_20 : decode cX0_ways 20 = .ok (.iconst 0, 1) := dk_3 (dk_at dksX0_ways_0 20 rfl rfl)
theorem dX0_ways_21 : decode cX0_ways 21 = .ok (.iconst 0, 1) := dk_3 (dk_at dksX0_ways_0 21 rfl rfl)
theorem dX0_ways_22 : decode cX0_ways 22 = .ok (.invokevirtual 347, 3) := dk_182 1 91 (dk_at dksX0_ways_1 0 rfl rfl)
theorem dX0_ways_25 : decode cX0_ways 25 = .ok (.iload_n 1, 1) := dk_27 (dk_at dksX0_ways_1 3 rfl rfl)
theorem dX0_ways_26 : decode cX0_ways 26 = .ok (.putfield 358, 3) := dk_181 1 102 (dk_at dksX0_ways_1 4 rfl rfl)
theorem dX0_ways_29 : decode cX0_ways 29 = .ok (.aload_n 0, 1) := dk_42 (dk_at dksX0_ways_1 7 rfl rfl)
theorem dX0_ways_30 : decode cX0_ways 30 = .ok (.getfield 68, 3) := dk_180 0 68 (dk_at dksX0_ways_1 8 rfl rfl)
theorem dX0_ways_33 : decode cX0_ways 33 = .ok (.iconst 0, 1) := dk_3 (dk_at dksX0_ways_1 11 rfl rfl)
theorem dX0_ways_34 : decode cX0_ways 34 = .ok (.iconst 0, 1) := dk_3 (dk_at dksX0_ways_1 12 rfl rfl)
theorem dX0_ways_35 : decode cX0_ways 35 = .ok (.invokevirtual 365, 3) := dk_182 1 109 (dk_at dksX0_ways_1 13 rfl rfl)
theorem dX0_ways_38 : decode cX0_ways 38 = .ok (.lreturn, 1) := dk_173 (dk_at dksX0_ways_1 16 rfl rfl)
abbrev cX0_late : ByteArray := prog_1_method_56_code
def yX0_late : MethodName := ⟨RX0, "late", "(I)I"⟩
def dkwX0_late_1 : List UInt8 := [2, 172]
abbrev dktX0_late_1 : List UInt8 := dkwX0_late_1 ++ []
def dkwX0_late_0 : List UInt8 := [42, 27, 182, 0, 153, 153, 0, 19, 42, 180, 0, 68, 3, 3, 182, 1, 91, 27, 182, 1, 113, 167, 0, 4]
abbrev dktX0_late_0 : List UInt8 := dkwX0_late_0 ++ dktX0_late_1
theorem dksX0_late_0 : cX0_late.data.toList.drop 0 = dktX0_late_0 := by decide +kernel
theorem dksX0_late_1 : cX0_late.data.toList.drop 24 = dktX0_late_1 := dk_seg dksX0_late_0 24 rfl rfl
theorem dX0_late_0 : decode cX0_late 0 = .ok (.aload_n 0, 1) := dk_42 (dk_at dksX0_late_0 0 rfl rfl)
theorem dX0_late_1 : decode cX0_late 1 = .ok (.iload_n 1, 1) := dk_27 (dk_at dksX0_late_0 1 rfl rfl)
theorem dX0_late_2 : decode cX0_late 2 = .ok (.invokevirtual 153, 3) := dk_182 0 153 (dk_at dksX0_late_0 2 rfl rfl)
theorem dX0_late_5 : decode cX0_late 5 = .ok (.ifCond .eq 19, 3) := dk_153 0 19 (dk_at dksX0_late_0 5 rfl rfl)
theorem dX0_late_8 : decode cX0_late 8 = .ok (.aload_n 0, 1) := dk_42 (dk_at dksX0_late_0 8 rfl rfl)
theorem dX0_late_9 : decode cX0_late 9 = .ok (.getfield 68, 3) := dk_180 0 68 (dk_at dksX0_late_0 9 rfl rfl)
theorem dX0_late_12 : decode cX0_late 12 = .ok (.iconst 0, 1) := dk_3 (dk_at dksX0_late_0 12 rfl rfl)
theorem dX0_late_13 : decode cX0_late 13 = .ok (.iconst 0, 1) := dk_3 (dk_at dksX0_late_0 13 rfl rfl)
theorem dX0_late_14 : decode cX0_late 14 = .ok (.invokevirtual 347, 3) := dk_182 1 91 (dk_at dksX0_late_0 14 rfl rfl)
theorem dX0_late_17 : decode cX0_late 17 = .ok (.iload_n 1, 1) := dk_27 (dk_at dksX0_late_0 17 rfl rfl)
theorem dX0_late_18 : decode cX0_late 18 = .ok (.invokevirtual 369, 3) := dk_182 1 113 (dk_at dksX0_late_0 18 rfl rfl)
theorem dX0_late_21 : decode cX0_late 21 = .ok (.goto 4, 3) := dk_167 0 4 (dk_at dksX0_late_0 21 rfl rfl)
theorem dX0_late_24 : decode cX0_late 24 = .ok (.iconst (-1), 1) := dk_2 (dk_at dksX0_late_1 0 rfl rfl)
theorem dX0_late_25 : decode cX0_late 25 = .ok (.ireturn, 1) := dk_172 (dk_at dksX0_late_1 1 rfl rfl)
abbrev cX0_swaps : ByteArray := prog_1_method_57_code
def yX0_swaps : MethodName := ⟨RX0, "swaps", "(I)I"⟩
def dkwX0_swaps_2 : List UInt8 := [167, 0, 4, 2, 172]
abbrev dktX0_swaps_2 : List UInt8 := dkwX0_swaps_2 ++ []
def dkwX0_swaps_1 : List UInt8 := [167, 0, 28, 27, 133, 9, 28, 4, 100, 133, 184, 0, 102, 153, 0, 14, 42, 180, 0, 68, 27, 182, 1, 119]
abbrev dktX0_swaps_1 : List UInt8 := dkwX0_swaps_1 ++ dktX0_swaps_2
def dkwX0_swaps_0 : List UInt8 := [42, 180, 0, 68, 3, 3, 182, 1, 91, 3, 3, 3, 182, 1, 116, 61, 27, 2, 160, 0, 7, 28]
abbrev dktX0_swaps_0 : List UInt8 := dkwX0_swaps_0 ++ dktX0_swaps_1
theorem dksX0_swaps_0 : cX0_swaps.data.toList.drop 0 = dktX0_swaps_0 := by decide +kernel
theorem dksX0_swaps_1 : cX0_swaps.data.toList.drop 22 = dktX0_swaps_1 := dk_seg dksX0_swaps_0 22 rfl rfl
theorem dksX0_swaps_2 : cX0_swaps.data.toList.drop 46 = dktX0_swaps_2 := dk_seg dksX0_swaps_1 24 rfl rfl
theorem dX0_swaps_0 : decode cX0_swaps 0 = .ok (.aload_n 0, 1) := dk_42 (dk_at dksX0_swaps_0 0 rfl rfl)
theorem dX0_swaps_1 : decode cX0_swaps 1 = .ok (.getfield 68, 3) := dk_180 0 68 (dk_at dksX0_swaps_0 1 rfl rfl)
theorem dX0_swaps_4 : decode cX0_swaps 4 = .ok (.iconst 0, 1) := dk_3 (dk_at dksX0_swaps_0 4 rfl rfl)
theorem dX0_swaps_5 : decode cX0_swaps 5 = .ok (.iconst 0, 1) := dk_3 (dk_at dksX0_swaps_0 5 rfl rfl)
theorem dX0_swaps_6 : decode cX0_swaps 6 = .ok (.invokevirtual 347, 3) := dk_182 1 91 (dk_at dksX0_swaps_0 6 rfl rfl)
theorem dX0_swaps_9 : decode cX0_swaps 9 = .ok (.iconst 0, 1) := dk_3 (dk_at dksX0_swaps_0 9 rfl rfl)
theorem dX0_swaps_10 : decode cX0_swaps 10 = .ok (.iconst 0, 1) := dk_3 (dk_at dksX0_swaps_0 10 rfl rfl)
theorem dX0_swaps_11 : decode cX0_swaps 11 = .ok (.iconst 0, 1) := dk_3 (dk_at dksX0_swaps_0 11 rfl rfl)
theorem dX0_swaps_12 : decode cX0_swaps 12 = .ok (.invokevirtual 372, 3) := dk_182 1 116 (dk_at dksX0_swaps_0 12 rfl rfl)
theorem dX0_swaps_15 : decode cX0_swaps 15 = .ok (.istore_n 2, 1) := dk_61 (dk_at dksX0_swaps_0 15 rfl rfl)
theorem dX0_swaps_16 : decode cX0_swaps 16 = .ok (.iload_n 1, 1) := dk_27 (dk_at dksX0_swaps_0 16 rfl rfl)
theorem dX0_swaps_17 : decode cX0_swaps 17 = .ok (.iconst (-1), 1) := dk_2 (dk_at dksX0_swaps_0 17 rfl rfl)
theorem dX0_swaps_18 : decode cX0_swaps 18 = .ok (.if_icmp .ne 7, 3) := dk_160 0 7 (dk_at dksX0_swaps_0 18 rfl rfl)
theorem dX0_swaps_21 : decode cX0_swaps 21 = .ok (.iload_n 2, 1) := dk_28 (dk_at dksX0_swaps_0 21 rfl rfl)
theorem dX0_swaps_22 : decode cX0_swaps 22 = .ok (.goto 28, 3) := dk_167 0 28 (dk_at dksX0_swaps_1 0 rfl rfl)
theorem dX0_swaps_25 : decode cX0_swaps 25 = .ok (.iload_n 1, 1) := dk_27 (dk_at dksX0_swaps_1 3 rfl rfl)
theorem dX0_swaps_26 : decode cX0_swaps 26 = .ok (.i2l, 1) := dk_133 (dk_at dksX0_swaps_1 4 rfl rfl)
theorem dX0_swaps_27 : decode cX0_swaps 27 = .ok (.lconst 0, 1) := dk_9 (dk_at dksX0_swaps_1 5 rfl rfl)
theorem dX0_swaps_28 : decode cX0_swaps 28 = .ok (.iload_n 2, 1) := dk_28 (dk_at dksX0_swaps_1 6 rfl rfl)
theorem dX0_swaps_29 : decode cX0_swaps 29 = .ok (.iconst 1, 1) := dk_4 (dk_at dksX0_swaps_1 7 rfl rfl)
theorem dX0_swaps_30 : decode cX0_swaps 30 = .ok (.isub, 1) := dk_100 (dk_at dksX0_swaps_1 8 rfl rfl)
theorem dX0_swaps_31 : decode cX0_swaps 31 = .ok (.i2l, 1) := dk_133 (dk_at dksX0_swaps_1 9 rfl rfl)
theorem dX0_swaps_32 : decode cX0_swaps 32 = .ok (.invokestatic 102, 3) := dk_184 0 102 (dk_at dksX0_swaps_1 10 rfl rfl)
theorem dX0_swaps_35 : decode cX0_swaps 35 = .ok (.ifCond .eq 14, 3) := dk_153 0 14 (dk_at dksX0_swaps_1 13 rfl rfl)
theorem dX0_swaps_38 : decode cX0_swaps 38 = .ok (.aload_n 0, 1) := dk_42 (dk_at dksX0_swaps_1 16 rfl rfl)
theorem dX0_swaps_39 : decode cX0_swaps 39 = .ok (.getfield 68, 3) := dk_180 0 68 (dk_at dksX0_swaps_1 17 rfl rfl)
theorem dX0_swaps_42 : decode cX0_swaps 42 = .ok (.iload_n 1, 1) := dk_27 (dk_at dksX0_swaps_1 20 rfl rfl)
theorem dX0_swaps_43 : decode cX0_swaps 43 = .ok (.invokevirtual 375, 3) := dk_182 1 119 (dk_at dksX0_swaps_1 21 rfl rfl)
theorem dX0_swaps_46 : decode cX0_swaps 46 = .ok (.goto 4, 3) := dk_167 0 4 (dk_at dksX0_swaps_2 0 rfl rfl)
theorem dX0_swaps_49 : decode cX0_swaps 49 = .ok (.iconst (-1), 1) := dk_2 (dk_at dksX0_swaps_2 3 rfl rfl)
theorem dX0_swaps_50 : decode cX0_swaps 50 = .ok (.ireturn, 1) := dk_172 (dk_at dksX0_swaps_2 4 rfl rfl)
abbrev cX0_crews : ByteArray := prog_1_method_58_code
def yX0_crews : MethodName := ⟨RX0, "crews", "(I)I"⟩
def dkwX0_crews_6 : List UInt8 := [54, 6, 167, 255, 223, 27, 2, 160, 0, 8, 21, 5, 167, 0, 4, 2, 172]
abbrev dktX0_crews_6 : List UInt8 := dkwX0_crews_6 ++ []
def dkwX0_crews_5 : List UInt8 := [27, 160, 0, 6, 21, 6, 172, 132, 5, 1, 42, 180, 0, 68, 21, 6, 21, 4, 45, 28, 182, 1, 136]
abbrev dktX0_crews_5 : List UInt8 := dkwX0_crews_5 ++ dktX0_crews_6
def dkwX0_crews_4 : List UInt8 := [54, 5, 42, 180, 0, 68, 3, 21, 4, 45, 28, 182, 1, 136, 54, 6, 21, 6, 2, 159, 0, 33, 21, 5]
abbrev dktX0_crews_4 : List UInt8 := dkwX0_crews_4 ++ dktX0_crews_5
def dkwX0_crews_3 : List UInt8 := [180, 0, 68, 180, 1, 128, 3, 50, 78, 42, 180, 0, 68, 3, 3, 28, 45, 182, 1, 132, 54, 4, 3]
abbrev dktX0_crews_3 : List UInt8 := dkwX0_crews_3 ++ dktX0_crews_4
def dkwX0_crews_2 : List UInt8 := [3, 167, 0, 6, 19, 1, 108, 79, 132, 2, 1, 167, 255, 216, 42, 180, 0, 68, 3, 182, 1, 125, 61, 42]
abbrev dktX0_crews_2 : List UInt8 := dkwX0_crews_2 ++ dktX0_crews_3
def dkwX0_crews_1 : List UInt8 := [162, 0, 38, 42, 180, 0, 68, 180, 1, 122, 28, 42, 182, 0, 132, 180, 0, 135, 28, 46, 5, 160, 0, 7]
abbrev dktX0_crews_1 : List UInt8 := dkwX0_crews_1 ++ dktX0_crews_2
def dkwX0_crews_0 : List UInt8 := [27, 2, 162, 0, 5, 2, 172, 42, 180, 0, 68, 3, 3, 182, 1, 91, 87, 3, 61, 28, 42, 182, 0, 99]
abbrev dktX0_crews_0 : List UInt8 := dkwX0_crews_0 ++ dktX0_crews_1
theorem dksX0_crews_0 : cX0_crews.data.toList.drop 0 = dktX0_crews_0 := by decide +kernel
theorem dksX0_crews_1 : cX0_crews.data.toList.drop 24 = dktX0_crews_1 := dk_seg dksX0_crews_0 24 rfl rfl
theorem dksX0_crews_2 : cX0_crews.data.toList.drop 48 = dktX0_crews_2 := dk_seg dksX0_crews_1 24 rfl rfl
theorem dksX0_crews_3 : cX0_crews.data.toList.drop 72 = dktX0_crews_3 := dk_seg dksX0_crews_2 24 rfl rfl
theorem dksX0_crews_4 : cX0_crews.data.toList.drop 95 = dktX0_crews_4 := dk_seg dksX0_crews_3 23 rfl rfl
theorem dksX0_crews_5 : cX0_crews.data.toList.drop 119 = dktX0_crews_5 := dk_seg dksX0_crews_4 24 rfl rfl
theorem dksX0_crews_6 : cX0_crews.data.toList.drop 142 = dktX0_crews_6 := dk_seg dksX0_crews_5 23 rfl rfl
theorem dX0_crews_0 : decode cX0_crews 0 = .ok (.iload_n 1, 1) := dk_27 (dk_at dksX0_crews_0 0 rfl rfl)
theorem dX0_crews_1 : decode cX0_crews 1 = .ok (.iconst (-1), 1) := dk_2 (dk_at dksX0_crews_0 1 rfl rfl)
theorem dX0_crews_2 : decode cX0_crews 2 = .ok (.if_icmp .ge 5, 3) := dk_162 0 5 (dk_at dksX0_crews_0 2 rfl rfl)
theorem dX0_crews_5 : decode cX0_crews 5 = .ok (.iconst (-1), 1) := dk_2 (dk_at dksX0_crews_0 5 rfl rfl)
theorem dX0_crews_6 : decode cX0_crews 6 = .ok (.ireturn, 1) := dk_172 (dk_at dksX0_crews_0 6 rfl rfl)
theorem dX0_crews_7 : decode cX0_crews 7 = .ok (.aload_n 0, 1) := dk_42 (dk_at dksX0_crews_0 7 rfl rfl)
theorem dX0_crews_8 : decode cX0_crews 8 = .ok (.getfield 68, 3) := dk_180 0 68 (dk_at dksX0_crews_0 8 rfl rfl)
theorem dX0_crews_11 : decode cX0_crews 11 = .ok (.iconst 0, 1) := dk_3 (dk_at dksX0_crews_0 11 rfl rfl)
theorem dX0_crews_12 : decode cX0_crews 12 = .ok (.iconst 0, 1) := dk_3 (dk_at dksX0_crews_0 12 rfl rfl)
theorem dX0_crews_13 : decode cX0_crews 13 = .ok (.invokevirtual 347, 3) := dk_182 1 91 (dk_at dksX0_crews_0 13 rfl rfl)
theorem dX0_crews_16 : decode cX0_crews 16 = .ok (.pop, 1) := dk_87 (dk_at dksX0_crews_0 16 rfl rfl)
theorem dX0_crews_17 : decode cX0_crews 17 = .ok (.iconst 0, 1) := dk_3 (dk_at dksX0_crews_0 17 rfl rfl)
theorem dX0_crews_18 : decode cX0_crews 18 = .ok (.istore_n 2, 1) := dk_61 (dk_at dksX0_crews_0 18 rfl rfl)
theorem dX0_crews_19 : decode cX0_crews 19 = .ok (.iload_n 2, 1) := dk_28 (dk_at dksX0_crews_0 19 rfl rfl)
theorem dX0_crews_20 : decode cX0_crews 20 = .ok (.aload_n 0, 1) := dk_42 (dk_at dksX0_crews_0 20 rfl rfl)
theorem dX0_crews_21 : decode cX0_crews 21 = .ok (.invokevirtual 99, 3) := dk_182 0 99 (dk_at dksX0_crews_0 21 rfl rfl)
theorem dX0_crews_24 : decode cX0_crews 24 = .ok (.if_icmp .ge 38, 3) := dk_162 0 38 (dk_at dksX0_crews_1 0 rfl rfl)
theorem dX0_crews_27 : decode cX0_crews 27 = .ok (.aload_n 0, 1) := dk_42 (dk_at dksX0_crews_1 3 rfl rfl)
theorem dX0_crews_28 : decode cX0_crews 28 = .ok (.getfield 68, 3) := dk_180 0 68 (dk_at dksX0_crews_1 4 rfl rfl)
theorem dX0_crews_31 : decode cX0_crews 31 = .ok (.getfield 378, 3) := dk_180 1 122 (dk_at dksX0_crews_1 7 rfl rfl)
theorem dX0_crews_34 : decode cX0_crews 34 = .ok (.iload_n 2, 1) := dk_28 (dk_at dksX0_crews_1 10 rfl rfl)
theorem dX0_crews_35 : decode cX0_crews 35 = .ok (.aload_n 0, 1) := dk_42 (dk_at dksX0_crews_1 11 rfl rfl)
theorem dX0_crews_36 : decode cX0_crews 36 = .ok (.invokevirtual 132, 3) := dk_182 0 132 (dk_at dksX0_crews_1 12 rfl rfl)
theorem dX0_crews_39 : decode cX0_crews 39 = .ok (.getfield 135, 3) := dk_180 0 135 (dk_at dksX0_crews_1 15 rfl rfl)
theorem dX0_crews_42 : decode cX0_crews 42 = .ok (.iload_n 2, 1) := dk_28 (dk_at dksX0_crews_1 18 rfl rfl)
theorem dX0_crews_43 : decode cX0_crews 43 = .ok (.iaload, 1) := dk_46 (dk_at dksX0_crews_1 19 rfl rfl)
theorem dX0_crews_44 : decode cX0_crews 44 = .ok (.iconst 2, 1) := dk_5 (dk_at dksX0_crews_1 20 rfl rfl)
theorem dX0_crews_45 : decode cX0_crews 45 = .ok (.if_icmp .ne 7, 3) := dk_160 0 7 (dk_at dksX0_crews_1 21 rfl rfl)
theorem dX0_crews_48 : decode cX0_crews 48 = .ok (.iconst 0, 1) := dk_3 (dk_at dksX0_crews_2 0 rfl rfl)
theorem dX0_crews_49 : decode cX0_crews 49 = .ok (.goto 6, 3) := dk_167 0 6 (dk_at dksX0_crews_2 1 rfl rfl)
theorem dX0_crews_52 : decode cX0_crews 52 = .ok (.ldc_w 364, 3) := dk_19 1 108 (dk_at dksX0_crews_2 4 rfl rfl)
theorem dX0_crews_55 : decode cX0_crews 55 = .ok (.iastore, 1) := dk_79 (dk_at dksX0_crews_2 7 rfl rfl)
theorem dX0_crews_56 : decode cX0_crews 56 = .ok (.iinc 2 1, 3) := dk_132 2 1 (dk_at dksX0_crews_2 8 rfl rfl)
theorem dX0_crews_59 : decode cX0_crews 59 = .ok (.goto (-40), 3) := dk_167 255 216 (dk_at dksX0_crews_2 11 rfl rfl)
theorem dX0_crews_62 : decode cX0_crews 62 = .ok (.aload_n 0, 1) := dk_42 (dk_at dksX0_crews_2 14 rfl rfl)
theorem dX0_crews_63 : decode cX0_crews 63 = .ok (.getfield 68, 3) := dk_180 0 68 (dk_at dksX0_crews_2 15 rfl rfl)
theorem dX0_crews_66 : decode cX0_crews 66 = .ok (.iconst 0, 1) := dk_3 (dk_at dksX0_crews_2 18 rfl rfl)
theorem dX0_crews_67 : decode cX0_crews 67 = .ok (.invokevirtual 381, 3) := dk_182 1 125 (dk_at dksX0_crews_2 19 rfl rfl)
theorem dX0_crews_70 : decode cX0_crews 70 = .ok (.istore_n 2, 1) := dk_61 (dk_at dksX0_crews_2 22 rfl rfl)
theorem dX0_crews_71 : decode cX0_crews 71 = .ok (.aload_n 0, 1) := dk_42 (dk_at dksX0_crews_2 23 rfl rfl)
theorem dX0_crews_72 : decode cX0_crews 72 = .ok (.getfield 68, 3) := dk_180 0 68 (dk_at dksX0_crews_3 0 rfl rfl)
theorem dX0_crews_75 : decode cX0_crews 75 = .ok (.getfield 384, 3) := dk_180 1 128 (dk_at dksX0_crews_3 3 rfl rfl)
theorem dX0_crews_78 : decode cX0_crews 78 = .ok (.iconst 0, 1) := dk_3 (dk_at dksX0_crews_3 6 rfl rfl)
theorem dX0_crews_79 : decode cX0_crews 79 = .ok (.aaload, 1) := dk_50 (dk_at dksX0_crews_3 7 rfl rfl)
theorem dX0_crews_80 : decode cX0_crews 80 = .ok (.astore_n 3, 1) := dk_78 (dk_at dksX0_crews_3 8 rfl rfl)
theorem dX0_crews_81 : decode cX0_crews 81 = .ok (.aload_n 0, 1) := dk_42 (dk_at dksX0_crews_3 9 rfl rfl)
theorem dX0_crews_82 : decode cX0_crews 82 = .ok (.getfield 68, 3) := dk_180 0 68 (dk_at dksX0_crews_3 10 rfl rfl)
theorem dX0_crews_85 : decode cX0_crews 85 = .ok (.iconst 0, 1) := dk_3 (dk_at dksX0_crews_3 13 rfl rfl)
theorem dX0_crews_86 : decode cX0_crews 86 = .ok (.iconst 0, 1) := dk_3 (dk_at dksX0_crews_3 14 rfl rfl)
theorem dX0_crews_87 : decode cX0_crews 87 = .ok (.iload_n 2, 1) := dk_28 (dk_at dksX0_crews_3 15 rfl rfl)
theorem dX0_crews_88 : decode cX0_crews 88 = .ok (.aload_n 3, 1) := dk_45 (dk_at dksX0_crews_3 16 rfl rfl)
theorem dX0_crews_89 : decode cX0_crews 89 = .ok (.invokevirtual 388, 3) := dk_182 1 132 (dk_at dksX0_crews_3 17 rfl rfl)
theorem dX0_crews_92 : decode cX0_crews 92 = .ok (.istore 4, 2) := dk_54 4 (dk_at dksX0_crews_3 20 rfl rfl)
theorem dX0_crews_94 : decode cX0_crews 94 = .ok (.iconst 0, 1) := dk_3 (dk_at dksX0_crews_3 22 rfl rfl)
theorem dX0_crews_95 : decode cX0_crews 95 = .ok (.istore 5, 2) := dk_54 5 (dk_at dksX0_crews_4 0 rfl rfl)
theorem dX0_crews_97 : decode cX0_crews 97 = .ok (.aload_n 0, 1) := dk_42 (dk_at dksX0_crews_4 2 rfl rfl)
theorem dX0_crews_98 : decode cX0_crews 98 = .ok (.getfield 68, 3) := dk_180 0 68 (dk_at dksX0_crews_4 3 rfl rfl)
theorem dX0_crews_101 : decode cX0_crews 101 = .ok (.iconst 0, 1) := dk_3 (dk_at dksX0_crews_4 6 rfl rfl)
theorem dX0_crews_102 : decode cX0_crews 102 = .ok (.iload 4, 2) := dk_21 4 (dk_at dksX0_crews_4 7 rfl rfl)
theorem dX0_crews_104 : decode cX0_crews 104 = .ok (.aload_n 3, 1) := dk_45 (dk_at dksX0_crews_4 9 rfl rfl)
theorem dX0_crews_105 : decode cX0_crews 105 = .ok (.iload_n 2, 1) := dk_28 (dk_at dksX0_crews_4 10 rfl rfl)
theorem dX0_crews_106 : decode cX0_crews 106 = .ok (.invokevirtual 392, 3) := dk_182 1 136 (dk_at dksX0_crews_4 11 rfl rfl)
theorem dX0_crews_109 : decode cX0_crews 109 = .ok (.istore 6, 2) := dk_54 6 (dk_at dksX0_crews_4 14 rfl rfl)
theorem dX0_crews_111 : decode cX0_crews 111 = .ok (.iload 6, 2) := dk_21 6 (dk_at dksX0_crews_4 16 rfl rfl)
theorem dX0_crews_113 : decode cX0_crews 113 = .ok (.iconst (-1), 1) := dk_2 (dk_at dksX0_crews_4 18 rfl rfl)
theorem dX0_crews_114 : decode cX0_crews 114 = .ok (.if_icmp .eq 33, 3) := dk_159 0 33 (dk_at dksX0_crews_4 19 rfl rfl)
theorem dX0_crews_117 : decode cX0_crews 117 = .ok (.iload 5, 2) := dk_21 5 (dk_at dksX0_crews_4 22 rfl rfl)
theorem dX0_crews_119 : decode cX0_crews 119 = .ok (.iload_n 1, 1) := dk_27 (dk_at dksX0_crews_5 0 rfl rfl)
theorem dX0_crews_120 : decode cX0_crews 120 = .ok (.if_icmp .ne 6, 3) := dk_160 0 6 (dk_at dksX0_crews_5 1 rfl rfl)
theorem dX0_crews_123 : decode cX0_crews 123 = .ok (.iload 6, 2) := dk_21 6 (dk_at dksX0_crews_5 4 rfl rfl)
theorem dX0_crews_125 : decode cX0_crews 125 = .ok (.ireturn, 1) := dk_172 (dk_at dksX0_crews_5 6 rfl rfl)
theorem dX0_crews_126 : decode cX0_crews 126 = .ok (.iinc 5 1, 3) := dk_132 5 1 (dk_at dksX0_crews_5 7 rfl rfl)
theorem dX0_crews_129 : decode cX0_crews 129 = .ok (.aload_n 0, 1) := dk_42 (dk_at dksX0_crews_5 10 rfl rfl)
theorem dX0_crews_130 : decode cX0_crews 130 = .ok (.getfield 68, 3) := dk_180 0 68 (dk_at dksX0_crews_5 11 rfl rfl)
theorem dX0_crews_133 : decode cX0_crews 133 = .ok (.iload 6, 2) := dk_21 6 (dk_at dksX0_crews_5 14 rfl rfl)
theorem dX0_crews_135 : decode cX0_crews 135 = .ok (.iload 4, 2) := dk_21 4 (dk_at dksX0_crews_5 16 rfl rfl)
theorem dX0_crews_137 : decode cX0_crews 137 = .ok (.aload_n 3, 1) := dk_45 (dk_at dksX0_crews_5 18 rfl rfl)
theorem dX0_crews_138 : decode cX0_crews 138 = .ok (.iload_n 2, 1) := dk_28 (dk_at dksX0_crews_5 19 rfl rfl)
theorem dX0_crews_139 : decode cX0_crews 139 = .ok (.invokevirtual 392, 3) := dk_182 1 136 (dk_at dksX0_crews_5 20 rfl rfl)
theorem dX0_crews_142 : decode cX0_crews 142 = .ok (.istore 6, 2) := dk_54 6 (dk_at dksX0_crews_6 0 rfl rfl)
theorem dX0_crews_144 : decode cX0_crews 144 = .ok (.goto (-33), 3) := dk_167 255 223 (dk_at dksX0_crews_6 2 rfl rfl)
theorem dX0_crews_147 : decode cX0_crews 147 = .ok (.iload_n 1, 1) := dk_27 (dk_at dksX0_crews_6 5 rfl rfl)
theorem dX0_crews_148 : decode cX0_crews 148 = .ok (.iconst (-1), 1) := dk_2 (dk_at dksX0_crews_6 6 rfl rfl)
theorem dX0_crews_149 : decode cX0_crews 149 = .ok (.if_icmp .ne 8, 3) := dk_160 0 8 (dk_at dksX0_crews_6 7 rfl rfl)
theorem dX0_crews_152 : decode cX0_crews 152 = .ok (.iload 5, 2) := dk_21 5 (dk_at dksX0_crews_6 10 rfl rfl)
theorem dX0_crews_154 : decode cX0_crews 154 = .ok (.goto 4, 3) := dk_167 0 4 (dk_at dksX0_crews_6 12 rfl rfl)
theorem dX0_crews_157 : decode cX0_crews 157 = .ok (.iconst (-1), 1) := dk_2 (dk_at dksX0_crews_6 15 rfl rfl)
theorem dX0_crews_158 : decode cX0_crews 158 = .ok (.ireturn, 1) := dk_172 (dk_at dksX0_crews_6 16 rfl rfl)
abbrev cX0_share : ByteArray := prog_1_method_59_code
def yX0_share : MethodName := ⟨RX0, "share", "(I)I"⟩
def dkwX0_share_3 : List UInt8 := [182, 1, 91, 3, 3, 182, 1, 95, 42, 180, 0, 68, 28, 3, 182, 1, 91, 3, 3, 182, 1, 95, 100, 172]
abbrev dktX0_share_3 : List UInt8 := dkwX0_share_3 ++ []
def dkwX0_share_2 : List UInt8 := [160, 0, 9, 4, 29, 120, 167, 0, 4, 3, 128, 61, 132, 3, 1, 167, 255, 214, 42, 180, 0, 68, 3, 3]
abbrev dktX0_share_2 : List UInt8 := dkwX0_share_2 ++ dktX0_share_3
def dkwX0_share_1 : List UInt8 := [162, 0, 40, 28, 42, 180, 0, 10, 180, 0, 92, 29, 182, 0, 160, 192, 0, 123, 180, 0, 167, 27]
abbrev dktX0_share_1 : List UInt8 := dkwX0_share_1 ++ dktX0_share_2
def dkwX0_share_0 : List UInt8 := [27, 133, 9, 20, 0, 119, 184, 0, 102, 154, 0, 5, 2, 172, 3, 61, 3, 62, 29, 42, 182, 0, 99]
abbrev dktX0_share_0 : List UInt8 := dkwX0_share_0 ++ dktX0_share_1
theorem dksX0_share_0 : cX0_share.data.toList.drop 0 = dktX0_share_0 := by decide +kernel
theorem dksX0_share_1 : cX0_share.data.toList.drop 23 = dktX0_share_1 := dk_seg dksX0_share_0 23 rfl rfl
theorem dksX0_share_2 : cX0_share.data.toList.drop 45 = dktX0_share_2 := dk_seg dksX0_share_1 22 rfl rfl
theorem dksX0_share_3 : cX0_share.data.toList.drop 69 = dktX0_share_3 := dk_seg dksX0_share_2 24 rfl rfl
theorem dX0_share_0 : decode cX0_share 0 = .ok (.iload_n 1, 1) := dk_27 (dk_at dksX0_share_0 0 rfl rfl)
theorem dX0_share_1 : decode cX0_share 1 = .ok (.i2l, 1) := dk_133 (dk_at dksX0_share_0 1 rfl rfl)
theorem dX0_share_2 : decode cX0_share 2 = .ok (.lconst 0, 1) := dk_9 (dk_at dksX0_share_0 2 rfl rfl)
theorem dX0_share_3 : decode cX0_share 3 = .ok (.ldc2_w 119, 3) := dk_20 0 119 (dk_at dksX0_share_0 3 rfl rfl)
theorem dX0_share_6 : decode cX0_share 6 = .ok (.invokestatic 102, 3) := dk_184 0 102 (dk_at dksX0_share_0 6 rfl rfl)
theorem dX0_share_9 : decode cX0_share 9 = .ok (.ifCond .ne 5, 3) := dk_154 0 5 (dk_at dksX0_share_0 9 rfl rfl)
theorem dX0_share_12 : decode cX0_share 12 = .ok (.iconst (-1), 1) := dk_2 (dk_at dksX0_share_0 12 rfl rfl)
theorem dX0_share_13 : decode cX0_share 13 = .ok (.ireturn, 1) := dk_172 (dk_at dksX0_share_0 13 rfl rfl)
theorem dX0_share_14 : decode cX0_share 14 = .ok (.iconst 0, 1) := dk_3 (dk_at dksX0_share_0 14 rfl rfl)
theorem dX0_share_15 : decode cX0_share 15 = .ok (.istore_n 2, 1) := dk_61 (dk_at dksX0_share_0 15 rfl rfl)
theorem dX0_share_16 : decode cX0_share 16 = .ok (.iconst 0, 1) := dk_3 (dk_at dksX0_share_0 16 rfl rfl)
theorem dX0_share_17 : decode cX0_share 17 = .ok (.istore_n 3, 1) := dk_62 (dk_at dksX0_share_0 17 rfl rfl)
theorem dX0_share_18 : decode cX0_share 18 = .ok (.iload_n 3, 1) := dk_29 (dk_at dksX0_share_0 18 rfl rfl)
theorem dX0_share_19 : decode cX0_share 19 = .ok (.aload_n 0, 1) := dk_42 (dk_at dksX0_share_0 19 rfl rfl)
theorem dX0_share_20 : decode cX0_share 20 = .ok (.invokevirtual 99, 3) := dk_182 0 99 (dk_at dksX0_share_0 20 rfl rfl)
theorem dX0_share_23 : decode cX0_share 23 = .ok (.if_icmp .ge 40, 3) := dk_162 0 40 (dk_at dksX0_share_1 0 rfl rfl)
theorem dX0_share_26 : decode cX0_share 26 = .ok (.iload_n 2, 1) := dk_28 (dk_at dksX0_share_1 3 rfl rfl)
theorem dX0_share_27 : decode cX0_share 27 = .ok (.aload_n 0, 1) := dk_42 (dk_at dksX0_share_1 4 rfl rfl)
theorem dX0_share_28 : decode cX0_share 28 = .ok (.getfield 10, 3) := dk_180 0 10 (dk_at dksX0_share_1 5 rfl rfl)
theorem dX0_share_31 : decode cX0_share 31 = .ok (.getfield 92, 3) := dk_180 0 92 (dk_at dksX0_share_1 8 rfl rfl)
theorem dX0_share_34 : decode cX0_share 34 = .ok (.iload_n 3, 1) := dk_29 (dk_at dksX0_share_1 11 rfl rfl)
theorem dX0_share_35 : decode cX0_share 35 = .ok (.invokevirtual 160, 3) := dk_182 0 160 (dk_at dksX0_share_1 12 rfl rfl)
theorem dX0_share_38 : decode cX0_share 38 = .ok (.checkcast 123, 3) := dk_192 0 123 (dk_at dksX0_share_1 15 rfl rfl)
theorem dX0_share_41 : decode cX0_share 41 = .ok (.getfield 167, 3) := dk_180 0 167 (dk_at dksX0_share_1 18 rfl rfl)
theorem dX0_share_44 : decode cX0_share 44 = .ok (.iload_n 1, 1) := dk_27 (dk_at dksX0_share_1 21 rfl rfl)
theorem dX0_share_45 : decode cX0_share 45 = .ok (.if_icmp .ne 9, 3) := dk_160 0 9 (dk_at dksX0_share_2 0 rfl rfl)
theorem dX0_share_48 : decode cX0_share 48 = .ok (.iconst 1, 1) := dk_4 (dk_at dksX0_share_2 3 rfl rfl)
theorem dX0_share_49 : decode cX0_share 49 = .ok (.iload_n 3, 1) := dk_29 (dk_at dksX0_share_2 4 rfl rfl)
theorem dX0_share_50 : decode cX0_share 50 = .ok (.ishl, 1) := dk_120 (dk_at dksX0_share_2 5 rfl rfl)
theorem dX0_share_51 : decode cX0_share 51 = .ok (.goto 4, 3) := dk_167 0 4 (dk_at dksX0_share_2 6 rfl rfl)
theorem dX0_share_54 : decode cX0_share 54 = .ok (.iconst 0, 1) := dk_3 (dk_at dksX0_share_2 9 rfl rfl)
theorem dX0_share_55 : decode cX0_share 55 = .ok (.ior, 1) := dk_128 (dk_at dksX0_share_2 10 rfl rfl)
theorem dX0_share_56 : decode cX0_share 56 = .ok (.istore_n 2, 1) := dk_61 (dk_at dksX0_share_2 11 rfl rfl)
theorem dX0_share_57 : decode cX0_share 57 = .ok (.iinc 3 1, 3) := dk_132 3 1 (dk_at dksX0_share_2 12 rfl rfl)
theorem dX0_share_60 : decode cX0_share 60 = .ok (.goto (-42), 3) := dk_167 255 214 (dk_at dksX0_share_2 15 rfl rfl)
theorem dX0_share_63 : decode cX0_share 63 = .ok (.aload_n 0, 1) := dk_42 (dk_at dksX0_share_2 18 rfl rfl)
theorem dX0_share_64 : decode cX0_share 64 = .ok (.getfield 68, 3) := dk_180 0 68 (dk_at dksX0_share_2 19 rfl rfl)
theorem dX0_share_67 : decode cX0_share 67 = .ok (.iconst 0, 1) := dk_3 (dk_at dksX0_share_2 22 rfl rfl)
theorem dX0_share_68 : decode cX0_share 68 = .ok (.iconst 0, 1) := dk_3 (dk_at dksX0_share_2 23 rfl rfl)
theorem dX0_share_69 : decode cX0_share 69 = .ok (.invokevirtual 347, 3) := dk_182 1 91 (dk_at dksX0_share_3 0 rfl rfl)
theorem dX0_share_72 : decode cX0_share 72 = .ok (.iconst 0, 1) := dk_3 (dk_at dksX0_share_3 3 rfl rfl)
theorem dX0_share_73 : decode cX0_share 73 = .ok (.iconst 0, 1) := dk_3 (dk_at dksX0_share_3 4 rfl rfl)
theorem dX0_share_74 : decode cX0_share 74 = .ok (.invokevirtual 351, 3) := dk_182 1 95 (dk_at dksX0_share_3 5 rfl rfl)
theorem dX0_share_77 : decode cX0_share 77 = .ok (.aload_n 0, 1) := dk_42 (dk_at dksX0_share_3 8 rfl rfl)
theorem dX0_share_78 : decode cX0_share 78 = .ok (.getfield 68, 3) := dk_180 0 68 (dk_at dksX0_share_3 9 rfl rfl)
theorem dX0_share_81 : decode cX0_share 81 = .ok (.iload_n 2, 1) := dk_28 (dk_at dksX0_share_3 12 rfl rfl)
theorem dX0_share_82 : decode cX0_share 82 = .ok (.iconst 0, 1) := dk_3 (dk_at dksX0_share_3 13 rfl rfl)
theorem dX0_share_83 : decode cX0_share 83 = .ok (.invokevirtual 347, 3) := dk_182 1 91 (dk_at dksX0_share_3 14 rfl rfl)
theorem dX0_share_86 : decode cX0_share 86 = .ok (.iconst 0, 1) := dk_3 (dk_at dksX0_share_3 17 rfl rfl)
theorem dX0_share_87 : decode cX0_share 87 = .ok (.iconst 0, 1) := dk_3 (dk_at dksX0_share_3 18 rfl rfl)
theorem dX0_share_88 : decode cX0_share 88 = .ok (.invokevirtual 351, 3) := dk_182 1 95 (dk_at dksX0_share_3 19 rfl rfl)
theorem dX0_share_91 : decode cX0_share 91 = .ok (.isub, 1) := dk_100 (dk_at dksX0_share_3 22 rfl rfl)
theorem dX0_share_92 : decode cX0_share 92 = .ok (.ireturn, 1) := dk_172 (dk_at dksX0_share_3 23 rfl rfl)
abbrev cX0_harm : ByteArray := prog_1_method_60_code
def yX0_harm : MethodName := ⟨RX0, "harm", "(I)I"⟩
def dkwX0_harm_3 : List UInt8 := [167, 0, 4, 3, 96, 61, 132, 3, 1, 167, 255, 205, 28, 172]
abbrev dktX0_harm_3 : List UInt8 := dkwX0_harm_3 ++ []
def dkwX0_harm_2 : List UInt8 := [184, 1, 59, 153, 0, 23, 42, 182, 0, 132, 29, 182, 0, 170, 42, 27, 29, 182, 1, 32, 184, 0, 72]
abbrev dktX0_harm_2 : List UInt8 := dkwX0_harm_2 ++ dktX0_harm_3
def dkwX0_harm_1 : List UInt8 := [61, 3, 62, 29, 42, 182, 0, 99, 162, 0, 49, 28, 42, 180, 0, 10, 180, 0, 173, 27, 46, 29]
abbrev dktX0_harm_1 : List UInt8 := dkwX0_harm_1 ++ dktX0_harm_2
def dkwX0_harm_0 : List UInt8 := [42, 27, 182, 0, 153, 153, 0, 16, 42, 182, 0, 132, 180, 0, 135, 27, 46, 6, 160, 0, 5, 2, 172, 3]
abbrev dktX0_harm_0 : List UInt8 := dkwX0_harm_0 ++ dktX0_harm_1
theorem dksX0_harm_0 : cX0_harm.data.toList.drop 0 = dktX0_harm_0 := by decide +kernel
theorem dksX0_harm_1 : cX0_harm.data.toList.drop 24 = dktX0_harm_1 := dk_seg dksX0_harm_0 24 rfl rfl
theorem dksX0_harm_2 : cX0_harm.data.toList.drop 46 = dktX0_harm_2 := dk_seg dksX0_harm_1 22 rfl rfl
theorem dksX0_harm_3 : cX0_harm.data.toList.drop 69 = dktX0_harm_3 := dk_seg dksX0_harm_2 23 rfl rfl
theorem dX0_harm_0 : decode cX0_harm 0 = .ok (.aload_n 0, 1) := dk_42 (dk_at dksX0_harm_0 0 rfl rfl)
theorem dX0_harm_1 : decode cX0_harm 1 = .ok (.iload_n 1, 1) := dk_27 (dk_at dksX0_harm_0 1 rfl rfl)
theorem dX0_harm_2 : decode cX0_harm 2 = .ok (.invokevirtual 153, 3) := dk_182 0 153 (dk_at dksX0_harm_0 2 rfl rfl)
theorem dX0_harm_5 : decode cX0_harm 5 = .ok (.ifCond .eq 16, 3) := dk_153 0 16 (dk_at dksX0_harm_0 5 rfl rfl)
theorem dX0_harm_8 : decode cX0_harm 8 = .ok (.aload_n 0, 1) := dk_42 (dk_at dksX0_harm_0 8 rfl rfl)
theorem dX0_harm_9 : decode cX0_harm 9 = .ok (.invokevirtual 132, 3) := dk_182 0 132 (dk_at dksX0_harm_0 9 rfl rfl)
theorem dX0_harm_12 : decode cX0_harm 12 = .ok (.getfield 135, 3) := dk_180 0 135 (dk_at dksX0_harm_0 12 rfl rfl)
theorem dX0_harm_15 : decode cX0_harm 15 = .ok (.iload_n 1, 1) := dk_27 (dk_at dksX0_harm_0 15 rfl rfl)
theorem dX0_harm_16 : decode cX0_harm 16 = .ok (.iaload, 1) := dk_46 (dk_at dksX0_harm_0 16 rfl rfl)
theorem dX0_harm_17 : decode cX0_harm 17 = .ok (.iconst 3, 1) := dk_6 (dk_at dksX0_harm_0 17 rfl rfl)
theorem dX0_harm_18 : decode cX0_harm 18 = .ok (.if_icmp .ne 5, 3) := dk_160 0 5 (dk_at dksX0_harm_0 18 rfl rfl)
theorem dX0_harm_21 : decode cX0_harm 21 = .ok (.iconst (-1), 1) := dk_2 (dk_at dksX0_harm_0 21 rfl rfl)
theorem dX0_harm_22 : decode cX0_harm 22 = .ok (.ireturn, 1) := dk_172 (dk_at dksX0_harm_0 22 rfl rfl)
theorem dX0_harm_23 : decode cX0_harm 23 = .ok (.iconst 0, 1) := dk_3 (dk_at dksX0_harm_0 23 rfl rfl)
theorem dX0_harm_24 : decode cX0_harm 24 = .ok (.istore_n 2, 1) := dk_61 (dk_at dksX0_harm_1 0 rfl rfl)
theorem dX0_harm_25 : decode cX0_harm 25 = .ok (.iconst 0, 1) := dk_3 (dk_at dksX0_harm_1 1 rfl rfl)
theorem dX0_harm_26 : decode cX0_harm 26 = .ok (.istore_n 3, 1) := dk_62 (dk_at dksX0_harm_1 2 rfl rfl)
theorem dX0_harm_27 : decode cX0_harm 27 = .ok (.iload_n 3, 1) := dk_29 (dk_at dksX0_harm_1 3 rfl rfl)
theorem dX0_harm_28 : decode cX0_harm 28 = .ok (.aload_n 0, 1) := dk_42 (dk_at dksX0_harm_1 4 rfl rfl)
theorem dX0_harm_29 : decode cX0_harm 29 = .ok (.invokevirtual 99, 3) := dk_182 0 99 (dk_at dksX0_harm_1 5 rfl rfl)
theorem dX0_harm_32 : decode cX0_harm 32 = .ok (.if_icmp .ge 49, 3) := dk_162 0 49 (dk_at dksX0_harm_1 8 rfl rfl)
theorem dX0_harm_35 : decode cX0_harm 35 = .ok (.iload_n 2, 1) := dk_28 (dk_at dksX0_harm_1 11 rfl rfl)
theorem dX0_harm_36 : decode cX0_harm 36 = .ok (.aload_n 0, 1) := dk_42 (dk_at dksX0_harm_1 12 rfl rfl)
theorem dX0_harm_37 : decode cX0_harm 37 = .ok (.getfield 10, 3) := dk_180 0 10 (dk_at dksX0_harm_1 13 rfl rfl)
theorem dX0_harm_40 : decode cX0_harm 40 = .ok (.getfield 173, 3) := dk_180 0 173 (dk_at dksX0_harm_1 16 rfl rfl)
theorem dX0_harm_43 : decode cX0_harm 43 = .ok (.iload_n 1, 1) := dk_27 (dk_at dksX0_harm_1 19 rfl rfl)
theorem dX0_harm_44 : decode cX0_harm 44 = .ok (.iaload, 1) := dk_46 (dk_at dksX0_harm_1 20 rfl rfl)
theorem dX0_harm_45 : decode cX0_harm 45 = .ok (.iload_n 3, 1) := dk_29 (dk_at dksX0_harm_1 21 rfl rfl)
theorem dX0_harm_46 : decode cX0_harm 46 = .ok (.invokestatic 315, 3) := dk_184 1 59 (dk_at dksX0_harm_2 0 rfl rfl)
theorem dX0_harm_49 : decode cX0_harm 49 = .ok (.ifCond .eq 23, 3) := dk_153 0 23 (dk_at dksX0_harm_2 3 rfl rfl)
theorem dX0_harm_52 : decode cX0_harm 52 = .ok (.aload_n 0, 1) := dk_42 (dk_at dksX0_harm_2 6 rfl rfl)
theorem dX0_harm_53 : decode cX0_harm 53 = .ok (.invokevirtual 132, 3) := dk_182 0 132 (dk_at dksX0_harm_2 7 rfl rfl)
theorem dX0_harm_56 : decode cX0_harm 56 = .ok (.iload_n 3, 1) := dk_29 (dk_at dksX0_harm_2 10 rfl rfl)
theorem dX0_harm_57 : decode cX0_harm 57 = .ok (.invokevirtual 170, 3) := dk_182 0 170 (dk_at dksX0_harm_2 11 rfl rfl)
theorem dX0_harm_60 : decode cX0_harm 60 = .ok (.aload_n 0, 1) := dk_42 (dk_at dksX0_harm_2 14 rfl rfl)
theorem dX0_harm_61 : decode cX0_harm 61 = .ok (.iload_n 1, 1) := dk_27 (dk_at dksX0_harm_2 15 rfl rfl)
theorem dX0_harm_62 : decode cX0_harm 62 = .ok (.iload_n 3, 1) := dk_29 (dk_at dksX0_harm_2 16 rfl rfl)
theorem dX0_harm_63 : decode cX0_harm 63 = .ok (.invokevirtual 288, 3) := dk_182 1 32 (dk_at dksX0_harm_2 17 rfl rfl)
theorem dX0_harm_66 : decode cX0_harm 66 = .ok (.invokestatic 72, 3) := dk_184 0 72 (dk_at dksX0_harm_2 20 rfl rfl)
theorem dX0_harm_69 : decode cX0_harm 69 = .ok (.goto 4, 3) := dk_167 0 4 (dk_at dksX0_harm_3 0 rfl rfl)
theorem dX0_harm_72 : decode cX0_harm 72 = .ok (.iconst 0, 1) := dk_3 (dk_at dksX0_harm_3 3 rfl rfl)
theorem dX0_harm_73 : decode cX0_harm 73 = .ok (.iadd, 1) := dk_96 (dk_at dksX0_harm_3 4 rfl rfl)
theorem dX0_harm_74 : decode cX0_harm 74 = .ok (.istore_n 2, 1) := dk_61 (dk_at dksX0_harm_3 5 rfl rfl)
theorem dX0_harm_75 : decode cX0_harm 75 = .ok (.iinc 3 1, 3) := dk_132 3 1 (dk_at dksX0_harm_3 6 rfl rfl)
theorem dX0_harm_78 : decode cX0_harm 78 = .ok (.goto (-51), 3) := dk_167 255 205 (dk_at dksX0_harm_3 9 rfl rfl)
theorem dX0_harm_81 : decode cX0_harm 81 = .ok (.iload_n 2, 1) := dk_28 (dk_at dksX0_harm_3 12 rfl rfl)
theorem dX0_harm_82 : decode cX0_harm 82 = .ok (.ireturn, 1) := dk_172 (dk_at dksX0_harm_3 13 rfl rfl)
abbrev cX0_hush : ByteArray := prog_1_method_61_code
def yX0_hush : MethodName := ⟨RX0, "hush", "(II)I"⟩
def dkwX0_hush_6 : List UInt8 := [167, 0, 5, 21, 4, 172]
abbrev dktX0_hush_6 : List UInt8 := dkwX0_hush_6 ++ []
def dkwX0_hush_5 : List UInt8 := [154, 0, 7, 2, 167, 0, 25, 28, 154, 0, 10, 29, 184, 1, 140, 167, 0, 14, 28, 4, 160, 0, 7, 29]
abbrev dktX0_hush_5 : List UInt8 := dkwX0_hush_5 ++ dktX0_hush_6
def dkwX0_hush_4 : List UInt8 := [132, 4, 1, 154, 0, 6, 21, 6, 62, 132, 6, 1, 167, 255, 199, 132, 5, 1, 167, 255, 179, 21, 4]
abbrev dktX0_hush_4 : List UInt8 := dkwX0_hush_4 ++ dktX0_hush_5
def dkwX0_hush_3 : List UInt8 := [180, 0, 68, 3, 21, 6, 182, 1, 91, 3, 3, 182, 1, 95, 27, 162, 0, 6, 167, 0, 14, 21, 4]
abbrev dktX0_hush_3 : List UInt8 := dkwX0_hush_3 ++ dktX0_hush_4
def dkwX0_hush_2 : List UInt8 := [21, 6, 4, 42, 182, 0, 99, 120, 162, 0, 52, 21, 6, 184, 1, 140, 21, 5, 160, 0, 36, 42]
abbrev dktX0_hush_2 : List UInt8 := dkwX0_hush_2 ++ dktX0_hush_3
def dkwX0_hush_1 : List UInt8 := [2, 172, 2, 62, 3, 54, 4, 3, 54, 5, 21, 5, 5, 163, 0, 77, 21, 4, 154, 0, 72, 3, 54, 6]
abbrev dktX0_hush_1 : List UInt8 := dkwX0_hush_1 ++ dktX0_hush_2
def dkwX0_hush_0 : List UInt8 := [27, 133, 10, 20, 0, 189, 184, 0, 102, 153, 0, 15, 28, 133, 9, 20, 0, 121, 184, 0, 102, 154, 0, 5]
abbrev dktX0_hush_0 : List UInt8 := dkwX0_hush_0 ++ dktX0_hush_1
theorem dksX0_hush_0 : cX0_hush.data.toList.drop 0 = dktX0_hush_0 := by decide +kernel
theorem dksX0_hush_1 : cX0_hush.data.toList.drop 24 = dktX0_hush_1 := dk_seg dksX0_hush_0 24 rfl rfl
theorem dksX0_hush_2 : cX0_hush.data.toList.drop 48 = dktX0_hush_2 := dk_seg dksX0_hush_1 24 rfl rfl
theorem dksX0_hush_3 : cX0_hush.data.toList.drop 70 = dktX0_hush_3 := dk_seg dksX0_hush_2 22 rfl rfl
theorem dksX0_hush_4 : cX0_hush.data.toList.drop 93 = dktX0_hush_4 := dk_seg dksX0_hush_3 23 rfl rfl
theorem dksX0_hush_5 : cX0_hush.data.toList.drop 116 = dktX0_hush_5 := dk_seg dksX0_hush_4 23 rfl rfl
theorem dksX0_hush_6 : cX0_hush.data.toList.drop 140 = dktX0_hush_6 := dk_seg dksX0_hush_5 24 rfl rfl
theorem dX0_hush_0 : decode cX0_hush 0 = .ok (.iload_n 1, 1) := dk_27 (dk_at dksX0_hush_0 0 rfl rfl)
theorem dX0_hush_1 : decode cX0_hush 1 = .ok (.i2l, 1) := dk_133 (dk_at dksX0_hush_0 1 rfl rfl)
theorem dX0_hush_2 : decode cX0_hush 2 = .ok (.lconst 1, 1) := dk_10 (dk_at dksX0_hush_0 2 rfl rfl)
theorem dX0_hush_3 : decode cX0_hush 3 = .ok (.ldc2_w 189, 3) := dk_20 0 189 (dk_at dksX0_hush_0 3 rfl rfl)
theorem dX0_hush_6 : decode cX0_hush 6 = .ok (.invokestatic 102, 3) := dk_184 0 102 (dk_at dksX0_hush_0 6 rfl rfl)
theorem dX0_hush_9 : decode cX0_hush 9 = .ok (.ifCond .eq 15, 3) := dk_153 0 15 (dk_at dksX0_hush_0 9 rfl rfl)
theorem dX0_hush_12 : decode cX0_hush 12 = .ok (.iload_n 2, 1) := dk_28 (dk_at dksX0_hush_0 12 rfl rfl)
theorem dX0_hush_13 : decode cX0_hush 13 = .ok (.i2l, 1) := dk_133 (dk_at dksX0_hush_0 13 rfl rfl)
theorem dX0_hush_14 : decode cX0_hush 14 = .ok (.lconst 0, 1) := dk_9 (dk_at dksX0_hush_0 14 rfl rfl)
theorem dX0_hush_15 : decode cX0_hush 15 = .ok (.ldc2_w 121, 3) := dk_20 0 121 (dk_at dksX0_hush_0 15 rfl rfl)
theorem dX0_hush_18 : decode cX0_hush 18 = .ok (.invokestatic 102, 3) := dk_184 0 102 (dk_at dksX0_hush_0 18 rfl rfl)
theorem dX0_hush_21 : decode cX0_hush 21 = .ok (.ifCond .ne 5, 3) := dk_154 0 5 (dk_at dksX0_hush_0 21 rfl rfl)
theorem dX0_hush_24 : decode cX0_hush 24 = .ok (.iconst (-1), 1) := dk_2 (dk_at dksX0_hush_1 0 rfl rfl)
theorem dX0_hush_25 : decode cX0_hush 25 = .ok (.ireturn, 1) := dk_172 (dk_at dksX0_hush_1 1 rfl rfl)
theorem dX0_hush_26 : decode cX0_hush 26 = .ok (.iconst (-1), 1) := dk_2 (dk_at dksX0_hush_1 2 rfl rfl)
theorem dX0_hush_27 : decode cX0_hush 27 = .ok (.istore_n 3, 1) := dk_62 (dk_at dksX0_hush_1 3 rfl rfl)
theorem dX0_hush_28 : decode cX0_hush 28 = .ok (.iconst 0, 1) := dk_3 (dk_at dksX0_hush_1 4 rfl rfl)
theorem dX0_hush_29 : decode cX0_hush 29 = .ok (.istore 4, 2) := dk_54 4 (dk_at dksX0_hush_1 5 rfl rfl)
theorem dX0_hush_31 : decode cX0_hush 31 = .ok (.iconst 0, 1) := dk_3 (dk_at dksX0_hush_1 7 rfl rfl)
theorem dX0_hush_32 : decode cX0_hush 32 = .ok (.istore 5, 2) := dk_54 5 (dk_at dksX0_hush_1 8 rfl rfl)
theorem dX0_hush_34 : decode cX0_hush 34 = .ok (.iload 5, 2) := dk_21 5 (dk_at dksX0_hush_1 10 rfl rfl)
theorem dX0_hush_36 : decode cX0_hush 36 = .ok (.iconst 2, 1) := dk_5 (dk_at dksX0_hush_1 12 rfl rfl)
theorem dX0_hush_37 : decode cX0_hush 37 = .ok (.if_icmp .gt 77, 3) := dk_163 0 77 (dk_at dksX0_hush_1 13 rfl rfl)
theorem dX0_hush_40 : decode cX0_hush 40 = .ok (.iload 4, 2) := dk_21 4 (dk_at dksX0_hush_1 16 rfl rfl)
theorem dX0_hush_42 : decode cX0_hush 42 = .ok (.ifCond .ne 72, 3) := dk_154 0 72 (dk_at dksX0_hush_1 18 rfl rfl)
theorem dX0_hush_45 : decode cX0_hush 45 = .ok (.iconst 0, 1) := dk_3 (dk_at dksX0_hush_1 21 rfl rfl)
theorem dX0_hush_46 : decode cX0_hush 46 = .ok (.istore 6, 2) := dk_54 6 (dk_at dksX0_hush_1 22 rfl rfl)
theorem dX0_hush_48 : decode cX0_hush 48 = .ok (.iload 6, 2) := dk_21 6 (dk_at dksX0_hush_2 0 rfl rfl)
theorem dX0_hush_50 : decode cX0_hush 50 = .ok (.iconst 1, 1) := dk_4 (dk_at dksX0_hush_2 2 rfl rfl)
theorem dX0_hush_51 : decode cX0_hush 51 = .ok (.aload_n 0, 1) := dk_42 (dk_at dksX0_hush_2 3 rfl rfl)
theorem dX0_hush_52 : decode cX0_hush 52 = .ok (.invokevirtual 99, 3) := dk_182 0 99 (dk_at dksX0_hush_2 4 rfl rfl)
theorem dX0_hush_55 : decode cX0_hush 55 = .ok (.ishl, 1) := dk_120 (dk_at dksX0_hush_2 7 rfl rfl)
theorem dX0_hush_56 : decode cX0_hush 56 = .ok (.if_icmp .ge 52, 3) := dk_162 0 52 (dk_at dksX0_hush_2 8 rfl rfl)
theorem dX0_hush_59 : decode cX0_hush 59 = .ok (.iload 6, 2) := dk_21 6 (dk_at dksX0_hush_2 11 rfl rfl)
theorem dX0_hush_61 : decode cX0_hush 61 = .ok (.invokestatic 396, 3) := dk_184 1 140 (dk_at dksX0_hush_2 13 rfl rfl)
theorem dX0_hush_64 : decode cX0_hush 64 = .ok (.iload 5, 2) := dk_21 5 (dk_at dksX0_hush_2 16 rfl rfl)
theorem dX0_hush_66 : decode cX0_hush 66 = .ok (.if_icmp .ne 36, 3) := dk_160 0 36 (dk_at dksX0_hush_2 18 rfl rfl)
theorem dX0_hush_69 : decode cX0_hush 69 = .ok (.aload_n 0, 1) := dk_42 (dk_at dksX0_hush_2 21 rfl rfl)
theorem dX0_hush_70 : decode cX0_hush 70 = .ok (.getfield 68, 3) := dk_180 0 68 (dk_at dksX0_hush_3 0 rfl rfl)
theorem dX0_hush_73 : decode cX0_hush 73 = .ok (.iconst 0, 1) := dk_3 (dk_at dksX0_hush_3 3 rfl rfl)
theorem dX0_hush_74 : decode cX0_hush 74 = .ok (.iload 6, 2) := dk_21 6 (dk_at dksX0_hush_3 4 rfl rfl)
theorem dX0_hush_76 : decode cX0_hush 76 = .ok (.invokevirtual 347, 3) := dk_182 1 91 (dk_at dksX0_hush_3 6 rfl rfl)
theorem dX0_hush_79 : decode cX0_hush 79 = .ok (.iconst 0, 1) := dk_3 (dk_at dksX0_hush_3 9 rfl rfl)
theorem dX0_hush_80 : decode cX0_hush 80 = .ok (.iconst 0, 1) := dk_3 (dk_at dksX0_hush_3 10 rfl rfl)
theorem dX0_hush_81 : decode cX0_hush 81 = .ok (.invokevirtual 351, 3) := dk_182 1 95 (dk_at dksX0_hush_3 11 rfl rfl)
theorem dX0_hush_84 : decode cX0_hush 84 = .ok (.iload_n 1, 1) := dk_27 (dk_at dksX0_hush_3 14 rfl rfl)
theorem dX0_hush_85 : decode cX0_hush 85 = .ok (.if_icmp .ge 6, 3) := dk_162 0 6 (dk_at dksX0_hush_3 15 rfl rfl)
theorem dX0_hush_88 : decode cX0_hush 88 = .ok (.goto 14, 3) := dk_167 0 14 (dk_at dksX0_hush_3 18 rfl rfl)
theorem dX0_hush_91 : decode cX0_hush 91 = .ok (.iload 4, 2) := dk_21 4 (dk_at dksX0_hush_3 21 rfl rfl)
theorem dX0_hush_93 : decode cX0_hush 93 = .ok (.iinc 4 1, 3) := dk_132 4 1 (dk_at dksX0_hush_4 0 rfl rfl)
theorem dX0_hush_96 : decode cX0_hush 96 = .ok (.ifCond .ne 6, 3) := dk_154 0 6 (dk_at dksX0_hush_4 3 rfl rfl)
theorem dX0_hush_99 : decode cX0_hush 99 = .ok (.iload 6, 2) := dk_21 6 (dk_at dksX0_hush_4 6 rfl rfl)
theorem dX0_hush_101 : decode cX0_hush 101 = .ok (.istore_n 3, 1) := dk_62 (dk_at dksX0_hush_4 8 rfl rfl)
theorem dX0_hush_102 : decode cX0_hush 102 = .ok (.iinc 6 1, 3) := dk_132 6 1 (dk_at dksX0_hush_4 9 rfl rfl)
theorem dX0_hush_105 : decode cX0_hush 105 = .ok (.goto (-57), 3) := dk_167 255 199 (dk_at dksX0_hush_4 12 rfl rfl)
theorem dX0_hush_108 : decode cX0_hush 108 = .ok (.iinc 5 1, 3) := dk_132 5 1 (dk_at dksX0_hush_4 15 rfl rfl)
theorem dX0_hush_111 : decode cX0_hush 111 = .ok (.goto (-77), 3) := dk_167 255 179 (dk_at dksX0_hush_4 18 rfl rfl)
theorem dX0_hush_114 : decode cX0_hush 114 = .ok (.iload 4, 2) := dk_21 4 (dk_at dksX0_hush_4 21 rfl rfl)
theorem dX0_hush_116 : decode cX0_hush 116 = .ok (.ifCond .ne 7, 3) := dk_154 0 7 (dk_at dksX0_hush_5 0 rfl rfl)
theorem dX0_hush_119 : decode cX0_hush 119 = .ok (.iconst (-1), 1) := dk_2 (dk_at dksX0_hush_5 3 rfl rfl)
theorem dX0_hush_120 : decode cX0_hush 120 = .ok (.goto 25, 3) := dk_167 0 25 (dk_at dksX0_hush_5 4 rfl rfl)
theorem dX0_hush_123 : decode cX0_hush 123 = .ok (.iload_n 2, 1) := dk_28 (dk_at dksX0_hush_5 7 rfl rfl)
theorem dX0_hush_124 : decode cX0_hush 124 = .ok (.ifCond .ne 10, 3) := dk_154 0 10 (dk_at dksX0_hush_5 8 rfl rfl)
theorem dX0_hush_127 : decode cX0_hush 127 = .ok (.iload_n 3, 1) := dk_29 (dk_at dksX0_hush_5 11 rfl rfl)
theorem dX0_hush_128 : decode cX0_hush 128 = .ok (.invokestatic 396, 3) := dk_184 1 140 (dk_at dksX0_hush_5 12 rfl rfl)
theorem dX0_hush_131 : decode cX0_hush 131 = .ok (.goto 14, 3) := dk_167 0 14 (dk_at dksX0_hush_5 15 rfl rfl)
theorem dX0_hush_134 : decode cX0_hush 134 = .ok (.iload_n 2, 1) := dk_28 (dk_at dksX0_hush_5 18 rfl rfl)
theorem dX0_hush_135 : decode cX0_hush 135 = .ok (.iconst 1, 1) := dk_4 (dk_at dksX0_hush_5 19 rfl rfl)
theorem dX0_hush_136 : decode cX0_hush 136 = .ok (.if_icmp .ne 7, 3) := dk_160 0 7 (dk_at dksX0_hush_5 20 rfl rfl)
theorem dX0_hush_139 : decode cX0_hush 139 = .ok (.iload_n 3, 1) := dk_29 (dk_at dksX0_hush_5 23 rfl rfl)
theorem dX0_hush_140 : decode cX0_hush 140 = .ok (.goto 5, 3) := dk_167 0 5 (dk_at dksX0_hush_6 0 rfl rfl)
theorem dX0_hush_143 : decode cX0_hush 143 = .ok (.iload 4, 2) := dk_21 4 (dk_at dksX0_hush_6 3 rfl rfl)
theorem dX0_hush_145 : decode cX0_hush 145 = .ok (.ireturn, 1) := dk_172 (dk_at dksX0_hush_6 5 rfl rfl)
abbrev cX0_who : ByteArray := prog_1_method_62_code
def yX0_who : MethodName := ⟨RX0, "who", "(I)I"⟩
def dkwX0_who_3 : List UInt8 := [132, 3, 1, 167, 255, 202, 28, 172]
abbrev dktX0_who_3 : List UInt8 := dkwX0_who_3 ++ []
def dkwX0_who_2 : List UInt8 := [3, 182, 1, 91, 3, 3, 182, 1, 95, 27, 160, 0, 9, 4, 29, 120, 167, 0, 4, 3, 128, 61]
abbrev dktX0_who_2 : List UInt8 := dkwX0_who_2 ++ dktX0_who_3
def dkwX0_who_1 : List UInt8 := [162, 0, 52, 28, 42, 182, 0, 132, 180, 0, 135, 29, 46, 6, 159, 0, 29, 42, 180, 0, 68, 4, 29, 120]
abbrev dktX0_who_1 : List UInt8 := dkwX0_who_1 ++ dktX0_who_2
def dkwX0_who_0 : List UInt8 := [27, 133, 9, 20, 0, 189, 184, 0, 102, 154, 0, 5, 2, 172, 3, 61, 3, 62, 29, 42, 182, 0, 99]
abbrev dktX0_who_0 : List UInt8 := dkwX0_who_0 ++ dktX0_who_1
theorem dksX0_who_0 : cX0_who.data.toList.drop 0 = dktX0_who_0 := by decide +kernel
theorem dksX0_who_1 : cX0_who.data.toList.drop 23 = dktX0_who_1 := dk_seg dksX0_who_0 23 rfl rfl
theorem dksX0_who_2 : cX0_who.data.toList.drop 47 = dktX0_who_2 := dk_seg dksX0_who_1 24 rfl rfl
theorem dksX0_who_3 : cX0_who.data.toList.drop 69 = dktX0_who_3 := dk_seg dksX0_who_2 22 rfl rfl
theorem dX0_who_0 : decode cX0_who 0 = .ok (.iload_n 1, 1) := dk_27 (dk_at dksX0_who_0 0 rfl rfl)
theorem dX0_who_1 : decode cX0_who 1 = .ok (.i2l, 1) := dk_133 (dk_at dksX0_who_0 1 rfl rfl)
theorem dX0_who_2 : decode cX0_who 2 = .ok (.lconst 0, 1) := dk_9 (dk_at dksX0_who_0 2 rfl rfl)
theorem dX0_who_3 : decode cX0_who 3 = .ok (.ldc2_w 189, 3) := dk_20 0 189 (dk_at dksX0_who_0 3 rfl rfl)
theorem dX0_who_6 : decode cX0_who 6 = .ok (.invokestatic 102, 3) := dk_184 0 102 (dk_at dksX0_who_0 6 rfl rfl)
theorem dX0_who_9 : decode cX0_who 9 = .ok (.ifCond .ne 5, 3) := dk_154 0 5 (dk_at dksX0_who_0 9 rfl rfl)
theorem dX0_who_12 : decode cX0_who 12 = .ok (.iconst (-1), 1) := dk_2 (dk_at dksX0_who_0 12 rfl rfl)
theorem dX0_who_13 : decode cX0_who 13 = .ok (.ireturn, 1) := dk_172 (dk_at dksX0_who_0 13 rfl rfl)
theorem dX0_who_14 : decode cX0_who 14 = .ok (.iconst 0, 1) := dk_3 (dk_at dksX0_who_0 14 rfl rfl)
theorem dX0_who_15 : decode cX0_who 15 = .ok (.istore_n 2, 1) := dk_61 (dk_at dksX0_who_0 15 rfl rfl)
theorem dX0_who_16 : decode cX0_who 16 = .ok (.iconst 0, 1) := dk_3 (dk_at dksX0_who_0 16 rfl rfl)
theorem dX0_who_17 : decode cX0_who 17 = .ok (.istore_n 3, 1) := dk_62 (dk_at dksX0_who_0 17 rfl rfl)
theorem dX0_who_18 : decode cX0_who 18 = .ok (.iload_n 3, 1) := dk_29 (dk_at dksX0_who_0 18 rfl rfl)
theorem dX0_who_19 : decode cX0_who 19 = .ok (.aload_n 0, 1) := dk_42 (dk_at dksX0_who_0 19 rfl rfl)
theorem dX0_who_20 : decode cX0_who 20 = .ok (.invokevirtual 99, 3) := dk_182 0 99 (dk_at dksX0_who_0 20 rfl rfl)
theorem dX0_who_23 : decode cX0_who 23 = .ok (.if_icmp .ge 52, 3) := dk_162 0 52 (dk_at dksX0_who_1 0 rfl rfl)
theorem dX0_who_26 : decode cX0_who 26 = .ok (.iload_n 2, 1) := dk_28 (dk_at dksX0_who_1 3 rfl rfl)
theorem dX0_who_27 : decode cX0_who 27 = .ok (.aload_n 0, 1) := dk_42 (dk_at dksX0_who_1 4 rfl rfl)
theorem dX0_who_28 : decode cX0_who 28 = .ok (.invokevirtual 132, 3) := dk_182 0 132 (dk_at dksX0_who_1 5 rfl rfl)
theorem dX0_who_31 : decode cX0_who 31 = .ok (.getfield 135, 3) := dk_180 0 135 (dk_at dksX0_who_1 8 rfl rfl)
theorem dX0_who_34 : decode cX0_who 34 = .ok (.iload_n 3, 1) := dk_29 (dk_at dksX0_who_1 11 rfl rfl)
theorem dX0_who_35 : decode cX0_who 35 = .ok (.iaload, 1) := dk_46 (dk_at dksX0_who_1 12 rfl rfl)
theorem dX0_who_36 : decode cX0_who 36 = .ok (.iconst 3, 1) := dk_6 (dk_at dksX0_who_1 13 rfl rfl)
theorem dX0_who_37 : decode cX0_who 37 = .ok (.if_icmp .eq 29, 3) := dk_159 0 29 (dk_at dksX0_who_1 14 rfl rfl)
theorem dX0_who_40 : decode cX0_who 40 = .ok (.aload_n 0, 1) := dk_42 (dk_at dksX0_who_1 17 rfl rfl)
theorem dX0_who_41 : decode cX0_who 41 = .ok (.getfield 68, 3) := dk_180 0 68 (dk_at dksX0_who_1 18 rfl rfl)
theorem dX0_who_44 : decode cX0_who 44 = .ok (.iconst 1, 1) := dk_4 (dk_at dksX0_who_1 21 rfl rfl)
theorem dX0_who_45 : decode cX0_who 45 = .ok (.iload_n 3, 1) := dk_29 (dk_at dksX0_who_1 22 rfl rfl)
theorem dX0_who_46 : decode cX0_who 46 = .ok (.ishl, 1) := dk_120 (dk_at dksX0_who_1 23 rfl rfl)
theorem dX0_who_47 : decode cX0_who 47 = .ok (.iconst 0, 1) := dk_3 (dk_at dksX0_who_2 0 rfl rfl)
theorem dX0_who_48 : decode cX0_who 48 = .ok (.invokevirtual 347, 3) := dk_182 1 91 (dk_at dksX0_who_2 1 rfl rfl)
theorem dX0_who_51 : decode cX0_who 51 = .ok (.iconst 0, 1) := dk_3 (dk_at dksX0_who_2 4 rfl rfl)
theorem dX0_who_52 : decode cX0_who 52 = .ok (.iconst 0, 1) := dk_3 (dk_at dksX0_who_2 5 rfl rfl)
theorem dX0_who_53 : decode cX0_who 53 = .ok (.invokevirtual 351, 3) := dk_182 1 95 (dk_at dksX0_who_2 6 rfl rfl)
theorem dX0_who_56 : decode cX0_who 56 = .ok (.iload_n 1, 1) := dk_27 (dk_at dksX0_who_2 9 rfl rfl)
theorem dX0_who_57 : decode cX0_who 57 = .ok (.if_icmp .ne 9, 3) := dk_160 0 9 (dk_at dksX0_who_2 10 rfl rfl)
theorem dX0_who_60 : decode cX0_who 60 = .ok (.iconst 1, 1) := dk_4 (dk_at dksX0_who_2 13 rfl rfl)
theorem dX0_who_61 : decode cX0_who 61 = .ok (.iload_n 3, 1) := dk_29 (dk_at dksX0_who_2 14 rfl rfl)
theorem dX0_who_62 : decode cX0_who 62 = .ok (.ishl, 1) := dk_120 (dk_at dksX0_who_2 15 rfl rfl)
theorem dX0_who_63 : decode cX0_who 63 = .ok (.goto 4, 3) := dk_167 0 4 (dk_at dksX0_who_2 16 rfl rfl)
theorem dX0_who_66 : decode cX0_who 66 = .ok (.iconst 0, 1) := dk_3 (dk_at dksX0_who_2 19 rfl rfl)
theorem dX0_who_67 : decode cX0_who 67 = .ok (.ior, 1) := dk_128 (dk_at dksX0_who_2 20 rfl rfl)
theorem dX0_who_68 : decode cX0_who 68 = .ok (.istore_n 2, 1) := dk_61 (dk_at dksX0_who_2 21 rfl rfl)
theorem dX0_who_69 : decode cX0_who 69 = .ok (.iinc 3 1, 3) := dk_132 3 1 (dk_at dksX0_who_3 0 rfl rfl)
theorem dX0_who_72 : decode cX0_who 72 = .ok (.goto (-54), 3) := dk_167 255 202 (dk_at dksX0_who_3 3 rfl rfl)
theorem dX0_who_75 : decode cX0_who 75 = .ok (.iload_n 2, 1) := dk_28 (dk_at dksX0_who_3 6 rfl rfl)
theorem dX0_who_76 : decode cX0_who 76 = .ok (.ireturn, 1) := dk_172 (dk_at dksX0_who_3 7 rfl rfl)
abbrev cX0_orders : ByteArray := prog_1_method_64_code
def yX0_orders : MethodName := ⟨RX0, "orders", "()I"⟩
def dkwX0_orders_5 : List UInt8 := [180, 0, 23, 182, 0, 81, 42, 180, 0, 23, 45, 182, 1, 169, 87, 42, 21, 4, 182, 0, 84, 172]
abbrev dktX0_orders_5 : List UInt8 := dkwX0_orders_5 ++ []
def dkwX0_orders_4 : List UInt8 := [42, 43, 182, 1, 165, 54, 4, 21, 4, 156, 0, 28, 42, 182, 0, 132, 44, 182, 1, 41, 87, 42]
abbrev dktX0_orders_4 : List UInt8 := dkwX0_orders_4 ++ dktX0_orders_5
def dkwX0_orders_3 : List UInt8 := [182, 0, 132, 182, 1, 41, 77, 187, 0, 20, 89, 42, 180, 0, 23, 183, 1, 162, 78, 42, 3, 181, 1, 153]
abbrev dktX0_orders_3 : List UInt8 := dkwX0_orders_3 ++ dktX0_orders_4
def dkwX0_orders_2 : List UInt8 := [181, 0, 110, 29, 172, 58, 4, 42, 3, 181, 0, 110, 25, 4, 191, 187, 0, 136, 89, 183, 1, 40, 42]
abbrev dktX0_orders_2 : List UInt8 := dkwX0_orders_2 ++ dktX0_orders_3
def dkwX0_orders_1 : List UInt8 := [181, 0, 110, 167, 0, 36, 77, 42, 44, 180, 0, 227, 181, 0, 52, 42, 16, 250, 182, 0, 84, 62, 42, 3]
abbrev dktX0_orders_1 : List UInt8 := dkwX0_orders_1 ++ dktX0_orders_2
def dkwX0_orders_0 : List UInt8 := [42, 2, 181, 0, 56, 187, 1, 156, 89, 42, 183, 1, 158, 182, 1, 159, 76, 42, 2, 181, 0, 52, 42, 3]
abbrev dktX0_orders_0 : List UInt8 := dkwX0_orders_0 ++ dktX0_orders_1
theorem dksX0_orders_0 : cX0_orders.data.toList.drop 0 = dktX0_orders_0 := by decide +kernel
theorem dksX0_orders_1 : cX0_orders.data.toList.drop 24 = dktX0_orders_1 := dk_seg dksX0_orders_0 24 rfl rfl
theorem dksX0_orders_2 : cX0_orders.data.toList.drop 48 = dktX0_orders_2 := dk_seg dksX0_orders_1 24 rfl rfl
theorem dksX0_orders_3 : cX0_orders.data.toList.drop 71 = dktX0_orders_3 := dk_seg dksX0_orders_2 23 rfl rfl
theorem dksX0_orders_4 : cX0_orders.data.toList.drop 95 = dktX0_orders_4 := dk_seg dksX0_orders_3 24 rfl rfl
theorem dksX0_orders_5 : cX0_orders.data.toList.drop 117 = dktX0_orders_5 := dk_seg dksX0_orders_4 22 rfl rfl
theorem dX0_orders_0 : decode cX0_orders 0 = .ok (.aload_n 0, 1) := dk_42 (dk_at dksX0_orders_0 0 rfl rfl)
theorem dX0_orders_1 : decode cX0_orders 1 = .ok (.iconst (-1), 1) := dk_2 (dk_at dksX0_orders_0 1 rfl rfl)
theorem dX0_orders_2 : decode cX0_orders 2 = .ok (.putfield 56, 3) := dk_181 0 56 (dk_at dksX0_orders_0 2 rfl rfl)
theorem dX0_orders_5 : decode cX0_orders 5 = .ok (.new 412, 3) := dk_187 1 156 (dk_at dksX0_orders_0 5 rfl rfl)
theorem dX0_orders_8 : decode cX0_orders 8 = .ok (.dup, 1) := dk_89 (dk_at dksX0_orders_0 8 rfl rfl)
theorem dX0_orders_9 : decode cX0_orders 9 = .ok (.aload_n 0, 1) := dk_42 (dk_at dksX0_orders_0 9 rfl rfl)
theorem dX0_orders_10 : decode cX0_orders 10 = .ok (.invokespecial 414, 3) := dk_183 1 158 (dk_at dksX0_orders_0 10 rfl rfl)
theorem dX0_orders_13 : decode cX0_orders 13 = .ok (.invokevirtual 415, 3) := dk_182 1 159 (dk_at dksX0_orders_0 13 rfl rfl)
theorem dX0_orders_16 : decode cX0_orders 16 = .ok (.astore_n 1, 1) := dk_76 (dk_at dksX0_orders_0 16 rfl rfl)
theorem dX0_orders_17 : decode cX0_orders 17 = .ok (.aload_n 0, 1) := dk_42 (dk_at dksX0_orders_0 17 rfl rfl)
theorem dX0_orders_18 : decode cX0_orders 18 = .ok (.iconst (-1), 1) := dk_2 (dk_at dksX0_orders_0 18 rfl rfl)
theorem dX0_orders_19 : decode cX0_orders 19 = .ok (.putfield 52, 3) := dk_181 0 52 (dk_at dksX0_orders_0 19 rfl rfl)
theorem dX0_orders_22 : decode cX0_orders 22 = .ok (.aload_n 0, 1) := dk_42 (dk_at dksX0_orders_0 22 rfl rfl)
theorem dX0_orders_23 : decode cX0_orders 23 = .ok (.iconst 0, 1) := dk_3 (dk_at dksX0_orders_0 23 rfl rfl)
theorem dX0_orders_24 : decode cX0_orders 24 = .ok (.putfield 110, 3) := dk_181 0 110 (dk_at dksX0_orders_1 0 rfl rfl)
theorem dX0_orders_27 : decode cX0_orders 27 = .ok (.goto 36, 3) := dk_167 0 36 (dk_at dksX0_orders_1 3 rfl rfl)
theorem dX0_orders_30 : decode cX0_orders 30 = .ok (.astore_n 2, 1) := dk_77 (dk_at dksX0_orders_1 6 rfl rfl)
theorem dX0_orders_31 : decode cX0_orders 31 = .ok (.aload_n 0, 1) := dk_42 (dk_at dksX0_orders_1 7 rfl rfl)
theorem dX0_orders_32 : decode cX0_orders 32 = .ok (.aload_n 2, 1) := dk_44 (dk_at dksX0_orders_1 8 rfl rfl)
theorem dX0_orders_33 : decode cX0_orders 33 = .ok (.getfield 227, 3) := dk_180 0 227 (dk_at dksX0_orders_1 9 rfl rfl)
theorem dX0_orders_36 : decode cX0_orders 36 = .ok (.putfield 52, 3) := dk_181 0 52 (dk_at dksX0_orders_1 12 rfl rfl)
theorem dX0_orders_39 : decode cX0_orders 39 = .ok (.aload_n 0, 1) := dk_42 (dk_at dksX0_orders_1 15 rfl rfl)
theorem dX0_orders_40 : decode cX0_orders 40 = .ok (.bipush (-6), 2) := dk_16 250 (dk_at dksX0_orders_1 16 rfl rfl)
theorem dX0_orders_42 : decode cX0_orders 42 = .ok (.invokevirtual 84, 3) := dk_182 0 84 (dk_at dksX0_orders_1 18 rfl rfl)
theorem dX0_orders_45 : decode cX0_orders 45 = .ok (.istore_n 3, 1) := dk_62 (dk_at dksX0_orders_1 21 rfl rfl)
theorem dX0_orders_46 : decode cX0_orders 46 = .ok (.aload_n 0, 1) := dk_42 (dk_at dksX0_orders_1 22 rfl rfl)
theorem dX0_orders_47 : decode cX0_orders 47 = .ok (.iconst 0, 1) := dk_3 (dk_at dksX0_orders_1 23 rfl rfl)
theorem dX0_orders_48 : decode cX0_orders 48 = .ok (.putfield 110, 3) := dk_181 0 110 (dk_at dksX0_orders_2 0 rfl rfl)
theorem dX0_orders_51 : decode cX0_orders 51 = .ok (.iload_n 3, 1) := dk_29 (dk_at dksX0_orders_2 3 rfl rfl)
theorem dX0_orders_52 : decode cX0_orders 52 = .ok (.ireturn, 1) := dk_172 (dk_at dksX0_orders_2 4 rfl rfl)
theorem dX0_orders_53 : decode cX0_orders 53 = .ok (.astore 4, 2) := dk_58 4 (dk_at dksX0_orders_2 5 rfl rfl)
theorem dX0_orders_55 : decode cX0_orders 55 = .ok (.aload_n 0, 1) := dk_42 (dk_at dksX0_orders_2 7 rfl rfl)
theorem dX0_orders_56 : decode cX0_orders 56 = .ok (.iconst 0, 1) := dk_3 (dk_at dksX0_orders_2 8 rfl rfl)
theorem dX0_orders_57 : decode cX0_orders 57 = .ok (.putfield 110, 3) := dk_181 0 110 (dk_at dksX0_orders_2 9 rfl rfl)
theorem dX0_orders_60 : decode cX0_orders 60 = .ok (.aload 4, 2) := dk_25 4 (dk_at dksX0_orders_2 12 rfl rfl)
theorem dX0_orders_62 : decode cX0_orders 62 = .ok (.athrow, 1) := dk_191 (dk_at dksX0_orders_2 14 rfl rfl)
theorem dX0_orders_63 : decode cX0_orders 63 = .ok (.new 136, 3) := dk_187 0 136 (dk_at dksX0_orders_2 15 rfl rfl)
theorem dX0_orders_66 : decode cX0_orders 66 = .ok (.dup, 1) := dk_89 (dk_at dksX0_orders_2 18 rfl rfl)
theorem dX0_orders_67 : decode cX0_orders 67 = .ok (.invokespecial 296, 3) := dk_183 1 40 (dk_at dksX0_orders_2 19 rfl rfl)
theorem dX0_orders_70 : decode cX0_orders 70 = .ok (.aload_n 0, 1) := dk_42 (dk_at dksX0_orders_2 22 rfl rfl)
theorem dX0_orders_71 : decode cX0_orders 71 = .ok (.invokevirtual 132, 3) := dk_182 0 132 (dk_at dksX0_orders_3 0 rfl rfl)
theorem dX0_orders_74 : decode cX0_orders 74 = .ok (.invokevirtual 297, 3) := dk_182 1 41 (dk_at dksX0_orders_3 3 rfl rfl)
theorem dX0_orders_77 : decode cX0_orders 77 = .ok (.astore_n 2, 1) := dk_77 (dk_at dksX0_orders_3 6 rfl rfl)
theorem dX0_orders_78 : decode cX0_orders 78 = .ok (.new 20, 3) := dk_187 0 20 (dk_at dksX0_orders_3 7 rfl rfl)
theorem dX0_orders_81 : decode cX0_orders 81 = .ok (.dup, 1) := dk_89 (dk_at dksX0_orders_3 10 rfl rfl)
theorem dX0_orders_82 : decode cX0_orders 82 = .ok (.aload_n 0, 1) := dk_42 (dk_at dksX0_orders_3 11 rfl rfl)
theorem dX0_orders_83 : decode cX0_orders 83 = .ok (.getfield 23, 3) := dk_180 0 23 (dk_at dksX0_orders_3 12 rfl rfl)
theorem dX0_orders_86 : decode cX0_orders 86 = .ok (.invokespecial 418, 3) := dk_183 1 162 (dk_at dksX0_orders_3 15 rfl rfl)
theorem dX0_orders_89 : decode cX0_orders 89 = .ok (.astore_n 3, 1) := dk_78 (dk_at dksX0_orders_3 18 rfl rfl)
theorem dX0_orders_90 : decode cX0_orders 90 = .ok (.aload_n 0, 1) := dk_42 (dk_at dksX0_orders_3 19 rfl rfl)
theorem dX0_orders_91 : decode cX0_orders 91 = .ok (.iconst 0, 1) := dk_3 (dk_at dksX0_orders_3 20 rfl rfl)
theorem dX0_orders_92 : decode cX0_orders 92 = .ok (.putfield 409, 3) := dk_181 1 153 (dk_at dksX0_orders_3 21 rfl rfl)
theorem dX0_orders_95 : decode cX0_orders 95 = .ok (.aload_n 0, 1) := dk_42 (dk_at dksX0_orders_4 0 rfl rfl)
theorem dX0_orders_96 : decode cX0_orders 96 = .ok (.aload_n 1, 1) := dk_43 (dk_at dksX0_orders_4 1 rfl rfl)
theorem dX0_orders_97 : decode cX0_orders 97 = .ok (.invokevirtual 421, 3) := dk_182 1 165 (dk_at dksX0_orders_4 2 rfl rfl)
theorem dX0_orders_100 : decode cX0_orders 100 = .ok (.istore 4, 2) := dk_54 4 (dk_at dksX0_orders_4 5 rfl rfl)
theorem dX0_orders_102 : decode cX0_orders 102 = .ok (.iload 4, 2) := dk_21 4 (dk_at dksX0_orders_4 7 rfl rfl)
theorem dX0_orders_104 : decode cX0_orders 104 = .ok (.ifCond .ge 28, 3) := dk_156 0 28 (dk_at dksX0_orders_4 9 rfl rfl)
theorem dX0_orders_107 : decode cX0_orders 107 = .ok (.aload_n 0, 1) := dk_42 (dk_at dksX0_orders_4 12 rfl rfl)
theorem dX0_orders_108 : decode cX0_orders 108 = .ok (.invokevirtual 132, 3) := dk_182 0 132 (dk_at dksX0_orders_4 13 rfl rfl)
theorem dX0_orders_111 : decode cX0_orders 111 = .ok (.aload_n 2, 1) := dk_44 (dk_at dksX0_orders_4 16 rfl rfl)
theorem dX0_orders_112 : decode cX0_orders 112 = .ok (.invokevirtual 297, 3) := dk_182 1 41 (dk_at dksX0_orders_4 17 rfl rfl)
theorem dX0_orders_115 : decode cX0_orders 115 = .ok (.pop, 1) := dk_87 (dk_at dksX0_orders_4 20 rfl rfl)
theorem dX0_orders_116 : decode cX0_orders 116 = .ok (.aload_n 0, 1) := dk_42 (dk_at dksX0_orders_4 21 rfl rfl)
theorem dX0_orders_117 : decode cX0_orders 117 = .ok (.getfield 23, 3) := dk_180 0 23 (dk_at dksX0_orders_5 0 rfl rfl)
theorem dX0_orders_120 : decode cX0_orders 120 = .ok (.invokevirtual 81, 3) := dk_182 0 81 (dk_at dksX0_orders_5 3 rfl rfl)
theorem dX0_orders_123 : decode cX0_orders 123 = .ok (.aload_n 0, 1) := dk_42 (dk_at dksX0_orders_5 6 rfl rfl)
theorem dX0_orders_124 : decode cX0_orders 124 = .ok (.getfield 23, 3) := dk_180 0 23 (dk_at dksX0_orders_5 7 rfl rfl)
theorem dX0_orders_127 : decode cX0_orders 127 = .ok (.aload_n 3, 1) := dk_45 (dk_at dksX0_orders_5 10 rfl rfl)
theorem dX0_orders_128 : decode cX0_orders 128 = .ok (.invokevirtual 425, 3) := dk_182 1 169 (dk_at dksX0_orders_5 11 rfl rfl)
theorem dX0_orders_131 : decode cX0_orders 131 = .ok (.pop, 1) := dk_87 (dk_at dksX0_orders_5 14 rfl rfl)
theorem dX0_orders_132 : decode cX0_orders 132 = .ok (.aload_n 0, 1) := dk_42 (dk_at dksX0_orders_5 15 rfl rfl)
theorem dX0_orders_133 : decode cX0_orders 133 = .ok (.iload 4, 2) := dk_21 4 (dk_at dksX0_orders_5 16 rfl rfl)
theorem dX0_orders_135 : decode cX0_orders 135 = .ok (.invokevirtual 84, 3) := dk_182 0 84 (dk_at dksX0_orders_5 18 rfl rfl)
theorem dX0_orders_138 : decode cX0_orders 138 = .ok (.ireturn, 1) := dk_172 (dk_at dksX0_orders_5 21 rfl rfl)
abbrev cX0_runAll : ByteArray := prog_1_method_63_code
def yX0_runAll : MethodName := ⟨RX0, "runAll", "([LLitStrangers$Order;)I"⟩
def dkwX0_runAll_2 : List UInt8 := [132, 2, 1, 167, 255, 209, 42, 180, 1, 153, 172]
abbrev dktX0_runAll_2 : List UInt8 := dkwX0_runAll_2 ++ []
def dkwX0_runAll_1 : List UInt8 := [182, 1, 150, 154, 0, 6, 167, 0, 11, 42, 28, 181, 0, 56, 16, 253, 172, 132, 3, 1, 167, 255, 223]
abbrev dktX0_runAll_1 : List UInt8 := dkwX0_runAll_1 ++ dktX0_runAll_2
def dkwX0_runAll_0 : List UInt8 := [3, 61, 28, 43, 190, 162, 0, 47, 3, 62, 29, 43, 28, 50, 180, 1, 145, 162, 0, 29, 43, 28, 50]
abbrev dktX0_runAll_0 : List UInt8 := dkwX0_runAll_0 ++ dktX0_runAll_1
theorem dksX0_runAll_0 : cX0_runAll.data.toList.drop 0 = dktX0_runAll_0 := by decide +kernel
theorem dksX0_runAll_1 : cX0_runAll.data.toList.drop 23 = dktX0_runAll_1 := dk_seg dksX0_runAll_0 23 rfl rfl
theorem dksX0_runAll_2 : cX0_runAll.data.toList.drop 46 = dktX0_runAll_2 := dk_seg dksX0_runAll_1 23 rfl rfl
theorem dX0_runAll_0 : decode cX0_runAll 0 = .ok (.iconst 0, 1) := dk_3 (dk_at dksX0_runAll_0 0 rfl rfl)
theorem dX0_runAll_1 : decode cX0_runAll 1 = .ok (.istore_n 2, 1) := dk_61 (dk_at dksX0_runAll_0 1 rfl rfl)
theorem dX0_runAll_2 : decode cX0_runAll 2 = .ok (.iload_n 2, 1) := dk_28 (dk_at dksX0_runAll_0 2 rfl rfl)
theorem dX0_runAll_3 : decode cX0_runAll 3 = .ok (.aload_n 1, 1) := dk_43 (dk_at dksX0_runAll_0 3 rfl rfl)
theorem dX0_runAll_4 : decode cX0_runAll 4 = .ok (.arraylength, 1) := dk_190 (dk_at dksX0_runAll_0 4 rfl rfl)
theorem dX0_runAll_5 : decode cX0_runAll 5 = .ok (.if_icmp .ge 47, 3) := dk_162 0 47 (dk_at dksX0_runAll_0 5 rfl rfl)
theorem dX0_runAll_8 : decode cX0_runAll 8 = .ok (.iconst 0, 1) := dk_3 (dk_at dksX0_runAll_0 8 rfl rfl)
theorem dX0_runAll_9 : decode cX0_runAll 9 = .ok (.istore_n 3, 1) := dk_62 (dk_at dksX0_runAll_0 9 rfl rfl)
theorem dX0_runAll_10 : decode cX0_runAll 10 = .ok (.iload_n 3, 1) := dk_29 (dk_at dksX0_runAll_0 10 rfl rfl)
theorem dX0_runAll_11 : decode cX0_runAll 11 = .ok (.aload_n 1, 1) := dk_43 (dk_at dksX0_runAll_0 11 rfl rfl)
theorem dX0_runAll_12 : decode cX0_runAll 12 = .ok (.iload_n 2, 1) := dk_28 (dk_at dksX0_runAll_0 12 rfl rfl)
theorem dX0_runAll_13 : decode cX0_runAll 13 = .ok (.aaload, 1) := dk_50 (dk_at dksX0_runAll_0 13 rfl rfl)
theorem dX0_runAll_14 : decode cX0_runAll 14 = .ok (.getfield 401, 3) := dk_180 1 145 (dk_at dksX0_runAll_0 14 rfl rfl)
theorem dX0_runAll_17 : decode cX0_runAll 17 = .ok (.if_icmp .ge 29, 3) := dk_162 0 29 (dk_at dksX0_runAll_0 17 rfl rfl)
theorem dX0_runAll_20 : decode cX0_runAll 20 = .ok (.aload_n 1, 1) := dk_43 (dk_at dksX0_runAll_0 20 rfl rfl)
theorem dX0_runAll_21 : decode cX0_runAll 21 = .ok (.iload_n 2, 1) := dk_28 (dk_at dksX0_runAll_0 21 rfl rfl)
theorem dX0_runAll_22 : decode cX0_runAll 22 = .ok (.aaload, 1) := dk_50 (dk_at dksX0_runAll_0 22 rfl rfl)
theorem dX0_runAll_23 : decode cX0_runAll 23 = .ok (.invokevirtual 406, 3) := dk_182 1 150 (dk_at dksX0_runAll_1 0 rfl rfl)
theorem dX0_runAll_26 : decode cX0_runAll 26 = .ok (.ifCond .ne 6, 3) := dk_154 0 6 (dk_at dksX0_runAll_1 3 rfl rfl)
theorem dX0_runAll_29 : decode cX0_runAll 29 = .ok (.goto 11, 3) := dk_167 0 11 (dk_at dksX0_runAll_1 6 rfl rfl)
theorem dX0_runAll_32 : decode cX0_runAll 32 = .ok (.aload_n 0, 1) := dk_42 (dk_at dksX0_runAll_1 9 rfl rfl)
theorem dX0_runAll_33 : decode cX0_runAll 33 = .ok (.iload_n 2, 1) := dk_28 (dk_at dksX0_runAll_1 10 rfl rfl)
theorem dX0_runAll_34 : decode cX0_runAll 34 = .ok (.putfield 56, 3) := dk_181 0 56 (dk_at dksX0_runAll_1 11 rfl rfl)
theorem dX0_runAll_37 : decode cX0_runAll 37 = .ok (.bipush (-3), 2) := dk_16 253 (dk_at dksX0_runAll_1 14 rfl rfl)
theorem dX0_runAll_39 : decode cX0_runAll 39 = .ok (.ireturn, 1) := dk_172 (dk_at dksX0_runAll_1 16 rfl rfl)
theorem dX0_runAll_40 : decode cX0_runAll 40 = .ok (.iinc 3 1, 3) := dk_132 3 1 (dk_at dksX0_runAll_1 17 rfl rfl)
theorem dX0_runAll_43 : decode cX0_runAll 43 = .ok (.goto (-33), 3) := dk_167 255 223 (dk_at dksX0_runAll_1 20 rfl rfl)
theorem dX0_runAll_46 : decode cX0_runAll 46 = .ok (.iinc 2 1, 3) := dk_132 2 1 (dk_at dksX0_runAll_2 0 rfl rfl)
theorem dX0_runAll_49 : decode cX0_runAll 49 = .ok (.goto (-47), 3) := dk_167 255 209 (dk_at dksX0_runAll_2 3 rfl rfl)
theorem dX0_runAll_52 : decode cX0_runAll 52 = .ok (.aload_n 0, 1) := dk_42 (dk_at dksX0_runAll_2 6 rfl rfl)
theorem dX0_runAll_53 : decode cX0_runAll 53 = .ok (.getfield 409, 3) := dk_180 1 153 (dk_at dksX0_runAll_2 7 rfl rfl)
theorem dX0_runAll_56 : decode cX0_runAll 56 = .ok (.ireturn, 1) := dk_172 (dk_at dksX0_runAll_2 10 rfl rfl)
abbrev cX0_stopped : ByteArray := prog_1_method_65_code
def yX0_stopped : MethodName := ⟨RX0, "stopped", "()I"⟩
theorem dX0_stopped_0 : decode cX0_stopped 0 = .ok (.aload_n 0, 1) := by decide +kernel
theorem dX0_stopped_1 : decode cX0_stopped 1 = .ok (.getfield 56, 3) := by decide +kernel
theorem dX0_stopped_4 : decode cX0_stopped 4 = .ok (.ireturn, 1) := by decide +kernel
abbrev cX0_winter : ByteArray := prog_1_method_66_code
def yX0_winter : MethodName := ⟨RX0, "winter", "(II)I"⟩
def dkwX0_winter_7 : List UInt8 := [54, 4, 132, 5, 1, 132, 6, 1, 167, 255, 147, 42, 21, 5, 182, 0, 84, 172]
abbrev dktX0_winter_7 : List UInt8 := dkwX0_winter_7 ++ []
def dkwX0_winter_6 : List UInt8 := [21, 9, 2, 160, 0, 6, 167, 0, 22, 42, 180, 1, 181, 21, 6, 21, 9, 79, 21, 4, 21, 9, 128]
abbrev dktX0_winter_6 : List UInt8 := dkwX0_winter_6 ++ dktX0_winter_7
def dkwX0_winter_5 : List UInt8 := [42, 180, 0, 68, 3, 21, 8, 42, 180, 0, 68, 180, 1, 128, 21, 6, 50, 21, 7, 182, 1, 136, 54, 9]
abbrev dktX0_winter_5 : List UInt8 := dkwX0_winter_5 ++ dktX0_winter_6
def dkwX0_winter_4 : List UInt8 := [180, 0, 68, 21, 6, 21, 4, 21, 7, 42, 180, 0, 68, 180, 1, 128, 21, 6, 50, 182, 1, 132, 54, 8]
abbrev dktX0_winter_4 : List UInt8 := dkwX0_winter_4 ++ dktX0_winter_5
def dkwX0_winter_3 : List UInt8 := [45, 16, 10, 182, 1, 184, 42, 180, 0, 10, 180, 0, 181, 162, 0, 7, 4, 167, 0, 4, 3, 54, 7, 42]
abbrev dktX0_winter_3 : List UInt8 := dkwX0_winter_3 ++ dktX0_winter_4
def dkwX0_winter_2 : List UInt8 := [54, 4, 3, 54, 5, 42, 180, 0, 68, 3, 3, 182, 1, 91, 87, 3, 54, 6, 21, 6, 28, 162, 0, 109]
abbrev dktX0_winter_2 : List UInt8 := dkwX0_winter_2 ++ dktX0_winter_3
def dkwX0_winter_1 : List UInt8 := [42, 2, 182, 0, 84, 172, 187, 1, 177, 89, 27, 183, 1, 179, 78, 42, 28, 188, 10, 181, 1, 181, 3]
abbrev dktX0_winter_1 : List UInt8 := dkwX0_winter_1 ++ dktX0_winter_2
def dkwX0_winter_0 : List UInt8 := [27, 133, 9, 20, 1, 173, 184, 0, 102, 153, 0, 15, 28, 133, 10, 20, 1, 175, 184, 0, 102, 154, 0, 9]
abbrev dktX0_winter_0 : List UInt8 := dkwX0_winter_0 ++ dktX0_winter_1
theorem dksX0_winter_0 : cX0_winter.data.toList.drop 0 = dktX0_winter_0 := by decide +kernel
theorem dksX0_winter_1 : cX0_winter.data.toList.drop 24 = dktX0_winter_1 := dk_seg dksX0_winter_0 24 rfl rfl
theorem dksX0_winter_2 : cX0_winter.data.toList.drop 47 = dktX0_winter_2 := dk_seg dksX0_winter_1 23 rfl rfl
theorem dksX0_winter_3 : cX0_winter.data.toList.drop 71 = dktX0_winter_3 := dk_seg dksX0_winter_2 24 rfl rfl
theorem dksX0_winter_4 : cX0_winter.data.toList.drop 95 = dktX0_winter_4 := dk_seg dksX0_winter_3 24 rfl rfl
theorem dksX0_winter_5 : cX0_winter.data.toList.drop 119 = dktX0_winter_5 := dk_seg dksX0_winter_4 24 rfl rfl
theorem dksX0_winter_6 : cX0_winter.data.toList.drop 143 = dktX0_winter_6 := dk_seg dksX0_winter_5 24 rfl rfl
theorem dksX0_winter_7 : cX0_winter.data.toList.drop 166 = dktX0_winter_7 := dk_seg dksX0_winter_6 23 rfl rfl
theorem dX0_winter_0 : decode cX0_winter 0 = .ok (.iload_n 1, 1) := dk_27 (dk_at dksX0_winter_0 0 rfl rfl)
theorem dX0_winter_1 : decode cX0_winter 1 = .ok (.i2l, 1) := dk_133 (dk_at dksX0_winter_0 1 rfl rfl)
theorem dX0_winter_2 : decode cX0_winter 2 = .ok (.lconst 0, 1) := dk_9 (dk_at dksX0_winter_0 2 rfl rfl)
theorem dX0_winter_3 : decode cX0_winter 3 = .ok (.ldc2_w 429, 3) := dk_20 1 173 (dk_at dksX0_winter_0 3 rfl rfl)
theorem dX0_winter_6 : decode cX0_winter 6 = .ok (.invokestatic 102, 3) := dk_184 0 102 (dk_at dksX0_winter_0 6 rfl rfl)
theorem dX0_winter_9 : decode cX0_winter 9 = .ok (.ifCond .eq 15, 3) := dk_153 0 15 (dk_at dksX0_winter_0 9 rfl rfl)
theorem dX0_winter_12 : decode cX0_winter 12 = .ok (.iload_n 2, 1) := dk_28 (dk_at dksX0_winter_0 12 rfl rfl)
theorem dX0_winter_13 : decode cX0_winter 13 = .ok (.i2l, 1) := dk_133 (dk_at dksX0_winter_0 13 rfl rfl)
theorem dX0_winter_14 : decode cX0_winter 14 = .ok (.lconst 1, 1) := dk_10 (dk_at dksX0_winter_0 14 rfl rfl)
theorem dX0_winter_15 : decode cX0_winter 15 = .ok (.ldc2_w 431, 3) := dk_20 1 175 (dk_at dksX0_winter_0 15 rfl rfl)
theorem dX0_winter_18 : decode cX0_winter 18 = .ok (.invokestatic 102, 3) := dk_184 0 102 (dk_at dksX0_winter_0 18 rfl rfl)
theorem dX0_winter_21 : decode cX0_winter 21 = .ok (.ifCond .ne 9, 3) := dk_154 0 9 (dk_at dksX0_winter_0 21 rfl rfl)
theorem dX0_winter_24 : decode cX0_winter 24 = .ok (.aload_n 0, 1) := dk_42 (dk_at dksX0_winter_1 0 rfl rfl)
theorem dX0_winter_25 : decode cX0_winter 25 = .ok (.iconst (-1), 1) := dk_2 (dk_at dksX0_winter_1 1 rfl rfl)
theorem dX0_winter_26 : decode cX0_winter 26 = .ok (.invokevirtual 84, 3) := dk_182 0 84 (dk_at dksX0_winter_1 2 rfl rfl)
theorem dX0_winter_29 : decode cX0_winter 29 = .ok (.ireturn, 1) := dk_172 (dk_at dksX0_winter_1 5 rfl rfl)
theorem dX0_winter_30 : decode cX0_winter 30 = .ok (.new 433, 3) := dk_187 1 177 (dk_at dksX0_winter_1 6 rfl rfl)
theorem dX0_winter_33 : decode cX0_winter 33 = .ok (.dup, 1) := dk_89 (dk_at dksX0_winter_1 9 rfl rfl)
theorem dX0_winter_34 : decode cX0_winter 34 = .ok (.iload_n 1, 1) := dk_27 (dk_at dksX0_winter_1 10 rfl rfl)
theorem dX0_winter_35 : decode cX0_winter 35 = .ok (.invokespecial 435, 3) := dk_183 1 179 (dk_at dksX0_winter_1 11 rfl rfl)
theorem dX0_winter_38 : decode cX0_winter 38 = .ok (.astore_n 3, 1) := dk_78 (dk_at dksX0_winter_1 14 rfl rfl)
theorem dX0_winter_39 : decode cX0_winter 39 = .ok (.aload_n 0, 1) := dk_42 (dk_at dksX0_winter_1 15 rfl rfl)
theorem dX0_winter_40 : decode cX0_winter 40 = .ok (.iload_n 2, 1) := dk_28 (dk_at dksX0_winter_1 16 rfl rfl)
theorem dX0_winter_41 : decode cX0_winter 41 = .ok (.newarray .int, 2) := dk_188_10 (dk_at dksX0_winter_1 17 rfl rfl)
theorem dX0_winter_43 : decode cX0_winter 43 = .ok (.putfield 437, 3) := dk_181 1 181 (dk_at dksX0_winter_1 19 rfl rfl)
theorem dX0_winter_46 : decode cX0_winter 46 = .ok (.iconst 0, 1) := dk_3 (dk_at dksX0_winter_1 22 rfl rfl)
theorem dX0_winter_47 : decode cX0_winter 47 = .ok (.istore 4, 2) := dk_54 4 (dk_at dksX0_winter_2 0 rfl rfl)
theorem dX0_winter_49 : decode cX0_winter 49 = .ok (.iconst 0, 1) := dk_3 (dk_at dksX0_winter_2 2 rfl rfl)
theorem dX0_winter_50 : decode cX0_winter 50 = .ok (.istore 5, 2) := dk_54 5 (dk_at dksX0_winter_2 3 rfl rfl)
theorem dX0_winter_52 : decode cX0_winter 52 = .ok (.aload_n 0, 1) := dk_42 (dk_at dksX0_winter_2 5 rfl rfl)
theorem dX0_winter_53 : decode cX0_winter 53 = .ok (.getfield 68, 3) := dk_180 0 68 (dk_at dksX0_winter_2 6 rfl rfl)
theorem dX0_winter_56 : decode cX0_winter 56 = .ok (.iconst 0, 1) := dk_3 (dk_at dksX0_winter_2 9 rfl rfl)
theorem dX0_winter_57 : decode cX0_winter 57 = .ok (.iconst 0, 1) := dk_3 (dk_at dksX0_winter_2 10 rfl rfl)
theorem dX0_winter_58 : decode cX0_winter 58 = .ok (.invokevirtual 347, 3) := dk_182 1 91 (dk_at dksX0_winter_2 11 rfl rfl)
theorem dX0_winter_61 : decode cX0_winter 61 = .ok (.pop, 1) := dk_87 (dk_at dksX0_winter_2 14 rfl rfl)
theorem dX0_winter_62 : decode cX0_winter 62 = .ok (.iconst 0, 1) := dk_3 (dk_at dksX0_winter_2 15 rfl rfl)
theorem dX0_winter_63 : decode cX0_winter 63 = .ok (.istore 6, 2) := dk_54 6 (dk_at dksX0_winter_2 16 rfl rfl)
theorem dX0_winter_65 : decode cX0_winter 65 = .ok (.iload 6, 2) := dk_21 6 (dk_at dksX0_winter_2 18 rfl rfl)
theorem dX0_winter_67 : decode cX0_winter 67 = .ok (.iload_n 2, 1) := dk_28 (dk_at dksX0_winter_2 20 rfl rfl)
theorem dX0_winter_68 : decode cX0_winter 68 = .ok (.if_icmp .ge 109, 3) := dk_162 0 109 (dk_at dksX0_winter_2 21 rfl rfl)
theorem dX0_winter_71 : decode cX0_winter 71 = .ok (.aload_n 3, 1) := dk_45 (dk_at dksX0_winter_3 0 rfl rfl)
theorem dX0_winter_72 : decode cX0_winter 72 = .ok (.bipush 10, 2) := dk_16 10 (dk_at dksX0_winter_3 1 rfl rfl)
theorem dX0_winter_74 : decode cX0_winter 74 = .ok (.invokevirtual 440, 3) := dk_182 1 184 (dk_at dksX0_winter_3 3 rfl rfl)
theorem dX0_winter_77 : decode cX0_winter 77 = .ok (.aload_n 0, 1) := dk_42 (dk_at dksX0_winter_3 6 rfl rfl)
theorem dX0_winter_78 : decode cX0_winter 78 = .ok (.getfield 10, 3) := dk_180 0 10 (dk_at dksX0_winter_3 7 rfl rfl)
theorem dX0_winter_81 : decode cX0_winter 81 = .ok (.getfield 181, 3) := dk_180 0 181 (dk_at dksX0_winter_3 10 rfl rfl)
theorem dX0_winter_84 : decode cX0_winter 84 = .ok (.if_icmp .ge 7, 3) := dk_162 0 7 (dk_at dksX0_winter_3 13 rfl rfl)
theorem dX0_winter_87 : decode cX0_winter 87 = .ok (.iconst 1, 1) := dk_4 (dk_at dksX0_winter_3 16 rfl rfl)
theorem dX0_winter_88 : decode cX0_winter 88 = .ok (.goto 4, 3) := dk_167 0 4 (dk_at dksX0_winter_3 17 rfl rfl)
theorem dX0_winter_91 : decode cX0_winter 91 = .ok (.iconst 0, 1) := dk_3 (dk_at dksX0_winter_3 20 rfl rfl)
theorem dX0_winter_92 : decode cX0_winter 92 = .ok (.istore 7, 2) := dk_54 7 (dk_at dksX0_winter_3 21 rfl rfl)
theorem dX0_winter_94 : decode cX0_winter 94 = .ok (.aload_n 0, 1) := dk_42 (dk_at dksX0_winter_3 23 rfl rfl)
theorem dX0_winter_95 : decode cX0_winter 95 = .ok (.getfield 68, 3) := dk_180 0 68 (dk_at dksX0_winter_4 0 rfl rfl)
theorem dX0_winter_98 : decode cX0_winter 98 = .ok (.iload 6, 2) := dk_21 6 (dk_at dksX0_winter_4 3 rfl rfl)
theorem dX0_winter_100 : decode cX0_winter 100 = .ok (.iload 4, 2) := dk_21 4 (dk_at dksX0_winter_4 5 rfl rfl)
theorem dX0_winter_102 : decode cX0_winter 102 = .ok (.iload 7, 2) := dk_21 7 (dk_at dksX0_winter_4 7 rfl rfl)
theorem dX0_winter_104 : decode cX0_winter 104 = .ok (.aload_n 0, 1) := dk_42 (dk_at dksX0_winter_4 9 rfl rfl)
theorem dX0_winter_105 : decode cX0_winter 105 = .ok (.getfield 68, 3) := dk_180 0 68 (dk_at dksX0_winter_4 10 rfl rfl)
theorem dX0_winter_108 : decode cX0_winter 108 = .ok (.getfield 384, 3) := dk_180 1 128 (dk_at dksX0_winter_4 13 rfl rfl)
theorem dX0_winter_111 : decode cX0_winter 111 = .ok (.iload 6, 2) := dk_21 6 (dk_at dksX0_winter_4 16 rfl rfl)
theorem dX0_winter_113 : decode cX0_winter 113 = .ok (.aaload, 1) := dk_50 (dk_at dksX0_winter_4 18 rfl rfl)
theorem dX0_winter_114 : decode cX0_winter 114 = .ok (.invokevirtual 388, 3) := dk_182 1 132 (dk_at dksX0_winter_4 19 rfl rfl)
theorem dX0_winter_117 : decode cX0_winter 117 = .ok (.istore 8, 2) := dk_54 8 (dk_at dksX0_winter_4 22 rfl rfl)
theorem dX0_winter_119 : decode cX0_winter 119 = .ok (.aload_n 0, 1) := dk_42 (dk_at dksX0_winter_5 0 rfl rfl)
theorem dX0_winter_120 : decode cX0_winter 120 = .ok (.getfield 68, 3) := dk_180 0 68 (dk_at dksX0_winter_5 1 rfl rfl)
theorem dX0_winter_123 : decode cX0_winter 123 = .ok (.iconst 0, 1) := dk_3 (dk_at dksX0_winter_5 4 rfl rfl)
theorem dX0_winter_124 : decode cX0_winter 124 = .ok (.iload 8, 2) := dk_21 8 (dk_at dksX0_winter_5 5 rfl rfl)
theorem dX0_winter_126 : decode cX0_winter 126 = .ok (.aload_n 0, 1) := dk_42 (dk_at dksX0_winter_5 7 rfl rfl)
theorem dX0_winter_127 : decode cX0_winter 127 = .ok (.getfield 68, 3) := dk_180 0 68 (dk_at dksX0_winter_5 8 rfl rfl)
theorem dX0_winter_130 : decode cX0_winter 130 = .ok (.getfield 384, 3) := dk_180 1 128 (dk_at dksX0_winter_5 11 rfl rfl)
theorem dX0_winter_133 : decode cX0_winter 133 = .ok (.iload 6, 2) := dk_21 6 (dk_at dksX0_winter_5 14 rfl rfl)
theorem dX0_winter_135 : decode cX0_winter 135 = .ok (.aaload, 1) := dk_50 (dk_at dksX0_winter_5 16 rfl rfl)
theorem dX0_winter_136 : decode cX0_winter 136 = .ok (.iload 7, 2) := dk_21 7 (dk_at dksX0_winter_5 17 rfl rfl)
theorem dX0_winter_138 : decode cX0_winter 138 = .ok (.invokevirtual 392, 3) := dk_182 1 136 (dk_at dksX0_winter_5 19 rfl rfl)
theorem dX0_winter_141 : decode cX0_winter 141 = .ok (.istore 9, 2) := dk_54 9 (dk_at dksX0_winter_5 22 rfl rfl)
theorem dX0_winter_143 : decode cX0_winter 143 = .ok (.iload 9, 2) := dk_21 9 (dk_at dksX0_winter_6 0 rfl rfl)
theorem dX0_winter_145 : decode cX0_winter 145 = .ok (.iconst (-1), 1) := dk_2 (dk_at dksX0_winter_6 2 rfl rfl)
theorem dX0_winter_146 : decode cX0_winter 146 = .ok (.if_icmp .ne 6, 3) := dk_160 0 6 (dk_at dksX0_winter_6 3 rfl rfl)
theorem dX0_winter_149 : decode cX0_winter 149 = .ok (.goto 22, 3) := dk_167 0 22 (dk_at dksX0_winter_6 6 rfl rfl)
theorem dX0_winter_152 : decode cX0_winter 152 = .ok (.aload_n 0, 1) := dk_42 (dk_at dksX0_winter_6 9 rfl rfl)
theorem dX0_winter_153 : decode cX0_winter 153 = .ok (.getfield 437, 3) := dk_180 1 181 (dk_at dksX0_winter_6 10 rfl rfl)
theorem dX0_winter_156 : decode cX0_winter 156 = .ok (.iload 6, 2) := dk_21 6 (dk_at dksX0_winter_6 13 rfl rfl)
theorem dX0_winter_158 : decode cX0_winter 158 = .ok (.iload 9, 2) := dk_21 9 (dk_at dksX0_winter_6 15 rfl rfl)
theorem dX0_winter_160 : decode cX0_winter 160 = .ok (.iastore, 1) := dk_79 (dk_at dksX0_winter_6 17 rfl rfl)
theorem dX0_winter_161 : decode cX0_winter 161 = .ok (.iload 4, 2) := dk_21 4 (dk_at dksX0_winter_6 18 rfl rfl)
theorem dX0_winter_163 : decode cX0_winter 163 = .ok (.iload 9, 2) := dk_21 9 (dk_at dksX0_winter_6 20 rfl rfl)
theorem dX0_winter_165 : decode cX0_winter 165 = .ok (.ior, 1) := dk_128 (dk_at dksX0_winter_6 22 rfl rfl)
theorem dX0_winter_166 : decode cX0_winter 166 = .ok (.istore 4, 2) := dk_54 4 (dk_at dksX0_winter_7 0 rfl rfl)
theorem dX0_winter_168 : decode cX0_winter 168 = .ok (.iinc 5 1, 3) := dk_132 5 1 (dk_at dksX0_winter_7 2 rfl rfl)
theorem dX0_winter_171 : decode cX0_winter 171 = .ok (.iinc 6 1, 3) := dk_132 6 1 (dk_at dksX0_winter_7 5 rfl rfl)
theorem dX0_winter_174 : decode cX0_winter 174 = .ok (.goto (-109), 3) := dk_167 255 147 (dk_at dksX0_winter_7 8 rfl rfl)
theorem dX0_winter_177 : decode cX0_winter 177 = .ok (.aload_n 0, 1) := dk_42 (dk_at dksX0_winter_7 11 rfl rfl)
theorem dX0_winter_178 : decode cX0_winter 178 = .ok (.iload 5, 2) := dk_21 5 (dk_at dksX0_winter_7 12 rfl rfl)
theorem dX0_winter_180 : decode cX0_winter 180 = .ok (.invokevirtual 84, 3) := dk_182 0 84 (dk_at dksX0_winter_7 14 rfl rfl)
theorem dX0_winter_183 : decode cX0_winter 183 = .ok (.ireturn, 1) := dk_172 (dk_at dksX0_winter_7 17 rfl rfl)
abbrev cX0_drawn : ByteArray := prog_1_method_67_code
def yX0_drawn : MethodName := ⟨RX0, "drawn", "(I)I"⟩
def dkwX0_drawn_1 : List UInt8 := [42, 180, 1, 181, 27, 46, 167, 0, 4, 2, 172]
abbrev dktX0_drawn_1 : List UInt8 := dkwX0_drawn_1 ++ []
def dkwX0_drawn_0 : List UInt8 := [42, 180, 1, 181, 198, 0, 29, 27, 133, 9, 42, 180, 1, 181, 190, 4, 100, 133, 184, 0, 102, 153, 0, 12]
abbrev dktX0_drawn_0 : List UInt8 := dkwX0_drawn_0 ++ dktX0_drawn_1
theorem dksX0_drawn_0 : cX0_drawn.data.toList.drop 0 = dktX0_drawn_0 := by decide +kernel
theorem dksX0_drawn_1 : cX0_drawn.data.toList.drop 24 = dktX0_drawn_1 := dk_seg dksX0_drawn_0 24 rfl rfl
theorem dX0_drawn_0 : decode cX0_drawn 0 = .ok (.aload_n 0, 1) := dk_42 (dk_at dksX0_drawn_0 0 rfl rfl)
theorem dX0_drawn_1 : decode cX0_drawn 1 = .ok (.getfield 437, 3) := dk_180 1 181 (dk_at dksX0_drawn_0 1 rfl rfl)
theorem dX0_drawn_4 : decode cX0_drawn 4 = .ok (.ifnull 29, 3) := dk_198 0 29 (dk_at dksX0_drawn_0 4 rfl rfl)
theorem dX0_drawn_7 : decode cX0_drawn 7 = .ok (.iload_n 1, 1) := dk_27 (dk_at dksX0_drawn_0 7 rfl rfl)
theorem dX0_drawn_8 : decode cX0_drawn 8 = .ok (.i2l, 1) := dk_133 (dk_at dksX0_drawn_0 8 rfl rfl)
theorem dX0_drawn_9 : decode cX0_drawn 9 = .ok (.lconst 0, 1) := dk_9 (dk_at dksX0_drawn_0 9 rfl rfl)
theorem dX0_drawn_10 : decode cX0_drawn 10 = .ok (.aload_n 0, 1) := dk_42 (dk_at dksX0_drawn_0 10 rfl rfl)
theorem dX0_drawn_11 : decode cX0_drawn 11 = .ok (.getfield 437, 3) := dk_180 1 181 (dk_at dksX0_drawn_0 11 rfl rfl)
theorem dX0_drawn_14 : decode cX0_drawn 14 = .ok (.arraylength, 1) := dk_190 (dk_at dksX0_drawn_0 14 rfl rfl)
theorem dX0_drawn_15 : decode cX0_drawn 15 = .ok (.iconst 1, 1) := dk_4 (dk_at dksX0_drawn_0 15 rfl rfl)
theorem dX0_drawn_16 : decode cX0_drawn 16 = .ok (.isub, 1) := dk_100 (dk_at dksX0_drawn_0 16 rfl rfl)
theorem dX0_drawn_17 : decode cX0_drawn 17 = .ok (.i2l, 1) := dk_133 (dk_at dksX0_drawn_0 17 rfl rfl)
theorem dX0_drawn_18 : decode cX0_drawn 18 = .ok (.invokestatic 102, 3) := dk_184 0 102 (dk_at dksX0_drawn_0 18 rfl rfl)
theorem dX0_drawn_21 : decode cX0_drawn 21 = .ok (.ifCond .eq 12, 3) := dk_153 0 12 (dk_at dksX0_drawn_0 21 rfl rfl)
theorem dX0_drawn_24 : decode cX0_drawn 24 = .ok (.aload_n 0, 1) := dk_42 (dk_at dksX0_drawn_1 0 rfl rfl)
theorem dX0_drawn_25 : decode cX0_drawn 25 = .ok (.getfield 437, 3) := dk_180 1 181 (dk_at dksX0_drawn_1 1 rfl rfl)
theorem dX0_drawn_28 : decode cX0_drawn 28 = .ok (.iload_n 1, 1) := dk_27 (dk_at dksX0_drawn_1 4 rfl rfl)
theorem dX0_drawn_29 : decode cX0_drawn 29 = .ok (.iaload, 1) := dk_46 (dk_at dksX0_drawn_1 5 rfl rfl)
theorem dX0_drawn_30 : decode cX0_drawn 30 = .ok (.goto 4, 3) := dk_167 0 4 (dk_at dksX0_drawn_1 6 rfl rfl)
theorem dX0_drawn_33 : decode cX0_drawn 33 = .ok (.iconst (-1), 1) := dk_2 (dk_at dksX0_drawn_1 9 rfl rfl)
theorem dX0_drawn_34 : decode cX0_drawn 34 = .ok (.ireturn, 1) := dk_172 (dk_at dksX0_drawn_1 10 rfl rfl)
abbrev cX0_image : ByteArray := prog_1_method_68_code
def yX0_image : MethodName := ⟨RX0, "image", "(I)I"⟩
def dkwX0_image_1 : List UInt8 := [180, 0, 10, 182, 1, 187, 83, 42, 3, 182, 0, 84, 172]
abbrev dktX0_image_1 : List UInt8 := dkwX0_image_1 ++ []
def dkwX0_image_0 : List UInt8 := [27, 133, 9, 10, 184, 0, 102, 154, 0, 9, 42, 2, 182, 0, 84, 172, 42, 180, 0, 16, 27, 42]
abbrev dktX0_image_0 : List UInt8 := dkwX0_image_0 ++ dktX0_image_1
theorem dksX0_image_0 : cX0_image.data.toList.drop 0 = dktX0_image_0 := by decide +kernel
theorem dksX0_image_1 : cX0_image.data.toList.drop 22 = dktX0_image_1 := dk_seg dksX0_image_0 22 rfl rfl
theorem dX0_image_0 : decode cX0_image 0 = .ok (.iload_n 1, 1) := dk_27 (dk_at dksX0_image_0 0 rfl rfl)
theorem dX0_image_1 : decode cX0_image 1 = .ok (.i2l, 1) := dk_133 (dk_at dksX0_image_0 1 rfl rfl)
theorem dX0_image_2 : decode cX0_image 2 = .ok (.lconst 0, 1) := dk_9 (dk_at dksX0_image_0 2 rfl rfl)
theorem dX0_image_3 : decode cX0_image 3 = .ok (.lconst 1, 1) := dk_10 (dk_at dksX0_image_0 3 rfl rfl)
theorem dX0_image_4 : decode cX0_image 4 = .ok (.invokestatic 102, 3) := dk_184 0 102 (dk_at dksX0_image_0 4 rfl rfl)
theorem dX0_image_7 : decode cX0_image 7 = .ok (.ifCond .ne 9, 3) := dk_154 0 9 (dk_at dksX0_image_0 7 rfl rfl)
theorem dX0_image_10 : decode cX0_image 10 = .ok (.aload_n 0, 1) := dk_42 (dk_at dksX0_image_0 10 rfl rfl)
theorem dX0_image_11 : decode cX0_image 11 = .ok (.iconst (-1), 1) := dk_2 (dk_at dksX0_image_0 11 rfl rfl)
theorem dX0_image_12 : decode cX0_image 12 = .ok (.invokevirtual 84, 3) := dk_182 0 84 (dk_at dksX0_image_0 12 rfl rfl)
theorem dX0_image_15 : decode cX0_image 15 = .ok (.ireturn, 1) := dk_172 (dk_at dksX0_image_0 15 rfl rfl)
theorem dX0_image_16 : decode cX0_image 16 = .ok (.aload_n 0, 1) := dk_42 (dk_at dksX0_image_0 16 rfl rfl)
theorem dX0_image_17 : decode cX0_image 17 = .ok (.getfield 16, 3) := dk_180 0 16 (dk_at dksX0_image_0 17 rfl rfl)
theorem dX0_image_20 : decode cX0_image 20 = .ok (.iload_n 1, 1) := dk_27 (dk_at dksX0_image_0 20 rfl rfl)
theorem dX0_image_21 : decode cX0_image 21 = .ok (.aload_n 0, 1) := dk_42 (dk_at dksX0_image_0 21 rfl rfl)
theorem dX0_image_22 : decode cX0_image 22 = .ok (.getfield 10, 3) := dk_180 0 10 (dk_at dksX0_image_1 0 rfl rfl)
theorem dX0_image_25 : decode cX0_image 25 = .ok (.invokevirtual 443, 3) := dk_182 1 187 (dk_at dksX0_image_1 3 rfl rfl)
theorem dX0_image_28 : decode cX0_image 28 = .ok (.aastore, 1) := dk_83 (dk_at dksX0_image_1 6 rfl rfl)
theorem dX0_image_29 : decode cX0_image 29 = .ok (.aload_n 0, 1) := dk_42 (dk_at dksX0_image_1 7 rfl rfl)
theorem dX0_image_30 : decode cX0_image 30 = .ok (.iconst 0, 1) := dk_3 (dk_at dksX0_image_1 8 rfl rfl)
theorem dX0_image_31 : decode cX0_image 31 = .ok (.invokevirtual 84, 3) := dk_182 0 84 (dk_at dksX0_image_1 9 rfl rfl)
theorem dX0_image_34 : decode cX0_image 34 = .ok (.ireturn, 1) := dk_172 (dk_at dksX0_image_1 12 rfl rfl)
abbrev cX0_back : ByteArray := prog_1_method_69_code
def yX0_back : MethodName := ⟨RX0, "back", "(I)I"⟩
def dkwX0_back_2 : List UInt8 := [3, 182, 0, 150, 172]
abbrev dktX0_back_2 : List UInt8 := dkwX0_back_2 ++ []
def dkwX0_back_1 : List UInt8 := [199, 0, 10, 42, 16, 254, 182, 0, 84, 172, 42, 42, 180, 0, 16, 27, 50, 182, 1, 187, 181, 0, 10, 42]
abbrev dktX0_back_1 : List UInt8 := dkwX0_back_1 ++ dktX0_back_2
def dkwX0_back_0 : List UInt8 := [27, 133, 9, 10, 184, 0, 102, 154, 0, 9, 42, 2, 182, 0, 84, 172, 42, 180, 0, 16, 27, 50]
abbrev dktX0_back_0 : List UInt8 := dkwX0_back_0 ++ dktX0_back_1
theorem dksX0_back_0 : cX0_back.data.toList.drop 0 = dktX0_back_0 := by decide +kernel
theorem dksX0_back_1 : cX0_back.data.toList.drop 22 = dktX0_back_1 := dk_seg dksX0_back_0 22 rfl rfl
theorem dksX0_back_2 : cX0_back.data.toList.drop 46 = dktX0_back_2 := dk_seg dksX0_back_1 24 rfl rfl
theorem dX0_back_0 : decode cX0_back 0 = .ok (.iload_n 1, 1) := dk_27 (dk_at dksX0_back_0 0 rfl rfl)
theorem dX0_back_1 : decode cX0_back 1 = .ok (.i2l, 1) := dk_133 (dk_at dksX0_back_0 1 rfl rfl)
theorem dX0_back_2 : decode cX0_back 2 = .ok (.lconst 0, 1) := dk_9 (dk_at dksX0_back_0 2 rfl rfl)
theorem dX0_back_3 : decode cX0_back 3 = .ok (.lconst 1, 1) := dk_10 (dk_at dksX0_back_0 3 rfl rfl)
theorem dX0_back_4 : decode cX0_back 4 = .ok (.invokestatic 102, 3) := dk_184 0 102 (dk_at dksX0_back_0 4 rfl rfl)
theorem dX0_back_7 : decode cX0_back 7 = .ok (.ifCond .ne 9, 3) := dk_154 0 9 (dk_at dksX0_back_0 7 rfl rfl)
theorem dX0_back_10 : decode cX0_back 10 = .ok (.aload_n 0, 1) := dk_42 (dk_at dksX0_back_0 10 rfl rfl)
theorem dX0_back_11 : decode cX0_back 11 = .ok (.iconst (-1), 1) := dk_2 (dk_at dksX0_back_0 11 rfl rfl)
theorem dX0_back_12 : decode cX0_back 12 = .ok (.invokevirtual 84, 3) := dk_182 0 84 (dk_at dksX0_back_0 12 rfl rfl)
theorem dX0_back_15 : decode cX0_back 15 = .ok (.ireturn, 1) := dk_172 (dk_at dksX0_back_0 15 rfl rfl)
theorem dX0_back_16 : decode cX0_back 16 = .ok (.aload_n 0, 1) := dk_42 (dk_at dksX0_back_0 16 rfl rfl)
theorem dX0_back_17 : decode cX0_back 17 = .ok (.getfield 16, 3) := dk_180 0 16 (dk_at dksX0_back_0 17 rfl rfl)
theorem dX0_back_20 : decode cX0_back 20 = .ok (.iload_n 1, 1) := dk_27 (dk_at dksX0_back_0 20 rfl rfl)
theorem dX0_back_21 : decode cX0_back 21 = .ok (.aaload, 1) := dk_50 (dk_at dksX0_back_0 21 rfl rfl)
theorem dX0_back_22 : decode cX0_back 22 = .ok (.ifnonnull 10, 3) := dk_199 0 10 (dk_at dksX0_back_1 0 rfl rfl)
theorem dX0_back_25 : decode cX0_back 25 = .ok (.aload_n 0, 1) := dk_42 (dk_at dksX0_back_1 3 rfl rfl)
theorem dX0_back_26 : decode cX0_back 26 = .ok (.bipush (-2), 2) := dk_16 254 (dk_at dksX0_back_1 4 rfl rfl)
theorem dX0_back_28 : decode cX0_back 28 = .ok (.invokevirtual 84, 3) := dk_182 0 84 (dk_at dksX0_back_1 6 rfl rfl)
theorem dX0_back_31 : decode cX0_back 31 = .ok (.ireturn, 1) := dk_172 (dk_at dksX0_back_1 9 rfl rfl)
theorem dX0_back_32 : decode cX0_back 32 = .ok (.aload_n 0, 1) := dk_42 (dk_at dksX0_back_1 10 rfl rfl)
theorem dX0_back_33 : decode cX0_back 33 = .ok (.aload_n 0, 1) := dk_42 (dk_at dksX0_back_1 11 rfl rfl)
theorem dX0_back_34 : decode cX0_back 34 = .ok (.getfield 16, 3) := dk_180 0 16 (dk_at dksX0_back_1 12 rfl rfl)
theorem dX0_back_37 : decode cX0_back 37 = .ok (.iload_n 1, 1) := dk_27 (dk_at dksX0_back_1 15 rfl rfl)
theorem dX0_back_38 : decode cX0_back 38 = .ok (.aaload, 1) := dk_50 (dk_at dksX0_back_1 16 rfl rfl)
theorem dX0_back_39 : decode cX0_back 39 = .ok (.invokevirtual 443, 3) := dk_182 1 187 (dk_at dksX0_back_1 17 rfl rfl)
theorem dX0_back_42 : decode cX0_back 42 = .ok (.putfield 10, 3) := dk_181 0 10 (dk_at dksX0_back_1 20 rfl rfl)
theorem dX0_back_45 : decode cX0_back 45 = .ok (.aload_n 0, 1) := dk_42 (dk_at dksX0_back_1 23 rfl rfl)
theorem dX0_back_46 : decode cX0_back 46 = .ok (.iconst 0, 1) := dk_3 (dk_at dksX0_back_2 0 rfl rfl)
theorem dX0_back_47 : decode cX0_back 47 = .ok (.invokevirtual 150, 3) := dk_182 0 150 (dk_at dksX0_back_2 1 rfl rfl)
theorem dX0_back_50 : decode cX0_back 50 = .ok (.ireturn, 1) := dk_172 (dk_at dksX0_back_2 4 rfl rfl)
abbrev cX0_count : ByteArray := prog_1_method_71_code
def yX0_count : MethodName := ⟨RX0, "count", "(I)I"⟩
def dkwX0_count_7 : List UInt8 := [16, 14, 100, 182, 0, 197, 167, 0, 4, 2, 172]
abbrev dktX0_count_7 : List UInt8 := dkwX0_count_7 ++ []
def dkwX0_count_6 : List UInt8 := [42, 180, 0, 10, 180, 0, 230, 172, 27, 133, 20, 1, 193, 20, 1, 195, 184, 0, 102, 153, 0, 14, 42, 27]
abbrev dktX0_count_6 : List UInt8 := dkwX0_count_6 ++ dktX0_count_7
def dkwX0_count_5 : List UInt8 := [46, 172, 42, 180, 0, 48, 6, 46, 172, 42, 180, 0, 48, 8, 46, 172, 42, 180, 0, 48, 16, 6, 46, 172]
abbrev dktX0_count_5 : List UInt8 := dkwX0_count_5 ++ dktX0_count_6
def dkwX0_count_4 : List UInt8 := [180, 0, 23, 182, 0, 95, 172, 42, 180, 0, 110, 172, 42, 180, 0, 48, 4, 46, 172, 42, 180, 0, 48, 5]
abbrev dktX0_count_4 : List UInt8 := dkwX0_count_4 ++ dktX0_count_5
def dkwX0_count_3 : List UInt8 := [180, 1, 78, 172, 42, 182, 0, 132, 180, 1, 51, 172, 42, 180, 0, 10, 180, 0, 215, 182, 0, 95, 172, 42]
abbrev dktX0_count_3 : List UInt8 := dkwX0_count_3 ++ dktX0_count_4
def dkwX0_count_2 : List UInt8 := [42, 182, 0, 99, 172, 42, 182, 1, 191, 172, 42, 182, 0, 132, 180, 1, 69, 172, 42, 182, 0, 132]
abbrev dktX0_count_2 : List UInt8 := dkwX0_count_2 ++ dktX0_count_3
def dkwX0_count_1 : List UInt8 := [170, 0, 0, 0, 0, 0, 173, 0, 0, 0, 0, 0, 0, 0, 13, 0, 0, 0, 71, 0, 0, 0, 76, 0, 0, 0, 81, 0, 0, 0, 89, 0, 0, 0, 97, 0, 0, 0, 105, 0, 0, 0, 116, 0, 0, 0, 124, 0, 0, 0, 129, 0, 0, 0, 136, 0, 0, 0, 143, 0, 0, 0, 150, 0, 0, 0, 157, 0, 0, 0, 165]
abbrev dktX0_count_1 : List UInt8 := dkwX0_count_1 ++ dktX0_count_2
def dkwX0_count_0 : List UInt8 := [27]
abbrev dktX0_count_0 : List UInt8 := dkwX0_count_0 ++ dktX0_count_1
theorem dksX0_count_0 : cX0_count.data.toList.drop 0 = dktX0_count_0 := by decide +kernel
theorem dksX0_count_1 : cX0_count.data.toList.drop 1 = dktX0_count_1 := dk_seg dksX0_count_0 1 rfl rfl
theorem dksX0_count_2 : cX0_count.data.toList.drop 72 = dktX0_count_2 := dk_seg dksX0_count_1 71 rfl rfl
theorem dksX0_count_3 : cX0_count.data.toList.drop 94 = dktX0_count_3 := dk_seg dksX0_count_2 22 rfl rfl
theorem dksX0_count_4 : cX0_count.data.toList.drop 118 = dktX0_count_4 := dk_seg dksX0_count_3 24 rfl rfl
theorem dksX0_count_5 : cX0_count.data.toList.drop 142 = dktX0_count_5 := dk_seg dksX0_count_4 24 rfl rfl
theorem dksX0_count_6 : cX0_count.data.toList.drop 166 = dktX0_count_6 := dk_seg dksX0_count_5 24 rfl rfl
theorem dksX0_count_7 : cX0_count.data.toList.drop 190 = dktX0_count_7 := dk_seg dksX0_count_6 24 rfl rfl
theorem dX0_count_0 : decode cX0_count 0 = .ok (.iload_n 1, 1) := dk_27 (dk_at dksX0_count_0 0 rfl rfl)
theorem dX0_count_1 : decode cX0_count 1 = .ok (.tableswitch 173 0 13 #[71, 76, 81, 89, 97, 105, 116, 124, 129, 136, 143, 150, 157, 165], 71) := by decide +kernel
theorem dX0_count_72 : decode cX0_count 72 = .ok (.aload_n 0, 1) := dk_42 (dk_at dksX0_count_2 0 rfl rfl)
theorem dX0_count_73 : decode cX0_count 73 = .ok (.invokevirtual 99, 3) := dk_182 0 99 (dk_at dksX0_count_2 1 rfl rfl)
theorem dX0_count_76 : decode cX0_count 76 = .ok (.ireturn, 1) := dk_172 (dk_at dksX0_count_2 4 rfl rfl)
theorem dX0_count_77 : decode cX0_count 77 = .ok (.aload_n 0, 1) := dk_42 (dk_at dksX0_count_2 5 rfl rfl)
theorem dX0_count_78 : decode cX0_count 78 = .ok (.invokevirtual 447, 3) := dk_182 1 191 (dk_at dksX0_count_2 6 rfl rfl)
theorem dX0_count_81 : decode cX0_count 81 = .ok (.ireturn, 1) := dk_172 (dk_at dksX0_count_2 9 rfl rfl)
theorem dX0_count_82 : decode cX0_count 82 = .ok (.aload_n 0, 1) := dk_42 (dk_at dksX0_count_2 10 rfl rfl)
theorem dX0_count_83 : decode cX0_count 83 = .ok (.invokevirtual 132, 3) := dk_182 0 132 (dk_at dksX0_count_2 11 rfl rfl)
theorem dX0_count_86 : decode cX0_count 86 = .ok (.getfield 325, 3) := dk_180 1 69 (dk_at dksX0_count_2 14 rfl rfl)
theorem dX0_count_89 : decode cX0_count 89 = .ok (.ireturn, 1) := dk_172 (dk_at dksX0_count_2 17 rfl rfl)
theorem dX0_count_90 : decode cX0_count 90 = .ok (.aload_n 0, 1) := dk_42 (dk_at dksX0_count_2 18 rfl rfl)
theorem dX0_count_91 : decode cX0_count 91 = .ok (.invokevirtual 132, 3) := dk_182 0 132 (dk_at dksX0_count_2 19 rfl rfl)
theorem dX0_count_94 : decode cX0_count 94 = .ok (.getfield 334, 3) := dk_180 1 78 (dk_at dksX0_count_3 0 rfl rfl)
theorem dX0_count_97 : decode cX0_count 97 = .ok (.ireturn, 1) := dk_172 (dk_at dksX0_count_3 3 rfl rfl)
theorem dX0_count_98 : decode cX0_count 98 = .ok (.aload_n 0, 1) := dk_42 (dk_at dksX0_count_3 4 rfl rfl)
theorem dX0_count_99 : decode cX0_count 99 = .ok (.invokevirtual 132, 3) := dk_182 0 132 (dk_at dksX0_count_3 5 rfl rfl)
theorem dX0_count_102 : decode cX0_count 102 = .ok (.getfield 307, 3) := dk_180 1 51 (dk_at dksX0_count_3 8 rfl rfl)
theorem dX0_count_105 : decode cX0_count 105 = .ok (.ireturn, 1) := dk_172 (dk_at dksX0_count_3 11 rfl rfl)
theorem dX0_count_106 : decode cX0_count 106 = .ok (.aload_n 0, 1) := dk_42 (dk_at dksX0_count_3 12 rfl rfl)
theorem dX0_count_107 : decode cX0_count 107 = .ok (.getfield 10, 3) := dk_180 0 10 (dk_at dksX0_count_3 13 rfl rfl)
theorem dX0_count_110 : decode cX0_count 110 = .ok (.getfield 215, 3) := dk_180 0 215 (dk_at dksX0_count_3 16 rfl rfl)
theorem dX0_count_113 : decode cX0_count 113 = .ok (.invokevirtual 95, 3) := dk_182 0 95 (dk_at dksX0_count_3 19 rfl rfl)
theorem dX0_count_116 : decode cX0_count 116 = .ok (.ireturn, 1) := dk_172 (dk_at dksX0_count_3 22 rfl rfl)
theorem dX0_count_117 : decode cX0_count 117 = .ok (.aload_n 0, 1) := dk_42 (dk_at dksX0_count_3 23 rfl rfl)
theorem dX0_count_118 : decode cX0_count 118 = .ok (.getfield 23, 3) := dk_180 0 23 (dk_at dksX0_count_4 0 rfl rfl)
theorem dX0_count_121 : decode cX0_count 121 = .ok (.invokevirtual 95, 3) := dk_182 0 95 (dk_at dksX0_count_4 3 rfl rfl)
theorem dX0_count_124 : decode cX0_count 124 = .ok (.ireturn, 1) := dk_172 (dk_at dksX0_count_4 6 rfl rfl)
theorem dX0_count_125 : decode cX0_count 125 = .ok (.aload_n 0, 1) := dk_42 (dk_at dksX0_count_4 7 rfl rfl)
theorem dX0_count_126 : decode cX0_count 126 = .ok (.getfield 110, 3) := dk_180 0 110 (dk_at dksX0_count_4 8 rfl rfl)
theorem dX0_count_129 : decode cX0_count 129 = .ok (.ireturn, 1) := dk_172 (dk_at dksX0_count_4 11 rfl rfl)
theorem dX0_count_130 : decode cX0_count 130 = .ok (.aload_n 0, 1) := dk_42 (dk_at dksX0_count_4 12 rfl rfl)
theorem dX0_count_131 : decode cX0_count 131 = .ok (.getfield 48, 3) := dk_180 0 48 (dk_at dksX0_count_4 13 rfl rfl)
theorem dX0_count_134 : decode cX0_count 134 = .ok (.iconst 1, 1) := dk_4 (dk_at dksX0_count_4 16 rfl rfl)
theorem dX0_count_135 : decode cX0_count 135 = .ok (.iaload, 1) := dk_46 (dk_at dksX0_count_4 17 rfl rfl)
theorem dX0_count_136 : decode cX0_count 136 = .ok (.ireturn, 1) := dk_172 (dk_at dksX0_count_4 18 rfl rfl)
theorem dX0_count_137 : decode cX0_count 137 = .ok (.aload_n 0, 1) := dk_42 (dk_at dksX0_count_4 19 rfl rfl)
theorem dX0_count_138 : decode cX0_count 138 = .ok (.getfield 48, 3) := dk_180 0 48 (dk_at dksX0_count_4 20 rfl rfl)
theorem dX0_count_141 : decode cX0_count 141 = .ok (.iconst 2, 1) := dk_5 (dk_at dksX0_count_4 23 rfl rfl)
theorem dX0_count_142 : decode cX0_count 142 = .ok (.iaload, 1) := dk_46 (dk_at dksX0_count_5 0 rfl rfl)
theorem dX0_count_143 : decode cX0_count 143 = .ok (.ireturn, 1) := dk_172 (dk_at dksX0_count_5 1 rfl rfl)
theorem dX0_count_144 : decode cX0_count 144 = .ok (.aload_n 0, 1) := dk_42 (dk_at dksX0_count_5 2 rfl rfl)
theorem dX0_count_145 : decode cX0_count 145 = .ok (.getfield 48, 3) := dk_180 0 48 (dk_at dksX0_count_5 3 rfl rfl)
theorem dX0_count_148 : decode cX0_count 148 = .ok (.iconst 3, 1) := dk_6 (dk_at dksX0_count_5 6 rfl rfl)
theorem dX0_count_149 : decode cX0_count 149 = .ok (.iaload, 1) := dk_46 (dk_at dksX0_count_5 7 rfl rfl)
theorem dX0_count_150 : decode cX0_count 150 = .ok (.ireturn, 1) := dk_172 (dk_at dksX0_count_5 8 rfl rfl)
theorem dX0_count_151 : decode cX0_count 151 = .ok (.aload_n 0, 1) := dk_42 (dk_at dksX0_count_5 9 rfl rfl)
theorem dX0_count_152 : decode cX0_count 152 = .ok (.getfield 48, 3) := dk_180 0 48 (dk_at dksX0_count_5 10 rfl rfl)
theorem dX0_count_155 : decode cX0_count 155 = .ok (.iconst 5, 1) := dk_8 (dk_at dksX0_count_5 13 rfl rfl)
theorem dX0_count_156 : decode cX0_count 156 = .ok (.iaload, 1) := dk_46 (dk_at dksX0_count_5 14 rfl rfl)
theorem dX0_count_157 : decode cX0_count 157 = .ok (.ireturn, 1) := dk_172 (dk_at dksX0_count_5 15 rfl rfl)
theorem dX0_count_158 : decode cX0_count 158 = .ok (.aload_n 0, 1) := dk_42 (dk_at dksX0_count_5 16 rfl rfl)
theorem dX0_count_159 : decode cX0_count 159 = .ok (.getfield 48, 3) := dk_180 0 48 (dk_at dksX0_count_5 17 rfl rfl)
theorem dX0_count_162 : decode cX0_count 162 = .ok (.bipush 6, 2) := dk_16 6 (dk_at dksX0_count_5 20 rfl rfl)
theorem dX0_count_164 : decode cX0_count 164 = .ok (.iaload, 1) := dk_46 (dk_at dksX0_count_5 22 rfl rfl)
theorem dX0_count_165 : decode cX0_count 165 = .ok (.ireturn, 1) := dk_172 (dk_at dksX0_count_5 23 rfl rfl)
theorem dX0_count_166 : decode cX0_count 166 = .ok (.aload_n 0, 1) := dk_42 (dk_at dksX0_count_6 0 rfl rfl)
theorem dX0_count_167 : decode cX0_count 167 = .ok (.getfield 10, 3) := dk_180 0 10 (dk_at dksX0_count_6 1 rfl rfl)
theorem dX0_count_170 : decode cX0_count 170 = .ok (.getfield 230, 3) := dk_180 0 230 (dk_at dksX0_count_6 4 rfl rfl)
theorem dX0_count_173 : decode cX0_count 173 = .ok (.ireturn, 1) := dk_172 (dk_at dksX0_count_6 7 rfl rfl)
theorem dX0_count_174 : decode cX0_count 174 = .ok (.iload_n 1, 1) := dk_27 (dk_at dksX0_count_6 8 rfl rfl)
theorem dX0_count_175 : decode cX0_count 175 = .ok (.i2l, 1) := dk_133 (dk_at dksX0_count_6 9 rfl rfl)
theorem dX0_count_176 : decode cX0_count 176 = .ok (.ldc2_w 449, 3) := dk_20 1 193 (dk_at dksX0_count_6 10 rfl rfl)
theorem dX0_count_179 : decode cX0_count 179 = .ok (.ldc2_w 451, 3) := dk_20 1 195 (dk_at dksX0_count_6 13 rfl rfl)
theorem dX0_count_182 : decode cX0_count 182 = .ok (.invokestatic 102, 3) := dk_184 0 102 (dk_at dksX0_count_6 16 rfl rfl)
theorem dX0_count_185 : decode cX0_count 185 = .ok (.ifCond .eq 14, 3) := dk_153 0 14 (dk_at dksX0_count_6 19 rfl rfl)
theorem dX0_count_188 : decode cX0_count 188 = .ok (.aload_n 0, 1) := dk_42 (dk_at dksX0_count_6 22 rfl rfl)
theorem dX0_count_189 : decode cX0_count 189 = .ok (.iload_n 1, 1) := dk_27 (dk_at dksX0_count_6 23 rfl rfl)
theorem dX0_count_190 : decode cX0_count 190 = .ok (.bipush 14, 2) := dk_16 14 (dk_at dksX0_count_7 0 rfl rfl)
theorem dX0_count_192 : decode cX0_count 192 = .ok (.isub, 1) := dk_100 (dk_at dksX0_count_7 2 rfl rfl)
theorem dX0_count_193 : decode cX0_count 193 = .ok (.invokevirtual 197, 3) := dk_182 0 197 (dk_at dksX0_count_7 3 rfl rfl)
theorem dX0_count_196 : decode cX0_count 196 = .ok (.goto 4, 3) := dk_167 0 4 (dk_at dksX0_count_7 6 rfl rfl)
theorem dX0_count_199 : decode cX0_count 199 = .ok (.iconst (-1), 1) := dk_2 (dk_at dksX0_count_7 9 rfl rfl)
theorem dX0_count_200 : decode cX0_count 200 = .ok (.ireturn, 1) := dk_172 (dk_at dksX0_count_7 10 rfl rfl)
abbrev cX0_talks : ByteArray := prog_1_method_70_code
def yX0_talks : MethodName := ⟨RX0, "talks", "()I"⟩
def dkwX0_talks_1 : List UInt8 := [184, 1, 140, 96, 60, 132, 2, 1, 167, 255, 230, 27, 5, 108, 172]
abbrev dktX0_talks_1 : List UInt8 := dkwX0_talks_1 ++ []
def dkwX0_talks_0 : List UInt8 := [3, 60, 3, 61, 28, 42, 182, 0, 99, 162, 0, 24, 27, 42, 180, 0, 10, 180, 0, 173, 28, 46]
abbrev dktX0_talks_0 : List UInt8 := dkwX0_talks_0 ++ dktX0_talks_1
theorem dksX0_talks_0 : cX0_talks.data.toList.drop 0 = dktX0_talks_0 := by decide +kernel
theorem dksX0_talks_1 : cX0_talks.data.toList.drop 22 = dktX0_talks_1 := dk_seg dksX0_talks_0 22 rfl rfl
theorem dX0_talks_0 : decode cX0_talks 0 = .ok (.iconst 0, 1) := dk_3 (dk_at dksX0_talks_0 0 rfl rfl)
theorem dX0_talks_1 : decode cX0_talks 1 = .ok (.istore_n 1, 1) := dk_60 (dk_at dksX0_talks_0 1 rfl rfl)
theorem dX0_talks_2 : decode cX0_talks 2 = .ok (.iconst 0, 1) := dk_3 (dk_at dksX0_talks_0 2 rfl rfl)
theorem dX0_talks_3 : decode cX0_talks 3 = .ok (.istore_n 2, 1) := dk_61 (dk_at dksX0_talks_0 3 rfl rfl)
theorem dX0_talks_4 : decode cX0_talks 4 = .ok (.iload_n 2, 1) := dk_28 (dk_at dksX0_talks_0 4 rfl rfl)
theorem dX0_talks_5 : decode cX0_talks 5 = .ok (.aload_n 0, 1) := dk_42 (dk_at dksX0_talks_0 5 rfl rfl)
theorem dX0_talks_6 : decode cX0_talks 6 = .ok (.invokevirtual 99, 3) := dk_182 0 99 (dk_at dksX0_talks_0 6 rfl rfl)
theorem dX0_talks_9 : decode cX0_talks 9 = .ok (.if_icmp .ge 24, 3) := dk_162 0 24 (dk_at dksX0_talks_0 9 rfl rfl)
theorem dX0_talks_12 : decode cX0_talks 12 = .ok (.iload_n 1, 1) := dk_27 (dk_at dksX0_talks_0 12 rfl rfl)
theorem dX0_talks_13 : decode cX0_talks 13 = .ok (.aload_n 0, 1) := dk_42 (dk_at dksX0_talks_0 13 rfl rfl)
theorem dX0_talks_14 : decode cX0_talks 14 = .ok (.getfield 10, 3) := dk_180 0 10 (dk_at dksX0_talks_0 14 rfl rfl)
theorem dX0_talks_17 : decode cX0_talks 17 = .ok (.getfield 173, 3) := dk_180 0 173 (dk_at dksX0_talks_0 17 rfl rfl)
theorem dX0_talks_20 : decode cX0_talks 20 = .ok (.iload_n 2, 1) := dk_28 (dk_at dksX0_talks_0 20 rfl rfl)
theorem dX0_talks_21 : decode cX0_talks 21 = .ok (.iaload, 1) := dk_46 (dk_at dksX0_talks_0 21 rfl rfl)
theorem dX0_talks_22 : decode cX0_talks 22 = .ok (.invokestatic 396, 3) := dk_184 1 140 (dk_at dksX0_talks_1 0 rfl rfl)
theorem dX0_talks_25 : decode cX0_talks 25 = .ok (.iadd, 1) := dk_96 (dk_at dksX0_talks_1 3 rfl rfl)
theorem dX0_talks_26 : decode cX0_talks 26 = .ok (.istore_n 1, 1) := dk_60 (dk_at dksX0_talks_1 4 rfl rfl)
theorem dX0_talks_27 : decode cX0_talks 27 = .ok (.iinc 2 1, 3) := dk_132 2 1 (dk_at dksX0_talks_1 5 rfl rfl)
theorem dX0_talks_30 : decode cX0_talks 30 = .ok (.goto (-26), 3) := dk_167 255 230 (dk_at dksX0_talks_1 8 rfl rfl)
theorem dX0_talks_33 : decode cX0_talks 33 = .ok (.iload_n 1, 1) := dk_27 (dk_at dksX0_talks_1 11 rfl rfl)
theorem dX0_talks_34 : decode cX0_talks 34 = .ok (.iconst 2, 1) := dk_5 (dk_at dksX0_talks_1 12 rfl rfl)
theorem dX0_talks_35 : decode cX0_talks 35 = .ok (.idiv, 1) := dk_108 (dk_at dksX0_talks_1 13 rfl rfl)
theorem dX0_talks_36 : decode cX0_talks 36 = .ok (.ireturn, 1) := dk_172 (dk_at dksX0_talks_1 14 rfl rfl)
abbrev cX0_status : ByteArray := prog_1_method_72_code
def yX0_status : MethodName := ⟨RX0, "status", "()I"⟩
theorem dX0_status_0 : decode cX0_status 0 = .ok (.aload_n 0, 1) := by decide +kernel
theorem dX0_status_1 : decode cX0_status 1 = .ok (.getfield 78, 3) := by decide +kernel
theorem dX0_status_4 : decode cX0_status 4 = .ok (.ireturn, 1) := by decide +kernel
theorem q119 : (Jvm.Cond.initialized "LitStrangers") ∈ lw_all := lw_g (lw_at lw_m1 1 rfl) rfl
theorem q166 : (Jvm.Cond.instantiable "LitStrangers" (16 : Nat)) ∈ lw_all := lw_g (lw_at lw_m1 48 rfl) rfl
theorem q168 : (Jvm.Cond.instanceMethod ({ cls := "LitStrangers", name := "<init>", desc := "()V" } : Jvm.MethodName)) ∈ lw_all := lw_g (lw_at lw_m1 50 rfl) rfl
theorem q169 : (Jvm.Cond.code ({ cls := "LitStrangers", name := "<init>", desc := "()V" } : Jvm.MethodName) prog_1_method_3_code (1 : Nat) (Option.none : Option Jvm.ClassFile.FieldType)) ∈ lw_all := lw_g (lw_at lw_m1 51 rfl) rfl
theorem q170 : (Jvm.Cond.methodLink "LitStrangers" (1 : Nat) ({ cls := "java/lang/Object", name := "<init>", desc := "()V" } : Jvm.MethodName)) ∈ lw_all := lw_g (lw_at lw_m1 52 rfl) rfl
theorem q173 : (Jvm.Cond.classLink "LitStrangers" (7 : Nat) "LitStrangers$Coast") ∈ lw_all := lw_g (lw_at lw_m1 55 rfl) rfl
theorem q175 : (Jvm.Cond.methodLinkNest "LitStrangers" (9 : Nat) ({ cls := "LitStrangers$Coast", name := "<init>", desc := "()V" } : Jvm.MethodName) "LitStrangers") ∈ lw_tbl := lw_at lw_m1 57 rfl
theorem q214 : (Jvm.Cond.fieldLinkNest "LitStrangers" (135 : Nat) "LitStrangers$Books" "where" "[I" "LitStrangers") ∈ lw_tbl := lw_at lw_m1 96 rfl
theorem q217 : (Jvm.Cond.fieldLinkNest "LitStrangers" (140 : Nat) "LitStrangers$Books" "until" "[I" "LitStrangers") ∈ lw_tbl := lw_at lw_m1 99 rfl
theorem q220 : (Jvm.Cond.fieldLinkNest "LitStrangers" (143 : Nat) "LitStrangers$Books" "heard" "[I" "LitStrangers") ∈ lw_tbl := lw_at lw_m1 102 rfl
theorem q224 : (Jvm.Cond.fieldLinkNest "LitStrangers" (178 : Nat) "LitStrangers$Books" "day" "I" "LitStrangers") ∈ lw_tbl := lw_at lw_m1 106 rfl
theorem q227 : (Jvm.Cond.fieldLinkNest "LitStrangers" (325 : Nat) "LitStrangers$Books" "lit" "I" "LitStrangers") ∈ lw_tbl := lw_at lw_m1 109 rfl
theorem q230 : (Jvm.Cond.fieldLinkNest "LitStrangers" (334 : Nat) "LitStrangers$Books" "dark" "I" "LitStrangers") ∈ lw_tbl := lw_at lw_m1 112 rfl
theorem q233 : (Jvm.Cond.fieldLinkNest "LitStrangers" (307 : Nat) "LitStrangers$Books" "spent" "I" "LitStrangers") ∈ lw_tbl := lw_at lw_m1 115 rfl
theorem q251 : (Jvm.Cond.fieldLinkNest "LitStrangers" (215 : Nat) "LitStrangers$Coast" "laws" "Ljava/util/ArrayList;" "LitStrangers") ∈ lw_tbl := lw_at lw_m1 133 rfl
theorem q253 : (Jvm.Cond.fieldLinkNest "LitStrangers" (92 : Nat) "LitStrangers$Coast" "people" "Ljava/util/ArrayList;" "LitStrangers") ∈ lw_tbl := lw_at lw_m1 135 rfl
theorem q256 : (Jvm.Cond.fieldLinkNest "LitStrangers" (88 : Nat) "LitStrangers$Coast" "books" "LLitStrangers$Books;" "LitStrangers") ∈ lw_tbl := lw_at lw_m1 138 rfl
theorem q259 : (Jvm.Cond.fieldLinkNest "LitStrangers" (173 : Nat) "LitStrangers$Coast" "talks" "[I" "LitStrangers") ∈ lw_tbl := lw_at lw_m1 141 rfl
theorem q261 : (Jvm.Cond.fieldLinkNest "LitStrangers" (106 : Nat) "LitStrangers$Coast" "fog" "[Z" "LitStrangers") ∈ lw_tbl := lw_at lw_m1 143 rfl
theorem q263 : (Jvm.Cond.fieldLinkNest "LitStrangers" (181 : Nat) "LitStrangers$Coast" "foggy" "I" "LitStrangers") ∈ lw_tbl := lw_at lw_m1 145 rfl
theorem q265 : (Jvm.Cond.fieldLinkNest "LitStrangers" (184 : Nat) "LitStrangers$Coast" "mood" "I" "LitStrangers") ∈ lw_tbl := lw_at lw_m1 147 rfl
theorem q267 : (Jvm.Cond.fieldLinkNest "LitStrangers" (230 : Nat) "LitStrangers$Coast" "inForce" "I" "LitStrangers") ∈ lw_tbl := lw_at lw_m1 149 rfl
theorem q287 : (Jvm.Cond.classLink "LitStrangers" (20 : Nat) "java/util/ArrayList") ∈ lw_all := lw_g (lw_at lw_m1 169 rfl) rfl
theorem q288 : (Jvm.Cond.methodLink "LitStrangers" (22 : Nat) ({ cls := "java/util/ArrayList", name := "<init>", desc := "()V" } : Jvm.MethodName)) ∈ lw_all := lw_g (lw_at lw_m1 170 rfl) rfl
theorem q289 : (Jvm.Cond.classLink "LitStrangers" (27 : Nat) "LitStrangers$Asked") ∈ lw_all := lw_g (lw_at lw_m1 171 rfl) rfl
theorem q291 : (Jvm.Cond.methodLinkNest "LitStrangers" (29 : Nat) ({ cls := "LitStrangers$Asked", name := "<init>", desc := "()V" } : Jvm.MethodName) "LitStrangers") ∈ lw_tbl := lw_at lw_m1 173 rfl
theorem q298 : (Jvm.Cond.fieldLinkNest "LitStrangers" (233 : Nat) "LitStrangers$Asked" "numbers" "[J" "LitStrangers") ∈ lw_tbl := lw_at lw_m1 180 rfl
theorem q312 : (Jvm.Cond.classLink "LitStrangers" (37 : Nat) "LitStrangers$Text") ∈ lw_all := lw_g (lw_at lw_m1 194 rfl) rfl
theorem q314 : (Jvm.Cond.classLink "LitStrangers" (39 : Nat) "LitStrangers$Clause") ∈ lw_all := lw_g (lw_at lw_m1 196 rfl) rfl
theorem q316 : (Jvm.Cond.methodLink "LitStrangers" (41 : Nat) ({ cls := "LitStrangers$Text", name := "<init>", desc := "([LLitStrangers$Clause;)V" } : Jvm.MethodName)) ∈ lw_all := lw_g (lw_at lw_m1 198 rfl) rfl
theorem q324 : (Jvm.Cond.classLink "LitStrangers" (63 : Nat) "LitStrangers$Nights") ∈ lw_all := lw_g (lw_at lw_m1 206 rfl) rfl
theorem q326 : (Jvm.Cond.methodLinkNest "LitStrangers" (65 : Nat) ({ cls := "LitStrangers$Nights", name := "<init>", desc := "(LLitStrangers;)V" } : Jvm.MethodName) "LitStrangers") ∈ lw_tbl := lw_at lw_m1 208 rfl
theorem q339 : (Jvm.Cond.fieldLinkNest "LitStrangers" (378 : Nat) "LitStrangers$Nights" "from" "[I" "LitStrangers") ∈ lw_tbl := lw_at lw_m1 221 rfl
theorem q349 : (Jvm.Cond.fieldLinkNest "LitStrangers" (358 : Nat) "LitStrangers$Nights" "n" "I" "LitStrangers") ∈ lw_tbl := lw_at lw_m1 231 rfl
theorem q351 : (Jvm.Cond.fieldLinkNest "LitStrangers" (384 : Nat) "LitStrangers$Nights" "worths" "[[I" "LitStrangers") ∈ lw_tbl := lw_at lw_m1 233 rfl
theorem q380 : (Jvm.Cond.fieldLink "LitStrangers" (10 : Nat) "LitStrangers" "coast" "LLitStrangers$Coast;") ∈ lw_all := lw_g (lw_at lw_m2 22 rfl) rfl
theorem q381 : (Jvm.Cond.fieldLink "LitStrangers" (16 : Nat) "LitStrangers" "images" "[LLitStrangers$Coast;") ∈ lw_all := lw_g (lw_at lw_m2 23 rfl) rfl
theorem q382 : (Jvm.Cond.fieldLink "LitStrangers" (23 : Nat) "LitStrangers" "undos" "Ljava/util/ArrayList;") ∈ lw_all := lw_g (lw_at lw_m2 24 rfl) rfl
theorem q383 : (Jvm.Cond.fieldLink "LitStrangers" (30 : Nat) "LitStrangers" "asked" "LLitStrangers$Asked;") ∈ lw_all := lw_g (lw_at lw_m2 25 rfl) rfl
theorem q385 : (Jvm.Cond.fieldLink "LitStrangers" (34 : Nat) "LitStrangers" "inOrders" "LLitStrangers$Asked;") ∈ lw_all := lw_g (lw_at lw_m2 27 rfl) rfl
theorem q386 : (Jvm.Cond.fieldLink "LitStrangers" (44 : Nat) "LitStrangers" "nothingTold" "LLitStrangers$Text;") ∈ lw_all := lw_g (lw_at lw_m2 28 rfl) rfl
theorem q387 : (Jvm.Cond.fieldLink "LitStrangers" (48 : Nat) "LitStrangers" "refused" "[I") ∈ lw_all := lw_g (lw_at lw_m2 29 rfl) rfl
theorem q388 : (Jvm.Cond.fieldLink "LitStrangers" (78 : Nat) "LitStrangers" "status" "I") ∈ lw_all := lw_g (lw_at lw_m2 30 rfl) rfl
theorem q389 : (Jvm.Cond.fieldLink "LitStrangers" (52 : Nat) "LitStrangers" "fault" "I") ∈ lw_all := lw_g (lw_at lw_m2 31 rfl) rfl
theorem q390 : (Jvm.Cond.fieldLink "LitStrangers" (206 : Nat) "LitStrangers" "salt" "I") ∈ lw_all := lw_g (lw_at lw_m2 32 rfl) rfl
theorem q391 : (Jvm.Cond.fieldLink "LitStrangers" (56 : Nat) "LitStrangers" "stopped" "I") ∈ lw_all := lw_g (lw_at lw_m2 33 rfl) rfl
theorem q393 : (Jvm.Cond.fieldLink "LitStrangers" (59 : Nat) "LitStrangers" "tape" "[B") ∈ lw_all := lw_g (lw_at lw_m2 35 rfl) rfl
theorem q396 : (Jvm.Cond.fieldLink "LitStrangers" (110 : Nat) "LitStrangers" "taped" "I") ∈ lw_all := lw_g (lw_at lw_m2 38 rfl) rfl
theorem q397 : (Jvm.Cond.fieldLink "LitStrangers" (68 : Nat) "LitStrangers" "nights" "LLitStrangers$Nights;") ∈ lw_all := lw_g (lw_at lw_m2 39 rfl) rfl
theorem q399 : (Jvm.Cond.fieldLink "LitStrangers" (409 : Nat) "LitStrangers" "done" "I") ∈ lw_all := lw_g (lw_at lw_m2 41 rfl) rfl
theorem q400 : (Jvm.Cond.fieldLink "LitStrangers" (437 : Nat) "LitStrangers" "drawn" "[I") ∈ lw_all := lw_g (lw_at lw_m2 42 rfl) rfl
theorem q401 : (Jvm.Cond.lays "LitStrangers" "LitStrangers" "coast" "LLitStrangers$Coast;") ∈ lw_all := lw_g (lw_at lw_m2 43 rfl) rfl
theorem q402 : (Jvm.Cond.soleField "LitStrangers" "coast") ∈ lw_all := lw_g (lw_at lw_m2 44 rfl) rfl
theorem q403 : (Jvm.Cond.laysFinal "LitStrangers" "LitStrangers" "images" "[LLitStrangers$Coast;") ∈ lw_all := lw_g (lw_at lw_m2 45 rfl) rfl
theorem q404 : (Jvm.Cond.soleField "LitStrangers" "images") ∈ lw_all := lw_g (lw_at lw_m2 46 rfl) rfl
theorem q405 : (Jvm.Cond.laysFinal "LitStrangers" "LitStrangers" "undos" "Ljava/util/ArrayList;") ∈ lw_all := lw_g (lw_at lw_m2 47 rfl) rfl
theorem q406 : (Jvm.Cond.soleField "LitStrangers" "undos") ∈ lw_all := lw_g (lw_at lw_m2 48 rfl) rfl
theorem q407 : (Jvm.Cond.laysFinal "LitStrangers" "LitStrangers" "asked" "LLitStrangers$Asked;") ∈ lw_all := lw_g (lw_at lw_m2 49 rfl) rfl
theorem q408 : (Jvm.Cond.soleField "LitStrangers" "asked") ∈ lw_all := lw_g (lw_at lw_m2 50 rfl) rfl
theorem q409 : (Jvm.Cond.laysFinal "LitStrangers" "LitStrangers" "inOrders" "LLitStrangers$Asked;") ∈ lw_all := lw_g (lw_at lw_m2 51 rfl) rfl
theorem q410 : (Jvm.Cond.soleField "LitStrangers" "inOrders") ∈ lw_all := lw_g (lw_at lw_m2 52 rfl) rfl
theorem q411 : (Jvm.Cond.laysFinal "LitStrangers" "LitStrangers" "nothingTold" "LLitStrangers$Text;") ∈ lw_all := lw_g (lw_at lw_m2 53 rfl) rfl
theorem q412 : (Jvm.Cond.soleField "LitStrangers" "nothingTold") ∈ lw_all := lw_g (lw_at lw_m2 54 rfl) rfl
theorem q413 : (Jvm.Cond.laysFinal "LitStrangers" "LitStrangers" "refused" "[I") ∈ lw_all := lw_g (lw_at lw_m2 55 rfl) rfl
theorem q414 : (Jvm.Cond.soleField "LitStrangers" "refused") ∈ lw_all := lw_g (lw_at lw_m2 56 rfl) rfl
theorem q415 : (Jvm.Cond.lays "LitStrangers" "LitStrangers" "status" "I") ∈ lw_all := lw_g (lw_at lw_m2 57 rfl) rfl
theorem q416 : (Jvm.Cond.soleField "LitStrangers" "status") ∈ lw_all := lw_g (lw_at lw_m2 58 rfl) rfl
theorem q417 : (Jvm.Cond.lays "LitStrangers" "LitStrangers" "fault" "I") ∈ lw_all := lw_g (lw_at lw_m2 59 rfl) rfl
theorem q418 : (Jvm.Cond.soleField "LitStrangers" "fault") ∈ lw_all := lw_g (lw_at lw_m2 60 rfl) rfl
theorem q419 : (Jvm.Cond.lays "LitStrangers" "LitStrangers" "salt" "I") ∈ lw_all := lw_g (lw_at lw_m2 61 rfl) rfl
theorem q420 : (Jvm.Cond.soleField "LitStrangers" "salt") ∈ lw_all := lw_g (lw_at lw_m2 62 rfl) rfl
theorem q421 : (Jvm.Cond.lays "LitStrangers" "LitStrangers" "stopped" "I") ∈ lw_all := lw_g (lw_at lw_m2 63 rfl) rfl
theorem q422 : (Jvm.Cond.soleField "LitStrangers" "stopped") ∈ lw_all := lw_g (lw_at lw_m2 64 rfl) rfl
theorem q423 : (Jvm.Cond.laysFinal "LitStrangers" "LitStrangers" "tape" "[B") ∈ lw_all := lw_g (lw_at lw_m2 65 rfl) rfl
theorem q424 : (Jvm.Cond.soleField "LitStrangers" "tape") ∈ lw_all := lw_g (lw_at lw_m2 66 rfl) rfl
theorem q425 : (Jvm.Cond.lays "LitStrangers" "LitStrangers" "taped" "I") ∈ lw_all := lw_g (lw_at lw_m2 67 rfl) rfl
theorem q426 : (Jvm.Cond.soleField "LitStrangers" "taped") ∈ lw_all := lw_g (lw_at lw_m2 68 rfl) rfl
theorem q427 : (Jvm.Cond.laysFinal "LitStrangers" "LitStrangers" "nights" "LLitStrangers$Nights;") ∈ lw_all := lw_g (lw_at lw_m2 69 rfl) rfl
theorem q428 : (Jvm.Cond.soleField "LitStrangers" "nights") ∈ lw_all := lw_g (lw_at lw_m2 70 rfl) rfl
theorem q429 : (Jvm.Cond.lays "LitStrangers" "LitStrangers" "done" "I") ∈ lw_all := lw_g (lw_at lw_m2 71 rfl) rfl
theorem q430 : (Jvm.Cond.soleField "LitStrangers" "done") ∈ lw_all := lw_g (lw_at lw_m2 72 rfl) rfl
theorem q431 : (Jvm.Cond.lays "LitStrangers" "LitStrangers" "drawn" "[I") ∈ lw_all := lw_g (lw_at lw_m2 73 rfl) rfl
theorem q432 : (Jvm.Cond.soleField "LitStrangers" "drawn") ∈ lw_all := lw_g (lw_at lw_m2 74 rfl) rfl
theorem q433 : (Jvm.Cond.superclass "LitStrangers" "java/lang/Object") ∈ lw_all := lw_g (lw_at lw_m2 75 rfl) rfl
theorem q435 : (Jvm.Cond.instanceMethod ({ cls := "LitStrangers", name := "feed", desc := "(IIIII)I" } : Jvm.MethodName)) ∈ lw_all := lw_g (lw_at lw_m2 77 rfl) rfl
theorem q436 : (Jvm.Cond.selects "LitStrangers" ({ cls := "LitStrangers", name := "feed", desc := "(IIIII)I" } : Jvm.MethodName) ({ cls := "LitStrangers", name := "feed", desc := "(IIIII)I" } : Jvm.MethodName)) ∈ lw_all := lw_g (lw_at lw_m2 78 rfl) rfl
theorem q437 : (Jvm.Cond.code ({ cls := "LitStrangers", name := "feed", desc := "(IIIII)I" } : Jvm.MethodName) prog_1_method_12_code (6 : Nat) (Option.some Jvm.ClassFile.FieldType.int)) ∈ lw_all := lw_g (lw_at lw_m2 79 rfl) rfl
theorem q438 : (Jvm.Cond.methodLink "LitStrangers" (113 : Nat) ({ cls := "LitStrangers", name := "four", desc := "(I)V" } : Jvm.MethodName)) ∈ lw_all := lw_g (lw_at lw_m2 80 rfl) rfl
theorem q439 : (Jvm.Cond.privateMethod ({ cls := "LitStrangers", name := "four", desc := "(I)V" } : Jvm.MethodName)) ∈ lw_tbl := lw_at lw_m2 81 rfl
theorem q440 : (Jvm.Cond.instanceMethod ({ cls := "LitStrangers", name := "four", desc := "(I)V" } : Jvm.MethodName)) ∈ lw_all := lw_g (lw_at lw_m2 82 rfl) rfl
theorem q441 : (Jvm.Cond.code ({ cls := "LitStrangers", name := "four", desc := "(I)V" } : Jvm.MethodName) prog_1_method_11_code (3 : Nat) (Option.none : Option Jvm.ClassFile.FieldType)) ∈ lw_all := lw_g (lw_at lw_m2 83 rfl) rfl
theorem q443 : (Jvm.Cond.instanceMethod ({ cls := "LitStrangers", name := "end", desc := "(I)I" } : Jvm.MethodName)) ∈ lw_all := lw_g (lw_at lw_m2 85 rfl) rfl
theorem q444 : (Jvm.Cond.selects "LitStrangers" ({ cls := "LitStrangers", name := "end", desc := "(I)I" } : Jvm.MethodName) ({ cls := "LitStrangers", name := "end", desc := "(I)I" } : Jvm.MethodName)) ∈ lw_all := lw_g (lw_at lw_m2 86 rfl) rfl
theorem q445 : (Jvm.Cond.code ({ cls := "LitStrangers", name := "end", desc := "(I)I" } : Jvm.MethodName) prog_1_method_13_code (2 : Nat) (Option.some Jvm.ClassFile.FieldType.int)) ∈ lw_all := lw_g (lw_at lw_m2 87 rfl) rfl
theorem q446 : (Jvm.Cond.methodLink "LitStrangers" (102 : Nat) ({ cls := "LitStrangers", name := "in", desc := "(JJJ)Z" } : Jvm.MethodName)) ∈ lw_all := lw_g (lw_at lw_m2 88 rfl) rfl
theorem q447 : (Jvm.Cond.static ({ cls := "LitStrangers", name := "in", desc := "(JJJ)Z" } : Jvm.MethodName)) ∈ lw_all := lw_g (lw_at lw_m2 89 rfl) rfl
theorem q448 : (Jvm.Cond.code ({ cls := "LitStrangers", name := "in", desc := "(JJJ)Z" } : Jvm.MethodName) prog_1_method_1_code (6 : Nat) (Option.some Jvm.ClassFile.FieldType.boolean)) ∈ lw_all := lw_g (lw_at lw_m2 90 rfl) rfl
theorem q450 : (Jvm.Cond.instanceMethod ({ cls := "LitStrangers", name := "person", desc := "(II)I" } : Jvm.MethodName)) ∈ lw_all := lw_g (lw_at lw_m2 92 rfl) rfl
theorem q451 : (Jvm.Cond.selects "LitStrangers" ({ cls := "LitStrangers", name := "person", desc := "(II)I" } : Jvm.MethodName) ({ cls := "LitStrangers", name := "person", desc := "(II)I" } : Jvm.MethodName)) ∈ lw_all := lw_g (lw_at lw_m2 93 rfl) rfl
theorem q452 : (Jvm.Cond.code ({ cls := "LitStrangers", name := "person", desc := "(II)I" } : Jvm.MethodName) prog_1_method_17_code (3 : Nat) (Option.some Jvm.ClassFile.FieldType.int)) ∈ lw_all := lw_g (lw_at lw_m2 94 rfl) rfl
theorem q453 : (Jvm.Cond.methodLink "LitStrangers" (146 : Nat) ({ cls := "LitStrangers", name := "come", desc := "(III)I" } : Jvm.MethodName)) ∈ lw_all := lw_g (lw_at lw_m2 95 rfl) rfl
theorem q454 : (Jvm.Cond.privateMethod ({ cls := "LitStrangers", name := "come", desc := "(III)I" } : Jvm.MethodName)) ∈ lw_tbl := lw_at lw_m2 96 rfl
theorem q455 : (Jvm.Cond.instanceMethod ({ cls := "LitStrangers", name := "come", desc := "(III)I" } : Jvm.MethodName)) ∈ lw_all := lw_g (lw_at lw_m2 97 rfl) rfl
theorem q456 : (Jvm.Cond.code ({ cls := "LitStrangers", name := "come", desc := "(III)I" } : Jvm.MethodName) prog_1_method_16_code (5 : Nat) (Option.some Jvm.ClassFile.FieldType.int)) ∈ lw_all := lw_g (lw_at lw_m2 98 rfl) rfl
theorem q457 : (Jvm.Cond.constantLong "LitStrangers" (117 : Nat) (30 : Int64)) ∈ lw_all := lw_g (lw_at lw_m2 99 rfl) rfl
theorem q458 : (Jvm.Cond.constantLong "LitStrangers" (119 : Nat) (3 : Int64)) ∈ lw_all := lw_g (lw_at lw_m2 100 rfl) rfl
theorem q459 : (Jvm.Cond.constantLong "LitStrangers" (121 : Nat) (2 : Int64)) ∈ lw_all := lw_g (lw_at lw_m2 101 rfl) rfl
theorem q460 : (Jvm.Cond.methodLink "LitStrangers" (99 : Nat) ({ cls := "LitStrangers", name := "many", desc := "()I" } : Jvm.MethodName)) ∈ lw_all := lw_g (lw_at lw_m2 102 rfl) rfl
theorem q461 : (Jvm.Cond.privateMethod ({ cls := "LitStrangers", name := "many", desc := "()I" } : Jvm.MethodName)) ∈ lw_tbl := lw_at lw_m2 103 rfl
theorem q462 : (Jvm.Cond.instanceMethod ({ cls := "LitStrangers", name := "many", desc := "()I" } : Jvm.MethodName)) ∈ lw_all := lw_g (lw_at lw_m2 104 rfl) rfl
theorem q463 : (Jvm.Cond.code ({ cls := "LitStrangers", name := "many", desc := "()I" } : Jvm.MethodName) prog_1_method_8_code (1 : Nat) (Option.some Jvm.ClassFile.FieldType.int)) ∈ lw_all := lw_g (lw_at lw_m2 105 rfl) rfl
theorem q464 : (Jvm.Cond.methodLink "LitStrangers" (95 : Nat) ({ cls := "java/util/ArrayList", name := "size", desc := "()I" } : Jvm.MethodName)) ∈ lw_all := lw_g (lw_at lw_m2 106 rfl) rfl
theorem q468 : (Jvm.Cond.classLink "LitStrangers" (123 : Nat) "LitStrangers$Person") ∈ lw_all := lw_g (lw_at lw_m2 110 rfl) rfl
theorem q470 : (Jvm.Cond.methodLink "LitStrangers" (125 : Nat) ({ cls := "LitStrangers$Person", name := "<init>", desc := "(II)V" } : Jvm.MethodName)) ∈ lw_all := lw_g (lw_at lw_m2 112 rfl) rfl
theorem q475 : (Jvm.Cond.fieldLinkNest "LitStrangers" (164 : Nat) "LitStrangers$Person" "road" "I" "LitStrangers") ∈ lw_tbl := lw_at lw_m2 117 rfl
theorem q478 : (Jvm.Cond.fieldLinkNest "LitStrangers" (167 : Nat) "LitStrangers$Person" "land" "I" "LitStrangers") ∈ lw_tbl := lw_at lw_m2 120 rfl
theorem q484 : (Jvm.Cond.methodLink "LitStrangers" (128 : Nat) ({ cls := "java/util/ArrayList", name := "add", desc := "(Ljava/lang/Object;)Z" } : Jvm.MethodName)) ∈ lw_all := lw_g (lw_at lw_m2 126 rfl) rfl
theorem q516 : (Jvm.Cond.selects "LitStrangers" ({ cls := "java/lang/Object", name := "getClass", desc := "()Ljava/lang/Class;" } : Jvm.MethodName) ({ cls := "java/lang/Object", name := "getClass", desc := "()Ljava/lang/Class;" } : Jvm.MethodName)) ∈ lw_all := lw_g (lw_at lw_m2 158 rfl) rfl
theorem q557 : (Jvm.Cond.methodLink "LitStrangers" (132 : Nat) ({ cls := "LitStrangers", name := "books", desc := "()LLitStrangers$Books;" } : Jvm.MethodName)) ∈ lw_all := lw_g (lw_at lw_m2 199 rfl) rfl
theorem q558 : (Jvm.Cond.privateMethod ({ cls := "LitStrangers", name := "books", desc := "()LLitStrangers$Books;" } : Jvm.MethodName)) ∈ lw_tbl := lw_at lw_m2 200 rfl
theorem q559 : (Jvm.Cond.instanceMethod ({ cls := "LitStrangers", name := "books", desc := "()LLitStrangers$Books;" } : Jvm.MethodName)) ∈ lw_all := lw_g (lw_at lw_m2 201 rfl) rfl
theorem q560 : (Jvm.Cond.code ({ cls := "LitStrangers", name := "books", desc := "()LLitStrangers$Books;" } : Jvm.MethodName) prog_1_method_7_code (1 : Nat) (Option.some (Jvm.ClassFile.FieldType.object "LitStrangers$Books"))) ∈ lw_all := lw_g (lw_at lw_m2 202 rfl) rfl
theorem q561 : (Jvm.Cond.methodLink "LitStrangers" (150 : Nat) ({ cls := "LitStrangers", name := "settled", desc := "(I)I" } : Jvm.MethodName)) ∈ lw_all := lw_g (lw_at lw_m2 203 rfl) rfl
theorem q562 : (Jvm.Cond.privateMethod ({ cls := "LitStrangers", name := "settled", desc := "(I)I" } : Jvm.MethodName)) ∈ lw_tbl := lw_at lw_m2 204 rfl
theorem q563 : (Jvm.Cond.instanceMethod ({ cls := "LitStrangers", name := "settled", desc := "(I)I" } : Jvm.MethodName)) ∈ lw_all := lw_g (lw_at lw_m2 205 rfl) rfl
theorem q564 : (Jvm.Cond.code ({ cls := "LitStrangers", name := "settled", desc := "(I)I" } : Jvm.MethodName) prog_1_method_5_code (2 : Nat) (Option.some Jvm.ClassFile.FieldType.int)) ∈ lw_all := lw_g (lw_at lw_m2 206 rfl) rfl
theorem q565 : (Jvm.Cond.methodLink "LitStrangers" (81 : Nat) ({ cls := "java/util/ArrayList", name := "clear", desc := "()V" } : Jvm.MethodName)) ∈ lw_all := lw_g (lw_at lw_m2 207 rfl) rfl
theorem q569 : (Jvm.Cond.methodLink "LitStrangers" (84 : Nat) ({ cls := "LitStrangers", name := "tell", desc := "(I)I" } : Jvm.MethodName)) ∈ lw_all := lw_g (lw_at lw_m2 211 rfl) rfl
theorem q570 : (Jvm.Cond.privateMethod ({ cls := "LitStrangers", name := "tell", desc := "(I)I" } : Jvm.MethodName)) ∈ lw_tbl := lw_at lw_m2 212 rfl
theorem q571 : (Jvm.Cond.instanceMethod ({ cls := "LitStrangers", name := "tell", desc := "(I)I" } : Jvm.MethodName)) ∈ lw_all := lw_g (lw_at lw_m2 213 rfl) rfl
theorem q572 : (Jvm.Cond.code ({ cls := "LitStrangers", name := "tell", desc := "(I)I" } : Jvm.MethodName) prog_1_method_4_code (2 : Nat) (Option.some Jvm.ClassFile.FieldType.int)) ∈ lw_all := lw_g (lw_at lw_m2 214 rfl) rfl
theorem q573 : (Jvm.Cond.methodLink "LitStrangers" (72 : Nat) ({ cls := "java/lang/Math", name := "min", desc := "(II)I" } : Jvm.MethodName)) ∈ lw_all := lw_g (lw_at lw_m2 215 rfl) rfl
theorem q575 : (Jvm.Cond.instanceMethod ({ cls := "LitStrangers", name := "hear", desc := "(II)I" } : Jvm.MethodName)) ∈ lw_all := lw_g (lw_at lw_m2 217 rfl) rfl
theorem q576 : (Jvm.Cond.selects "LitStrangers" ({ cls := "LitStrangers", name := "hear", desc := "(II)I" } : Jvm.MethodName) ({ cls := "LitStrangers", name := "hear", desc := "(II)I" } : Jvm.MethodName)) ∈ lw_all := lw_g (lw_at lw_m2 218 rfl) rfl
theorem q577 : (Jvm.Cond.code ({ cls := "LitStrangers", name := "hear", desc := "(II)I" } : Jvm.MethodName) prog_1_method_18_code (4 : Nat) (Option.some Jvm.ClassFile.FieldType.int)) ∈ lw_all := lw_g (lw_at lw_m2 219 rfl) rfl
theorem q578 : (Jvm.Cond.methodLink "LitStrangers" (153 : Nat) ({ cls := "LitStrangers", name := "isPerson", desc := "(I)Z" } : Jvm.MethodName)) ∈ lw_all := lw_g (lw_at lw_m2 220 rfl) rfl
theorem q579 : (Jvm.Cond.privateMethod ({ cls := "LitStrangers", name := "isPerson", desc := "(I)Z" } : Jvm.MethodName)) ∈ lw_tbl := lw_at lw_m2 221 rfl
theorem q580 : (Jvm.Cond.instanceMethod ({ cls := "LitStrangers", name := "isPerson", desc := "(I)Z" } : Jvm.MethodName)) ∈ lw_all := lw_g (lw_at lw_m2 222 rfl) rfl
theorem q581 : (Jvm.Cond.code ({ cls := "LitStrangers", name := "isPerson", desc := "(I)Z" } : Jvm.MethodName) prog_1_method_9_code (2 : Nat) (Option.some Jvm.ClassFile.FieldType.boolean)) ∈ lw_all := lw_g (lw_at lw_m2 223 rfl) rfl
theorem q582 : (Jvm.Cond.methodLink "LitStrangers" (157 : Nat) ({ cls := "LitStrangers", name := "was", desc := "(I)I" } : Jvm.MethodName)) ∈ lw_all := lw_g (lw_at lw_m2 224 rfl) rfl
theorem q583 : (Jvm.Cond.privateMethod ({ cls := "LitStrangers", name := "was", desc := "(I)I" } : Jvm.MethodName)) ∈ lw_tbl := lw_at lw_m2 225 rfl
theorem q584 : (Jvm.Cond.instanceMethod ({ cls := "LitStrangers", name := "was", desc := "(I)I" } : Jvm.MethodName)) ∈ lw_all := lw_g (lw_at lw_m2 226 rfl) rfl
theorem q585 : (Jvm.Cond.code ({ cls := "LitStrangers", name := "was", desc := "(I)I" } : Jvm.MethodName) prog_1_method_6_code (2 : Nat) (Option.some Jvm.ClassFile.FieldType.int)) ∈ lw_all := lw_g (lw_at lw_m2 227 rfl) rfl
theorem q587 : (Jvm.Cond.instanceMethod ({ cls := "LitStrangers", name := "of", desc := "(II)I" } : Jvm.MethodName)) ∈ lw_all := lw_g (lw_at lw_m2 229 rfl) rfl
theorem q588 : (Jvm.Cond.selects "LitStrangers" ({ cls := "LitStrangers", name := "of", desc := "(II)I" } : Jvm.MethodName) ({ cls := "LitStrangers", name := "of", desc := "(II)I" } : Jvm.MethodName)) ∈ lw_all := lw_g (lw_at lw_m2 230 rfl) rfl
theorem q589 : (Jvm.Cond.code ({ cls := "LitStrangers", name := "of", desc := "(II)I" } : Jvm.MethodName) prog_1_method_19_code (3 : Nat) (Option.some Jvm.ClassFile.FieldType.int)) ∈ lw_all := lw_g (lw_at lw_m2 231 rfl) rfl
theorem q590 : (Jvm.Cond.methodLink "LitStrangers" (160 : Nat) ({ cls := "java/util/ArrayList", name := "get", desc := "(I)Ljava/lang/Object;" } : Jvm.MethodName)) ∈ lw_all := lw_g (lw_at lw_m2 232 rfl) rfl
theorem q604 : (Jvm.Cond.methodLink "LitStrangers" (170 : Nat) ({ cls := "LitStrangers$Books", name := "worth", desc := "(I)I" } : Jvm.MethodName)) ∈ lw_all := lw_g (lw_at lw_m3 6 rfl) rfl
theorem q609 : (Jvm.Cond.instanceMethod ({ cls := "LitStrangers", name := "talk", desc := "(III)I" } : Jvm.MethodName)) ∈ lw_all := lw_g (lw_at lw_m3 11 rfl) rfl
theorem q610 : (Jvm.Cond.selects "LitStrangers" ({ cls := "LitStrangers", name := "talk", desc := "(III)I" } : Jvm.MethodName) ({ cls := "LitStrangers", name := "talk", desc := "(III)I" } : Jvm.MethodName)) ∈ lw_all := lw_g (lw_at lw_m3 12 rfl) rfl
theorem q611 : (Jvm.Cond.code ({ cls := "LitStrangers", name := "talk", desc := "(III)I" } : Jvm.MethodName) prog_1_method_20_code (5 : Nat) (Option.some Jvm.ClassFile.FieldType.int)) ∈ lw_all := lw_g (lw_at lw_m3 13 rfl) rfl
theorem q613 : (Jvm.Cond.instanceMethod ({ cls := "LitStrangers", name := "fog", desc := "(II)I" } : Jvm.MethodName)) ∈ lw_all := lw_g (lw_at lw_m3 15 rfl) rfl
theorem q614 : (Jvm.Cond.selects "LitStrangers" ({ cls := "LitStrangers", name := "fog", desc := "(II)I" } : Jvm.MethodName) ({ cls := "LitStrangers", name := "fog", desc := "(II)I" } : Jvm.MethodName)) ∈ lw_all := lw_g (lw_at lw_m3 16 rfl) rfl
theorem q615 : (Jvm.Cond.code ({ cls := "LitStrangers", name := "fog", desc := "(II)I" } : Jvm.MethodName) prog_1_method_21_code (4 : Nat) (Option.some Jvm.ClassFile.FieldType.int)) ∈ lw_all := lw_g (lw_at lw_m3 17 rfl) rfl
theorem q616 : (Jvm.Cond.constantLong "LitStrangers" (176 : Nat) (99 : Int64)) ∈ lw_all := lw_g (lw_at lw_m3 18 rfl) rfl
theorem q618 : (Jvm.Cond.instanceMethod ({ cls := "LitStrangers", name := "terms", desc := "(II)I" } : Jvm.MethodName)) ∈ lw_all := lw_g (lw_at lw_m3 20 rfl) rfl
theorem q619 : (Jvm.Cond.selects "LitStrangers" ({ cls := "LitStrangers", name := "terms", desc := "(II)I" } : Jvm.MethodName) ({ cls := "LitStrangers", name := "terms", desc := "(II)I" } : Jvm.MethodName)) ∈ lw_all := lw_g (lw_at lw_m3 21 rfl) rfl
theorem q620 : (Jvm.Cond.code ({ cls := "LitStrangers", name := "terms", desc := "(II)I" } : Jvm.MethodName) prog_1_method_24_code (4 : Nat) (Option.some Jvm.ClassFile.FieldType.int)) ∈ lw_all := lw_g (lw_at lw_m3 22 rfl) rfl
theorem q621 : (Jvm.Cond.constantLong "LitStrangers" (187 : Nat) (999 : Int64)) ∈ lw_all := lw_g (lw_at lw_m3 23 rfl) rfl
theorem q622 : (Jvm.Cond.constantLong "LitStrangers" (189 : Nat) (10 : Int64)) ∈ lw_all := lw_g (lw_at lw_m3 24 rfl) rfl
theorem q623 : (Jvm.Cond.constantLong "LitStrangers" (191 : Nat) (9 : Int64)) ∈ lw_all := lw_g (lw_at lw_m3 25 rfl) rfl
theorem q624 : (Jvm.Cond.methodLink "LitStrangers" (193 : Nat) ({ cls := "LitStrangers", name := "isAnyComing", desc := "()Z" } : Jvm.MethodName)) ∈ lw_all := lw_g (lw_at lw_m3 26 rfl) rfl
theorem q625 : (Jvm.Cond.privateMethod ({ cls := "LitStrangers", name := "isAnyComing", desc := "()Z" } : Jvm.MethodName)) ∈ lw_tbl := lw_at lw_m3 27 rfl
theorem q626 : (Jvm.Cond.instanceMethod ({ cls := "LitStrangers", name := "isAnyComing", desc := "()Z" } : Jvm.MethodName)) ∈ lw_all := lw_g (lw_at lw_m3 28 rfl) rfl
theorem q627 : (Jvm.Cond.code ({ cls := "LitStrangers", name := "isAnyComing", desc := "()Z" } : Jvm.MethodName) prog_1_method_22_code (2 : Nat) (Option.some Jvm.ClassFile.FieldType.boolean)) ∈ lw_all := lw_g (lw_at lw_m3 29 rfl) rfl
theorem q628 : (Jvm.Cond.methodLink "LitStrangers" (197 : Nat) ({ cls := "LitStrangers", name := "term", desc := "(I)I" } : Jvm.MethodName)) ∈ lw_all := lw_g (lw_at lw_m3 30 rfl) rfl
theorem q629 : (Jvm.Cond.privateMethod ({ cls := "LitStrangers", name := "term", desc := "(I)I" } : Jvm.MethodName)) ∈ lw_tbl := lw_at lw_m3 31 rfl
theorem q630 : (Jvm.Cond.instanceMethod ({ cls := "LitStrangers", name := "term", desc := "(I)I" } : Jvm.MethodName)) ∈ lw_all := lw_g (lw_at lw_m3 32 rfl) rfl
theorem q631 : (Jvm.Cond.code ({ cls := "LitStrangers", name := "term", desc := "(I)I" } : Jvm.MethodName) prog_1_method_23_code (2 : Nat) (Option.some Jvm.ClassFile.FieldType.int)) ∈ lw_all := lw_g (lw_at lw_m3 33 rfl) rfl
theorem q633 : (Jvm.Cond.instanceMethod ({ cls := "LitStrangers", name := "row", desc := "()I" } : Jvm.MethodName)) ∈ lw_all := lw_g (lw_at lw_m3 35 rfl) rfl
theorem q634 : (Jvm.Cond.selects "LitStrangers" ({ cls := "LitStrangers", name := "row", desc := "()I" } : Jvm.MethodName) ({ cls := "LitStrangers", name := "row", desc := "()I" } : Jvm.MethodName)) ∈ lw_all := lw_g (lw_at lw_m3 36 rfl) rfl
theorem q635 : (Jvm.Cond.codeWith ({ cls := "LitStrangers", name := "row", desc := "()I" } : Jvm.MethodName) prog_1_method_26_code (8 : Nat) (Option.some Jvm.ClassFile.FieldType.int) [((58 : Nat), (67 : Nat), (136 : Nat), (213 : Nat)), ((58 : Nat), (67 : Nat), (210 : Nat), (0 : Nat)), ((136 : Nat), (141 : Nat), (210 : Nat), (0 : Nat)), ((210 : Nat), (212 : Nat), (210 : Nat), (0 : Nat))]) ∈ lw_all := lw_g (lw_at lw_m3 37 rfl) rfl
theorem q636 : (Jvm.Cond.classLink "LitStrangers" (213 : Nat) "java/lang/ArrayIndexOutOfBoundsException") ∈ lw_all := lw_g (lw_at lw_m3 38 rfl) rfl
theorem q710 : (Jvm.Cond.methodLink "LitStrangers" (200 : Nat) ({ cls := "java/lang/System", name := "arraycopy", desc := "(Ljava/lang/Object;ILjava/lang/Object;II)V" } : Jvm.MethodName)) ∈ lw_all := lw_g (lw_at lw_m3 112 rfl) rfl
theorem q711 : (Jvm.Cond.methodLink "LitStrangers" (209 : Nat) ({ cls := "LitStrangers", name := "byteAt", desc := "([BI)I" } : Jvm.MethodName)) ∈ lw_all := lw_g (lw_at lw_m3 113 rfl) rfl
theorem q712 : (Jvm.Cond.static ({ cls := "LitStrangers", name := "byteAt", desc := "([BI)I" } : Jvm.MethodName)) ∈ lw_all := lw_g (lw_at lw_m3 114 rfl) rfl
theorem q713 : (Jvm.Cond.code ({ cls := "LitStrangers", name := "byteAt", desc := "([BI)I" } : Jvm.MethodName) prog_1_method_25_code (2 : Nat) (Option.some Jvm.ClassFile.FieldType.int)) ∈ lw_all := lw_g (lw_at lw_m3 115 rfl) rfl
theorem q715 : (Jvm.Cond.instanceMethod ({ cls := "LitStrangers", name := "salt", desc := "()I" } : Jvm.MethodName)) ∈ lw_all := lw_g (lw_at lw_m3 117 rfl) rfl
theorem q716 : (Jvm.Cond.selects "LitStrangers" ({ cls := "LitStrangers", name := "salt", desc := "()I" } : Jvm.MethodName) ({ cls := "LitStrangers", name := "salt", desc := "()I" } : Jvm.MethodName)) ∈ lw_all := lw_g (lw_at lw_m3 118 rfl) rfl
theorem q717 : (Jvm.Cond.code ({ cls := "LitStrangers", name := "salt", desc := "()I" } : Jvm.MethodName) prog_1_method_27_code (1 : Nat) (Option.some Jvm.ClassFile.FieldType.int)) ∈ lw_all := lw_g (lw_at lw_m3 119 rfl) rfl
theorem q719 : (Jvm.Cond.instanceMethod ({ cls := "LitStrangers", name := "law", desc := "()I" } : Jvm.MethodName)) ∈ lw_all := lw_g (lw_at lw_m3 121 rfl) rfl
theorem q720 : (Jvm.Cond.selects "LitStrangers" ({ cls := "LitStrangers", name := "law", desc := "()I" } : Jvm.MethodName) ({ cls := "LitStrangers", name := "law", desc := "()I" } : Jvm.MethodName)) ∈ lw_all := lw_g (lw_at lw_m3 122 rfl) rfl
theorem q721 : (Jvm.Cond.codeWith ({ cls := "LitStrangers", name := "law", desc := "()I" } : Jvm.MethodName) prog_1_method_28_code (4 : Nat) (Option.some Jvm.ClassFile.FieldType.int) [((27 : Nat), (71 : Nat), (78 : Nat), (225 : Nat)), ((27 : Nat), (71 : Nat), (101 : Nat), (0 : Nat)), ((78 : Nat), (94 : Nat), (101 : Nat), (0 : Nat))]) ∈ lw_all := lw_g (lw_at lw_m3 123 rfl) rfl
theorem q722 : (Jvm.Cond.classLink "LitStrangers" (225 : Nat) "LitStrangers$Wrong") ∈ lw_all := lw_g (lw_at lw_m3 124 rfl) rfl
theorem q723 : (Jvm.Cond.classLink "LitStrangers" (218 : Nat) "LitStrangers$LawReader") ∈ lw_all := lw_g (lw_at lw_m3 125 rfl) rfl
theorem q725 : (Jvm.Cond.methodLink "LitStrangers" (220 : Nat) ({ cls := "LitStrangers$LawReader", name := "<init>", desc := "(LLitStrangers;)V" } : Jvm.MethodName)) ∈ lw_all := lw_g (lw_at lw_m3 127 rfl) rfl
theorem q790 : (Jvm.Cond.methodLink "LitStrangers" (221 : Nat) ({ cls := "LitStrangers$LawReader", name := "read", desc := "()LLitStrangers$Text;" } : Jvm.MethodName)) ∈ lw_all := lw_g (lw_at lw_m3 192 rfl) rfl
theorem q807 : (Jvm.Cond.static ({ cls := "LitStrangers", name := "isLetter", desc := "(I)Z" } : Jvm.MethodName)) ∈ lw_all := lw_g (lw_at lw_m3 209 rfl) rfl
theorem q808 : (Jvm.Cond.code ({ cls := "LitStrangers", name := "isLetter", desc := "(I)Z" } : Jvm.MethodName) prog_1_method_14_code (1 : Nat) (Option.some Jvm.ClassFile.FieldType.boolean)) ∈ lw_all := lw_g (lw_at lw_m3 210 rfl) rfl
theorem q810 : (Jvm.Cond.static ({ cls := "LitStrangers", name := "isDigit", desc := "(I)Z" } : Jvm.MethodName)) ∈ lw_all := lw_g (lw_at lw_m3 212 rfl) rfl
theorem q811 : (Jvm.Cond.code ({ cls := "LitStrangers", name := "isDigit", desc := "(I)Z" } : Jvm.MethodName) prog_1_method_15_code (1 : Nat) (Option.some Jvm.ClassFile.FieldType.boolean)) ∈ lw_all := lw_g (lw_at lw_m3 213 rfl) rfl
theorem q837 : (Jvm.Cond.fieldLinkNest "LitStrangers" (227 : Nat) "LitStrangers$Wrong" "place" "I" "LitStrangers") ∈ lw_tbl := lw_at lw_m3 239 rfl
theorem q1155 : (Jvm.Cond.fieldLink "LitStrangers" (401 : Nat) "LitStrangers$Order" "times" "I") ∈ lw_all := lw_g (lw_at lw_m5 77 rfl) rfl
theorem q1225 : (Jvm.Cond.instanceMethod ({ cls := "LitStrangers", name := "fault", desc := "()I" } : Jvm.MethodName)) ∈ lw_all := lw_g (lw_at lw_m5 147 rfl) rfl
theorem q1226 : (Jvm.Cond.selects "LitStrangers" ({ cls := "LitStrangers", name := "fault", desc := "()I" } : Jvm.MethodName) ({ cls := "LitStrangers", name := "fault", desc := "()I" } : Jvm.MethodName)) ∈ lw_all := lw_g (lw_at lw_m5 148 rfl) rfl
theorem q1227 : (Jvm.Cond.code ({ cls := "LitStrangers", name := "fault", desc := "()I" } : Jvm.MethodName) prog_1_method_29_code (1 : Nat) (Option.some Jvm.ClassFile.FieldType.int)) ∈ lw_all := lw_g (lw_at lw_m5 149 rfl) rfl
theorem q1229 : (Jvm.Cond.instanceMethod ({ cls := "LitStrangers", name := "force", desc := "(I)I" } : Jvm.MethodName)) ∈ lw_all := lw_g (lw_at lw_m5 151 rfl) rfl
theorem q1230 : (Jvm.Cond.selects "LitStrangers" ({ cls := "LitStrangers", name := "force", desc := "(I)I" } : Jvm.MethodName) ({ cls := "LitStrangers", name := "force", desc := "(I)I" } : Jvm.MethodName)) ∈ lw_all := lw_g (lw_at lw_m5 152 rfl) rfl
theorem q1231 : (Jvm.Cond.code ({ cls := "LitStrangers", name := "force", desc := "(I)I" } : Jvm.MethodName) prog_1_method_30_code (3 : Nat) (Option.some Jvm.ClassFile.FieldType.int)) ∈ lw_all := lw_g (lw_at lw_m5 153 rfl) rfl
theorem q1233 : (Jvm.Cond.instanceMethod ({ cls := "LitStrangers", name := "asks", desc := "(III)I" } : Jvm.MethodName)) ∈ lw_all := lw_g (lw_at lw_m5 155 rfl) rfl
theorem q1234 : (Jvm.Cond.selects "LitStrangers" ({ cls := "LitStrangers", name := "asks", desc := "(III)I" } : Jvm.MethodName) ({ cls := "LitStrangers", name := "asks", desc := "(III)I" } : Jvm.MethodName)) ∈ lw_all := lw_g (lw_at lw_m5 156 rfl) rfl
theorem q1235 : (Jvm.Cond.code ({ cls := "LitStrangers", name := "asks", desc := "(III)I" } : Jvm.MethodName) prog_1_method_41_code (4 : Nat) (Option.some Jvm.ClassFile.FieldType.int)) ∈ lw_all := lw_g (lw_at lw_m5 157 rfl) rfl
theorem q1236 : (Jvm.Cond.constantLong "LitStrangers" (273 : Nat) (4 : Int64)) ∈ lw_all := lw_g (lw_at lw_m5 158 rfl) rfl
theorem q1237 : (Jvm.Cond.methodLink "LitStrangers" (275 : Nat) ({ cls := "LitStrangers", name := "takes", desc := "(I)I" } : Jvm.MethodName)) ∈ lw_all := lw_g (lw_at lw_m5 159 rfl) rfl
theorem q1238 : (Jvm.Cond.privateMethod ({ cls := "LitStrangers", name := "takes", desc := "(I)I" } : Jvm.MethodName)) ∈ lw_tbl := lw_at lw_m5 160 rfl
theorem q1239 : (Jvm.Cond.instanceMethod ({ cls := "LitStrangers", name := "takes", desc := "(I)I" } : Jvm.MethodName)) ∈ lw_all := lw_g (lw_at lw_m5 161 rfl) rfl
theorem q1240 : (Jvm.Cond.code ({ cls := "LitStrangers", name := "takes", desc := "(I)I" } : Jvm.MethodName) prog_1_method_36_code (2 : Nat) (Option.some Jvm.ClassFile.FieldType.int)) ∈ lw_all := lw_g (lw_at lw_m5 162 rfl) rfl
theorem q1241 : (Jvm.Cond.methodLink "LitStrangers" (263 : Nat) ({ cls := "LitStrangers", name := "askNow", desc := "(I)V" } : Jvm.MethodName)) ∈ lw_all := lw_g (lw_at lw_m5 163 rfl) rfl
theorem q1242 : (Jvm.Cond.privateMethod ({ cls := "LitStrangers", name := "askNow", desc := "(I)V" } : Jvm.MethodName)) ∈ lw_tbl := lw_at lw_m5 164 rfl
theorem q1243 : (Jvm.Cond.instanceMethod ({ cls := "LitStrangers", name := "askNow", desc := "(I)V" } : Jvm.MethodName)) ∈ lw_all := lw_g (lw_at lw_m5 165 rfl) rfl
theorem q1244 : (Jvm.Cond.code ({ cls := "LitStrangers", name := "askNow", desc := "(I)V" } : Jvm.MethodName) prog_1_method_35_code (2 : Nat) (Option.none : Option Jvm.ClassFile.FieldType)) ∈ lw_all := lw_g (lw_at lw_m5 166 rfl) rfl
theorem q1245 : (Jvm.Cond.methodLink "LitStrangers" (256 : Nat) ({ cls := "LitStrangers", name := "isFog", desc := "(I)Z" } : Jvm.MethodName)) ∈ lw_all := lw_g (lw_at lw_m5 167 rfl) rfl
theorem q1246 : (Jvm.Cond.privateMethod ({ cls := "LitStrangers", name := "isFog", desc := "(I)Z" } : Jvm.MethodName)) ∈ lw_tbl := lw_at lw_m5 168 rfl
theorem q1247 : (Jvm.Cond.instanceMethod ({ cls := "LitStrangers", name := "isFog", desc := "(I)Z" } : Jvm.MethodName)) ∈ lw_all := lw_g (lw_at lw_m5 169 rfl) rfl
theorem q1248 : (Jvm.Cond.code ({ cls := "LitStrangers", name := "isFog", desc := "(I)Z" } : Jvm.MethodName) prog_1_method_10_code (2 : Nat) (Option.some Jvm.ClassFile.FieldType.boolean)) ∈ lw_all := lw_g (lw_at lw_m5 170 rfl) rfl
theorem q1249 : (Jvm.Cond.methodLink "LitStrangers" (259 : Nat) ({ cls := "LitStrangers", name := "askOn", desc := "(IIIZ)V" } : Jvm.MethodName)) ∈ lw_all := lw_g (lw_at lw_m5 171 rfl) rfl
theorem q1250 : (Jvm.Cond.privateMethod ({ cls := "LitStrangers", name := "askOn", desc := "(IIIZ)V" } : Jvm.MethodName)) ∈ lw_tbl := lw_at lw_m5 172 rfl
theorem q1251 : (Jvm.Cond.instanceMethod ({ cls := "LitStrangers", name := "askOn", desc := "(IIIZ)V" } : Jvm.MethodName)) ∈ lw_all := lw_g (lw_at lw_m5 173 rfl) rfl
theorem q1252 : (Jvm.Cond.code ({ cls := "LitStrangers", name := "askOn", desc := "(IIIZ)V" } : Jvm.MethodName) prog_1_method_33_code (5 : Nat) (Option.none : Option Jvm.ClassFile.FieldType)) ∈ lw_all := lw_g (lw_at lw_m5 174 rfl) rfl
theorem q1253 : (Jvm.Cond.methodLink "LitStrangers" (239 : Nat) ({ cls := "LitStrangers", name := "ask", desc := "(IIIII)V" } : Jvm.MethodName)) ∈ lw_all := lw_g (lw_at lw_m5 175 rfl) rfl
theorem q1254 : (Jvm.Cond.privateMethod ({ cls := "LitStrangers", name := "ask", desc := "(IIIII)V" } : Jvm.MethodName)) ∈ lw_tbl := lw_at lw_m5 176 rfl
theorem q1255 : (Jvm.Cond.instanceMethod ({ cls := "LitStrangers", name := "ask", desc := "(IIIII)V" } : Jvm.MethodName)) ∈ lw_all := lw_g (lw_at lw_m5 177 rfl) rfl
theorem q1256 : (Jvm.Cond.code ({ cls := "LitStrangers", name := "ask", desc := "(IIIII)V" } : Jvm.MethodName) prog_1_method_32_code (6 : Nat) (Option.none : Option Jvm.ClassFile.FieldType)) ∈ lw_all := lw_g (lw_at lw_m5 178 rfl) rfl
theorem q1257 : (Jvm.Cond.constantLong "LitStrangers" (237 : Nat) (-1 : Int64)) ∈ lw_all := lw_g (lw_at lw_m5 179 rfl) rfl
theorem q1258 : (Jvm.Cond.methodLink "LitStrangers" (266 : Nat) ({ cls := "LitStrangers", name := "tells", desc := "(IJI)I" } : Jvm.MethodName)) ∈ lw_all := lw_g (lw_at lw_m5 180 rfl) rfl
theorem q1259 : (Jvm.Cond.privateMethod ({ cls := "LitStrangers", name := "tells", desc := "(IJI)I" } : Jvm.MethodName)) ∈ lw_tbl := lw_at lw_m5 181 rfl
theorem q1260 : (Jvm.Cond.instanceMethod ({ cls := "LitStrangers", name := "tells", desc := "(IJI)I" } : Jvm.MethodName)) ∈ lw_all := lw_g (lw_at lw_m5 182 rfl) rfl
theorem q1261 : (Jvm.Cond.code ({ cls := "LitStrangers", name := "tells", desc := "(IJI)I" } : Jvm.MethodName) prog_1_method_34_code (5 : Nat) (Option.some Jvm.ClassFile.FieldType.int)) ∈ lw_all := lw_g (lw_at lw_m5 183 rfl) rfl
theorem q1262 : (Jvm.Cond.methodLink "LitStrangers" (243 : Nat) ({ cls := "LitStrangers", name := "law1", desc := "()LLitStrangers$Text;" } : Jvm.MethodName)) ∈ lw_all := lw_g (lw_at lw_m5 184 rfl) rfl
theorem q1263 : (Jvm.Cond.privateMethod ({ cls := "LitStrangers", name := "law1", desc := "()LLitStrangers$Text;" } : Jvm.MethodName)) ∈ lw_tbl := lw_at lw_m5 185 rfl
theorem q1264 : (Jvm.Cond.instanceMethod ({ cls := "LitStrangers", name := "law1", desc := "()LLitStrangers$Text;" } : Jvm.MethodName)) ∈ lw_all := lw_g (lw_at lw_m5 186 rfl) rfl
theorem q1265 : (Jvm.Cond.code ({ cls := "LitStrangers", name := "law1", desc := "()LLitStrangers$Text;" } : Jvm.MethodName) prog_1_method_31_code (1 : Nat) (Option.some (Jvm.ClassFile.FieldType.object "LitStrangers$Text"))) ∈ lw_all := lw_g (lw_at lw_m5 187 rfl) rfl
theorem q1266 : (Jvm.Cond.methodLink "LitStrangers" (246 : Nat) ({ cls := "LitStrangers$Text", name := "tells", desc := "(ILLitStrangers$Asked;J)J" } : Jvm.MethodName)) ∈ lw_all := lw_g (lw_at lw_m5 188 rfl) rfl
theorem q1315 : (Jvm.Cond.methodLink "LitStrangers" (250 : Nat) ({ cls := "java/lang/Math", name := "min", desc := "(JJ)J" } : Jvm.MethodName)) ∈ lw_all := lw_g (lw_at lw_m5 237 rfl) rfl
theorem q1318 : (Jvm.Cond.methodLink "LitStrangers" (253 : Nat) ({ cls := "java/lang/Math", name := "max", desc := "(JJ)J" } : Jvm.MethodName)) ∈ lw_all := lw_g (lw_at lw_m6 0 rfl) rfl
theorem q1321 : (Jvm.Cond.methodLink "LitStrangers" (278 : Nat) ({ cls := "LitStrangers", name := "costs", desc := "(I)I" } : Jvm.MethodName)) ∈ lw_all := lw_g (lw_at lw_m6 3 rfl) rfl
theorem q1322 : (Jvm.Cond.privateMethod ({ cls := "LitStrangers", name := "costs", desc := "(I)I" } : Jvm.MethodName)) ∈ lw_tbl := lw_at lw_m6 4 rfl
theorem q1323 : (Jvm.Cond.instanceMethod ({ cls := "LitStrangers", name := "costs", desc := "(I)I" } : Jvm.MethodName)) ∈ lw_all := lw_g (lw_at lw_m6 5 rfl) rfl
theorem q1324 : (Jvm.Cond.code ({ cls := "LitStrangers", name := "costs", desc := "(I)I" } : Jvm.MethodName) prog_1_method_37_code (2 : Nat) (Option.some Jvm.ClassFile.FieldType.int)) ∈ lw_all := lw_g (lw_at lw_m6 6 rfl) rfl
theorem q1325 : (Jvm.Cond.methodLink "LitStrangers" (281 : Nat) ({ cls := "LitStrangers", name := "lodges", desc := "(I)I" } : Jvm.MethodName)) ∈ lw_all := lw_g (lw_at lw_m6 7 rfl) rfl
theorem q1326 : (Jvm.Cond.privateMethod ({ cls := "LitStrangers", name := "lodges", desc := "(I)I" } : Jvm.MethodName)) ∈ lw_tbl := lw_at lw_m6 8 rfl
theorem q1327 : (Jvm.Cond.instanceMethod ({ cls := "LitStrangers", name := "lodges", desc := "(I)I" } : Jvm.MethodName)) ∈ lw_all := lw_g (lw_at lw_m6 9 rfl) rfl
theorem q1328 : (Jvm.Cond.code ({ cls := "LitStrangers", name := "lodges", desc := "(I)I" } : Jvm.MethodName) prog_1_method_38_code (2 : Nat) (Option.some Jvm.ClassFile.FieldType.int)) ∈ lw_all := lw_g (lw_at lw_m6 10 rfl) rfl
theorem q1329 : (Jvm.Cond.methodLink "LitStrangers" (284 : Nat) ({ cls := "LitStrangers", name := "isBarred", desc := "(IIIZ)Z" } : Jvm.MethodName)) ∈ lw_all := lw_g (lw_at lw_m6 11 rfl) rfl
theorem q1330 : (Jvm.Cond.privateMethod ({ cls := "LitStrangers", name := "isBarred", desc := "(IIIZ)Z" } : Jvm.MethodName)) ∈ lw_tbl := lw_at lw_m6 12 rfl
theorem q1331 : (Jvm.Cond.instanceMethod ({ cls := "LitStrangers", name := "isBarred", desc := "(IIIZ)Z" } : Jvm.MethodName)) ∈ lw_all := lw_g (lw_at lw_m6 13 rfl) rfl
theorem q1332 : (Jvm.Cond.code ({ cls := "LitStrangers", name := "isBarred", desc := "(IIIZ)Z" } : Jvm.MethodName) prog_1_method_40_code (5 : Nat) (Option.some Jvm.ClassFile.FieldType.boolean)) ∈ lw_all := lw_g (lw_at lw_m6 14 rfl) rfl
theorem q1333 : (Jvm.Cond.methodLink "LitStrangers" (269 : Nat) ({ cls := "LitStrangers$Text", name := "has", desc := "(ILLitStrangers$Asked;)Z" } : Jvm.MethodName)) ∈ lw_all := lw_g (lw_at lw_m6 15 rfl) rfl
theorem q1337 : (Jvm.Cond.methodLink "LitStrangers" (288 : Nat) ({ cls := "LitStrangers", name := "spoils", desc := "(II)I" } : Jvm.MethodName)) ∈ lw_all := lw_g (lw_at lw_m6 19 rfl) rfl
theorem q1338 : (Jvm.Cond.privateMethod ({ cls := "LitStrangers", name := "spoils", desc := "(II)I" } : Jvm.MethodName)) ∈ lw_tbl := lw_at lw_m6 20 rfl
theorem q1339 : (Jvm.Cond.instanceMethod ({ cls := "LitStrangers", name := "spoils", desc := "(II)I" } : Jvm.MethodName)) ∈ lw_all := lw_g (lw_at lw_m6 21 rfl) rfl
theorem q1340 : (Jvm.Cond.code ({ cls := "LitStrangers", name := "spoils", desc := "(II)I" } : Jvm.MethodName) prog_1_method_39_code (3 : Nat) (Option.some Jvm.ClassFile.FieldType.int)) ∈ lw_all := lw_g (lw_at lw_m6 22 rfl) rfl
theorem q1342 : (Jvm.Cond.instanceMethod ({ cls := "LitStrangers", name := "send", desc := "(I)I" } : Jvm.MethodName)) ∈ lw_all := lw_g (lw_at lw_m6 24 rfl) rfl
theorem q1343 : (Jvm.Cond.selects "LitStrangers" ({ cls := "LitStrangers", name := "send", desc := "(I)I" } : Jvm.MethodName) ({ cls := "LitStrangers", name := "send", desc := "(I)I" } : Jvm.MethodName)) ∈ lw_all := lw_g (lw_at lw_m6 25 rfl) rfl
theorem q1344 : (Jvm.Cond.code ({ cls := "LitStrangers", name := "send", desc := "(I)I" } : Jvm.MethodName) prog_1_method_44_code (2 : Nat) (Option.some Jvm.ClassFile.FieldType.int)) ∈ lw_all := lw_g (lw_at lw_m6 26 rfl) rfl
theorem q1345 : (Jvm.Cond.methodLink "LitStrangers" (310 : Nat) ({ cls := "LitStrangers", name := "sendNow", desc := "(I)I" } : Jvm.MethodName)) ∈ lw_all := lw_g (lw_at lw_m6 27 rfl) rfl
theorem q1346 : (Jvm.Cond.privateMethod ({ cls := "LitStrangers", name := "sendNow", desc := "(I)I" } : Jvm.MethodName)) ∈ lw_tbl := lw_at lw_m6 28 rfl
theorem q1347 : (Jvm.Cond.instanceMethod ({ cls := "LitStrangers", name := "sendNow", desc := "(I)I" } : Jvm.MethodName)) ∈ lw_all := lw_g (lw_at lw_m6 29 rfl) rfl
theorem q1348 : (Jvm.Cond.code ({ cls := "LitStrangers", name := "sendNow", desc := "(I)I" } : Jvm.MethodName) prog_1_method_43_code (4 : Nat) (Option.some Jvm.ClassFile.FieldType.int)) ∈ lw_all := lw_g (lw_at lw_m6 30 rfl) rfl
theorem q1349 : (Jvm.Cond.methodLink "LitStrangers" (304 : Nat) ({ cls := "LitStrangers", name := "remember", desc := "(I)V" } : Jvm.MethodName)) ∈ lw_all := lw_g (lw_at lw_m6 31 rfl) rfl
theorem q1350 : (Jvm.Cond.privateMethod ({ cls := "LitStrangers", name := "remember", desc := "(I)V" } : Jvm.MethodName)) ∈ lw_tbl := lw_at lw_m6 32 rfl
theorem q1351 : (Jvm.Cond.instanceMethod ({ cls := "LitStrangers", name := "remember", desc := "(I)V" } : Jvm.MethodName)) ∈ lw_all := lw_g (lw_at lw_m6 33 rfl) rfl
theorem q1352 : (Jvm.Cond.code ({ cls := "LitStrangers", name := "remember", desc := "(I)V" } : Jvm.MethodName) prog_1_method_42_code (2 : Nat) (Option.none : Option Jvm.ClassFile.FieldType)) ∈ lw_all := lw_g (lw_at lw_m6 34 rfl) rfl
theorem q1353 : (Jvm.Cond.methodLink "LitStrangers" (291 : Nat) ({ cls := "java/util/ArrayList", name := "remove", desc := "(I)Ljava/lang/Object;" } : Jvm.MethodName)) ∈ lw_all := lw_g (lw_at lw_m6 35 rfl) rfl
theorem q1362 : (Jvm.Cond.classLink "LitStrangers" (294 : Nat) "LitStrangers$Done") ∈ lw_all := lw_g (lw_at lw_m6 44 rfl) rfl
theorem q1364 : (Jvm.Cond.classLink "LitStrangers" (136 : Nat) "LitStrangers$Books") ∈ lw_all := lw_g (lw_at lw_m6 46 rfl) rfl
theorem q1365 : (Jvm.Cond.methodLinkNest "LitStrangers" (296 : Nat) ({ cls := "LitStrangers$Books", name := "<init>", desc := "()V" } : Jvm.MethodName) "LitStrangers") ∈ lw_tbl := lw_at lw_m6 47 rfl
theorem q1366 : (Jvm.Cond.methodLink "LitStrangers" (297 : Nat) ({ cls := "LitStrangers$Books", name := "as", desc := "(LLitStrangers$Books;)LLitStrangers$Books;" } : Jvm.MethodName)) ∈ lw_all := lw_g (lw_at lw_m6 48 rfl) rfl
theorem q1371 : (Jvm.Cond.methodLink "LitStrangers" (301 : Nat) ({ cls := "LitStrangers$Done", name := "<init>", desc := "(ILLitStrangers$Books;)V" } : Jvm.MethodName)) ∈ lw_all := lw_g (lw_at lw_m6 53 rfl) rfl
theorem q1376 : (Jvm.Cond.fieldLinkNest "LitStrangers" (344 : Nat) "LitStrangers$Done" "sort" "I" "LitStrangers") ∈ lw_tbl := lw_at lw_m6 58 rfl
theorem q1378 : (Jvm.Cond.fieldLinkNest "LitStrangers" (343 : Nat) "LitStrangers$Done" "books" "LLitStrangers$Books;" "LitStrangers") ∈ lw_tbl := lw_at lw_m6 60 rfl
theorem q1385 : (Jvm.Cond.instanceMethod ({ cls := "LitStrangers", name := "light", desc := "(I)I" } : Jvm.MethodName)) ∈ lw_all := lw_g (lw_at lw_m6 67 rfl) rfl
theorem q1386 : (Jvm.Cond.selects "LitStrangers" ({ cls := "LitStrangers", name := "light", desc := "(I)I" } : Jvm.MethodName) ({ cls := "LitStrangers", name := "light", desc := "(I)I" } : Jvm.MethodName)) ∈ lw_all := lw_g (lw_at lw_m6 68 rfl) rfl
theorem q1387 : (Jvm.Cond.code ({ cls := "LitStrangers", name := "light", desc := "(I)I" } : Jvm.MethodName) prog_1_method_49_code (2 : Nat) (Option.some Jvm.ClassFile.FieldType.int)) ∈ lw_all := lw_g (lw_at lw_m6 69 rfl) rfl
theorem q1388 : (Jvm.Cond.methodLink "LitStrangers" (331 : Nat) ({ cls := "LitStrangers", name := "lightNow", desc := "(I)I" } : Jvm.MethodName)) ∈ lw_all := lw_g (lw_at lw_m6 70 rfl) rfl
theorem q1389 : (Jvm.Cond.privateMethod ({ cls := "LitStrangers", name := "lightNow", desc := "(I)I" } : Jvm.MethodName)) ∈ lw_tbl := lw_at lw_m6 71 rfl
theorem q1390 : (Jvm.Cond.instanceMethod ({ cls := "LitStrangers", name := "lightNow", desc := "(I)I" } : Jvm.MethodName)) ∈ lw_all := lw_g (lw_at lw_m6 72 rfl) rfl
theorem q1391 : (Jvm.Cond.code ({ cls := "LitStrangers", name := "lightNow", desc := "(I)I" } : Jvm.MethodName) prog_1_method_46_code (4 : Nat) (Option.some Jvm.ClassFile.FieldType.int)) ∈ lw_all := lw_g (lw_at lw_m6 73 rfl) rfl
theorem q1392 : (Jvm.Cond.constantLong "LitStrangers" (313 : Nat) (1023 : Int64)) ∈ lw_all := lw_g (lw_at lw_m6 74 rfl) rfl
theorem q1393 : (Jvm.Cond.methodLink "LitStrangers" (315 : Nat) ({ cls := "LitStrangers", name := "has", desc := "(II)Z" } : Jvm.MethodName)) ∈ lw_all := lw_g (lw_at lw_m6 75 rfl) rfl
theorem q1394 : (Jvm.Cond.static ({ cls := "LitStrangers", name := "has", desc := "(II)Z" } : Jvm.MethodName)) ∈ lw_all := lw_g (lw_at lw_m6 76 rfl) rfl
theorem q1395 : (Jvm.Cond.code ({ cls := "LitStrangers", name := "has", desc := "(II)Z" } : Jvm.MethodName) prog_1_method_2_code (2 : Nat) (Option.some Jvm.ClassFile.FieldType.boolean)) ∈ lw_all := lw_g (lw_at lw_m6 77 rfl) rfl
theorem q1396 : (Jvm.Cond.methodLink "LitStrangers" (318 : Nat) ({ cls := "LitStrangers", name := "need", desc := "(Z)I" } : Jvm.MethodName)) ∈ lw_all := lw_g (lw_at lw_m6 78 rfl) rfl
theorem q1397 : (Jvm.Cond.privateMethod ({ cls := "LitStrangers", name := "need", desc := "(Z)I" } : Jvm.MethodName)) ∈ lw_tbl := lw_at lw_m6 79 rfl
theorem q1398 : (Jvm.Cond.instanceMethod ({ cls := "LitStrangers", name := "need", desc := "(Z)I" } : Jvm.MethodName)) ∈ lw_all := lw_g (lw_at lw_m6 80 rfl) rfl
theorem q1399 : (Jvm.Cond.code ({ cls := "LitStrangers", name := "need", desc := "(Z)I" } : Jvm.MethodName) prog_1_method_45_code (2 : Nat) (Option.some Jvm.ClassFile.FieldType.int)) ∈ lw_all := lw_g (lw_at lw_m6 81 rfl) rfl
theorem q1400 : (Jvm.Cond.methodLink "LitStrangers" (322 : Nat) ({ cls := "LitStrangers", name := "spread", desc := "(I)V" } : Jvm.MethodName)) ∈ lw_all := lw_g (lw_at lw_m6 82 rfl) rfl
theorem q1401 : (Jvm.Cond.privateMethod ({ cls := "LitStrangers", name := "spread", desc := "(I)V" } : Jvm.MethodName)) ∈ lw_tbl := lw_at lw_m6 83 rfl
theorem q1402 : (Jvm.Cond.instanceMethod ({ cls := "LitStrangers", name := "spread", desc := "(I)V" } : Jvm.MethodName)) ∈ lw_all := lw_g (lw_at lw_m6 84 rfl) rfl
theorem q1403 : (Jvm.Cond.code ({ cls := "LitStrangers", name := "spread", desc := "(I)V" } : Jvm.MethodName) prog_1_method_47_code (3 : Nat) (Option.none : Option Jvm.ClassFile.FieldType)) ∈ lw_all := lw_g (lw_at lw_m6 85 rfl) rfl
theorem q1404 : (Jvm.Cond.methodLink "LitStrangers" (328 : Nat) ({ cls := "LitStrangers", name := "night", desc := "()V" } : Jvm.MethodName)) ∈ lw_all := lw_g (lw_at lw_m6 86 rfl) rfl
theorem q1405 : (Jvm.Cond.privateMethod ({ cls := "LitStrangers", name := "night", desc := "()V" } : Jvm.MethodName)) ∈ lw_tbl := lw_at lw_m6 87 rfl
theorem q1406 : (Jvm.Cond.instanceMethod ({ cls := "LitStrangers", name := "night", desc := "()V" } : Jvm.MethodName)) ∈ lw_all := lw_g (lw_at lw_m6 88 rfl) rfl
theorem q1407 : (Jvm.Cond.code ({ cls := "LitStrangers", name := "night", desc := "()V" } : Jvm.MethodName) prog_1_method_48_code (2 : Nat) (Option.none : Option Jvm.ClassFile.FieldType)) ∈ lw_all := lw_g (lw_at lw_m6 89 rfl) rfl
theorem q1409 : (Jvm.Cond.instanceMethod ({ cls := "LitStrangers", name := "dark", desc := "()I" } : Jvm.MethodName)) ∈ lw_all := lw_g (lw_at lw_m6 91 rfl) rfl
theorem q1410 : (Jvm.Cond.selects "LitStrangers" ({ cls := "LitStrangers", name := "dark", desc := "()I" } : Jvm.MethodName) ({ cls := "LitStrangers", name := "dark", desc := "()I" } : Jvm.MethodName)) ∈ lw_all := lw_g (lw_at lw_m6 92 rfl) rfl
theorem q1411 : (Jvm.Cond.code ({ cls := "LitStrangers", name := "dark", desc := "()I" } : Jvm.MethodName) prog_1_method_51_code (1 : Nat) (Option.some Jvm.ClassFile.FieldType.int)) ∈ lw_all := lw_g (lw_at lw_m6 93 rfl) rfl
theorem q1412 : (Jvm.Cond.methodLink "LitStrangers" (337 : Nat) ({ cls := "LitStrangers", name := "darkNow", desc := "()I" } : Jvm.MethodName)) ∈ lw_all := lw_g (lw_at lw_m6 94 rfl) rfl
theorem q1413 : (Jvm.Cond.privateMethod ({ cls := "LitStrangers", name := "darkNow", desc := "()I" } : Jvm.MethodName)) ∈ lw_tbl := lw_at lw_m6 95 rfl
theorem q1414 : (Jvm.Cond.instanceMethod ({ cls := "LitStrangers", name := "darkNow", desc := "()I" } : Jvm.MethodName)) ∈ lw_all := lw_g (lw_at lw_m6 96 rfl) rfl
theorem q1415 : (Jvm.Cond.code ({ cls := "LitStrangers", name := "darkNow", desc := "()I" } : Jvm.MethodName) prog_1_method_50_code (1 : Nat) (Option.some Jvm.ClassFile.FieldType.int)) ∈ lw_all := lw_g (lw_at lw_m6 97 rfl) rfl
theorem q1417 : (Jvm.Cond.instanceMethod ({ cls := "LitStrangers", name := "undo", desc := "()I" } : Jvm.MethodName)) ∈ lw_all := lw_g (lw_at lw_m6 99 rfl) rfl
theorem q1418 : (Jvm.Cond.selects "LitStrangers" ({ cls := "LitStrangers", name := "undo", desc := "()I" } : Jvm.MethodName) ({ cls := "LitStrangers", name := "undo", desc := "()I" } : Jvm.MethodName)) ∈ lw_all := lw_g (lw_at lw_m6 100 rfl) rfl
theorem q1419 : (Jvm.Cond.code ({ cls := "LitStrangers", name := "undo", desc := "()I" } : Jvm.MethodName) prog_1_method_52_code (2 : Nat) (Option.some Jvm.ClassFile.FieldType.int)) ∈ lw_all := lw_g (lw_at lw_m6 101 rfl) rfl
theorem q1420 : (Jvm.Cond.methodLink "LitStrangers" (340 : Nat) ({ cls := "java/util/ArrayList", name := "isEmpty", desc := "()Z" } : Jvm.MethodName)) ∈ lw_all := lw_g (lw_at lw_m6 102 rfl) rfl
theorem q1425 : (Jvm.Cond.instanceMethod ({ cls := "LitStrangers", name := "last", desc := "(I)I" } : Jvm.MethodName)) ∈ lw_all := lw_g (lw_at lw_m6 107 rfl) rfl
theorem q1426 : (Jvm.Cond.selects "LitStrangers" ({ cls := "LitStrangers", name := "last", desc := "(I)I" } : Jvm.MethodName) ({ cls := "LitStrangers", name := "last", desc := "(I)I" } : Jvm.MethodName)) ∈ lw_all := lw_g (lw_at lw_m6 108 rfl) rfl
theorem q1427 : (Jvm.Cond.code ({ cls := "LitStrangers", name := "last", desc := "(I)I" } : Jvm.MethodName) prog_1_method_53_code (3 : Nat) (Option.some Jvm.ClassFile.FieldType.int)) ∈ lw_all := lw_g (lw_at lw_m6 109 rfl) rfl
theorem q1428 : (Jvm.Cond.methodLink "LitStrangers" (347 : Nat) ({ cls := "LitStrangers$Nights", name := "lay", desc := "(II)LLitStrangers$Nights;" } : Jvm.MethodName)) ∈ lw_all := lw_g (lw_at lw_m6 110 rfl) rfl
theorem q1452 : (Jvm.Cond.methodLink "LitStrangers" (351 : Nat) ({ cls := "LitStrangers$Nights", name := "most", desc := "(II)I" } : Jvm.MethodName)) ∈ lw_all := lw_g (lw_at lw_m6 134 rfl) rfl
theorem q1478 : (Jvm.Cond.methodLink "LitStrangers" (354 : Nat) ({ cls := "LitStrangers$Nights", name := "crew", desc := "(IZ)I" } : Jvm.MethodName)) ∈ lw_all := lw_g (lw_at lw_m6 160 rfl) rfl
theorem q1491 : (Jvm.Cond.instanceMethod ({ cls := "LitStrangers", name := "cheap", desc := "(II)I" } : Jvm.MethodName)) ∈ lw_all := lw_g (lw_at lw_m6 173 rfl) rfl
theorem q1492 : (Jvm.Cond.selects "LitStrangers" ({ cls := "LitStrangers", name := "cheap", desc := "(II)I" } : Jvm.MethodName) ({ cls := "LitStrangers", name := "cheap", desc := "(II)I" } : Jvm.MethodName)) ∈ lw_all := lw_g (lw_at lw_m6 174 rfl) rfl
theorem q1493 : (Jvm.Cond.code ({ cls := "LitStrangers", name := "cheap", desc := "(II)I" } : Jvm.MethodName) prog_1_method_54_code (4 : Nat) (Option.some Jvm.ClassFile.FieldType.int)) ∈ lw_all := lw_g (lw_at lw_m6 175 rfl) rfl
theorem q1494 : (Jvm.Cond.methodLink "LitStrangers" (361 : Nat) ({ cls := "LitStrangers$Nights", name := "least", desc := "(II)I" } : Jvm.MethodName)) ∈ lw_all := lw_g (lw_at lw_m6 176 rfl) rfl
theorem q1495 : (Jvm.Cond.constant "LitStrangers" (364 : Nat) (100000000 : Int32)) ∈ lw_all := lw_g (lw_at lw_m6 177 rfl) rfl
theorem q1497 : (Jvm.Cond.instanceMethod ({ cls := "LitStrangers", name := "ways", desc := "(I)J" } : Jvm.MethodName)) ∈ lw_all := lw_g (lw_at lw_m6 179 rfl) rfl
theorem q1498 : (Jvm.Cond.selects "LitStrangers" ({ cls := "LitStrangers", name := "ways", desc := "(I)J" } : Jvm.MethodName) ({ cls := "LitStrangers", name := "ways", desc := "(I)J" } : Jvm.MethodName)) ∈ lw_all := lw_g (lw_at lw_m6 180 rfl) rfl
theorem q1499 : (Jvm.Cond.code ({ cls := "LitStrangers", name := "ways", desc := "(I)J" } : Jvm.MethodName) prog_1_method_55_code (2 : Nat) (Option.some Jvm.ClassFile.FieldType.long)) ∈ lw_all := lw_g (lw_at lw_m6 181 rfl) rfl
theorem q1500 : (Jvm.Cond.methodLink "LitStrangers" (365 : Nat) ({ cls := "LitStrangers$Nights", name := "rows", desc := "(II)J" } : Jvm.MethodName)) ∈ lw_all := lw_g (lw_at lw_m6 182 rfl) rfl
theorem q1506 : (Jvm.Cond.instanceMethod ({ cls := "LitStrangers", name := "late", desc := "(I)I" } : Jvm.MethodName)) ∈ lw_all := lw_g (lw_at lw_m6 188 rfl) rfl
theorem q1507 : (Jvm.Cond.selects "LitStrangers" ({ cls := "LitStrangers", name := "late", desc := "(I)I" } : Jvm.MethodName) ({ cls := "LitStrangers", name := "late", desc := "(I)I" } : Jvm.MethodName)) ∈ lw_all := lw_g (lw_at lw_m6 189 rfl) rfl
theorem q1508 : (Jvm.Cond.code ({ cls := "LitStrangers", name := "late", desc := "(I)I" } : Jvm.MethodName) prog_1_method_56_code (2 : Nat) (Option.some Jvm.ClassFile.FieldType.int)) ∈ lw_all := lw_g (lw_at lw_m6 190 rfl) rfl
theorem q1509 : (Jvm.Cond.methodLink "LitStrangers" (369 : Nat) ({ cls := "LitStrangers$Nights", name := "late", desc := "(I)I" } : Jvm.MethodName)) ∈ lw_all := lw_g (lw_at lw_m6 191 rfl) rfl
theorem q1514 : (Jvm.Cond.instanceMethod ({ cls := "LitStrangers", name := "swaps", desc := "(I)I" } : Jvm.MethodName)) ∈ lw_all := lw_g (lw_at lw_m6 196 rfl) rfl
theorem q1515 : (Jvm.Cond.selects "LitStrangers" ({ cls := "LitStrangers", name := "swaps", desc := "(I)I" } : Jvm.MethodName) ({ cls := "LitStrangers", name := "swaps", desc := "(I)I" } : Jvm.MethodName)) ∈ lw_all := lw_g (lw_at lw_m6 197 rfl) rfl
theorem q1516 : (Jvm.Cond.code ({ cls := "LitStrangers", name := "swaps", desc := "(I)I" } : Jvm.MethodName) prog_1_method_57_code (3 : Nat) (Option.some Jvm.ClassFile.FieldType.int)) ∈ lw_all := lw_g (lw_at lw_m6 198 rfl) rfl
theorem q1517 : (Jvm.Cond.methodLink "LitStrangers" (372 : Nat) ({ cls := "LitStrangers$Nights", name := "turns", desc := "(III)I" } : Jvm.MethodName)) ∈ lw_all := lw_g (lw_at lw_m6 199 rfl) rfl
theorem q1528 : (Jvm.Cond.methodLink "LitStrangers" (375 : Nat) ({ cls := "LitStrangers$Nights", name := "turnOf", desc := "(I)I" } : Jvm.MethodName)) ∈ lw_all := lw_g (lw_at lw_m6 210 rfl) rfl
theorem q1533 : (Jvm.Cond.instanceMethod ({ cls := "LitStrangers", name := "crews", desc := "(I)I" } : Jvm.MethodName)) ∈ lw_all := lw_g (lw_at lw_m6 215 rfl) rfl
theorem q1534 : (Jvm.Cond.selects "LitStrangers" ({ cls := "LitStrangers", name := "crews", desc := "(I)I" } : Jvm.MethodName) ({ cls := "LitStrangers", name := "crews", desc := "(I)I" } : Jvm.MethodName)) ∈ lw_all := lw_g (lw_at lw_m6 216 rfl) rfl
theorem q1535 : (Jvm.Cond.code ({ cls := "LitStrangers", name := "crews", desc := "(I)I" } : Jvm.MethodName) prog_1_method_58_code (7 : Nat) (Option.some Jvm.ClassFile.FieldType.int)) ∈ lw_all := lw_g (lw_at lw_m6 217 rfl) rfl
theorem q1536 : (Jvm.Cond.methodLinkNest "LitStrangers" (381 : Nat) ({ cls := "LitStrangers$Nights", name := "fogOn", desc := "(I)Z" } : Jvm.MethodName) "LitStrangers") ∈ lw_tbl := lw_at lw_m6 218 rfl
theorem q1537 : (Jvm.Cond.methodLinkNest "LitStrangers" (388 : Nat) ({ cls := "LitStrangers$Nights", name := "open", desc := "(IIZ[I)I" } : Jvm.MethodName) "LitStrangers") ∈ lw_tbl := lw_at lw_m6 219 rfl
theorem q1538 : (Jvm.Cond.methodLinkNest "LitStrangers" (392 : Nat) ({ cls := "LitStrangers$Nights", name := "next", desc := "(II[IZ)I" } : Jvm.MethodName) "LitStrangers") ∈ lw_tbl := lw_at lw_m6 220 rfl
theorem q1540 : (Jvm.Cond.instanceMethod ({ cls := "LitStrangers", name := "share", desc := "(I)I" } : Jvm.MethodName)) ∈ lw_all := lw_g (lw_at lw_m6 222 rfl) rfl
theorem q1541 : (Jvm.Cond.selects "LitStrangers" ({ cls := "LitStrangers", name := "share", desc := "(I)I" } : Jvm.MethodName) ({ cls := "LitStrangers", name := "share", desc := "(I)I" } : Jvm.MethodName)) ∈ lw_all := lw_g (lw_at lw_m6 223 rfl) rfl
theorem q1542 : (Jvm.Cond.code ({ cls := "LitStrangers", name := "share", desc := "(I)I" } : Jvm.MethodName) prog_1_method_59_code (4 : Nat) (Option.some Jvm.ClassFile.FieldType.int)) ∈ lw_all := lw_g (lw_at lw_m6 224 rfl) rfl
theorem q1544 : (Jvm.Cond.instanceMethod ({ cls := "LitStrangers", name := "harm", desc := "(I)I" } : Jvm.MethodName)) ∈ lw_all := lw_g (lw_at lw_m6 226 rfl) rfl
theorem q1545 : (Jvm.Cond.selects "LitStrangers" ({ cls := "LitStrangers", name := "harm", desc := "(I)I" } : Jvm.MethodName) ({ cls := "LitStrangers", name := "harm", desc := "(I)I" } : Jvm.MethodName)) ∈ lw_all := lw_g (lw_at lw_m6 227 rfl) rfl
theorem q1546 : (Jvm.Cond.code ({ cls := "LitStrangers", name := "harm", desc := "(I)I" } : Jvm.MethodName) prog_1_method_60_code (4 : Nat) (Option.some Jvm.ClassFile.FieldType.int)) ∈ lw_all := lw_g (lw_at lw_m6 228 rfl) rfl
theorem q1548 : (Jvm.Cond.instanceMethod ({ cls := "LitStrangers", name := "hush", desc := "(II)I" } : Jvm.MethodName)) ∈ lw_all := lw_g (lw_at lw_m6 230 rfl) rfl
theorem q1549 : (Jvm.Cond.selects "LitStrangers" ({ cls := "LitStrangers", name := "hush", desc := "(II)I" } : Jvm.MethodName) ({ cls := "LitStrangers", name := "hush", desc := "(II)I" } : Jvm.MethodName)) ∈ lw_all := lw_g (lw_at lw_m6 231 rfl) rfl
theorem q1550 : (Jvm.Cond.code ({ cls := "LitStrangers", name := "hush", desc := "(II)I" } : Jvm.MethodName) prog_1_method_61_code (7 : Nat) (Option.some Jvm.ClassFile.FieldType.int)) ∈ lw_all := lw_g (lw_at lw_m6 232 rfl) rfl
theorem q1551 : (Jvm.Cond.methodLink "LitStrangers" (396 : Nat) ({ cls := "java/lang/Integer", name := "bitCount", desc := "(I)I" } : Jvm.MethodName)) ∈ lw_all := lw_g (lw_at lw_m6 233 rfl) rfl
theorem q1558 : (Jvm.Cond.instanceMethod ({ cls := "LitStrangers", name := "who", desc := "(I)I" } : Jvm.MethodName)) ∈ lw_all := lw_g (lw_at lw_m7 0 rfl) rfl
theorem q1559 : (Jvm.Cond.selects "LitStrangers" ({ cls := "LitStrangers", name := "who", desc := "(I)I" } : Jvm.MethodName) ({ cls := "LitStrangers", name := "who", desc := "(I)I" } : Jvm.MethodName)) ∈ lw_all := lw_g (lw_at lw_m7 1 rfl) rfl
theorem q1560 : (Jvm.Cond.code ({ cls := "LitStrangers", name := "who", desc := "(I)I" } : Jvm.MethodName) prog_1_method_62_code (4 : Nat) (Option.some Jvm.ClassFile.FieldType.int)) ∈ lw_all := lw_g (lw_at lw_m7 2 rfl) rfl
theorem q1562 : (Jvm.Cond.instanceMethod ({ cls := "LitStrangers", name := "orders", desc := "()I" } : Jvm.MethodName)) ∈ lw_all := lw_g (lw_at lw_m7 4 rfl) rfl
theorem q1563 : (Jvm.Cond.selects "LitStrangers" ({ cls := "LitStrangers", name := "orders", desc := "()I" } : Jvm.MethodName) ({ cls := "LitStrangers", name := "orders", desc := "()I" } : Jvm.MethodName)) ∈ lw_all := lw_g (lw_at lw_m7 5 rfl) rfl
theorem q1564 : (Jvm.Cond.codeWith ({ cls := "LitStrangers", name := "orders", desc := "()I" } : Jvm.MethodName) prog_1_method_64_code (5 : Nat) (Option.some Jvm.ClassFile.FieldType.int) [((5 : Nat), (22 : Nat), (30 : Nat), (225 : Nat)), ((5 : Nat), (22 : Nat), (53 : Nat), (0 : Nat)), ((30 : Nat), (46 : Nat), (53 : Nat), (0 : Nat)), ((53 : Nat), (55 : Nat), (53 : Nat), (0 : Nat))]) ∈ lw_all := lw_g (lw_at lw_m7 6 rfl) rfl
theorem q1565 : (Jvm.Cond.classLink "LitStrangers" (412 : Nat) "LitStrangers$OrderReader") ∈ lw_all := lw_g (lw_at lw_m7 7 rfl) rfl
theorem q1566 : (Jvm.Cond.methodLink "LitStrangers" (414 : Nat) ({ cls := "LitStrangers$OrderReader", name := "<init>", desc := "(LLitStrangers;)V" } : Jvm.MethodName)) ∈ lw_all := lw_g (lw_at lw_m7 8 rfl) rfl
theorem q1595 : (Jvm.Cond.methodLink "LitStrangers" (415 : Nat) ({ cls := "LitStrangers$OrderReader", name := "read", desc := "()[LLitStrangers$Order;" } : Jvm.MethodName)) ∈ lw_all := lw_g (lw_at lw_m7 37 rfl) rfl
theorem q1603 : (Jvm.Cond.methodLink "LitStrangers" (418 : Nat) ({ cls := "java/util/ArrayList", name := "<init>", desc := "(Ljava/util/Collection;)V" } : Jvm.MethodName)) ∈ lw_all := lw_g (lw_at lw_m7 45 rfl) rfl
theorem q1627 : (Jvm.Cond.methodLink "LitStrangers" (421 : Nat) ({ cls := "LitStrangers", name := "runAll", desc := "([LLitStrangers$Order;)I" } : Jvm.MethodName)) ∈ lw_all := lw_g (lw_at lw_m7 69 rfl) rfl
theorem q1628 : (Jvm.Cond.privateMethod ({ cls := "LitStrangers", name := "runAll", desc := "([LLitStrangers$Order;)I" } : Jvm.MethodName)) ∈ lw_tbl := lw_at lw_m7 70 rfl
theorem q1629 : (Jvm.Cond.instanceMethod ({ cls := "LitStrangers", name := "runAll", desc := "([LLitStrangers$Order;)I" } : Jvm.MethodName)) ∈ lw_all := lw_g (lw_at lw_m7 71 rfl) rfl
theorem q1630 : (Jvm.Cond.code ({ cls := "LitStrangers", name := "runAll", desc := "([LLitStrangers$Order;)I" } : Jvm.MethodName) prog_1_method_63_code (4 : Nat) (Option.some Jvm.ClassFile.FieldType.int)) ∈ lw_all := lw_g (lw_at lw_m7 72 rfl) rfl
theorem q1631 : (Jvm.Cond.methodLink "LitStrangers" (406 : Nat) ({ cls := "LitStrangers$Order", name := "run", desc := "()I" } : Jvm.MethodName)) ∈ lw_all := lw_g (lw_at lw_m7 73 rfl) rfl
theorem q1678 : (Jvm.Cond.methodLink "LitStrangers" (425 : Nat) ({ cls := "java/util/ArrayList", name := "addAll", desc := "(Ljava/util/Collection;)Z" } : Jvm.MethodName)) ∈ lw_all := lw_g (lw_at lw_m7 120 rfl) rfl
theorem q1683 : (Jvm.Cond.instanceMethod ({ cls := "LitStrangers", name := "stopped", desc := "()I" } : Jvm.MethodName)) ∈ lw_all := lw_g (lw_at lw_m7 125 rfl) rfl
theorem q1684 : (Jvm.Cond.selects "LitStrangers" ({ cls := "LitStrangers", name := "stopped", desc := "()I" } : Jvm.MethodName) ({ cls := "LitStrangers", name := "stopped", desc := "()I" } : Jvm.MethodName)) ∈ lw_all := lw_g (lw_at lw_m7 126 rfl) rfl
theorem q1685 : (Jvm.Cond.code ({ cls := "LitStrangers", name := "stopped", desc := "()I" } : Jvm.MethodName) prog_1_method_65_code (1 : Nat) (Option.some Jvm.ClassFile.FieldType.int)) ∈ lw_all := lw_g (lw_at lw_m7 127 rfl) rfl
theorem q1687 : (Jvm.Cond.instanceMethod ({ cls := "LitStrangers", name := "winter", desc := "(II)I" } : Jvm.MethodName)) ∈ lw_all := lw_g (lw_at lw_m7 129 rfl) rfl
theorem q1688 : (Jvm.Cond.selects "LitStrangers" ({ cls := "LitStrangers", name := "winter", desc := "(II)I" } : Jvm.MethodName) ({ cls := "LitStrangers", name := "winter", desc := "(II)I" } : Jvm.MethodName)) ∈ lw_all := lw_g (lw_at lw_m7 130 rfl) rfl
theorem q1689 : (Jvm.Cond.code ({ cls := "LitStrangers", name := "winter", desc := "(II)I" } : Jvm.MethodName) prog_1_method_66_code (10 : Nat) (Option.some Jvm.ClassFile.FieldType.int)) ∈ lw_all := lw_g (lw_at lw_m7 131 rfl) rfl
theorem q1690 : (Jvm.Cond.constantLong "LitStrangers" (429 : Nat) (1000000 : Int64)) ∈ lw_all := lw_g (lw_at lw_m7 132 rfl) rfl
theorem q1691 : (Jvm.Cond.constantLong "LitStrangers" (431 : Nat) (60 : Int64)) ∈ lw_all := lw_g (lw_at lw_m7 133 rfl) rfl
theorem q1692 : (Jvm.Cond.classLink "LitStrangers" (433 : Nat) "LitStrangers$Draws") ∈ lw_all := lw_g (lw_at lw_m7 134 rfl) rfl
theorem q1694 : (Jvm.Cond.methodLink "LitStrangers" (435 : Nat) ({ cls := "LitStrangers$Draws", name := "<init>", desc := "(I)V" } : Jvm.MethodName)) ∈ lw_all := lw_g (lw_at lw_m7 136 rfl) rfl
theorem q1702 : (Jvm.Cond.methodLink "LitStrangers" (440 : Nat) ({ cls := "LitStrangers$Draws", name := "of", desc := "(I)I" } : Jvm.MethodName)) ∈ lw_all := lw_g (lw_at lw_m7 144 rfl) rfl
theorem q1710 : (Jvm.Cond.instanceMethod ({ cls := "LitStrangers", name := "drawn", desc := "(I)I" } : Jvm.MethodName)) ∈ lw_all := lw_g (lw_at lw_m7 152 rfl) rfl
theorem q1711 : (Jvm.Cond.selects "LitStrangers" ({ cls := "LitStrangers", name := "drawn", desc := "(I)I" } : Jvm.MethodName) ({ cls := "LitStrangers", name := "drawn", desc := "(I)I" } : Jvm.MethodName)) ∈ lw_all := lw_g (lw_at lw_m7 153 rfl) rfl
theorem q1712 : (Jvm.Cond.code ({ cls := "LitStrangers", name := "drawn", desc := "(I)I" } : Jvm.MethodName) prog_1_method_67_code (2 : Nat) (Option.some Jvm.ClassFile.FieldType.int)) ∈ lw_all := lw_g (lw_at lw_m7 154 rfl) rfl
theorem q1714 : (Jvm.Cond.instanceMethod ({ cls := "LitStrangers", name := "image", desc := "(I)I" } : Jvm.MethodName)) ∈ lw_all := lw_g (lw_at lw_m7 156 rfl) rfl
theorem q1715 : (Jvm.Cond.selects "LitStrangers" ({ cls := "LitStrangers", name := "image", desc := "(I)I" } : Jvm.MethodName) ({ cls := "LitStrangers", name := "image", desc := "(I)I" } : Jvm.MethodName)) ∈ lw_all := lw_g (lw_at lw_m7 157 rfl) rfl
theorem q1716 : (Jvm.Cond.code ({ cls := "LitStrangers", name := "image", desc := "(I)I" } : Jvm.MethodName) prog_1_method_68_code (2 : Nat) (Option.some Jvm.ClassFile.FieldType.int)) ∈ lw_all := lw_g (lw_at lw_m7 158 rfl) rfl
theorem q1717 : (Jvm.Cond.methodLink "LitStrangers" (443 : Nat) ({ cls := "LitStrangers$Coast", name := "copy", desc := "()LLitStrangers$Coast;" } : Jvm.MethodName)) ∈ lw_all := lw_g (lw_at lw_m7 159 rfl) rfl
theorem q1727 : (Jvm.Cond.instanceMethod ({ cls := "LitStrangers", name := "back", desc := "(I)I" } : Jvm.MethodName)) ∈ lw_all := lw_g (lw_at lw_m7 169 rfl) rfl
theorem q1728 : (Jvm.Cond.selects "LitStrangers" ({ cls := "LitStrangers", name := "back", desc := "(I)I" } : Jvm.MethodName) ({ cls := "LitStrangers", name := "back", desc := "(I)I" } : Jvm.MethodName)) ∈ lw_all := lw_g (lw_at lw_m7 170 rfl) rfl
theorem q1729 : (Jvm.Cond.code ({ cls := "LitStrangers", name := "back", desc := "(I)I" } : Jvm.MethodName) prog_1_method_69_code (2 : Nat) (Option.some Jvm.ClassFile.FieldType.int)) ∈ lw_all := lw_g (lw_at lw_m7 171 rfl) rfl
theorem q1731 : (Jvm.Cond.instanceMethod ({ cls := "LitStrangers", name := "count", desc := "(I)I" } : Jvm.MethodName)) ∈ lw_all := lw_g (lw_at lw_m7 173 rfl) rfl
theorem q1732 : (Jvm.Cond.selects "LitStrangers" ({ cls := "LitStrangers", name := "count", desc := "(I)I" } : Jvm.MethodName) ({ cls := "LitStrangers", name := "count", desc := "(I)I" } : Jvm.MethodName)) ∈ lw_all := lw_g (lw_at lw_m7 174 rfl) rfl
theorem q1733 : (Jvm.Cond.code ({ cls := "LitStrangers", name := "count", desc := "(I)I" } : Jvm.MethodName) prog_1_method_71_code (2 : Nat) (Option.some Jvm.ClassFile.FieldType.int)) ∈ lw_all := lw_g (lw_at lw_m7 175 rfl) rfl
theorem q1734 : (Jvm.Cond.methodLink "LitStrangers" (447 : Nat) ({ cls := "LitStrangers", name := "talks", desc := "()I" } : Jvm.MethodName)) ∈ lw_all := lw_g (lw_at lw_m7 176 rfl) rfl
theorem q1735 : (Jvm.Cond.privateMethod ({ cls := "LitStrangers", name := "talks", desc := "()I" } : Jvm.MethodName)) ∈ lw_tbl := lw_at lw_m7 177 rfl
theorem q1736 : (Jvm.Cond.instanceMethod ({ cls := "LitStrangers", name := "talks", desc := "()I" } : Jvm.MethodName)) ∈ lw_all := lw_g (lw_at lw_m7 178 rfl) rfl
theorem q1737 : (Jvm.Cond.code ({ cls := "LitStrangers", name := "talks", desc := "()I" } : Jvm.MethodName) prog_1_method_70_code (3 : Nat) (Option.some Jvm.ClassFile.FieldType.int)) ∈ lw_all := lw_g (lw_at lw_m7 179 rfl) rfl
theorem q1738 : (Jvm.Cond.constantLong "LitStrangers" (449 : Nat) (14 : Int64)) ∈ lw_all := lw_g (lw_at lw_m7 180 rfl) rfl
theorem q1739 : (Jvm.Cond.constantLong "LitStrangers" (451 : Nat) (16 : Int64)) ∈ lw_all := lw_g (lw_at lw_m7 181 rfl) rfl
theorem q1741 : (Jvm.Cond.instanceMethod ({ cls := "LitStrangers", name := "status", desc := "()I" } : Jvm.MethodName)) ∈ lw_all := lw_g (lw_at lw_m7 183 rfl) rfl
theorem q1742 : (Jvm.Cond.selects "LitStrangers" ({ cls := "LitStrangers", name := "status", desc := "()I" } : Jvm.MethodName) ({ cls := "LitStrangers", name := "status", desc := "()I" } : Jvm.MethodName)) ∈ lw_all := lw_g (lw_at lw_m7 184 rfl) rfl
theorem q1743 : (Jvm.Cond.code ({ cls := "LitStrangers", name := "status", desc := "()I" } : Jvm.MethodName) prog_1_method_72_code (1 : Nat) (Option.some Jvm.ClassFile.FieldType.int)) ∈ lw_all := lw_g (lw_at lw_m7 185 rfl) rfl
theorem q2416 : (Jvm.Cond.castable "LitStrangers" "java/lang/Object") ∈ lw_tbl := lw_at lw_m10 138 rfl
theorem in_X0 : ∀ w ∈ wsX00, w ∈ lw_all := lw_in wsX00 [401, 403, 405, 407, 409, 411, 413, 415, 417, 419, 421, 423, 425, 427, 429, 431] (by decide +kernel) (by decide +kernel)
