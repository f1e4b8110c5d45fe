/-! LitStrangers$Nights -/
set_option maxRecDepth 100000
def RX5 : String := "LitStrangers$Nights"
def TX5 : u_T := fun k => match k with
  | 0 => ("LitStrangers$Nights", "from", "[I", true)
  | 1 => ("LitStrangers$Nights", "fares", "[I", true)
  | 2 => ("LitStrangers$Nights", "heard", "[I", true)
  | 3 => ("LitStrangers$Nights", "spoils", "[[I", true)
  | 4 => ("LitStrangers$Nights", "most", "[[I", true)
  | 5 => ("LitStrangers$Nights", "least", "[[I", true)
  | 6 => ("LitStrangers$Nights", "rows", "[[J", true)
  | 7 => ("LitStrangers$Nights", "comes", "[[Z", true)
  | 8 => ("LitStrangers$Nights", "turns", "[[B", true)
  | 9 => ("LitStrangers$Nights", "n", "I", false)
  | 10 => ("LitStrangers$Nights", "worths", "[[I", true)
  | _ => ("LitStrangers$Nights", "this$0", "LLitStrangers;", true)
def tyX5 : Nat → FieldType := fun k => match k with
  | 0 => .array .int
  | 1 => .array .int
  | 2 => .array .int
  | 3 => .array (.array .int)
  | 4 => .array (.array .int)
  | 5 => .array (.array .int)
  | 6 => .array (.array .long)
  | 7 => .array (.array .boolean)
  | 8 => .array (.array .byte)
  | 9 => .int
  | 10 => .array (.array .int)
  | _ => .object "LitStrangers"
abbrev wsX50 : List Cond := u_ws RX5 TX5 12
theorem nmX5 : ∀ a, a < 12 → ∀ b, b < 12 → a ≠ b → (TX5 a).2.1 ≠ (TX5 b).2.1 := by decide +kernel
theorem tyX5_ok : ∀ k, k < 12 → parseFieldDescriptor (TX5 k).2.2.1 = some (tyX5 k) := by decide +kernel
abbrev cX5_init : ByteArray := prog_14_method_1_code
def yX5_init : MethodName := ⟨RX5, "<init>", "(LLitStrangers;)V"⟩
def dkwX5_init_5 : List UInt8 := [16, 10, 197, 0, 25, 2, 181, 0, 51, 177]
abbrev dktX5_init_5 : List UInt8 := dkwX5_init_5 ++ []
def dkwX5_init_4 : List UInt8 := [197, 0, 41, 2, 181, 0, 43, 42, 16, 11, 17, 64, 0, 197, 0, 46, 2, 181, 0, 48, 42, 16, 61]
abbrev dktX5_init_4 : List UInt8 := dkwX5_init_4 ++ dktX5_init_5
def dkwX5_init_3 : List UInt8 := [181, 0, 33, 42, 16, 11, 17, 4, 0, 197, 0, 36, 2, 181, 0, 38, 42, 16, 11, 17, 4, 0]
abbrev dktX5_init_3 : List UInt8 := dkwX5_init_3 ++ dktX5_init_4
def dkwX5_init_2 : List UInt8 := [16, 11, 17, 4, 0, 197, 0, 25, 2, 181, 0, 30, 42, 16, 11, 17, 4, 0, 197, 0, 25, 2]
abbrev dktX5_init_2 : List UInt8 := dkwX5_init_2 ++ dktX5_init_3
def dkwX5_init_1 : List UInt8 := [181, 0, 19, 42, 16, 10, 188, 10, 181, 0, 22, 42, 16, 10, 16, 10, 197, 0, 25, 2, 181, 0, 27, 42]
abbrev dktX5_init_1 : List UInt8 := dkwX5_init_1 ++ dktX5_init_2
def dkwX5_init_0 : List UInt8 := [42, 43, 181, 0, 3, 42, 183, 0, 9, 42, 16, 10, 188, 10, 181, 0, 15, 42, 16, 10, 188, 10]
abbrev dktX5_init_0 : List UInt8 := dkwX5_init_0 ++ dktX5_init_1
theorem dksX5_init_0 : cX5_init.data.toList.drop 0 = dktX5_init_0 := by decide +kernel
theorem dksX5_init_1 : cX5_init.data.toList.drop 22 = dktX5_init_1 := dk_seg dksX5_init_0 22 rfl rfl
theorem dksX5_init_2 : cX5_init.data.toList.drop 46 = dktX5_init_2 := dk_seg dksX5_init_1 24 rfl rfl
theorem dksX5_init_3 : cX5_init.data.toList.drop 68 = dktX5_init_3 := dk_seg dksX5_init_2 22 rfl rfl
theorem dksX5_init_4 : cX5_init.data.toList.drop 90 = dktX5_init_4 := dk_seg dksX5_init_3 22 rfl rfl
theorem dksX5_init_5 : cX5_init.data.toList.drop 113 = dktX5_init_5 := dk_seg dksX5_init_4 23 rfl rfl
theorem dX5_init_0 : decode cX5_init 0 = .ok (.aload_n 0, 1) := dk_42 (dk_at dksX5_init_0 0 rfl rfl)
theorem dX5_init_1 : decode cX5_init 1 = .ok (.aload_n 1, 1) := dk_43 (dk_at dksX5_init_0 1 rfl rfl)
theorem dX5_init_2 : decode cX5_init 2 = .ok (.putfield 3, 3) := dk_181 0 3 (dk_at dksX5_init_0 2 rfl rfl)
theorem dX5_init_5 : decode cX5_init 5 = .ok (.aload_n 0, 1) := dk_42 (dk_at dksX5_init_0 5 rfl rfl)
theorem dX5_init_6 : decode cX5_init 6 = .ok (.invokespecial 9, 3) := dk_183 0 9 (dk_at dksX5_init_0 6 rfl rfl)
theorem dX5_init_9 : decode cX5_init 9 = .ok (.aload_n 0, 1) := dk_42 (dk_at dksX5_init_0 9 rfl rfl)
theorem dX5_init_10 : decode cX5_init 10 = .ok (.bipush 10, 2) := dk_16 10 (dk_at dksX5_init_0 10 rfl rfl)
theorem dX5_init_12 : decode cX5_init 12 = .ok (.newarray .int, 2) := dk_188_10 (dk_at dksX5_init_0 12 rfl rfl)
theorem dX5_init_14 : decode cX5_init 14 = .ok (.putfield 15, 3) := dk_181 0 15 (dk_at dksX5_init_0 14 rfl rfl)
theorem dX5_init_17 : decode cX5_init 17 = .ok (.aload_n 0, 1) := dk_42 (dk_at dksX5_init_0 17 rfl rfl)
theorem dX5_init_18 : decode cX5_init 18 = .ok (.bipush 10, 2) := dk_16 10 (dk_at dksX5_init_0 18 rfl rfl)
theorem dX5_init_20 : decode cX5_init 20 = .ok (.newarray .int, 2) := dk_188_10 (dk_at dksX5_init_0 20 rfl rfl)
theorem dX5_init_22 : decode cX5_init 22 = .ok (.putfield 19, 3) := dk_181 0 19 (dk_at dksX5_init_1 0 rfl rfl)
theorem dX5_init_25 : decode cX5_init 25 = .ok (.aload_n 0, 1) := dk_42 (dk_at dksX5_init_1 3 rfl rfl)
theorem dX5_init_26 : decode cX5_init 26 = .ok (.bipush 10, 2) := dk_16 10 (dk_at dksX5_init_1 4 rfl rfl)
theorem dX5_init_28 : decode cX5_init 28 = .ok (.newarray .int, 2) := dk_188_10 (dk_at dksX5_init_1 6 rfl rfl)
theorem dX5_init_30 : decode cX5_init 30 = .ok (.putfield 22, 3) := dk_181 0 22 (dk_at dksX5_init_1 8 rfl rfl)
theorem dX5_init_33 : decode cX5_init 33 = .ok (.aload_n 0, 1) := dk_42 (dk_at dksX5_init_1 11 rfl rfl)
theorem dX5_init_34 : decode cX5_init 34 = .ok (.bipush 10, 2) := dk_16 10 (dk_at dksX5_init_1 12 rfl rfl)
theorem dX5_init_36 : decode cX5_init 36 = .ok (.bipush 10, 2) := dk_16 10 (dk_at dksX5_init_1 14 rfl rfl)
theorem dX5_init_38 : decode cX5_init 38 = .ok (.multianewarray 25 2, 4) := by decide +kernel
theorem dX5_init_42 : decode cX5_init 42 = .ok (.putfield 27, 3) := dk_181 0 27 (dk_at dksX5_init_1 20 rfl rfl)
theorem dX5_init_45 : decode cX5_init 45 = .ok (.aload_n 0, 1) := dk_42 (dk_at dksX5_init_1 23 rfl rfl)
theorem dX5_init_46 : decode cX5_init 46 = .ok (.bipush 11, 2) := dk_16 11 (dk_at dksX5_init_2 0 rfl rfl)
theorem dX5_init_48 : decode cX5_init 48 = .ok (.sipush 1024, 3) := dk_17 4 0 (dk_at dksX5_init_2 2 rfl rfl)
theorem dX5_init_51 : decode cX5_init 51 = .ok (.multianewarray 25 2, 4) := by decide +kernel
theorem dX5_init_55 : decode cX5_init 55 = .ok (.putfield 30, 3) := dk_181 0 30 (dk_at dksX5_init_2 9 rfl rfl)
theorem dX5_init_58 : decode cX5_init 58 = .ok (.aload_n 0, 1) := dk_42 (dk_at dksX5_init_2 12 rfl rfl)
theorem dX5_init_59 : decode cX5_init 59 = .ok (.bipush 11, 2) := dk_16 11 (dk_at dksX5_init_2 13 rfl rfl)
theorem dX5_init_61 : decode cX5_init 61 = .ok (.sipush 1024, 3) := dk_17 4 0 (dk_at dksX5_init_2 15 rfl rfl)
theorem dX5_init_64 : decode cX5_init 64 = .ok (.multianewarray 25 2, 4) := by decide +kernel
theorem dX5_init_68 : decode cX5_init 68 = .ok (.putfield 33, 3) := dk_181 0 33 (dk_at dksX5_init_3 0 rfl rfl)
theorem dX5_init_71 : decode cX5_init 71 = .ok (.aload_n 0, 1) := dk_42 (dk_at dksX5_init_3 3 rfl rfl)
theorem dX5_init_72 : decode cX5_init 72 = .ok (.bipush 11, 2) := dk_16 11 (dk_at dksX5_init_3 4 rfl rfl)
theorem dX5_init_74 : decode cX5_init 74 = .ok (.sipush 1024, 3) := dk_17 4 0 (dk_at dksX5_init_3 6 rfl rfl)
theorem dX5_init_77 : decode cX5_init 77 = .ok (.multianewarray 36 2, 4) := by decide +kernel
theorem dX5_init_81 : decode cX5_init 81 = .ok (.putfield 38, 3) := dk_181 0 38 (dk_at dksX5_init_3 13 rfl rfl)
theorem dX5_init_84 : decode cX5_init 84 = .ok (.aload_n 0, 1) := dk_42 (dk_at dksX5_init_3 16 rfl rfl)
theorem dX5_init_85 : decode cX5_init 85 = .ok (.bipush 11, 2) := dk_16 11 (dk_at dksX5_init_3 17 rfl rfl)
theorem dX5_init_87 : decode cX5_init 87 = .ok (.sipush 1024, 3) := dk_17 4 0 (dk_at dksX5_init_3 19 rfl rfl)
theorem dX5_init_90 : decode cX5_init 90 = .ok (.multianewarray 41 2, 4) := by decide +kernel
theorem dX5_init_94 : decode cX5_init 94 = .ok (.putfield 43, 3) := dk_181 0 43 (dk_at dksX5_init_4 4 rfl rfl)
theorem dX5_init_97 : decode cX5_init 97 = .ok (.aload_n 0, 1) := dk_42 (dk_at dksX5_init_4 7 rfl rfl)
theorem dX5_init_98 : decode cX5_init 98 = .ok (.bipush 11, 2) := dk_16 11 (dk_at dksX5_init_4 8 rfl rfl)
theorem dX5_init_100 : decode cX5_init 100 = .ok (.sipush 16384, 3) := dk_17 64 0 (dk_at dksX5_init_4 10 rfl rfl)
theorem dX5_init_103 : decode cX5_init 103 = .ok (.multianewarray 46 2, 4) := by decide +kernel
theorem dX5_init_107 : decode cX5_init 107 = .ok (.putfield 48, 3) := dk_181 0 48 (dk_at dksX5_init_4 17 rfl rfl)
theorem dX5_init_110 : decode cX5_init 110 = .ok (.aload_n 0, 1) := dk_42 (dk_at dksX5_init_4 20 rfl rfl)
theorem dX5_init_111 : decode cX5_init 111 = .ok (.bipush 61, 2) := dk_16 61 (dk_at dksX5_init_4 21 rfl rfl)
theorem dX5_init_113 : decode cX5_init 113 = .ok (.bipush 10, 2) := dk_16 10 (dk_at dksX5_init_5 0 rfl rfl)
theorem dX5_init_115 : decode cX5_init 115 = .ok (.multianewarray 25 2, 4) := by decide +kernel
theorem dX5_init_119 : decode cX5_init 119 = .ok (.putfield 51, 3) := dk_181 0 51 (dk_at dksX5_init_5 6 rfl rfl)
theorem dX5_init_122 : decode cX5_init 122 = .ok (.return_, 1) := dk_177 (dk_at dksX5_init_5 9 rfl rfl)
abbrev cX5_lay : ByteArray := prog_14_method_2_code
def yX5_lay : MethodName := ⟨RX5, "lay", "(II)LLitStrangers$Nights;"⟩
def dkwX5_lay_11 : List UInt8 := [184, 0, 109, 42, 180, 0, 43, 29, 50, 3, 184, 0, 112, 132, 3, 1, 167, 255, 195, 42, 176]
abbrev dktX5_lay_11 : List UInt8 := dkwX5_lay_11 ++ []
def dkwX5_lay_10 : List UInt8 := [184, 0, 98, 42, 180, 0, 38, 29, 50, 20, 0, 104, 184, 0, 106, 42, 180, 0, 48, 29, 50, 2]
abbrev dktX5_lay_10 : List UInt8 := dkwX5_lay_10 ++ dktX5_lay_11
def dkwX5_lay_9 : List UInt8 := [62, 29, 16, 10, 163, 0, 61, 42, 180, 0, 30, 29, 50, 2, 184, 0, 98, 42, 180, 0, 33, 29, 50, 2]
abbrev dktX5_lay_9 : List UInt8 := dkwX5_lay_9 ++ dktX5_lay_10
def dkwX5_lay_8 : List UInt8 := [29, 21, 5, 182, 0, 95, 167, 0, 4, 3, 79, 132, 5, 1, 167, 255, 181, 132, 3, 1, 167, 255, 50, 3]
abbrev dktX5_lay_8 : List UInt8 := dkwX5_lay_8 ++ dktX5_lay_9
def dkwX5_lay_7 : List UInt8 := [153, 0, 33, 28, 29, 184, 0, 67, 154, 0, 25, 28, 21, 5, 184, 0, 67, 154, 0, 16, 42, 180, 0, 3]
abbrev dktX5_lay_7 : List UInt8 := dkwX5_lay_7 ++ dktX5_lay_8
def dkwX5_lay_6 : List UInt8 := [180, 0, 27, 29, 50, 21, 5, 42, 180, 0, 3, 180, 0, 86, 180, 0, 90, 29, 46, 21, 5, 184, 0, 67]
abbrev dktX5_lay_6 : List UInt8 := dkwX5_lay_6 ++ dktX5_lay_7
def dkwX5_lay_5 : List UInt8 := [182, 0, 83, 167, 0, 4, 3, 79, 3, 54, 5, 21, 5, 42, 180, 0, 3, 182, 0, 54, 162, 0, 69, 42]
abbrev dktX5_lay_5 : List UInt8 := dkwX5_lay_5 ++ dktX5_lay_6
def dkwX5_lay_4 : List UInt8 := [182, 0, 58, 180, 0, 79, 100, 79, 42, 180, 0, 19, 29, 21, 4, 154, 0, 14, 42, 180, 0, 3, 29]
abbrev dktX5_lay_4 : List UInt8 := dkwX5_lay_4 ++ dktX5_lay_5
def dkwX5_lay_3 : List UInt8 := [182, 0, 72, 167, 0, 26, 42, 180, 0, 3, 182, 0, 58, 180, 0, 76, 29, 46, 42, 180, 0, 3]
abbrev dktX5_lay_3 : List UInt8 := dkwX5_lay_3 ++ dktX5_lay_4
def dkwX5_lay_2 : List UInt8 := [167, 0, 52, 21, 4, 5, 160, 0, 7, 3, 167, 0, 42, 21, 4, 154, 0, 14, 42, 180, 0, 3, 29]
abbrev dktX5_lay_2 : List UInt8 := dkwX5_lay_2 ++ dktX5_lay_3
def dkwX5_lay_1 : List UInt8 := [46, 54, 4, 42, 180, 0, 15, 29, 27, 29, 184, 0, 67, 154, 0, 9, 21, 4, 6, 160, 0, 8, 18, 71]
abbrev dktX5_lay_1 : List UInt8 := dkwX5_lay_1 ++ dktX5_lay_2
def dkwX5_lay_0 : List UInt8 := [3, 62, 29, 42, 180, 0, 3, 182, 0, 54, 162, 0, 201, 42, 180, 0, 3, 182, 0, 58, 180, 0, 62, 29]
abbrev dktX5_lay_0 : List UInt8 := dkwX5_lay_0 ++ dktX5_lay_1
theorem dksX5_lay_0 : cX5_lay.data.toList.drop 0 = dktX5_lay_0 := by decide +kernel
theorem dksX5_lay_1 : cX5_lay.data.toList.drop 24 = dktX5_lay_1 := dk_seg dksX5_lay_0 24 rfl rfl
theorem dksX5_lay_2 : cX5_lay.data.toList.drop 48 = dktX5_lay_2 := dk_seg dksX5_lay_1 24 rfl rfl
theorem dksX5_lay_3 : cX5_lay.data.toList.drop 71 = dktX5_lay_3 := dk_seg dksX5_lay_2 23 rfl rfl
theorem dksX5_lay_4 : cX5_lay.data.toList.drop 93 = dktX5_lay_4 := dk_seg dksX5_lay_3 22 rfl rfl
theorem dksX5_lay_5 : cX5_lay.data.toList.drop 116 = dktX5_lay_5 := dk_seg dksX5_lay_4 23 rfl rfl
theorem dksX5_lay_6 : cX5_lay.data.toList.drop 140 = dktX5_lay_6 := dk_seg dksX5_lay_5 24 rfl rfl
theorem dksX5_lay_7 : cX5_lay.data.toList.drop 164 = dktX5_lay_7 := dk_seg dksX5_lay_6 24 rfl rfl
theorem dksX5_lay_8 : cX5_lay.data.toList.drop 188 = dktX5_lay_8 := dk_seg dksX5_lay_7 24 rfl rfl
theorem dksX5_lay_9 : cX5_lay.data.toList.drop 212 = dktX5_lay_9 := dk_seg dksX5_lay_8 24 rfl rfl
theorem dksX5_lay_10 : cX5_lay.data.toList.drop 236 = dktX5_lay_10 := dk_seg dksX5_lay_9 24 rfl rfl
theorem dksX5_lay_11 : cX5_lay.data.toList.drop 258 = dktX5_lay_11 := dk_seg dksX5_lay_10 22 rfl rfl
theorem dX5_lay_0 : decode cX5_lay 0 = .ok (.iconst 0, 1) := dk_3 (dk_at dksX5_lay_0 0 rfl rfl)
theorem dX5_lay_1 : decode cX5_lay 1 = .ok (.istore_n 3, 1) := dk_62 (dk_at dksX5_lay_0 1 rfl rfl)
theorem dX5_lay_2 : decode cX5_lay 2 = .ok (.iload_n 3, 1) := dk_29 (dk_at dksX5_lay_0 2 rfl rfl)
theorem dX5_lay_3 : decode cX5_lay 3 = .ok (.aload_n 0, 1) := dk_42 (dk_at dksX5_lay_0 3 rfl rfl)
theorem dX5_lay_4 : decode cX5_lay 4 = .ok (.getfield 3, 3) := dk_180 0 3 (dk_at dksX5_lay_0 4 rfl rfl)
theorem dX5_lay_7 : decode cX5_lay 7 = .ok (.invokevirtual 54, 3) := dk_182 0 54 (dk_at dksX5_lay_0 7 rfl rfl)
theorem dX5_lay_10 : decode cX5_lay 10 = .ok (.if_icmp .ge 201, 3) := dk_162 0 201 (dk_at dksX5_lay_0 10 rfl rfl)
theorem dX5_lay_13 : decode cX5_lay 13 = .ok (.aload_n 0, 1) := dk_42 (dk_at dksX5_lay_0 13 rfl rfl)
theorem dX5_lay_14 : decode cX5_lay 14 = .ok (.getfield 3, 3) := dk_180 0 3 (dk_at dksX5_lay_0 14 rfl rfl)
theorem dX5_lay_17 : decode cX5_lay 17 = .ok (.invokevirtual 58, 3) := dk_182 0 58 (dk_at dksX5_lay_0 17 rfl rfl)
theorem dX5_lay_20 : decode cX5_lay 20 = .ok (.getfield 62, 3) := dk_180 0 62 (dk_at dksX5_lay_0 20 rfl rfl)
theorem dX5_lay_23 : decode cX5_lay 23 = .ok (.iload_n 3, 1) := dk_29 (dk_at dksX5_lay_0 23 rfl rfl)
theorem dX5_lay_24 : decode cX5_lay 24 = .ok (.iaload, 1) := dk_46 (dk_at dksX5_lay_1 0 rfl rfl)
theorem dX5_lay_25 : decode cX5_lay 25 = .ok (.istore 4, 2) := dk_54 4 (dk_at dksX5_lay_1 1 rfl rfl)
theorem dX5_lay_27 : decode cX5_lay 27 = .ok (.aload_n 0, 1) := dk_42 (dk_at dksX5_lay_1 3 rfl rfl)
theorem dX5_lay_28 : decode cX5_lay 28 = .ok (.getfield 15, 3) := dk_180 0 15 (dk_at dksX5_lay_1 4 rfl rfl)
theorem dX5_lay_31 : decode cX5_lay 31 = .ok (.iload_n 3, 1) := dk_29 (dk_at dksX5_lay_1 7 rfl rfl)
theorem dX5_lay_32 : decode cX5_lay 32 = .ok (.iload_n 1, 1) := dk_27 (dk_at dksX5_lay_1 8 rfl rfl)
theorem dX5_lay_33 : decode cX5_lay 33 = .ok (.iload_n 3, 1) := dk_29 (dk_at dksX5_lay_1 9 rfl rfl)
theorem dX5_lay_34 : decode cX5_lay 34 = .ok (.invokestatic 67, 3) := dk_184 0 67 (dk_at dksX5_lay_1 10 rfl rfl)
theorem dX5_lay_37 : decode cX5_lay 37 = .ok (.ifCond .ne 9, 3) := dk_154 0 9 (dk_at dksX5_lay_1 13 rfl rfl)
theorem dX5_lay_40 : decode cX5_lay 40 = .ok (.iload 4, 2) := dk_21 4 (dk_at dksX5_lay_1 16 rfl rfl)
theorem dX5_lay_42 : decode cX5_lay 42 = .ok (.iconst 3, 1) := dk_6 (dk_at dksX5_lay_1 18 rfl rfl)
theorem dX5_lay_43 : decode cX5_lay 43 = .ok (.if_icmp .ne 8, 3) := dk_160 0 8 (dk_at dksX5_lay_1 19 rfl rfl)
theorem dX5_lay_46 : decode cX5_lay 46 = .ok (.ldc 71, 2) := dk_18 71 (dk_at dksX5_lay_1 22 rfl rfl)
theorem dX5_lay_48 : decode cX5_lay 48 = .ok (.goto 52, 3) := dk_167 0 52 (dk_at dksX5_lay_2 0 rfl rfl)
theorem dX5_lay_51 : decode cX5_lay 51 = .ok (.iload 4, 2) := dk_21 4 (dk_at dksX5_lay_2 3 rfl rfl)
theorem dX5_lay_53 : decode cX5_lay 53 = .ok (.iconst 2, 1) := dk_5 (dk_at dksX5_lay_2 5 rfl rfl)
theorem dX5_lay_54 : decode cX5_lay 54 = .ok (.if_icmp .ne 7, 3) := dk_160 0 7 (dk_at dksX5_lay_2 6 rfl rfl)
theorem dX5_lay_57 : decode cX5_lay 57 = .ok (.iconst 0, 1) := dk_3 (dk_at dksX5_lay_2 9 rfl rfl)
theorem dX5_lay_58 : decode cX5_lay 58 = .ok (.goto 42, 3) := dk_167 0 42 (dk_at dksX5_lay_2 10 rfl rfl)
theorem dX5_lay_61 : decode cX5_lay 61 = .ok (.iload 4, 2) := dk_21 4 (dk_at dksX5_lay_2 13 rfl rfl)
theorem dX5_lay_63 : decode cX5_lay 63 = .ok (.ifCond .ne 14, 3) := dk_154 0 14 (dk_at dksX5_lay_2 15 rfl rfl)
theorem dX5_lay_66 : decode cX5_lay 66 = .ok (.aload_n 0, 1) := dk_42 (dk_at dksX5_lay_2 18 rfl rfl)
theorem dX5_lay_67 : decode cX5_lay 67 = .ok (.getfield 3, 3) := dk_180 0 3 (dk_at dksX5_lay_2 19 rfl rfl)
theorem dX5_lay_70 : decode cX5_lay 70 = .ok (.iload_n 3, 1) := dk_29 (dk_at dksX5_lay_2 22 rfl rfl)
theorem dX5_lay_71 : decode cX5_lay 71 = .ok (.invokevirtual 72, 3) := dk_182 0 72 (dk_at dksX5_lay_3 0 rfl rfl)
theorem dX5_lay_74 : decode cX5_lay 74 = .ok (.goto 26, 3) := dk_167 0 26 (dk_at dksX5_lay_3 3 rfl rfl)
theorem dX5_lay_77 : decode cX5_lay 77 = .ok (.aload_n 0, 1) := dk_42 (dk_at dksX5_lay_3 6 rfl rfl)
theorem dX5_lay_78 : decode cX5_lay 78 = .ok (.getfield 3, 3) := dk_180 0 3 (dk_at dksX5_lay_3 7 rfl rfl)
theorem dX5_lay_81 : decode cX5_lay 81 = .ok (.invokevirtual 58, 3) := dk_182 0 58 (dk_at dksX5_lay_3 10 rfl rfl)
theorem dX5_lay_84 : decode cX5_lay 84 = .ok (.getfield 76, 3) := dk_180 0 76 (dk_at dksX5_lay_3 13 rfl rfl)
theorem dX5_lay_87 : decode cX5_lay 87 = .ok (.iload_n 3, 1) := dk_29 (dk_at dksX5_lay_3 16 rfl rfl)
theorem dX5_lay_88 : decode cX5_lay 88 = .ok (.iaload, 1) := dk_46 (dk_at dksX5_lay_3 17 rfl rfl)
theorem dX5_lay_89 : decode cX5_lay 89 = .ok (.aload_n 0, 1) := dk_42 (dk_at dksX5_lay_3 18 rfl rfl)
theorem dX5_lay_90 : decode cX5_lay 90 = .ok (.getfield 3, 3) := dk_180 0 3 (dk_at dksX5_lay_3 19 rfl rfl)
theorem dX5_lay_93 : decode cX5_lay 93 = .ok (.invokevirtual 58, 3) := dk_182 0 58 (dk_at dksX5_lay_4 0 rfl rfl)
theorem dX5_lay_96 : decode cX5_lay 96 = .ok (.getfield 79, 3) := dk_180 0 79 (dk_at dksX5_lay_4 3 rfl rfl)
theorem dX5_lay_99 : decode cX5_lay 99 = .ok (.isub, 1) := dk_100 (dk_at dksX5_lay_4 6 rfl rfl)
theorem dX5_lay_100 : decode cX5_lay 100 = .ok (.iastore, 1) := dk_79 (dk_at dksX5_lay_4 7 rfl rfl)
theorem dX5_lay_101 : decode cX5_lay 101 = .ok (.aload_n 0, 1) := dk_42 (dk_at dksX5_lay_4 8 rfl rfl)
theorem dX5_lay_102 : decode cX5_lay 102 = .ok (.getfield 19, 3) := dk_180 0 19 (dk_at dksX5_lay_4 9 rfl rfl)
theorem dX5_lay_105 : decode cX5_lay 105 = .ok (.iload_n 3, 1) := dk_29 (dk_at dksX5_lay_4 12 rfl rfl)
theorem dX5_lay_106 : decode cX5_lay 106 = .ok (.iload 4, 2) := dk_21 4 (dk_at dksX5_lay_4 13 rfl rfl)
theorem dX5_lay_108 : decode cX5_lay 108 = .ok (.ifCond .ne 14, 3) := dk_154 0 14 (dk_at dksX5_lay_4 15 rfl rfl)
theorem dX5_lay_111 : decode cX5_lay 111 = .ok (.aload_n 0, 1) := dk_42 (dk_at dksX5_lay_4 18 rfl rfl)
theorem dX5_lay_112 : decode cX5_lay 112 = .ok (.getfield 3, 3) := dk_180 0 3 (dk_at dksX5_lay_4 19 rfl rfl)
theorem dX5_lay_115 : decode cX5_lay 115 = .ok (.iload_n 3, 1) := dk_29 (dk_at dksX5_lay_4 22 rfl rfl)
theorem dX5_lay_116 : decode cX5_lay 116 = .ok (.invokevirtual 83, 3) := dk_182 0 83 (dk_at dksX5_lay_5 0 rfl rfl)
theorem dX5_lay_119 : decode cX5_lay 119 = .ok (.goto 4, 3) := dk_167 0 4 (dk_at dksX5_lay_5 3 rfl rfl)
theorem dX5_lay_122 : decode cX5_lay 122 = .ok (.iconst 0, 1) := dk_3 (dk_at dksX5_lay_5 6 rfl rfl)
theorem dX5_lay_123 : decode cX5_lay 123 = .ok (.iastore, 1) := dk_79 (dk_at dksX5_lay_5 7 rfl rfl)
theorem dX5_lay_124 : decode cX5_lay 124 = .ok (.iconst 0, 1) := dk_3 (dk_at dksX5_lay_5 8 rfl rfl)
theorem dX5_lay_125 : decode cX5_lay 125 = .ok (.istore 5, 2) := dk_54 5 (dk_at dksX5_lay_5 9 rfl rfl)
theorem dX5_lay_127 : decode cX5_lay 127 = .ok (.iload 5, 2) := dk_21 5 (dk_at dksX5_lay_5 11 rfl rfl)
theorem dX5_lay_129 : decode cX5_lay 129 = .ok (.aload_n 0, 1) := dk_42 (dk_at dksX5_lay_5 13 rfl rfl)
theorem dX5_lay_130 : decode cX5_lay 130 = .ok (.getfield 3, 3) := dk_180 0 3 (dk_at dksX5_lay_5 14 rfl rfl)
theorem dX5_lay_133 : decode cX5_lay 133 = .ok (.invokevirtual 54, 3) := dk_182 0 54 (dk_at dksX5_lay_5 17 rfl rfl)
theorem dX5_lay_136 : decode cX5_lay 136 = .ok (.if_icmp .ge 69, 3) := dk_162 0 69 (dk_at dksX5_lay_5 20 rfl rfl)
theorem dX5_lay_139 : decode cX5_lay 139 = .ok (.aload_n 0, 1) := dk_42 (dk_at dksX5_lay_5 23 rfl rfl)
theorem dX5_lay_140 : decode cX5_lay 140 = .ok (.getfield 27, 3) := dk_180 0 27 (dk_at dksX5_lay_6 0 rfl rfl)
theorem dX5_lay_143 : decode cX5_lay 143 = .ok (.iload_n 3, 1) := dk_29 (dk_at dksX5_lay_6 3 rfl rfl)
theorem dX5_lay_144 : decode cX5_lay 144 = .ok (.aaload, 1) := dk_50 (dk_at dksX5_lay_6 4 rfl rfl)
theorem dX5_lay_145 : decode cX5_lay 145 = .ok (.iload 5, 2) := dk_21 5 (dk_at dksX5_lay_6 5 rfl rfl)
theorem dX5_lay_147 : decode cX5_lay 147 = .ok (.aload_n 0, 1) := dk_42 (dk_at dksX5_lay_6 7 rfl rfl)
theorem dX5_lay_148 : decode cX5_lay 148 = .ok (.getfield 3, 3) := dk_180 0 3 (dk_at dksX5_lay_6 8 rfl rfl)
theorem dX5_lay_151 : decode cX5_lay 151 = .ok (.getfield 86, 3) := dk_180 0 86 (dk_at dksX5_lay_6 11 rfl rfl)
theorem dX5_lay_154 : decode cX5_lay 154 = .ok (.getfield 90, 3) := dk_180 0 90 (dk_at dksX5_lay_6 14 rfl rfl)
theorem dX5_lay_157 : decode cX5_lay 157 = .ok (.iload_n 3, 1) := dk_29 (dk_at dksX5_lay_6 17 rfl rfl)
theorem dX5_lay_158 : decode cX5_lay 158 = .ok (.iaload, 1) := dk_46 (dk_at dksX5_lay_6 18 rfl rfl)
theorem dX5_lay_159 : decode cX5_lay 159 = .ok (.iload 5, 2) := dk_21 5 (dk_at dksX5_lay_6 19 rfl rfl)
theorem dX5_lay_161 : decode cX5_lay 161 = .ok (.invokestatic 67, 3) := dk_184 0 67 (dk_at dksX5_lay_6 21 rfl rfl)
theorem dX5_lay_164 : decode cX5_lay 164 = .ok (.ifCond .eq 33, 3) := dk_153 0 33 (dk_at dksX5_lay_7 0 rfl rfl)
theorem dX5_lay_167 : decode cX5_lay 167 = .ok (.iload_n 2, 1) := dk_28 (dk_at dksX5_lay_7 3 rfl rfl)
theorem dX5_lay_168 : decode cX5_lay 168 = .ok (.iload_n 3, 1) := dk_29 (dk_at dksX5_lay_7 4 rfl rfl)
theorem dX5_lay_169 : decode cX5_lay 169 = .ok (.invokestatic 67, 3) := dk_184 0 67 (dk_at dksX5_lay_7 5 rfl rfl)
theorem dX5_lay_172 : decode cX5_lay 172 = .ok (.ifCond .ne 25, 3) := dk_154 0 25 (dk_at dksX5_lay_7 8 rfl rfl)
theorem dX5_lay_175 : decode cX5_lay 175 = .ok (.iload_n 2, 1) := dk_28 (dk_at dksX5_lay_7 11 rfl rfl)
theorem dX5_lay_176 : decode cX5_lay 176 = .ok (.iload 5, 2) := dk_21 5 (dk_at dksX5_lay_7 12 rfl rfl)
theorem dX5_lay_178 : decode cX5_lay 178 = .ok (.invokestatic 67, 3) := dk_184 0 67 (dk_at dksX5_lay_7 14 rfl rfl)
theorem dX5_lay_181 : decode cX5_lay 181 = .ok (.ifCond .ne 16, 3) := dk_154 0 16 (dk_at dksX5_lay_7 17 rfl rfl)
theorem dX5_lay_184 : decode cX5_lay 184 = .ok (.aload_n 0, 1) := dk_42 (dk_at dksX5_lay_7 20 rfl rfl)
theorem dX5_lay_185 : decode cX5_lay 185 = .ok (.getfield 3, 3) := dk_180 0 3 (dk_at dksX5_lay_7 21 rfl rfl)
theorem dX5_lay_188 : decode cX5_lay 188 = .ok (.iload_n 3, 1) := dk_29 (dk_at dksX5_lay_8 0 rfl rfl)
theorem dX5_lay_189 : decode cX5_lay 189 = .ok (.iload 5, 2) := dk_21 5 (dk_at dksX5_lay_8 1 rfl rfl)
theorem dX5_lay_191 : decode cX5_lay 191 = .ok (.invokevirtual 95, 3) := dk_182 0 95 (dk_at dksX5_lay_8 3 rfl rfl)
theorem dX5_lay_194 : decode cX5_lay 194 = .ok (.goto 4, 3) := dk_167 0 4 (dk_at dksX5_lay_8 6 rfl rfl)
theorem dX5_lay_197 : decode cX5_lay 197 = .ok (.iconst 0, 1) := dk_3 (dk_at dksX5_lay_8 9 rfl rfl)
theorem dX5_lay_198 : decode cX5_lay 198 = .ok (.iastore, 1) := dk_79 (dk_at dksX5_lay_8 10 rfl rfl)
theorem dX5_lay_199 : decode cX5_lay 199 = .ok (.iinc 5 1, 3) := dk_132 5 1 (dk_at dksX5_lay_8 11 rfl rfl)
theorem dX5_lay_202 : decode cX5_lay 202 = .ok (.goto (-75), 3) := dk_167 255 181 (dk_at dksX5_lay_8 14 rfl rfl)
theorem dX5_lay_205 : decode cX5_lay 205 = .ok (.iinc 3 1, 3) := dk_132 3 1 (dk_at dksX5_lay_8 17 rfl rfl)
theorem dX5_lay_208 : decode cX5_lay 208 = .ok (.goto (-206), 3) := dk_167 255 50 (dk_at dksX5_lay_8 20 rfl rfl)
theorem dX5_lay_211 : decode cX5_lay 211 = .ok (.iconst 0, 1) := dk_3 (dk_at dksX5_lay_8 23 rfl rfl)
theorem dX5_lay_212 : decode cX5_lay 212 = .ok (.istore_n 3, 1) := dk_62 (dk_at dksX5_lay_9 0 rfl rfl)
theorem dX5_lay_213 : decode cX5_lay 213 = .ok (.iload_n 3, 1) := dk_29 (dk_at dksX5_lay_9 1 rfl rfl)
theorem dX5_lay_214 : decode cX5_lay 214 = .ok (.bipush 10, 2) := dk_16 10 (dk_at dksX5_lay_9 2 rfl rfl)
theorem dX5_lay_216 : decode cX5_lay 216 = .ok (.if_icmp .gt 61, 3) := dk_163 0 61 (dk_at dksX5_lay_9 4 rfl rfl)
theorem dX5_lay_219 : decode cX5_lay 219 = .ok (.aload_n 0, 1) := dk_42 (dk_at dksX5_lay_9 7 rfl rfl)
theorem dX5_lay_220 : decode cX5_lay 220 = .ok (.getfield 30, 3) := dk_180 0 30 (dk_at dksX5_lay_9 8 rfl rfl)
theorem dX5_lay_223 : decode cX5_lay 223 = .ok (.iload_n 3, 1) := dk_29 (dk_at dksX5_lay_9 11 rfl rfl)
theorem dX5_lay_224 : decode cX5_lay 224 = .ok (.aaload, 1) := dk_50 (dk_at dksX5_lay_9 12 rfl rfl)
theorem dX5_lay_225 : decode cX5_lay 225 = .ok (.iconst (-1), 1) := dk_2 (dk_at dksX5_lay_9 13 rfl rfl)
theorem dX5_lay_226 : decode cX5_lay 226 = .ok (.invokestatic 98, 3) := dk_184 0 98 (dk_at dksX5_lay_9 14 rfl rfl)
theorem dX5_lay_229 : decode cX5_lay 229 = .ok (.aload_n 0, 1) := dk_42 (dk_at dksX5_lay_9 17 rfl rfl)
theorem dX5_lay_230 : decode cX5_lay 230 = .ok (.getfield 33, 3) := dk_180 0 33 (dk_at dksX5_lay_9 18 rfl rfl)
theorem dX5_lay_233 : decode cX5_lay 233 = .ok (.iload_n 3, 1) := dk_29 (dk_at dksX5_lay_9 21 rfl rfl)
theorem dX5_lay_234 : decode cX5_lay 234 = .ok (.aaload, 1) := dk_50 (dk_at dksX5_lay_9 22 rfl rfl)
theorem dX5_lay_235 : decode cX5_lay 235 = .ok (.iconst (-1), 1) := dk_2 (dk_at dksX5_lay_9 23 rfl rfl)
theorem dX5_lay_236 : decode cX5_lay 236 = .ok (.invokestatic 98, 3) := dk_184 0 98 (dk_at dksX5_lay_10 0 rfl rfl)
theorem dX5_lay_239 : decode cX5_lay 239 = .ok (.aload_n 0, 1) := dk_42 (dk_at dksX5_lay_10 3 rfl rfl)
theorem dX5_lay_240 : decode cX5_lay 240 = .ok (.getfield 38, 3) := dk_180 0 38 (dk_at dksX5_lay_10 4 rfl rfl)
theorem dX5_lay_243 : decode cX5_lay 243 = .ok (.iload_n 3, 1) := dk_29 (dk_at dksX5_lay_10 7 rfl rfl)
theorem dX5_lay_244 : decode cX5_lay 244 = .ok (.aaload, 1) := dk_50 (dk_at dksX5_lay_10 8 rfl rfl)
theorem dX5_lay_245 : decode cX5_lay 245 = .ok (.ldc2_w 104, 3) := dk_20 0 104 (dk_at dksX5_lay_10 9 rfl rfl)
theorem dX5_lay_248 : decode cX5_lay 248 = .ok (.invokestatic 106, 3) := dk_184 0 106 (dk_at dksX5_lay_10 12 rfl rfl)
theorem dX5_lay_251 : decode cX5_lay 251 = .ok (.aload_n 0, 1) := dk_42 (dk_at dksX5_lay_10 15 rfl rfl)
theorem dX5_lay_252 : decode cX5_lay 252 = .ok (.getfield 48, 3) := dk_180 0 48 (dk_at dksX5_lay_10 16 rfl rfl)
theorem dX5_lay_255 : decode cX5_lay 255 = .ok (.iload_n 3, 1) := dk_29 (dk_at dksX5_lay_10 19 rfl rfl)
theorem dX5_lay_256 : decode cX5_lay 256 = .ok (.aaload, 1) := dk_50 (dk_at dksX5_lay_10 20 rfl rfl)
theorem dX5_lay_257 : decode cX5_lay 257 = .ok (.iconst (-1), 1) := dk_2 (dk_at dksX5_lay_10 21 rfl rfl)
theorem dX5_lay_258 : decode cX5_lay 258 = .ok (.invokestatic 109, 3) := dk_184 0 109 (dk_at dksX5_lay_11 0 rfl rfl)
theorem dX5_lay_261 : decode cX5_lay 261 = .ok (.aload_n 0, 1) := dk_42 (dk_at dksX5_lay_11 3 rfl rfl)
theorem dX5_lay_262 : decode cX5_lay 262 = .ok (.getfield 43, 3) := dk_180 0 43 (dk_at dksX5_lay_11 4 rfl rfl)
theorem dX5_lay_265 : decode cX5_lay 265 = .ok (.iload_n 3, 1) := dk_29 (dk_at dksX5_lay_11 7 rfl rfl)
theorem dX5_lay_266 : decode cX5_lay 266 = .ok (.aaload, 1) := dk_50 (dk_at dksX5_lay_11 8 rfl rfl)
theorem dX5_lay_267 : decode cX5_lay 267 = .ok (.iconst 0, 1) := dk_3 (dk_at dksX5_lay_11 9 rfl rfl)
theorem dX5_lay_268 : decode cX5_lay 268 = .ok (.invokestatic 112, 3) := dk_184 0 112 (dk_at dksX5_lay_11 10 rfl rfl)
theorem dX5_lay_271 : decode cX5_lay 271 = .ok (.iinc 3 1, 3) := dk_132 3 1 (dk_at dksX5_lay_11 13 rfl rfl)
theorem dX5_lay_274 : decode cX5_lay 274 = .ok (.goto (-61), 3) := dk_167 255 195 (dk_at dksX5_lay_11 16 rfl rfl)
theorem dX5_lay_277 : decode cX5_lay 277 = .ok (.aload_n 0, 1) := dk_42 (dk_at dksX5_lay_11 19 rfl rfl)
theorem dX5_lay_278 : decode cX5_lay 278 = .ok (.areturn, 1) := dk_176 (dk_at dksX5_lay_11 20 rfl rfl)
abbrev cX5_most : ByteArray := prog_14_method_7_code
def yX5_most : MethodName := ⟨RX5, "most", "(II)I"⟩
def dkwX5_most_5 : List UInt8 := [180, 0, 30, 27, 50, 28, 29, 79, 29, 172]
abbrev dktX5_most_5 : List UInt8 := dkwX5_most_5 ++ []
def dkwX5_most_4 : List UInt8 := [21, 5, 21, 4, 42, 180, 0, 51, 27, 50, 42, 27, 182, 0, 137, 182, 0, 144, 54, 5, 167, 255, 211, 42]
abbrev dktX5_most_4 : List UInt8 := dkwX5_most_4 ++ dktX5_most_5
def dkwX5_most_3 : List UInt8 := [2, 159, 0, 45, 29, 4, 42, 27, 4, 96, 28, 21, 5, 128, 182, 0, 148, 96, 184, 0, 150, 62, 42]
abbrev dktX5_most_3 : List UInt8 := dkwX5_most_3 ++ dktX5_most_4
def dkwX5_most_2 : List UInt8 := [54, 4, 42, 3, 21, 4, 42, 180, 0, 51, 27, 50, 42, 27, 182, 0, 137, 182, 0, 144, 54, 5, 21, 5]
abbrev dktX5_most_2 : List UInt8 := dkwX5_most_2 ++ dktX5_most_3
def dkwX5_most_1 : List UInt8 := [27, 50, 28, 46, 172, 3, 62, 42, 27, 28, 42, 27, 182, 0, 137, 42, 180, 0, 51, 27, 50, 182, 0, 140]
abbrev dktX5_most_1 : List UInt8 := dkwX5_most_1 ++ dktX5_most_2
def dkwX5_most_0 : List UInt8 := [27, 16, 10, 160, 0, 5, 3, 172, 42, 180, 0, 30, 27, 50, 28, 46, 2, 159, 0, 12, 42, 180, 0, 30]
abbrev dktX5_most_0 : List UInt8 := dkwX5_most_0 ++ dktX5_most_1
theorem dksX5_most_0 : cX5_most.data.toList.drop 0 = dktX5_most_0 := by decide +kernel
theorem dksX5_most_1 : cX5_most.data.toList.drop 24 = dktX5_most_1 := dk_seg dksX5_most_0 24 rfl rfl
theorem dksX5_most_2 : cX5_most.data.toList.drop 48 = dktX5_most_2 := dk_seg dksX5_most_1 24 rfl rfl
theorem dksX5_most_3 : cX5_most.data.toList.drop 72 = dktX5_most_3 := dk_seg dksX5_most_2 24 rfl rfl
theorem dksX5_most_4 : cX5_most.data.toList.drop 95 = dktX5_most_4 := dk_seg dksX5_most_3 23 rfl rfl
theorem dksX5_most_5 : cX5_most.data.toList.drop 119 = dktX5_most_5 := dk_seg dksX5_most_4 24 rfl rfl
theorem dX5_most_0 : decode cX5_most 0 = .ok (.iload_n 1, 1) := dk_27 (dk_at dksX5_most_0 0 rfl rfl)
theorem dX5_most_1 : decode cX5_most 1 = .ok (.bipush 10, 2) := dk_16 10 (dk_at dksX5_most_0 1 rfl rfl)
theorem dX5_most_3 : decode cX5_most 3 = .ok (.if_icmp .ne 5, 3) := dk_160 0 5 (dk_at dksX5_most_0 3 rfl rfl)
theorem dX5_most_6 : decode cX5_most 6 = .ok (.iconst 0, 1) := dk_3 (dk_at dksX5_most_0 6 rfl rfl)
theorem dX5_most_7 : decode cX5_most 7 = .ok (.ireturn, 1) := dk_172 (dk_at dksX5_most_0 7 rfl rfl)
theorem dX5_most_8 : decode cX5_most 8 = .ok (.aload_n 0, 1) := dk_42 (dk_at dksX5_most_0 8 rfl rfl)
theorem dX5_most_9 : decode cX5_most 9 = .ok (.getfield 30, 3) := dk_180 0 30 (dk_at dksX5_most_0 9 rfl rfl)
theorem dX5_most_12 : decode cX5_most 12 = .ok (.iload_n 1, 1) := dk_27 (dk_at dksX5_most_0 12 rfl rfl)
theorem dX5_most_13 : decode cX5_most 13 = .ok (.aaload, 1) := dk_50 (dk_at dksX5_most_0 13 rfl rfl)
theorem dX5_most_14 : decode cX5_most 14 = .ok (.iload_n 2, 1) := dk_28 (dk_at dksX5_most_0 14 rfl rfl)
theorem dX5_most_15 : decode cX5_most 15 = .ok (.iaload, 1) := dk_46 (dk_at dksX5_most_0 15 rfl rfl)
theorem dX5_most_16 : decode cX5_most 16 = .ok (.iconst (-1), 1) := dk_2 (dk_at dksX5_most_0 16 rfl rfl)
theorem dX5_most_17 : decode cX5_most 17 = .ok (.if_icmp .eq 12, 3) := dk_159 0 12 (dk_at dksX5_most_0 17 rfl rfl)
theorem dX5_most_20 : decode cX5_most 20 = .ok (.aload_n 0, 1) := dk_42 (dk_at dksX5_most_0 20 rfl rfl)
theorem dX5_most_21 : decode cX5_most 21 = .ok (.getfield 30, 3) := dk_180 0 30 (dk_at dksX5_most_0 21 rfl rfl)
theorem dX5_most_24 : decode cX5_most 24 = .ok (.iload_n 1, 1) := dk_27 (dk_at dksX5_most_1 0 rfl rfl)
theorem dX5_most_25 : decode cX5_most 25 = .ok (.aaload, 1) := dk_50 (dk_at dksX5_most_1 1 rfl rfl)
theorem dX5_most_26 : decode cX5_most 26 = .ok (.iload_n 2, 1) := dk_28 (dk_at dksX5_most_1 2 rfl rfl)
theorem dX5_most_27 : decode cX5_most 27 = .ok (.iaload, 1) := dk_46 (dk_at dksX5_most_1 3 rfl rfl)
theorem dX5_most_28 : decode cX5_most 28 = .ok (.ireturn, 1) := dk_172 (dk_at dksX5_most_1 4 rfl rfl)
theorem dX5_most_29 : decode cX5_most 29 = .ok (.iconst 0, 1) := dk_3 (dk_at dksX5_most_1 5 rfl rfl)
theorem dX5_most_30 : decode cX5_most 30 = .ok (.istore_n 3, 1) := dk_62 (dk_at dksX5_most_1 6 rfl rfl)
theorem dX5_most_31 : decode cX5_most 31 = .ok (.aload_n 0, 1) := dk_42 (dk_at dksX5_most_1 7 rfl rfl)
theorem dX5_most_32 : decode cX5_most 32 = .ok (.iload_n 1, 1) := dk_27 (dk_at dksX5_most_1 8 rfl rfl)
theorem dX5_most_33 : decode cX5_most 33 = .ok (.iload_n 2, 1) := dk_28 (dk_at dksX5_most_1 9 rfl rfl)
theorem dX5_most_34 : decode cX5_most 34 = .ok (.aload_n 0, 1) := dk_42 (dk_at dksX5_most_1 10 rfl rfl)
theorem dX5_most_35 : decode cX5_most 35 = .ok (.iload_n 1, 1) := dk_27 (dk_at dksX5_most_1 11 rfl rfl)
theorem dX5_most_36 : decode cX5_most 36 = .ok (.invokevirtual 137, 3) := dk_182 0 137 (dk_at dksX5_most_1 12 rfl rfl)
theorem dX5_most_39 : decode cX5_most 39 = .ok (.aload_n 0, 1) := dk_42 (dk_at dksX5_most_1 15 rfl rfl)
theorem dX5_most_40 : decode cX5_most 40 = .ok (.getfield 51, 3) := dk_180 0 51 (dk_at dksX5_most_1 16 rfl rfl)
theorem dX5_most_43 : decode cX5_most 43 = .ok (.iload_n 1, 1) := dk_27 (dk_at dksX5_most_1 19 rfl rfl)
theorem dX5_most_44 : decode cX5_most 44 = .ok (.aaload, 1) := dk_50 (dk_at dksX5_most_1 20 rfl rfl)
theorem dX5_most_45 : decode cX5_most 45 = .ok (.invokevirtual 140, 3) := dk_182 0 140 (dk_at dksX5_most_1 21 rfl rfl)
theorem dX5_most_48 : decode cX5_most 48 = .ok (.istore 4, 2) := dk_54 4 (dk_at dksX5_most_2 0 rfl rfl)
theorem dX5_most_50 : decode cX5_most 50 = .ok (.aload_n 0, 1) := dk_42 (dk_at dksX5_most_2 2 rfl rfl)
theorem dX5_most_51 : decode cX5_most 51 = .ok (.iconst 0, 1) := dk_3 (dk_at dksX5_most_2 3 rfl rfl)
theorem dX5_most_52 : decode cX5_most 52 = .ok (.iload 4, 2) := dk_21 4 (dk_at dksX5_most_2 4 rfl rfl)
theorem dX5_most_54 : decode cX5_most 54 = .ok (.aload_n 0, 1) := dk_42 (dk_at dksX5_most_2 6 rfl rfl)
theorem dX5_most_55 : decode cX5_most 55 = .ok (.getfield 51, 3) := dk_180 0 51 (dk_at dksX5_most_2 7 rfl rfl)
theorem dX5_most_58 : decode cX5_most 58 = .ok (.iload_n 1, 1) := dk_27 (dk_at dksX5_most_2 10 rfl rfl)
theorem dX5_most_59 : decode cX5_most 59 = .ok (.aaload, 1) := dk_50 (dk_at dksX5_most_2 11 rfl rfl)
theorem dX5_most_60 : decode cX5_most 60 = .ok (.aload_n 0, 1) := dk_42 (dk_at dksX5_most_2 12 rfl rfl)
theorem dX5_most_61 : decode cX5_most 61 = .ok (.iload_n 1, 1) := dk_27 (dk_at dksX5_most_2 13 rfl rfl)
theorem dX5_most_62 : decode cX5_most 62 = .ok (.invokevirtual 137, 3) := dk_182 0 137 (dk_at dksX5_most_2 14 rfl rfl)
theorem dX5_most_65 : decode cX5_most 65 = .ok (.invokevirtual 144, 3) := dk_182 0 144 (dk_at dksX5_most_2 17 rfl rfl)
theorem dX5_most_68 : decode cX5_most 68 = .ok (.istore 5, 2) := dk_54 5 (dk_at dksX5_most_2 20 rfl rfl)
theorem dX5_most_70 : decode cX5_most 70 = .ok (.iload 5, 2) := dk_21 5 (dk_at dksX5_most_2 22 rfl rfl)
theorem dX5_most_72 : decode cX5_most 72 = .ok (.iconst (-1), 1) := dk_2 (dk_at dksX5_most_3 0 rfl rfl)
theorem dX5_most_73 : decode cX5_most 73 = .ok (.if_icmp .eq 45, 3) := dk_159 0 45 (dk_at dksX5_most_3 1 rfl rfl)
theorem dX5_most_76 : decode cX5_most 76 = .ok (.iload_n 3, 1) := dk_29 (dk_at dksX5_most_3 4 rfl rfl)
theorem dX5_most_77 : decode cX5_most 77 = .ok (.iconst 1, 1) := dk_4 (dk_at dksX5_most_3 5 rfl rfl)
theorem dX5_most_78 : decode cX5_most 78 = .ok (.aload_n 0, 1) := dk_42 (dk_at dksX5_most_3 6 rfl rfl)
theorem dX5_most_79 : decode cX5_most 79 = .ok (.iload_n 1, 1) := dk_27 (dk_at dksX5_most_3 7 rfl rfl)
theorem dX5_most_80 : decode cX5_most 80 = .ok (.iconst 1, 1) := dk_4 (dk_at dksX5_most_3 8 rfl rfl)
theorem dX5_most_81 : decode cX5_most 81 = .ok (.iadd, 1) := dk_96 (dk_at dksX5_most_3 9 rfl rfl)
theorem dX5_most_82 : decode cX5_most 82 = .ok (.iload_n 2, 1) := dk_28 (dk_at dksX5_most_3 10 rfl rfl)
theorem dX5_most_83 : decode cX5_most 83 = .ok (.iload 5, 2) := dk_21 5 (dk_at dksX5_most_3 11 rfl rfl)
theorem dX5_most_85 : decode cX5_most 85 = .ok (.ior, 1) := dk_128 (dk_at dksX5_most_3 13 rfl rfl)
theorem dX5_most_86 : decode cX5_most 86 = .ok (.invokevirtual 148, 3) := dk_182 0 148 (dk_at dksX5_most_3 14 rfl rfl)
theorem dX5_most_89 : decode cX5_most 89 = .ok (.iadd, 1) := dk_96 (dk_at dksX5_most_3 17 rfl rfl)
theorem dX5_most_90 : decode cX5_most 90 = .ok (.invokestatic 150, 3) := dk_184 0 150 (dk_at dksX5_most_3 18 rfl rfl)
theorem dX5_most_93 : decode cX5_most 93 = .ok (.istore_n 3, 1) := dk_62 (dk_at dksX5_most_3 21 rfl rfl)
theorem dX5_most_94 : decode cX5_most 94 = .ok (.aload_n 0, 1) := dk_42 (dk_at dksX5_most_3 22 rfl rfl)
theorem dX5_most_95 : decode cX5_most 95 = .ok (.iload 5, 2) := dk_21 5 (dk_at dksX5_most_4 0 rfl rfl)
theorem dX5_most_97 : decode cX5_most 97 = .ok (.iload 4, 2) := dk_21 4 (dk_at dksX5_most_4 2 rfl rfl)
theorem dX5_most_99 : decode cX5_most 99 = .ok (.aload_n 0, 1) := dk_42 (dk_at dksX5_most_4 4 rfl rfl)
theorem dX5_most_100 : decode cX5_most 100 = .ok (.getfield 51, 3) := dk_180 0 51 (dk_at dksX5_most_4 5 rfl rfl)
theorem dX5_most_103 : decode cX5_most 103 = .ok (.iload_n 1, 1) := dk_27 (dk_at dksX5_most_4 8 rfl rfl)
theorem dX5_most_104 : decode cX5_most 104 = .ok (.aaload, 1) := dk_50 (dk_at dksX5_most_4 9 rfl rfl)
theorem dX5_most_105 : decode cX5_most 105 = .ok (.aload_n 0, 1) := dk_42 (dk_at dksX5_most_4 10 rfl rfl)
theorem dX5_most_106 : decode cX5_most 106 = .ok (.iload_n 1, 1) := dk_27 (dk_at dksX5_most_4 11 rfl rfl)
theorem dX5_most_107 : decode cX5_most 107 = .ok (.invokevirtual 137, 3) := dk_182 0 137 (dk_at dksX5_most_4 12 rfl rfl)
theorem dX5_most_110 : decode cX5_most 110 = .ok (.invokevirtual 144, 3) := dk_182 0 144 (dk_at dksX5_most_4 15 rfl rfl)
theorem dX5_most_113 : decode cX5_most 113 = .ok (.istore 5, 2) := dk_54 5 (dk_at dksX5_most_4 18 rfl rfl)
theorem dX5_most_115 : decode cX5_most 115 = .ok (.goto (-45), 3) := dk_167 255 211 (dk_at dksX5_most_4 20 rfl rfl)
theorem dX5_most_118 : decode cX5_most 118 = .ok (.aload_n 0, 1) := dk_42 (dk_at dksX5_most_4 23 rfl rfl)
theorem dX5_most_119 : decode cX5_most 119 = .ok (.getfield 30, 3) := dk_180 0 30 (dk_at dksX5_most_5 0 rfl rfl)
theorem dX5_most_122 : decode cX5_most 122 = .ok (.iload_n 1, 1) := dk_27 (dk_at dksX5_most_5 3 rfl rfl)
theorem dX5_most_123 : decode cX5_most 123 = .ok (.aaload, 1) := dk_50 (dk_at dksX5_most_5 4 rfl rfl)
theorem dX5_most_124 : decode cX5_most 124 = .ok (.iload_n 2, 1) := dk_28 (dk_at dksX5_most_5 5 rfl rfl)
theorem dX5_most_125 : decode cX5_most 125 = .ok (.iload_n 3, 1) := dk_29 (dk_at dksX5_most_5 6 rfl rfl)
theorem dX5_most_126 : decode cX5_most 126 = .ok (.iastore, 1) := dk_79 (dk_at dksX5_most_5 7 rfl rfl)
theorem dX5_most_127 : decode cX5_most 127 = .ok (.iload_n 3, 1) := dk_29 (dk_at dksX5_most_5 8 rfl rfl)
theorem dX5_most_128 : decode cX5_most 128 = .ok (.ireturn, 1) := dk_172 (dk_at dksX5_most_5 9 rfl rfl)
abbrev cX5_fogOn : ByteArray := prog_14_method_6_code
def yX5_fogOn : MethodName := ⟨RX5, "fogOn", "(I)Z"⟩
def dkwX5_fogOn_0 : List UInt8 := [42, 180, 0, 3, 42, 180, 0, 3, 182, 0, 58, 180, 0, 79, 27, 96, 182, 0, 133, 172]
abbrev dktX5_fogOn_0 : List UInt8 := dkwX5_fogOn_0 ++ []
theorem dksX5_fogOn_0 : cX5_fogOn.data.toList.drop 0 = dktX5_fogOn_0 := by decide +kernel
theorem dX5_fogOn_0 : decode cX5_fogOn 0 = .ok (.aload_n 0, 1) := dk_42 (dk_at dksX5_fogOn_0 0 rfl rfl)
theorem dX5_fogOn_1 : decode cX5_fogOn 1 = .ok (.getfield 3, 3) := dk_180 0 3 (dk_at dksX5_fogOn_0 1 rfl rfl)
theorem dX5_fogOn_4 : decode cX5_fogOn 4 = .ok (.aload_n 0, 1) := dk_42 (dk_at dksX5_fogOn_0 4 rfl rfl)
theorem dX5_fogOn_5 : decode cX5_fogOn 5 = .ok (.getfield 3, 3) := dk_180 0 3 (dk_at dksX5_fogOn_0 5 rfl rfl)
theorem dX5_fogOn_8 : decode cX5_fogOn 8 = .ok (.invokevirtual 58, 3) := dk_182 0 58 (dk_at dksX5_fogOn_0 8 rfl rfl)
theorem dX5_fogOn_11 : decode cX5_fogOn 11 = .ok (.getfield 79, 3) := dk_180 0 79 (dk_at dksX5_fogOn_0 11 rfl rfl)
theorem dX5_fogOn_14 : decode cX5_fogOn 14 = .ok (.iload_n 1, 1) := dk_27 (dk_at dksX5_fogOn_0 14 rfl rfl)
theorem dX5_fogOn_15 : decode cX5_fogOn 15 = .ok (.iadd, 1) := dk_96 (dk_at dksX5_fogOn_0 15 rfl rfl)
theorem dX5_fogOn_16 : decode cX5_fogOn 16 = .ok (.invokevirtual 133, 3) := dk_182 0 133 (dk_at dksX5_fogOn_0 16 rfl rfl)
theorem dX5_fogOn_19 : decode cX5_fogOn 19 = .ok (.ireturn, 1) := dk_172 (dk_at dksX5_fogOn_0 19 rfl rfl)
abbrev cX5_open : ByteArray := prog_14_method_3_code
def yX5_open : MethodName := ⟨RX5, "open", "(IIZ[I)I"⟩
def dkwX5_open_7 : List UInt8 := [132, 6, 1, 167, 255, 95, 21, 5, 172]
abbrev dktX5_open_7 : List UInt8 := dkwX5_open_7 ++ []
def dkwX5_open_6 : List UInt8 := [182, 0, 58, 180, 0, 79, 27, 96, 29, 182, 0, 121, 154, 0, 12, 21, 5, 4, 21, 6, 120, 128, 54, 5]
abbrev dktX5_open_6 : List UInt8 := dkwX5_open_6 ++ dktX5_open_7
def dkwX5_open_5 : List UInt8 := [21, 6, 46, 158, 0, 44, 42, 180, 0, 3, 21, 6, 5, 25, 4, 21, 6, 46, 100, 42, 180, 0, 3]
abbrev dktX5_open_5 : List UInt8 := dkwX5_open_5 ++ dktX5_open_6
def dkwX5_open_4 : List UInt8 := [100, 79, 42, 180, 0, 15, 21, 6, 46, 27, 163, 0, 61, 28, 21, 6, 184, 0, 67, 154, 0, 52, 25, 4]
abbrev dktX5_open_4 : List UInt8 := dkwX5_open_4 ++ dktX5_open_5
def dkwX5_open_3 : List UInt8 := [167, 0, 4, 3, 96, 54, 7, 132, 8, 1, 167, 255, 213, 25, 4, 21, 6, 5, 5, 21, 7, 184, 0, 116]
abbrev dktX5_open_3 : List UInt8 := dkwX5_open_3 ++ dktX5_open_4
def dkwX5_open_2 : List UInt8 := [162, 0, 37, 21, 7, 28, 21, 8, 184, 0, 67, 153, 0, 16, 42, 180, 0, 27, 21, 8, 50, 21, 6, 46]
abbrev dktX5_open_2 : List UInt8 := dkwX5_open_2 ++ dktX5_open_3
def dkwX5_open_1 : List UInt8 := [182, 0, 58, 180, 0, 115, 21, 6, 46, 54, 7, 3, 54, 8, 21, 8, 42, 180, 0, 3, 182, 0, 54]
abbrev dktX5_open_1 : List UInt8 := dkwX5_open_1 ++ dktX5_open_2
def dkwX5_open_0 : List UInt8 := [3, 54, 5, 3, 54, 6, 21, 6, 42, 180, 0, 3, 182, 0, 54, 162, 0, 155, 42, 180, 0, 3]
abbrev dktX5_open_0 : List UInt8 := dkwX5_open_0 ++ dktX5_open_1
theorem dksX5_open_0 : cX5_open.data.toList.drop 0 = dktX5_open_0 := by decide +kernel
theorem dksX5_open_1 : cX5_open.data.toList.drop 22 = dktX5_open_1 := dk_seg dksX5_open_0 22 rfl rfl
theorem dksX5_open_2 : cX5_open.data.toList.drop 45 = dktX5_open_2 := dk_seg dksX5_open_1 23 rfl rfl
theorem dksX5_open_3 : cX5_open.data.toList.drop 69 = dktX5_open_3 := dk_seg dksX5_open_2 24 rfl rfl
theorem dksX5_open_4 : cX5_open.data.toList.drop 93 = dktX5_open_4 := dk_seg dksX5_open_3 24 rfl rfl
theorem dksX5_open_5 : cX5_open.data.toList.drop 117 = dktX5_open_5 := dk_seg dksX5_open_4 24 rfl rfl
theorem dksX5_open_6 : cX5_open.data.toList.drop 140 = dktX5_open_6 := dk_seg dksX5_open_5 23 rfl rfl
theorem dksX5_open_7 : cX5_open.data.toList.drop 164 = dktX5_open_7 := dk_seg dksX5_open_6 24 rfl rfl
theorem dX5_open_0 : decode cX5_open 0 = .ok (.iconst 0, 1) := dk_3 (dk_at dksX5_open_0 0 rfl rfl)
theorem dX5_open_1 : decode cX5_open 1 = .ok (.istore 5, 2) := dk_54 5 (dk_at dksX5_open_0 1 rfl rfl)
theorem dX5_open_3 : decode cX5_open 3 = .ok (.iconst 0, 1) := dk_3 (dk_at dksX5_open_0 3 rfl rfl)
theorem dX5_open_4 : decode cX5_open 4 = .ok (.istore 6, 2) := dk_54 6 (dk_at dksX5_open_0 4 rfl rfl)
theorem dX5_open_6 : decode cX5_open 6 = .ok (.iload 6, 2) := dk_21 6 (dk_at dksX5_open_0 6 rfl rfl)
theorem dX5_open_8 : decode cX5_open 8 = .ok (.aload_n 0, 1) := dk_42 (dk_at dksX5_open_0 8 rfl rfl)
theorem dX5_open_9 : decode cX5_open 9 = .ok (.getfield 3, 3) := dk_180 0 3 (dk_at dksX5_open_0 9 rfl rfl)
theorem dX5_open_12 : decode cX5_open 12 = .ok (.invokevirtual 54, 3) := dk_182 0 54 (dk_at dksX5_open_0 12 rfl rfl)
theorem dX5_open_15 : decode cX5_open 15 = .ok (.if_icmp .ge 155, 3) := dk_162 0 155 (dk_at dksX5_open_0 15 rfl rfl)
theorem dX5_open_18 : decode cX5_open 18 = .ok (.aload_n 0, 1) := dk_42 (dk_at dksX5_open_0 18 rfl rfl)
theorem dX5_open_19 : decode cX5_open 19 = .ok (.getfield 3, 3) := dk_180 0 3 (dk_at dksX5_open_0 19 rfl rfl)
theorem dX5_open_22 : decode cX5_open 22 = .ok (.invokevirtual 58, 3) := dk_182 0 58 (dk_at dksX5_open_1 0 rfl rfl)
theorem dX5_open_25 : decode cX5_open 25 = .ok (.getfield 115, 3) := dk_180 0 115 (dk_at dksX5_open_1 3 rfl rfl)
theorem dX5_open_28 : decode cX5_open 28 = .ok (.iload 6, 2) := dk_21 6 (dk_at dksX5_open_1 6 rfl rfl)
theorem dX5_open_30 : decode cX5_open 30 = .ok (.iaload, 1) := dk_46 (dk_at dksX5_open_1 8 rfl rfl)
theorem dX5_open_31 : decode cX5_open 31 = .ok (.istore 7, 2) := dk_54 7 (dk_at dksX5_open_1 9 rfl rfl)
theorem dX5_open_33 : decode cX5_open 33 = .ok (.iconst 0, 1) := dk_3 (dk_at dksX5_open_1 11 rfl rfl)
theorem dX5_open_34 : decode cX5_open 34 = .ok (.istore 8, 2) := dk_54 8 (dk_at dksX5_open_1 12 rfl rfl)
theorem dX5_open_36 : decode cX5_open 36 = .ok (.iload 8, 2) := dk_21 8 (dk_at dksX5_open_1 14 rfl rfl)
theorem dX5_open_38 : decode cX5_open 38 = .ok (.aload_n 0, 1) := dk_42 (dk_at dksX5_open_1 16 rfl rfl)
theorem dX5_open_39 : decode cX5_open 39 = .ok (.getfield 3, 3) := dk_180 0 3 (dk_at dksX5_open_1 17 rfl rfl)
theorem dX5_open_42 : decode cX5_open 42 = .ok (.invokevirtual 54, 3) := dk_182 0 54 (dk_at dksX5_open_1 20 rfl rfl)
theorem dX5_open_45 : decode cX5_open 45 = .ok (.if_icmp .ge 37, 3) := dk_162 0 37 (dk_at dksX5_open_2 0 rfl rfl)
theorem dX5_open_48 : decode cX5_open 48 = .ok (.iload 7, 2) := dk_21 7 (dk_at dksX5_open_2 3 rfl rfl)
theorem dX5_open_50 : decode cX5_open 50 = .ok (.iload_n 2, 1) := dk_28 (dk_at dksX5_open_2 5 rfl rfl)
theorem dX5_open_51 : decode cX5_open 51 = .ok (.iload 8, 2) := dk_21 8 (dk_at dksX5_open_2 6 rfl rfl)
theorem dX5_open_53 : decode cX5_open 53 = .ok (.invokestatic 67, 3) := dk_184 0 67 (dk_at dksX5_open_2 8 rfl rfl)
theorem dX5_open_56 : decode cX5_open 56 = .ok (.ifCond .eq 16, 3) := dk_153 0 16 (dk_at dksX5_open_2 11 rfl rfl)
theorem dX5_open_59 : decode cX5_open 59 = .ok (.aload_n 0, 1) := dk_42 (dk_at dksX5_open_2 14 rfl rfl)
theorem dX5_open_60 : decode cX5_open 60 = .ok (.getfield 27, 3) := dk_180 0 27 (dk_at dksX5_open_2 15 rfl rfl)
theorem dX5_open_63 : decode cX5_open 63 = .ok (.iload 8, 2) := dk_21 8 (dk_at dksX5_open_2 18 rfl rfl)
theorem dX5_open_65 : decode cX5_open 65 = .ok (.aaload, 1) := dk_50 (dk_at dksX5_open_2 20 rfl rfl)
theorem dX5_open_66 : decode cX5_open 66 = .ok (.iload 6, 2) := dk_21 6 (dk_at dksX5_open_2 21 rfl rfl)
theorem dX5_open_68 : decode cX5_open 68 = .ok (.iaload, 1) := dk_46 (dk_at dksX5_open_2 23 rfl rfl)
theorem dX5_open_69 : decode cX5_open 69 = .ok (.goto 4, 3) := dk_167 0 4 (dk_at dksX5_open_3 0 rfl rfl)
theorem dX5_open_72 : decode cX5_open 72 = .ok (.iconst 0, 1) := dk_3 (dk_at dksX5_open_3 3 rfl rfl)
theorem dX5_open_73 : decode cX5_open 73 = .ok (.iadd, 1) := dk_96 (dk_at dksX5_open_3 4 rfl rfl)
theorem dX5_open_74 : decode cX5_open 74 = .ok (.istore 7, 2) := dk_54 7 (dk_at dksX5_open_3 5 rfl rfl)
theorem dX5_open_76 : decode cX5_open 76 = .ok (.iinc 8 1, 3) := dk_132 8 1 (dk_at dksX5_open_3 7 rfl rfl)
theorem dX5_open_79 : decode cX5_open 79 = .ok (.goto (-43), 3) := dk_167 255 213 (dk_at dksX5_open_3 10 rfl rfl)
theorem dX5_open_82 : decode cX5_open 82 = .ok (.aload 4, 2) := dk_25 4 (dk_at dksX5_open_3 13 rfl rfl)
theorem dX5_open_84 : decode cX5_open 84 = .ok (.iload 6, 2) := dk_21 6 (dk_at dksX5_open_3 15 rfl rfl)
theorem dX5_open_86 : decode cX5_open 86 = .ok (.iconst 2, 1) := dk_5 (dk_at dksX5_open_3 17 rfl rfl)
theorem dX5_open_87 : decode cX5_open 87 = .ok (.iconst 2, 1) := dk_5 (dk_at dksX5_open_3 18 rfl rfl)
theorem dX5_open_88 : decode cX5_open 88 = .ok (.iload 7, 2) := dk_21 7 (dk_at dksX5_open_3 19 rfl rfl)
theorem dX5_open_90 : decode cX5_open 90 = .ok (.invokestatic 116, 3) := dk_184 0 116 (dk_at dksX5_open_3 21 rfl rfl)
theorem dX5_open_93 : decode cX5_open 93 = .ok (.isub, 1) := dk_100 (dk_at dksX5_open_4 0 rfl rfl)
theorem dX5_open_94 : decode cX5_open 94 = .ok (.iastore, 1) := dk_79 (dk_at dksX5_open_4 1 rfl rfl)
theorem dX5_open_95 : decode cX5_open 95 = .ok (.aload_n 0, 1) := dk_42 (dk_at dksX5_open_4 2 rfl rfl)
theorem dX5_open_96 : decode cX5_open 96 = .ok (.getfield 15, 3) := dk_180 0 15 (dk_at dksX5_open_4 3 rfl rfl)
theorem dX5_open_99 : decode cX5_open 99 = .ok (.iload 6, 2) := dk_21 6 (dk_at dksX5_open_4 6 rfl rfl)
theorem dX5_open_101 : decode cX5_open 101 = .ok (.iaload, 1) := dk_46 (dk_at dksX5_open_4 8 rfl rfl)
theorem dX5_open_102 : decode cX5_open 102 = .ok (.iload_n 1, 1) := dk_27 (dk_at dksX5_open_4 9 rfl rfl)
theorem dX5_open_103 : decode cX5_open 103 = .ok (.if_icmp .gt 61, 3) := dk_163 0 61 (dk_at dksX5_open_4 10 rfl rfl)
theorem dX5_open_106 : decode cX5_open 106 = .ok (.iload_n 2, 1) := dk_28 (dk_at dksX5_open_4 13 rfl rfl)
theorem dX5_open_107 : decode cX5_open 107 = .ok (.iload 6, 2) := dk_21 6 (dk_at dksX5_open_4 14 rfl rfl)
theorem dX5_open_109 : decode cX5_open 109 = .ok (.invokestatic 67, 3) := dk_184 0 67 (dk_at dksX5_open_4 16 rfl rfl)
theorem dX5_open_112 : decode cX5_open 112 = .ok (.ifCond .ne 52, 3) := dk_154 0 52 (dk_at dksX5_open_4 19 rfl rfl)
theorem dX5_open_115 : decode cX5_open 115 = .ok (.aload 4, 2) := dk_25 4 (dk_at dksX5_open_4 22 rfl rfl)
theorem dX5_open_117 : decode cX5_open 117 = .ok (.iload 6, 2) := dk_21 6 (dk_at dksX5_open_5 0 rfl rfl)
theorem dX5_open_119 : decode cX5_open 119 = .ok (.iaload, 1) := dk_46 (dk_at dksX5_open_5 2 rfl rfl)
theorem dX5_open_120 : decode cX5_open 120 = .ok (.ifCond .le 44, 3) := dk_158 0 44 (dk_at dksX5_open_5 3 rfl rfl)
theorem dX5_open_123 : decode cX5_open 123 = .ok (.aload_n 0, 1) := dk_42 (dk_at dksX5_open_5 6 rfl rfl)
theorem dX5_open_124 : decode cX5_open 124 = .ok (.getfield 3, 3) := dk_180 0 3 (dk_at dksX5_open_5 7 rfl rfl)
theorem dX5_open_127 : decode cX5_open 127 = .ok (.iload 6, 2) := dk_21 6 (dk_at dksX5_open_5 10 rfl rfl)
theorem dX5_open_129 : decode cX5_open 129 = .ok (.iconst 2, 1) := dk_5 (dk_at dksX5_open_5 12 rfl rfl)
theorem dX5_open_130 : decode cX5_open 130 = .ok (.aload 4, 2) := dk_25 4 (dk_at dksX5_open_5 13 rfl rfl)
theorem dX5_open_132 : decode cX5_open 132 = .ok (.iload 6, 2) := dk_21 6 (dk_at dksX5_open_5 15 rfl rfl)
theorem dX5_open_134 : decode cX5_open 134 = .ok (.iaload, 1) := dk_46 (dk_at dksX5_open_5 17 rfl rfl)
theorem dX5_open_135 : decode cX5_open 135 = .ok (.isub, 1) := dk_100 (dk_at dksX5_open_5 18 rfl rfl)
theorem dX5_open_136 : decode cX5_open 136 = .ok (.aload_n 0, 1) := dk_42 (dk_at dksX5_open_5 19 rfl rfl)
theorem dX5_open_137 : decode cX5_open 137 = .ok (.getfield 3, 3) := dk_180 0 3 (dk_at dksX5_open_5 20 rfl rfl)
theorem dX5_open_140 : decode cX5_open 140 = .ok (.invokevirtual 58, 3) := dk_182 0 58 (dk_at dksX5_open_6 0 rfl rfl)
theorem dX5_open_143 : decode cX5_open 143 = .ok (.getfield 79, 3) := dk_180 0 79 (dk_at dksX5_open_6 3 rfl rfl)
theorem dX5_open_146 : decode cX5_open 146 = .ok (.iload_n 1, 1) := dk_27 (dk_at dksX5_open_6 6 rfl rfl)
theorem dX5_open_147 : decode cX5_open 147 = .ok (.iadd, 1) := dk_96 (dk_at dksX5_open_6 7 rfl rfl)
theorem dX5_open_148 : decode cX5_open 148 = .ok (.iload_n 3, 1) := dk_29 (dk_at dksX5_open_6 8 rfl rfl)
theorem dX5_open_149 : decode cX5_open 149 = .ok (.invokevirtual 121, 3) := dk_182 0 121 (dk_at dksX5_open_6 9 rfl rfl)
theorem dX5_open_152 : decode cX5_open 152 = .ok (.ifCond .ne 12, 3) := dk_154 0 12 (dk_at dksX5_open_6 12 rfl rfl)
theorem dX5_open_155 : decode cX5_open 155 = .ok (.iload 5, 2) := dk_21 5 (dk_at dksX5_open_6 15 rfl rfl)
theorem dX5_open_157 : decode cX5_open 157 = .ok (.iconst 1, 1) := dk_4 (dk_at dksX5_open_6 17 rfl rfl)
theorem dX5_open_158 : decode cX5_open 158 = .ok (.iload 6, 2) := dk_21 6 (dk_at dksX5_open_6 18 rfl rfl)
theorem dX5_open_160 : decode cX5_open 160 = .ok (.ishl, 1) := dk_120 (dk_at dksX5_open_6 20 rfl rfl)
theorem dX5_open_161 : decode cX5_open 161 = .ok (.ior, 1) := dk_128 (dk_at dksX5_open_6 21 rfl rfl)
theorem dX5_open_162 : decode cX5_open 162 = .ok (.istore 5, 2) := dk_54 5 (dk_at dksX5_open_6 22 rfl rfl)
theorem dX5_open_164 : decode cX5_open 164 = .ok (.iinc 6 1, 3) := dk_132 6 1 (dk_at dksX5_open_7 0 rfl rfl)
theorem dX5_open_167 : decode cX5_open 167 = .ok (.goto (-161), 3) := dk_167 255 95 (dk_at dksX5_open_7 3 rfl rfl)
theorem dX5_open_170 : decode cX5_open 170 = .ok (.iload 5, 2) := dk_21 5 (dk_at dksX5_open_7 6 rfl rfl)
theorem dX5_open_172 : decode cX5_open 172 = .ok (.ireturn, 1) := dk_172 (dk_at dksX5_open_7 8 rfl rfl)
abbrev cX5_next : ByteArray := prog_14_method_5_code
def yX5_next : MethodName := ⟨RX5, "next", "(II[IZ)I"⟩
def dkwX5_next_1 : List UInt8 := [21, 4, 182, 0, 129, 153, 0, 6, 21, 5, 172, 132, 5, 1, 167, 255, 223, 2, 172]
abbrev dktX5_next_1 : List UInt8 := dkwX5_next_1 ++ []
def dkwX5_next_0 : List UInt8 := [27, 4, 96, 54, 5, 21, 5, 28, 163, 0, 33, 21, 5, 28, 2, 130, 126, 154, 0, 18, 42, 21, 5, 45]
abbrev dktX5_next_0 : List UInt8 := dkwX5_next_0 ++ dktX5_next_1
theorem dksX5_next_0 : cX5_next.data.toList.drop 0 = dktX5_next_0 := by decide +kernel
theorem dksX5_next_1 : cX5_next.data.toList.drop 24 = dktX5_next_1 := dk_seg dksX5_next_0 24 rfl rfl
theorem dX5_next_0 : decode cX5_next 0 = .ok (.iload_n 1, 1) := dk_27 (dk_at dksX5_next_0 0 rfl rfl)
theorem dX5_next_1 : decode cX5_next 1 = .ok (.iconst 1, 1) := dk_4 (dk_at dksX5_next_0 1 rfl rfl)
theorem dX5_next_2 : decode cX5_next 2 = .ok (.iadd, 1) := dk_96 (dk_at dksX5_next_0 2 rfl rfl)
theorem dX5_next_3 : decode cX5_next 3 = .ok (.istore 5, 2) := dk_54 5 (dk_at dksX5_next_0 3 rfl rfl)
theorem dX5_next_5 : decode cX5_next 5 = .ok (.iload 5, 2) := dk_21 5 (dk_at dksX5_next_0 5 rfl rfl)
theorem dX5_next_7 : decode cX5_next 7 = .ok (.iload_n 2, 1) := dk_28 (dk_at dksX5_next_0 7 rfl rfl)
theorem dX5_next_8 : decode cX5_next 8 = .ok (.if_icmp .gt 33, 3) := dk_163 0 33 (dk_at dksX5_next_0 8 rfl rfl)
theorem dX5_next_11 : decode cX5_next 11 = .ok (.iload 5, 2) := dk_21 5 (dk_at dksX5_next_0 11 rfl rfl)
theorem dX5_next_13 : decode cX5_next 13 = .ok (.iload_n 2, 1) := dk_28 (dk_at dksX5_next_0 13 rfl rfl)
theorem dX5_next_14 : decode cX5_next 14 = .ok (.iconst (-1), 1) := dk_2 (dk_at dksX5_next_0 14 rfl rfl)
theorem dX5_next_15 : decode cX5_next 15 = .ok (.ixor, 1) := dk_130 (dk_at dksX5_next_0 15 rfl rfl)
theorem dX5_next_16 : decode cX5_next 16 = .ok (.iand, 1) := dk_126 (dk_at dksX5_next_0 16 rfl rfl)
theorem dX5_next_17 : decode cX5_next 17 = .ok (.ifCond .ne 18, 3) := dk_154 0 18 (dk_at dksX5_next_0 17 rfl rfl)
theorem dX5_next_20 : decode cX5_next 20 = .ok (.aload_n 0, 1) := dk_42 (dk_at dksX5_next_0 20 rfl rfl)
theorem dX5_next_21 : decode cX5_next 21 = .ok (.iload 5, 2) := dk_21 5 (dk_at dksX5_next_0 21 rfl rfl)
theorem dX5_next_23 : decode cX5_next 23 = .ok (.aload_n 3, 1) := dk_45 (dk_at dksX5_next_0 23 rfl rfl)
theorem dX5_next_24 : decode cX5_next 24 = .ok (.iload 4, 2) := dk_21 4 (dk_at dksX5_next_1 0 rfl rfl)
theorem dX5_next_26 : decode cX5_next 26 = .ok (.invokevirtual 129, 3) := dk_182 0 129 (dk_at dksX5_next_1 2 rfl rfl)
theorem dX5_next_29 : decode cX5_next 29 = .ok (.ifCond .eq 6, 3) := dk_153 0 6 (dk_at dksX5_next_1 5 rfl rfl)
theorem dX5_next_32 : decode cX5_next 32 = .ok (.iload 5, 2) := dk_21 5 (dk_at dksX5_next_1 8 rfl rfl)
theorem dX5_next_34 : decode cX5_next 34 = .ok (.ireturn, 1) := dk_172 (dk_at dksX5_next_1 10 rfl rfl)
theorem dX5_next_35 : decode cX5_next 35 = .ok (.iinc 5 1, 3) := dk_132 5 1 (dk_at dksX5_next_1 11 rfl rfl)
theorem dX5_next_38 : decode cX5_next 38 = .ok (.goto (-33), 3) := dk_167 255 223 (dk_at dksX5_next_1 14 rfl rfl)
theorem dX5_next_41 : decode cX5_next 41 = .ok (.iconst (-1), 1) := dk_2 (dk_at dksX5_next_1 17 rfl rfl)
theorem dX5_next_42 : decode cX5_next 42 = .ok (.ireturn, 1) := dk_172 (dk_at dksX5_next_1 18 rfl rfl)
abbrev cX5_isCrew : ByteArray := prog_14_method_4_code
def yX5_isCrew : MethodName := ⟨RX5, "isCrew", "(I[IZ)Z"⟩
def dkwX5_isCrew_4 : List UInt8 := [172]
abbrev dktX5_isCrew_4 : List UInt8 := dkwX5_isCrew_4 ++ []
def dkwX5_isCrew_3 : List UInt8 := [161, 0, 23, 21, 4, 21, 5, 100, 42, 180, 0, 3, 29, 182, 0, 125, 162, 0, 7, 4, 167, 0, 4, 3]
abbrev dktX5_isCrew_3 : List UInt8 := dkwX5_isCrew_3 ++ dktX5_isCrew_4
def dkwX5_isCrew_2 : List UInt8 := [21, 6, 46, 184, 0, 116, 54, 5, 132, 6, 1, 167, 255, 209, 21, 4, 42, 180, 0, 3, 29, 182, 0, 125]
abbrev dktX5_isCrew_2 : List UInt8 := dkwX5_isCrew_2 ++ dktX5_isCrew_3
def dkwX5_isCrew_1 : List UInt8 := [21, 6, 184, 0, 67, 154, 0, 6, 167, 0, 23, 21, 4, 44, 21, 6, 46, 96, 54, 4, 21, 5, 44]
abbrev dktX5_isCrew_1 : List UInt8 := dkwX5_isCrew_1 ++ dktX5_isCrew_2
def dkwX5_isCrew_0 : List UInt8 := [3, 54, 4, 18, 71, 54, 5, 3, 54, 6, 21, 6, 42, 180, 0, 3, 182, 0, 54, 162, 0, 41, 27]
abbrev dktX5_isCrew_0 : List UInt8 := dkwX5_isCrew_0 ++ dktX5_isCrew_1
theorem dksX5_isCrew_0 : cX5_isCrew.data.toList.drop 0 = dktX5_isCrew_0 := by decide +kernel
theorem dksX5_isCrew_1 : cX5_isCrew.data.toList.drop 23 = dktX5_isCrew_1 := dk_seg dksX5_isCrew_0 23 rfl rfl
theorem dksX5_isCrew_2 : cX5_isCrew.data.toList.drop 46 = dktX5_isCrew_2 := dk_seg dksX5_isCrew_1 23 rfl rfl
theorem dksX5_isCrew_3 : cX5_isCrew.data.toList.drop 70 = dktX5_isCrew_3 := dk_seg dksX5_isCrew_2 24 rfl rfl
theorem dksX5_isCrew_4 : cX5_isCrew.data.toList.drop 94 = dktX5_isCrew_4 := dk_seg dksX5_isCrew_3 24 rfl rfl
theorem dX5_isCrew_0 : decode cX5_isCrew 0 = .ok (.iconst 0, 1) := dk_3 (dk_at dksX5_isCrew_0 0 rfl rfl)
theorem dX5_isCrew_1 : decode cX5_isCrew 1 = .ok (.istore 4, 2) := dk_54 4 (dk_at dksX5_isCrew_0 1 rfl rfl)
theorem dX5_isCrew_3 : decode cX5_isCrew 3 = .ok (.ldc 71, 2) := dk_18 71 (dk_at dksX5_isCrew_0 3 rfl rfl)
theorem dX5_isCrew_5 : decode cX5_isCrew 5 = .ok (.istore 5, 2) := dk_54 5 (dk_at dksX5_isCrew_0 5 rfl rfl)
theorem dX5_isCrew_7 : decode cX5_isCrew 7 = .ok (.iconst 0, 1) := dk_3 (dk_at dksX5_isCrew_0 7 rfl rfl)
theorem dX5_isCrew_8 : decode cX5_isCrew 8 = .ok (.istore 6, 2) := dk_54 6 (dk_at dksX5_isCrew_0 8 rfl rfl)
theorem dX5_isCrew_10 : decode cX5_isCrew 10 = .ok (.iload 6, 2) := dk_21 6 (dk_at dksX5_isCrew_0 10 rfl rfl)
theorem dX5_isCrew_12 : decode cX5_isCrew 12 = .ok (.aload_n 0, 1) := dk_42 (dk_at dksX5_isCrew_0 12 rfl rfl)
theorem dX5_isCrew_13 : decode cX5_isCrew 13 = .ok (.getfield 3, 3) := dk_180 0 3 (dk_at dksX5_isCrew_0 13 rfl rfl)
theorem dX5_isCrew_16 : decode cX5_isCrew 16 = .ok (.invokevirtual 54, 3) := dk_182 0 54 (dk_at dksX5_isCrew_0 16 rfl rfl)
theorem dX5_isCrew_19 : decode cX5_isCrew 19 = .ok (.if_icmp .ge 41, 3) := dk_162 0 41 (dk_at dksX5_isCrew_0 19 rfl rfl)
theorem dX5_isCrew_22 : decode cX5_isCrew 22 = .ok (.iload_n 1, 1) := dk_27 (dk_at dksX5_isCrew_0 22 rfl rfl)
theorem dX5_isCrew_23 : decode cX5_isCrew 23 = .ok (.iload 6, 2) := dk_21 6 (dk_at dksX5_isCrew_1 0 rfl rfl)
theorem dX5_isCrew_25 : decode cX5_isCrew 25 = .ok (.invokestatic 67, 3) := dk_184 0 67 (dk_at dksX5_isCrew_1 2 rfl rfl)
theorem dX5_isCrew_28 : decode cX5_isCrew 28 = .ok (.ifCond .ne 6, 3) := dk_154 0 6 (dk_at dksX5_isCrew_1 5 rfl rfl)
theorem dX5_isCrew_31 : decode cX5_isCrew 31 = .ok (.goto 23, 3) := dk_167 0 23 (dk_at dksX5_isCrew_1 8 rfl rfl)
theorem dX5_isCrew_34 : decode cX5_isCrew 34 = .ok (.iload 4, 2) := dk_21 4 (dk_at dksX5_isCrew_1 11 rfl rfl)
theorem dX5_isCrew_36 : decode cX5_isCrew 36 = .ok (.aload_n 2, 1) := dk_44 (dk_at dksX5_isCrew_1 13 rfl rfl)
theorem dX5_isCrew_37 : decode cX5_isCrew 37 = .ok (.iload 6, 2) := dk_21 6 (dk_at dksX5_isCrew_1 14 rfl rfl)
theorem dX5_isCrew_39 : decode cX5_isCrew 39 = .ok (.iaload, 1) := dk_46 (dk_at dksX5_isCrew_1 16 rfl rfl)
theorem dX5_isCrew_40 : decode cX5_isCrew 40 = .ok (.iadd, 1) := dk_96 (dk_at dksX5_isCrew_1 17 rfl rfl)
theorem dX5_isCrew_41 : decode cX5_isCrew 41 = .ok (.istore 4, 2) := dk_54 4 (dk_at dksX5_isCrew_1 18 rfl rfl)
theorem dX5_isCrew_43 : decode cX5_isCrew 43 = .ok (.iload 5, 2) := dk_21 5 (dk_at dksX5_isCrew_1 20 rfl rfl)
theorem dX5_isCrew_45 : decode cX5_isCrew 45 = .ok (.aload_n 2, 1) := dk_44 (dk_at dksX5_isCrew_1 22 rfl rfl)
theorem dX5_isCrew_46 : decode cX5_isCrew 46 = .ok (.iload 6, 2) := dk_21 6 (dk_at dksX5_isCrew_2 0 rfl rfl)
theorem dX5_isCrew_48 : decode cX5_isCrew 48 = .ok (.iaload, 1) := dk_46 (dk_at dksX5_isCrew_2 2 rfl rfl)
theorem dX5_isCrew_49 : decode cX5_isCrew 49 = .ok (.invokestatic 116, 3) := dk_184 0 116 (dk_at dksX5_isCrew_2 3 rfl rfl)
theorem dX5_isCrew_52 : decode cX5_isCrew 52 = .ok (.istore 5, 2) := dk_54 5 (dk_at dksX5_isCrew_2 6 rfl rfl)
theorem dX5_isCrew_54 : decode cX5_isCrew 54 = .ok (.iinc 6 1, 3) := dk_132 6 1 (dk_at dksX5_isCrew_2 8 rfl rfl)
theorem dX5_isCrew_57 : decode cX5_isCrew 57 = .ok (.goto (-47), 3) := dk_167 255 209 (dk_at dksX5_isCrew_2 11 rfl rfl)
theorem dX5_isCrew_60 : decode cX5_isCrew 60 = .ok (.iload 4, 2) := dk_21 4 (dk_at dksX5_isCrew_2 14 rfl rfl)
theorem dX5_isCrew_62 : decode cX5_isCrew 62 = .ok (.aload_n 0, 1) := dk_42 (dk_at dksX5_isCrew_2 16 rfl rfl)
theorem dX5_isCrew_63 : decode cX5_isCrew 63 = .ok (.getfield 3, 3) := dk_180 0 3 (dk_at dksX5_isCrew_2 17 rfl rfl)
theorem dX5_isCrew_66 : decode cX5_isCrew 66 = .ok (.iload_n 3, 1) := dk_29 (dk_at dksX5_isCrew_2 20 rfl rfl)
theorem dX5_isCrew_67 : decode cX5_isCrew 67 = .ok (.invokevirtual 125, 3) := dk_182 0 125 (dk_at dksX5_isCrew_2 21 rfl rfl)
theorem dX5_isCrew_70 : decode cX5_isCrew 70 = .ok (.if_icmp .lt 23, 3) := dk_161 0 23 (dk_at dksX5_isCrew_3 0 rfl rfl)
theorem dX5_isCrew_73 : decode cX5_isCrew 73 = .ok (.iload 4, 2) := dk_21 4 (dk_at dksX5_isCrew_3 3 rfl rfl)
theorem dX5_isCrew_75 : decode cX5_isCrew 75 = .ok (.iload 5, 2) := dk_21 5 (dk_at dksX5_isCrew_3 5 rfl rfl)
theorem dX5_isCrew_77 : decode cX5_isCrew 77 = .ok (.isub, 1) := dk_100 (dk_at dksX5_isCrew_3 7 rfl rfl)
theorem dX5_isCrew_78 : decode cX5_isCrew 78 = .ok (.aload_n 0, 1) := dk_42 (dk_at dksX5_isCrew_3 8 rfl rfl)
theorem dX5_isCrew_79 : decode cX5_isCrew 79 = .ok (.getfield 3, 3) := dk_180 0 3 (dk_at dksX5_isCrew_3 9 rfl rfl)
theorem dX5_isCrew_82 : decode cX5_isCrew 82 = .ok (.iload_n 3, 1) := dk_29 (dk_at dksX5_isCrew_3 12 rfl rfl)
theorem dX5_isCrew_83 : decode cX5_isCrew 83 = .ok (.invokevirtual 125, 3) := dk_182 0 125 (dk_at dksX5_isCrew_3 13 rfl rfl)
theorem dX5_isCrew_86 : decode cX5_isCrew 86 = .ok (.if_icmp .ge 7, 3) := dk_162 0 7 (dk_at dksX5_isCrew_3 16 rfl rfl)
theorem dX5_isCrew_89 : decode cX5_isCrew 89 = .ok (.iconst 1, 1) := dk_4 (dk_at dksX5_isCrew_3 19 rfl rfl)
theorem dX5_isCrew_90 : decode cX5_isCrew 90 = .ok (.goto 4, 3) := dk_167 0 4 (dk_at dksX5_isCrew_3 20 rfl rfl)
theorem dX5_isCrew_93 : decode cX5_isCrew 93 = .ok (.iconst 0, 1) := dk_3 (dk_at dksX5_isCrew_3 23 rfl rfl)
theorem dX5_isCrew_94 : decode cX5_isCrew 94 = .ok (.ireturn, 1) := dk_172 (dk_at dksX5_isCrew_4 0 rfl rfl)
abbrev cX5_crew : ByteArray := prog_14_method_15_code
def yX5_crew : MethodName := ⟨RX5, "crew", "(IZ)I"⟩
def dkwX5_crew_7 : List UInt8 := [21, 4, 128, 62, 132, 5, 1, 167, 255, 90, 21, 4, 172]
abbrev dktX5_crew_7 : List UInt8 := dkwX5_crew_7 ++ []
def dkwX5_crew_6 : List UInt8 := [21, 6, 42, 180, 0, 51, 21, 5, 50, 42, 21, 5, 182, 0, 137, 182, 0, 144, 54, 4, 167, 255, 151, 29]
abbrev dktX5_crew_6 : List UInt8 := dkwX5_crew_6 ++ dktX5_crew_7
def dkwX5_crew_5 : List UInt8 := [21, 5, 29, 42, 21, 5, 182, 0, 137, 42, 180, 0, 51, 21, 5, 50, 182, 0, 140, 54, 6, 42, 21, 4]
abbrev dktX5_crew_5 : List UInt8 := dkwX5_crew_5 ++ dktX5_crew_6
def dkwX5_crew_4 : List UInt8 := [21, 5, 4, 96, 29, 21, 4, 128, 182, 0, 148, 96, 42, 21, 5, 29, 182, 0, 148, 159, 0, 51, 42]
abbrev dktX5_crew_4 : List UInt8 := dkwX5_crew_4 ++ dktX5_crew_5
def dkwX5_crew_3 : List UInt8 := [96, 29, 21, 4, 128, 182, 0, 159, 96, 42, 21, 5, 29, 182, 0, 159, 159, 0, 78, 167, 0, 27, 4, 42]
abbrev dktX5_crew_3 : List UInt8 := dkwX5_crew_3 ++ dktX5_crew_4
def dkwX5_crew_2 : List UInt8 := [21, 5, 182, 0, 137, 182, 0, 144, 54, 4, 28, 153, 0, 35, 42, 21, 4, 182, 0, 156, 42, 21, 5, 4]
abbrev dktX5_crew_2 : List UInt8 := dkwX5_crew_2 ++ dktX5_crew_3
def dkwX5_crew_1 : List UInt8 := [42, 180, 0, 51, 21, 5, 50, 182, 0, 140, 54, 6, 42, 3, 21, 6, 42, 180, 0, 51, 21, 5, 50, 42]
abbrev dktX5_crew_1 : List UInt8 := dkwX5_crew_1 ++ dktX5_crew_2
def dkwX5_crew_0 : List UInt8 := [3, 62, 2, 54, 4, 3, 54, 5, 21, 5, 27, 163, 0, 166, 42, 21, 5, 29, 42, 21, 5, 182, 0, 137]
abbrev dktX5_crew_0 : List UInt8 := dkwX5_crew_0 ++ dktX5_crew_1
theorem dksX5_crew_0 : cX5_crew.data.toList.drop 0 = dktX5_crew_0 := by decide +kernel
theorem dksX5_crew_1 : cX5_crew.data.toList.drop 24 = dktX5_crew_1 := dk_seg dksX5_crew_0 24 rfl rfl
theorem dksX5_crew_2 : cX5_crew.data.toList.drop 48 = dktX5_crew_2 := dk_seg dksX5_crew_1 24 rfl rfl
theorem dksX5_crew_3 : cX5_crew.data.toList.drop 72 = dktX5_crew_3 := dk_seg dksX5_crew_2 24 rfl rfl
theorem dksX5_crew_4 : cX5_crew.data.toList.drop 96 = dktX5_crew_4 := dk_seg dksX5_crew_3 24 rfl rfl
theorem dksX5_crew_5 : cX5_crew.data.toList.drop 119 = dktX5_crew_5 := dk_seg dksX5_crew_4 23 rfl rfl
theorem dksX5_crew_6 : cX5_crew.data.toList.drop 143 = dktX5_crew_6 := dk_seg dksX5_crew_5 24 rfl rfl
theorem dksX5_crew_7 : cX5_crew.data.toList.drop 167 = dktX5_crew_7 := dk_seg dksX5_crew_6 24 rfl rfl
theorem dX5_crew_0 : decode cX5_crew 0 = .ok (.iconst 0, 1) := dk_3 (dk_at dksX5_crew_0 0 rfl rfl)
theorem dX5_crew_1 : decode cX5_crew 1 = .ok (.istore_n 3, 1) := dk_62 (dk_at dksX5_crew_0 1 rfl rfl)
theorem dX5_crew_2 : decode cX5_crew 2 = .ok (.iconst (-1), 1) := dk_2 (dk_at dksX5_crew_0 2 rfl rfl)
theorem dX5_crew_3 : decode cX5_crew 3 = .ok (.istore 4, 2) := dk_54 4 (dk_at dksX5_crew_0 3 rfl rfl)
theorem dX5_crew_5 : decode cX5_crew 5 = .ok (.iconst 0, 1) := dk_3 (dk_at dksX5_crew_0 5 rfl rfl)
theorem dX5_crew_6 : decode cX5_crew 6 = .ok (.istore 5, 2) := dk_54 5 (dk_at dksX5_crew_0 6 rfl rfl)
theorem dX5_crew_8 : decode cX5_crew 8 = .ok (.iload 5, 2) := dk_21 5 (dk_at dksX5_crew_0 8 rfl rfl)
theorem dX5_crew_10 : decode cX5_crew 10 = .ok (.iload_n 1, 1) := dk_27 (dk_at dksX5_crew_0 10 rfl rfl)
theorem dX5_crew_11 : decode cX5_crew 11 = .ok (.if_icmp .gt 166, 3) := dk_163 0 166 (dk_at dksX5_crew_0 11 rfl rfl)
theorem dX5_crew_14 : decode cX5_crew 14 = .ok (.aload_n 0, 1) := dk_42 (dk_at dksX5_crew_0 14 rfl rfl)
theorem dX5_crew_15 : decode cX5_crew 15 = .ok (.iload 5, 2) := dk_21 5 (dk_at dksX5_crew_0 15 rfl rfl)
theorem dX5_crew_17 : decode cX5_crew 17 = .ok (.iload_n 3, 1) := dk_29 (dk_at dksX5_crew_0 17 rfl rfl)
theorem dX5_crew_18 : decode cX5_crew 18 = .ok (.aload_n 0, 1) := dk_42 (dk_at dksX5_crew_0 18 rfl rfl)
theorem dX5_crew_19 : decode cX5_crew 19 = .ok (.iload 5, 2) := dk_21 5 (dk_at dksX5_crew_0 19 rfl rfl)
theorem dX5_crew_21 : decode cX5_crew 21 = .ok (.invokevirtual 137, 3) := dk_182 0 137 (dk_at dksX5_crew_0 21 rfl rfl)
theorem dX5_crew_24 : decode cX5_crew 24 = .ok (.aload_n 0, 1) := dk_42 (dk_at dksX5_crew_1 0 rfl rfl)
theorem dX5_crew_25 : decode cX5_crew 25 = .ok (.getfield 51, 3) := dk_180 0 51 (dk_at dksX5_crew_1 1 rfl rfl)
theorem dX5_crew_28 : decode cX5_crew 28 = .ok (.iload 5, 2) := dk_21 5 (dk_at dksX5_crew_1 4 rfl rfl)
theorem dX5_crew_30 : decode cX5_crew 30 = .ok (.aaload, 1) := dk_50 (dk_at dksX5_crew_1 6 rfl rfl)
theorem dX5_crew_31 : decode cX5_crew 31 = .ok (.invokevirtual 140, 3) := dk_182 0 140 (dk_at dksX5_crew_1 7 rfl rfl)
theorem dX5_crew_34 : decode cX5_crew 34 = .ok (.istore 6, 2) := dk_54 6 (dk_at dksX5_crew_1 10 rfl rfl)
theorem dX5_crew_36 : decode cX5_crew 36 = .ok (.aload_n 0, 1) := dk_42 (dk_at dksX5_crew_1 12 rfl rfl)
theorem dX5_crew_37 : decode cX5_crew 37 = .ok (.iconst 0, 1) := dk_3 (dk_at dksX5_crew_1 13 rfl rfl)
theorem dX5_crew_38 : decode cX5_crew 38 = .ok (.iload 6, 2) := dk_21 6 (dk_at dksX5_crew_1 14 rfl rfl)
theorem dX5_crew_40 : decode cX5_crew 40 = .ok (.aload_n 0, 1) := dk_42 (dk_at dksX5_crew_1 16 rfl rfl)
theorem dX5_crew_41 : decode cX5_crew 41 = .ok (.getfield 51, 3) := dk_180 0 51 (dk_at dksX5_crew_1 17 rfl rfl)
theorem dX5_crew_44 : decode cX5_crew 44 = .ok (.iload 5, 2) := dk_21 5 (dk_at dksX5_crew_1 20 rfl rfl)
theorem dX5_crew_46 : decode cX5_crew 46 = .ok (.aaload, 1) := dk_50 (dk_at dksX5_crew_1 22 rfl rfl)
theorem dX5_crew_47 : decode cX5_crew 47 = .ok (.aload_n 0, 1) := dk_42 (dk_at dksX5_crew_1 23 rfl rfl)
theorem dX5_crew_48 : decode cX5_crew 48 = .ok (.iload 5, 2) := dk_21 5 (dk_at dksX5_crew_2 0 rfl rfl)
theorem dX5_crew_50 : decode cX5_crew 50 = .ok (.invokevirtual 137, 3) := dk_182 0 137 (dk_at dksX5_crew_2 2 rfl rfl)
theorem dX5_crew_53 : decode cX5_crew 53 = .ok (.invokevirtual 144, 3) := dk_182 0 144 (dk_at dksX5_crew_2 5 rfl rfl)
theorem dX5_crew_56 : decode cX5_crew 56 = .ok (.istore 4, 2) := dk_54 4 (dk_at dksX5_crew_2 8 rfl rfl)
theorem dX5_crew_58 : decode cX5_crew 58 = .ok (.iload_n 2, 1) := dk_28 (dk_at dksX5_crew_2 10 rfl rfl)
theorem dX5_crew_59 : decode cX5_crew 59 = .ok (.ifCond .eq 35, 3) := dk_153 0 35 (dk_at dksX5_crew_2 11 rfl rfl)
theorem dX5_crew_62 : decode cX5_crew 62 = .ok (.aload_n 0, 1) := dk_42 (dk_at dksX5_crew_2 14 rfl rfl)
theorem dX5_crew_63 : decode cX5_crew 63 = .ok (.iload 4, 2) := dk_21 4 (dk_at dksX5_crew_2 15 rfl rfl)
theorem dX5_crew_65 : decode cX5_crew 65 = .ok (.invokevirtual 156, 3) := dk_182 0 156 (dk_at dksX5_crew_2 17 rfl rfl)
theorem dX5_crew_68 : decode cX5_crew 68 = .ok (.aload_n 0, 1) := dk_42 (dk_at dksX5_crew_2 20 rfl rfl)
theorem dX5_crew_69 : decode cX5_crew 69 = .ok (.iload 5, 2) := dk_21 5 (dk_at dksX5_crew_2 21 rfl rfl)
theorem dX5_crew_71 : decode cX5_crew 71 = .ok (.iconst 1, 1) := dk_4 (dk_at dksX5_crew_2 23 rfl rfl)
theorem dX5_crew_72 : decode cX5_crew 72 = .ok (.iadd, 1) := dk_96 (dk_at dksX5_crew_3 0 rfl rfl)
theorem dX5_crew_73 : decode cX5_crew 73 = .ok (.iload_n 3, 1) := dk_29 (dk_at dksX5_crew_3 1 rfl rfl)
theorem dX5_crew_74 : decode cX5_crew 74 = .ok (.iload 4, 2) := dk_21 4 (dk_at dksX5_crew_3 2 rfl rfl)
theorem dX5_crew_76 : decode cX5_crew 76 = .ok (.ior, 1) := dk_128 (dk_at dksX5_crew_3 4 rfl rfl)
theorem dX5_crew_77 : decode cX5_crew 77 = .ok (.invokevirtual 159, 3) := dk_182 0 159 (dk_at dksX5_crew_3 5 rfl rfl)
theorem dX5_crew_80 : decode cX5_crew 80 = .ok (.iadd, 1) := dk_96 (dk_at dksX5_crew_3 8 rfl rfl)
theorem dX5_crew_81 : decode cX5_crew 81 = .ok (.aload_n 0, 1) := dk_42 (dk_at dksX5_crew_3 9 rfl rfl)
theorem dX5_crew_82 : decode cX5_crew 82 = .ok (.iload 5, 2) := dk_21 5 (dk_at dksX5_crew_3 10 rfl rfl)
theorem dX5_crew_84 : decode cX5_crew 84 = .ok (.iload_n 3, 1) := dk_29 (dk_at dksX5_crew_3 12 rfl rfl)
theorem dX5_crew_85 : decode cX5_crew 85 = .ok (.invokevirtual 159, 3) := dk_182 0 159 (dk_at dksX5_crew_3 13 rfl rfl)
theorem dX5_crew_88 : decode cX5_crew 88 = .ok (.if_icmp .eq 78, 3) := dk_159 0 78 (dk_at dksX5_crew_3 16 rfl rfl)
theorem dX5_crew_91 : decode cX5_crew 91 = .ok (.goto 27, 3) := dk_167 0 27 (dk_at dksX5_crew_3 19 rfl rfl)
theorem dX5_crew_94 : decode cX5_crew 94 = .ok (.iconst 1, 1) := dk_4 (dk_at dksX5_crew_3 22 rfl rfl)
theorem dX5_crew_95 : decode cX5_crew 95 = .ok (.aload_n 0, 1) := dk_42 (dk_at dksX5_crew_3 23 rfl rfl)
theorem dX5_crew_96 : decode cX5_crew 96 = .ok (.iload 5, 2) := dk_21 5 (dk_at dksX5_crew_4 0 rfl rfl)
theorem dX5_crew_98 : decode cX5_crew 98 = .ok (.iconst 1, 1) := dk_4 (dk_at dksX5_crew_4 2 rfl rfl)
theorem dX5_crew_99 : decode cX5_crew 99 = .ok (.iadd, 1) := dk_96 (dk_at dksX5_crew_4 3 rfl rfl)
theorem dX5_crew_100 : decode cX5_crew 100 = .ok (.iload_n 3, 1) := dk_29 (dk_at dksX5_crew_4 4 rfl rfl)
theorem dX5_crew_101 : decode cX5_crew 101 = .ok (.iload 4, 2) := dk_21 4 (dk_at dksX5_crew_4 5 rfl rfl)
theorem dX5_crew_103 : decode cX5_crew 103 = .ok (.ior, 1) := dk_128 (dk_at dksX5_crew_4 7 rfl rfl)
theorem dX5_crew_104 : decode cX5_crew 104 = .ok (.invokevirtual 148, 3) := dk_182 0 148 (dk_at dksX5_crew_4 8 rfl rfl)
theorem dX5_crew_107 : decode cX5_crew 107 = .ok (.iadd, 1) := dk_96 (dk_at dksX5_crew_4 11 rfl rfl)
theorem dX5_crew_108 : decode cX5_crew 108 = .ok (.aload_n 0, 1) := dk_42 (dk_at dksX5_crew_4 12 rfl rfl)
theorem dX5_crew_109 : decode cX5_crew 109 = .ok (.iload 5, 2) := dk_21 5 (dk_at dksX5_crew_4 13 rfl rfl)
theorem dX5_crew_111 : decode cX5_crew 111 = .ok (.iload_n 3, 1) := dk_29 (dk_at dksX5_crew_4 15 rfl rfl)
theorem dX5_crew_112 : decode cX5_crew 112 = .ok (.invokevirtual 148, 3) := dk_182 0 148 (dk_at dksX5_crew_4 16 rfl rfl)
theorem dX5_crew_115 : decode cX5_crew 115 = .ok (.if_icmp .eq 51, 3) := dk_159 0 51 (dk_at dksX5_crew_4 19 rfl rfl)
theorem dX5_crew_118 : decode cX5_crew 118 = .ok (.aload_n 0, 1) := dk_42 (dk_at dksX5_crew_4 22 rfl rfl)
theorem dX5_crew_119 : decode cX5_crew 119 = .ok (.iload 5, 2) := dk_21 5 (dk_at dksX5_crew_5 0 rfl rfl)
theorem dX5_crew_121 : decode cX5_crew 121 = .ok (.iload_n 3, 1) := dk_29 (dk_at dksX5_crew_5 2 rfl rfl)
theorem dX5_crew_122 : decode cX5_crew 122 = .ok (.aload_n 0, 1) := dk_42 (dk_at dksX5_crew_5 3 rfl rfl)
theorem dX5_crew_123 : decode cX5_crew 123 = .ok (.iload 5, 2) := dk_21 5 (dk_at dksX5_crew_5 4 rfl rfl)
theorem dX5_crew_125 : decode cX5_crew 125 = .ok (.invokevirtual 137, 3) := dk_182 0 137 (dk_at dksX5_crew_5 6 rfl rfl)
theorem dX5_crew_128 : decode cX5_crew 128 = .ok (.aload_n 0, 1) := dk_42 (dk_at dksX5_crew_5 9 rfl rfl)
theorem dX5_crew_129 : decode cX5_crew 129 = .ok (.getfield 51, 3) := dk_180 0 51 (dk_at dksX5_crew_5 10 rfl rfl)
theorem dX5_crew_132 : decode cX5_crew 132 = .ok (.iload 5, 2) := dk_21 5 (dk_at dksX5_crew_5 13 rfl rfl)
theorem dX5_crew_134 : decode cX5_crew 134 = .ok (.aaload, 1) := dk_50 (dk_at dksX5_crew_5 15 rfl rfl)
theorem dX5_crew_135 : decode cX5_crew 135 = .ok (.invokevirtual 140, 3) := dk_182 0 140 (dk_at dksX5_crew_5 16 rfl rfl)
theorem dX5_crew_138 : decode cX5_crew 138 = .ok (.istore 6, 2) := dk_54 6 (dk_at dksX5_crew_5 19 rfl rfl)
theorem dX5_crew_140 : decode cX5_crew 140 = .ok (.aload_n 0, 1) := dk_42 (dk_at dksX5_crew_5 21 rfl rfl)
theorem dX5_crew_141 : decode cX5_crew 141 = .ok (.iload 4, 2) := dk_21 4 (dk_at dksX5_crew_5 22 rfl rfl)
theorem dX5_crew_143 : decode cX5_crew 143 = .ok (.iload 6, 2) := dk_21 6 (dk_at dksX5_crew_6 0 rfl rfl)
theorem dX5_crew_145 : decode cX5_crew 145 = .ok (.aload_n 0, 1) := dk_42 (dk_at dksX5_crew_6 2 rfl rfl)
theorem dX5_crew_146 : decode cX5_crew 146 = .ok (.getfield 51, 3) := dk_180 0 51 (dk_at dksX5_crew_6 3 rfl rfl)
theorem dX5_crew_149 : decode cX5_crew 149 = .ok (.iload 5, 2) := dk_21 5 (dk_at dksX5_crew_6 6 rfl rfl)
theorem dX5_crew_151 : decode cX5_crew 151 = .ok (.aaload, 1) := dk_50 (dk_at dksX5_crew_6 8 rfl rfl)
theorem dX5_crew_152 : decode cX5_crew 152 = .ok (.aload_n 0, 1) := dk_42 (dk_at dksX5_crew_6 9 rfl rfl)
theorem dX5_crew_153 : decode cX5_crew 153 = .ok (.iload 5, 2) := dk_21 5 (dk_at dksX5_crew_6 10 rfl rfl)
theorem dX5_crew_155 : decode cX5_crew 155 = .ok (.invokevirtual 137, 3) := dk_182 0 137 (dk_at dksX5_crew_6 12 rfl rfl)
theorem dX5_crew_158 : decode cX5_crew 158 = .ok (.invokevirtual 144, 3) := dk_182 0 144 (dk_at dksX5_crew_6 15 rfl rfl)
theorem dX5_crew_161 : decode cX5_crew 161 = .ok (.istore 4, 2) := dk_54 4 (dk_at dksX5_crew_6 18 rfl rfl)
theorem dX5_crew_163 : decode cX5_crew 163 = .ok (.goto (-105), 3) := dk_167 255 151 (dk_at dksX5_crew_6 20 rfl rfl)
theorem dX5_crew_166 : decode cX5_crew 166 = .ok (.iload_n 3, 1) := dk_29 (dk_at dksX5_crew_6 23 rfl rfl)
theorem dX5_crew_167 : decode cX5_crew 167 = .ok (.iload 4, 2) := dk_21 4 (dk_at dksX5_crew_7 0 rfl rfl)
theorem dX5_crew_169 : decode cX5_crew 169 = .ok (.ior, 1) := dk_128 (dk_at dksX5_crew_7 2 rfl rfl)
theorem dX5_crew_170 : decode cX5_crew 170 = .ok (.istore_n 3, 1) := dk_62 (dk_at dksX5_crew_7 3 rfl rfl)
theorem dX5_crew_171 : decode cX5_crew 171 = .ok (.iinc 5 1, 3) := dk_132 5 1 (dk_at dksX5_crew_7 4 rfl rfl)
theorem dX5_crew_174 : decode cX5_crew 174 = .ok (.goto (-166), 3) := dk_167 255 90 (dk_at dksX5_crew_7 7 rfl rfl)
theorem dX5_crew_177 : decode cX5_crew 177 = .ok (.iload 4, 2) := dk_21 4 (dk_at dksX5_crew_7 10 rfl rfl)
theorem dX5_crew_179 : decode cX5_crew 179 = .ok (.ireturn, 1) := dk_172 (dk_at dksX5_crew_7 12 rfl rfl)
abbrev cX5_fare : ByteArray := prog_14_method_8_code
def yX5_fare : MethodName := ⟨RX5, "fare", "(I)I"⟩
def dkwX5_fare_1 : List UInt8 := [42, 180, 0, 19, 29, 46, 167, 0, 4, 3, 96, 61, 132, 3, 1, 167, 255, 221, 28, 172]
abbrev dktX5_fare_1 : List UInt8 := dkwX5_fare_1 ++ []
def dkwX5_fare_0 : List UInt8 := [3, 61, 3, 62, 29, 42, 180, 0, 3, 182, 0, 54, 162, 0, 30, 28, 27, 29, 184, 0, 67, 153, 0, 12]
abbrev dktX5_fare_0 : List UInt8 := dkwX5_fare_0 ++ dktX5_fare_1
theorem dksX5_fare_0 : cX5_fare.data.toList.drop 0 = dktX5_fare_0 := by decide +kernel
theorem dksX5_fare_1 : cX5_fare.data.toList.drop 24 = dktX5_fare_1 := dk_seg dksX5_fare_0 24 rfl rfl
theorem dX5_fare_0 : decode cX5_fare 0 = .ok (.iconst 0, 1) := dk_3 (dk_at dksX5_fare_0 0 rfl rfl)
theorem dX5_fare_1 : decode cX5_fare 1 = .ok (.istore_n 2, 1) := dk_61 (dk_at dksX5_fare_0 1 rfl rfl)
theorem dX5_fare_2 : decode cX5_fare 2 = .ok (.iconst 0, 1) := dk_3 (dk_at dksX5_fare_0 2 rfl rfl)
theorem dX5_fare_3 : decode cX5_fare 3 = .ok (.istore_n 3, 1) := dk_62 (dk_at dksX5_fare_0 3 rfl rfl)
theorem dX5_fare_4 : decode cX5_fare 4 = .ok (.iload_n 3, 1) := dk_29 (dk_at dksX5_fare_0 4 rfl rfl)
theorem dX5_fare_5 : decode cX5_fare 5 = .ok (.aload_n 0, 1) := dk_42 (dk_at dksX5_fare_0 5 rfl rfl)
theorem dX5_fare_6 : decode cX5_fare 6 = .ok (.getfield 3, 3) := dk_180 0 3 (dk_at dksX5_fare_0 6 rfl rfl)
theorem dX5_fare_9 : decode cX5_fare 9 = .ok (.invokevirtual 54, 3) := dk_182 0 54 (dk_at dksX5_fare_0 9 rfl rfl)
theorem dX5_fare_12 : decode cX5_fare 12 = .ok (.if_icmp .ge 30, 3) := dk_162 0 30 (dk_at dksX5_fare_0 12 rfl rfl)
theorem dX5_fare_15 : decode cX5_fare 15 = .ok (.iload_n 2, 1) := dk_28 (dk_at dksX5_fare_0 15 rfl rfl)
theorem dX5_fare_16 : decode cX5_fare 16 = .ok (.iload_n 1, 1) := dk_27 (dk_at dksX5_fare_0 16 rfl rfl)
theorem dX5_fare_17 : decode cX5_fare 17 = .ok (.iload_n 3, 1) := dk_29 (dk_at dksX5_fare_0 17 rfl rfl)
theorem dX5_fare_18 : decode cX5_fare 18 = .ok (.invokestatic 67, 3) := dk_184 0 67 (dk_at dksX5_fare_0 18 rfl rfl)
theorem dX5_fare_21 : decode cX5_fare 21 = .ok (.ifCond .eq 12, 3) := dk_153 0 12 (dk_at dksX5_fare_0 21 rfl rfl)
theorem dX5_fare_24 : decode cX5_fare 24 = .ok (.aload_n 0, 1) := dk_42 (dk_at dksX5_fare_1 0 rfl rfl)
theorem dX5_fare_25 : decode cX5_fare 25 = .ok (.getfield 19, 3) := dk_180 0 19 (dk_at dksX5_fare_1 1 rfl rfl)
theorem dX5_fare_28 : decode cX5_fare 28 = .ok (.iload_n 3, 1) := dk_29 (dk_at dksX5_fare_1 4 rfl rfl)
theorem dX5_fare_29 : decode cX5_fare 29 = .ok (.iaload, 1) := dk_46 (dk_at dksX5_fare_1 5 rfl rfl)
theorem dX5_fare_30 : decode cX5_fare 30 = .ok (.goto 4, 3) := dk_167 0 4 (dk_at dksX5_fare_1 6 rfl rfl)
theorem dX5_fare_33 : decode cX5_fare 33 = .ok (.iconst 0, 1) := dk_3 (dk_at dksX5_fare_1 9 rfl rfl)
theorem dX5_fare_34 : decode cX5_fare 34 = .ok (.iadd, 1) := dk_96 (dk_at dksX5_fare_1 10 rfl rfl)
theorem dX5_fare_35 : decode cX5_fare 35 = .ok (.istore_n 2, 1) := dk_61 (dk_at dksX5_fare_1 11 rfl rfl)
theorem dX5_fare_36 : decode cX5_fare 36 = .ok (.iinc 3 1, 3) := dk_132 3 1 (dk_at dksX5_fare_1 12 rfl rfl)
theorem dX5_fare_39 : decode cX5_fare 39 = .ok (.goto (-35), 3) := dk_167 255 221 (dk_at dksX5_fare_1 15 rfl rfl)
theorem dX5_fare_42 : decode cX5_fare 42 = .ok (.iload_n 2, 1) := dk_28 (dk_at dksX5_fare_1 18 rfl rfl)
theorem dX5_fare_43 : decode cX5_fare 43 = .ok (.ireturn, 1) := dk_172 (dk_at dksX5_fare_1 19 rfl rfl)
abbrev cX5_least : ByteArray := prog_14_method_9_code
def yX5_least : MethodName := ⟨RX5, "least", "(II)I"⟩
def dkwX5_least_6 : List UInt8 := [180, 0, 33, 27, 50, 28, 46, 172]
abbrev dktX5_least_6 : List UInt8 := dkwX5_least_6 ++ []
def dkwX5_least_5 : List UInt8 := [182, 0, 144, 54, 5, 167, 255, 206, 42, 180, 0, 33, 27, 50, 28, 18, 71, 29, 184, 0, 116, 79, 42]
abbrev dktX5_least_5 : List UInt8 := dkwX5_least_5 ++ dktX5_least_6
def dkwX5_least_4 : List UInt8 := [182, 0, 159, 96, 184, 0, 116, 62, 42, 21, 5, 21, 4, 42, 180, 0, 51, 27, 50, 42, 27, 182, 0, 137]
abbrev dktX5_least_4 : List UInt8 := dkwX5_least_4 ++ dktX5_least_5
def dkwX5_least_3 : List UInt8 := [54, 5, 21, 5, 2, 159, 0, 50, 29, 42, 21, 5, 182, 0, 156, 42, 27, 4, 96, 28, 21, 5, 128]
abbrev dktX5_least_3 : List UInt8 := dkwX5_least_3 ++ dktX5_least_4
def dkwX5_least_2 : List UInt8 := [50, 182, 0, 140, 54, 4, 42, 3, 21, 4, 42, 180, 0, 51, 27, 50, 42, 27, 182, 0, 137, 182, 0, 144]
abbrev dktX5_least_2 : List UInt8 := dkwX5_least_2 ++ dktX5_least_3
def dkwX5_least_1 : List UInt8 := [180, 0, 33, 27, 50, 28, 46, 172, 18, 71, 62, 42, 27, 28, 42, 27, 182, 0, 137, 42, 180, 0, 51, 27]
abbrev dktX5_least_1 : List UInt8 := dkwX5_least_1 ++ dktX5_least_2
def dkwX5_least_0 : List UInt8 := [27, 42, 180, 0, 153, 160, 0, 5, 3, 172, 42, 180, 0, 33, 27, 50, 28, 46, 2, 159, 0, 12, 42]
abbrev dktX5_least_0 : List UInt8 := dkwX5_least_0 ++ dktX5_least_1
theorem dksX5_least_0 : cX5_least.data.toList.drop 0 = dktX5_least_0 := by decide +kernel
theorem dksX5_least_1 : cX5_least.data.toList.drop 23 = dktX5_least_1 := dk_seg dksX5_least_0 23 rfl rfl
theorem dksX5_least_2 : cX5_least.data.toList.drop 47 = dktX5_least_2 := dk_seg dksX5_least_1 24 rfl rfl
theorem dksX5_least_3 : cX5_least.data.toList.drop 71 = dktX5_least_3 := dk_seg dksX5_least_2 24 rfl rfl
theorem dksX5_least_4 : cX5_least.data.toList.drop 94 = dktX5_least_4 := dk_seg dksX5_least_3 23 rfl rfl
theorem dksX5_least_5 : cX5_least.data.toList.drop 118 = dktX5_least_5 := dk_seg dksX5_least_4 24 rfl rfl
theorem dksX5_least_6 : cX5_least.data.toList.drop 141 = dktX5_least_6 := dk_seg dksX5_least_5 23 rfl rfl
theorem dX5_least_0 : decode cX5_least 0 = .ok (.iload_n 1, 1) := dk_27 (dk_at dksX5_least_0 0 rfl rfl)
theorem dX5_least_1 : decode cX5_least 1 = .ok (.aload_n 0, 1) := dk_42 (dk_at dksX5_least_0 1 rfl rfl)
theorem dX5_least_2 : decode cX5_least 2 = .ok (.getfield 153, 3) := dk_180 0 153 (dk_at dksX5_least_0 2 rfl rfl)
theorem dX5_least_5 : decode cX5_least 5 = .ok (.if_icmp .ne 5, 3) := dk_160 0 5 (dk_at dksX5_least_0 5 rfl rfl)
theorem dX5_least_8 : decode cX5_least 8 = .ok (.iconst 0, 1) := dk_3 (dk_at dksX5_least_0 8 rfl rfl)
theorem dX5_least_9 : decode cX5_least 9 = .ok (.ireturn, 1) := dk_172 (dk_at dksX5_least_0 9 rfl rfl)
theorem dX5_least_10 : decode cX5_least 10 = .ok (.aload_n 0, 1) := dk_42 (dk_at dksX5_least_0 10 rfl rfl)
theorem dX5_least_11 : decode cX5_least 11 = .ok (.getfield 33, 3) := dk_180 0 33 (dk_at dksX5_least_0 11 rfl rfl)
theorem dX5_least_14 : decode cX5_least 14 = .ok (.iload_n 1, 1) := dk_27 (dk_at dksX5_least_0 14 rfl rfl)
theorem dX5_least_15 : decode cX5_least 15 = .ok (.aaload, 1) := dk_50 (dk_at dksX5_least_0 15 rfl rfl)
theorem dX5_least_16 : decode cX5_least 16 = .ok (.iload_n 2, 1) := dk_28 (dk_at dksX5_least_0 16 rfl rfl)
theorem dX5_least_17 : decode cX5_least 17 = .ok (.iaload, 1) := dk_46 (dk_at dksX5_least_0 17 rfl rfl)
theorem dX5_least_18 : decode cX5_least 18 = .ok (.iconst (-1), 1) := dk_2 (dk_at dksX5_least_0 18 rfl rfl)
theorem dX5_least_19 : decode cX5_least 19 = .ok (.if_icmp .eq 12, 3) := dk_159 0 12 (dk_at dksX5_least_0 19 rfl rfl)
theorem dX5_least_22 : decode cX5_least 22 = .ok (.aload_n 0, 1) := dk_42 (dk_at dksX5_least_0 22 rfl rfl)
theorem dX5_least_23 : decode cX5_least 23 = .ok (.getfield 33, 3) := dk_180 0 33 (dk_at dksX5_least_1 0 rfl rfl)
theorem dX5_least_26 : decode cX5_least 26 = .ok (.iload_n 1, 1) := dk_27 (dk_at dksX5_least_1 3 rfl rfl)
theorem dX5_least_27 : decode cX5_least 27 = .ok (.aaload, 1) := dk_50 (dk_at dksX5_least_1 4 rfl rfl)
theorem dX5_least_28 : decode cX5_least 28 = .ok (.iload_n 2, 1) := dk_28 (dk_at dksX5_least_1 5 rfl rfl)
theorem dX5_least_29 : decode cX5_least 29 = .ok (.iaload, 1) := dk_46 (dk_at dksX5_least_1 6 rfl rfl)
theorem dX5_least_30 : decode cX5_least 30 = .ok (.ireturn, 1) := dk_172 (dk_at dksX5_least_1 7 rfl rfl)
theorem dX5_least_31 : decode cX5_least 31 = .ok (.ldc 71, 2) := dk_18 71 (dk_at dksX5_least_1 8 rfl rfl)
theorem dX5_least_33 : decode cX5_least 33 = .ok (.istore_n 3, 1) := dk_62 (dk_at dksX5_least_1 10 rfl rfl)
theorem dX5_least_34 : decode cX5_least 34 = .ok (.aload_n 0, 1) := dk_42 (dk_at dksX5_least_1 11 rfl rfl)
theorem dX5_least_35 : decode cX5_least 35 = .ok (.iload_n 1, 1) := dk_27 (dk_at dksX5_least_1 12 rfl rfl)
theorem dX5_least_36 : decode cX5_least 36 = .ok (.iload_n 2, 1) := dk_28 (dk_at dksX5_least_1 13 rfl rfl)
theorem dX5_least_37 : decode cX5_least 37 = .ok (.aload_n 0, 1) := dk_42 (dk_at dksX5_least_1 14 rfl rfl)
theorem dX5_least_38 : decode cX5_least 38 = .ok (.iload_n 1, 1) := dk_27 (dk_at dksX5_least_1 15 rfl rfl)
theorem dX5_least_39 : decode cX5_least 39 = .ok (.invokevirtual 137, 3) := dk_182 0 137 (dk_at dksX5_least_1 16 rfl rfl)
theorem dX5_least_42 : decode cX5_least 42 = .ok (.aload_n 0, 1) := dk_42 (dk_at dksX5_least_1 19 rfl rfl)
theorem dX5_least_43 : decode cX5_least 43 = .ok (.getfield 51, 3) := dk_180 0 51 (dk_at dksX5_least_1 20 rfl rfl)
theorem dX5_least_46 : decode cX5_least 46 = .ok (.iload_n 1, 1) := dk_27 (dk_at dksX5_least_1 23 rfl rfl)
theorem dX5_least_47 : decode cX5_least 47 = .ok (.aaload, 1) := dk_50 (dk_at dksX5_least_2 0 rfl rfl)
theorem dX5_least_48 : decode cX5_least 48 = .ok (.invokevirtual 140, 3) := dk_182 0 140 (dk_at dksX5_least_2 1 rfl rfl)
theorem dX5_least_51 : decode cX5_least 51 = .ok (.istore 4, 2) := dk_54 4 (dk_at dksX5_least_2 4 rfl rfl)
theorem dX5_least_53 : decode cX5_least 53 = .ok (.aload_n 0, 1) := dk_42 (dk_at dksX5_least_2 6 rfl rfl)
theorem dX5_least_54 : decode cX5_least 54 = .ok (.iconst 0, 1) := dk_3 (dk_at dksX5_least_2 7 rfl rfl)
theorem dX5_least_55 : decode cX5_least 55 = .ok (.iload 4, 2) := dk_21 4 (dk_at dksX5_least_2 8 rfl rfl)
theorem dX5_least_57 : decode cX5_least 57 = .ok (.aload_n 0, 1) := dk_42 (dk_at dksX5_least_2 10 rfl rfl)
theorem dX5_least_58 : decode cX5_least 58 = .ok (.getfield 51, 3) := dk_180 0 51 (dk_at dksX5_least_2 11 rfl rfl)
theorem dX5_least_61 : decode cX5_least 61 = .ok (.iload_n 1, 1) := dk_27 (dk_at dksX5_least_2 14 rfl rfl)
theorem dX5_least_62 : decode cX5_least 62 = .ok (.aaload, 1) := dk_50 (dk_at dksX5_least_2 15 rfl rfl)
theorem dX5_least_63 : decode cX5_least 63 = .ok (.aload_n 0, 1) := dk_42 (dk_at dksX5_least_2 16 rfl rfl)
theorem dX5_least_64 : decode cX5_least 64 = .ok (.iload_n 1, 1) := dk_27 (dk_at dksX5_least_2 17 rfl rfl)
theorem dX5_least_65 : decode cX5_least 65 = .ok (.invokevirtual 137, 3) := dk_182 0 137 (dk_at dksX5_least_2 18 rfl rfl)
theorem dX5_least_68 : decode cX5_least 68 = .ok (.invokevirtual 144, 3) := dk_182 0 144 (dk_at dksX5_least_2 21 rfl rfl)
theorem dX5_least_71 : decode cX5_least 71 = .ok (.istore 5, 2) := dk_54 5 (dk_at dksX5_least_3 0 rfl rfl)
theorem dX5_least_73 : decode cX5_least 73 = .ok (.iload 5, 2) := dk_21 5 (dk_at dksX5_least_3 2 rfl rfl)
theorem dX5_least_75 : decode cX5_least 75 = .ok (.iconst (-1), 1) := dk_2 (dk_at dksX5_least_3 4 rfl rfl)
theorem dX5_least_76 : decode cX5_least 76 = .ok (.if_icmp .eq 50, 3) := dk_159 0 50 (dk_at dksX5_least_3 5 rfl rfl)
theorem dX5_least_79 : decode cX5_least 79 = .ok (.iload_n 3, 1) := dk_29 (dk_at dksX5_least_3 8 rfl rfl)
theorem dX5_least_80 : decode cX5_least 80 = .ok (.aload_n 0, 1) := dk_42 (dk_at dksX5_least_3 9 rfl rfl)
theorem dX5_least_81 : decode cX5_least 81 = .ok (.iload 5, 2) := dk_21 5 (dk_at dksX5_least_3 10 rfl rfl)
theorem dX5_least_83 : decode cX5_least 83 = .ok (.invokevirtual 156, 3) := dk_182 0 156 (dk_at dksX5_least_3 12 rfl rfl)
theorem dX5_least_86 : decode cX5_least 86 = .ok (.aload_n 0, 1) := dk_42 (dk_at dksX5_least_3 15 rfl rfl)
theorem dX5_least_87 : decode cX5_least 87 = .ok (.iload_n 1, 1) := dk_27 (dk_at dksX5_least_3 16 rfl rfl)
theorem dX5_least_88 : decode cX5_least 88 = .ok (.iconst 1, 1) := dk_4 (dk_at dksX5_least_3 17 rfl rfl)
theorem dX5_least_89 : decode cX5_least 89 = .ok (.iadd, 1) := dk_96 (dk_at dksX5_least_3 18 rfl rfl)
theorem dX5_least_90 : decode cX5_least 90 = .ok (.iload_n 2, 1) := dk_28 (dk_at dksX5_least_3 19 rfl rfl)
theorem dX5_least_91 : decode cX5_least 91 = .ok (.iload 5, 2) := dk_21 5 (dk_at dksX5_least_3 20 rfl rfl)
theorem dX5_least_93 : decode cX5_least 93 = .ok (.ior, 1) := dk_128 (dk_at dksX5_least_3 22 rfl rfl)
theorem dX5_least_94 : decode cX5_least 94 = .ok (.invokevirtual 159, 3) := dk_182 0 159 (dk_at dksX5_least_4 0 rfl rfl)
theorem dX5_least_97 : decode cX5_least 97 = .ok (.iadd, 1) := dk_96 (dk_at dksX5_least_4 3 rfl rfl)
theorem dX5_least_98 : decode cX5_least 98 = .ok (.invokestatic 116, 3) := dk_184 0 116 (dk_at dksX5_least_4 4 rfl rfl)
theorem dX5_least_101 : decode cX5_least 101 = .ok (.istore_n 3, 1) := dk_62 (dk_at dksX5_least_4 7 rfl rfl)
theorem dX5_least_102 : decode cX5_least 102 = .ok (.aload_n 0, 1) := dk_42 (dk_at dksX5_least_4 8 rfl rfl)
theorem dX5_least_103 : decode cX5_least 103 = .ok (.iload 5, 2) := dk_21 5 (dk_at dksX5_least_4 9 rfl rfl)
theorem dX5_least_105 : decode cX5_least 105 = .ok (.iload 4, 2) := dk_21 4 (dk_at dksX5_least_4 11 rfl rfl)
theorem dX5_least_107 : decode cX5_least 107 = .ok (.aload_n 0, 1) := dk_42 (dk_at dksX5_least_4 13 rfl rfl)
theorem dX5_least_108 : decode cX5_least 108 = .ok (.getfield 51, 3) := dk_180 0 51 (dk_at dksX5_least_4 14 rfl rfl)
theorem dX5_least_111 : decode cX5_least 111 = .ok (.iload_n 1, 1) := dk_27 (dk_at dksX5_least_4 17 rfl rfl)
theorem dX5_least_112 : decode cX5_least 112 = .ok (.aaload, 1) := dk_50 (dk_at dksX5_least_4 18 rfl rfl)
theorem dX5_least_113 : decode cX5_least 113 = .ok (.aload_n 0, 1) := dk_42 (dk_at dksX5_least_4 19 rfl rfl)
theorem dX5_least_114 : decode cX5_least 114 = .ok (.iload_n 1, 1) := dk_27 (dk_at dksX5_least_4 20 rfl rfl)
theorem dX5_least_115 : decode cX5_least 115 = .ok (.invokevirtual 137, 3) := dk_182 0 137 (dk_at dksX5_least_4 21 rfl rfl)
theorem dX5_least_118 : decode cX5_least 118 = .ok (.invokevirtual 144, 3) := dk_182 0 144 (dk_at dksX5_least_5 0 rfl rfl)
theorem dX5_least_121 : decode cX5_least 121 = .ok (.istore 5, 2) := dk_54 5 (dk_at dksX5_least_5 3 rfl rfl)
theorem dX5_least_123 : decode cX5_least 123 = .ok (.goto (-50), 3) := dk_167 255 206 (dk_at dksX5_least_5 5 rfl rfl)
theorem dX5_least_126 : decode cX5_least 126 = .ok (.aload_n 0, 1) := dk_42 (dk_at dksX5_least_5 8 rfl rfl)
theorem dX5_least_127 : decode cX5_least 127 = .ok (.getfield 33, 3) := dk_180 0 33 (dk_at dksX5_least_5 9 rfl rfl)
theorem dX5_least_130 : decode cX5_least 130 = .ok (.iload_n 1, 1) := dk_27 (dk_at dksX5_least_5 12 rfl rfl)
theorem dX5_least_131 : decode cX5_least 131 = .ok (.aaload, 1) := dk_50 (dk_at dksX5_least_5 13 rfl rfl)
theorem dX5_least_132 : decode cX5_least 132 = .ok (.iload_n 2, 1) := dk_28 (dk_at dksX5_least_5 14 rfl rfl)
theorem dX5_least_133 : decode cX5_least 133 = .ok (.ldc 71, 2) := dk_18 71 (dk_at dksX5_least_5 15 rfl rfl)
theorem dX5_least_135 : decode cX5_least 135 = .ok (.iload_n 3, 1) := dk_29 (dk_at dksX5_least_5 17 rfl rfl)
theorem dX5_least_136 : decode cX5_least 136 = .ok (.invokestatic 116, 3) := dk_184 0 116 (dk_at dksX5_least_5 18 rfl rfl)
theorem dX5_least_139 : decode cX5_least 139 = .ok (.iastore, 1) := dk_79 (dk_at dksX5_least_5 21 rfl rfl)
theorem dX5_least_140 : decode cX5_least 140 = .ok (.aload_n 0, 1) := dk_42 (dk_at dksX5_least_5 22 rfl rfl)
theorem dX5_least_141 : decode cX5_least 141 = .ok (.getfield 33, 3) := dk_180 0 33 (dk_at dksX5_least_6 0 rfl rfl)
theorem dX5_least_144 : decode cX5_least 144 = .ok (.iload_n 1, 1) := dk_27 (dk_at dksX5_least_6 3 rfl rfl)
theorem dX5_least_145 : decode cX5_least 145 = .ok (.aaload, 1) := dk_50 (dk_at dksX5_least_6 4 rfl rfl)
theorem dX5_least_146 : decode cX5_least 146 = .ok (.iload_n 2, 1) := dk_28 (dk_at dksX5_least_6 5 rfl rfl)
theorem dX5_least_147 : decode cX5_least 147 = .ok (.iaload, 1) := dk_46 (dk_at dksX5_least_6 6 rfl rfl)
theorem dX5_least_148 : decode cX5_least 148 = .ok (.ireturn, 1) := dk_172 (dk_at dksX5_least_6 7 rfl rfl)
abbrev cX5_rows : ByteArray := prog_14_method_10_code
def yX5_rows : MethodName := ⟨RX5, "rows", "(II)J"⟩
def dkwX5_rows_5 : List UInt8 := [54, 6, 167, 255, 215, 42, 180, 0, 38, 27, 50, 28, 33, 80, 33, 173]
abbrev dktX5_rows_5 : List UInt8 := dkwX5_rows_5 ++ []
def dkwX5_rows_4 : List UInt8 := [182, 0, 161, 97, 66, 42, 21, 6, 21, 5, 42, 180, 0, 51, 27, 50, 42, 27, 182, 0, 137, 182, 0, 144]
abbrev dktX5_rows_4 : List UInt8 := dkwX5_rows_4 ++ dktX5_rows_5
def dkwX5_rows_3 : List UInt8 := [182, 0, 137, 182, 0, 144, 54, 6, 21, 6, 2, 159, 0, 41, 33, 42, 27, 4, 96, 28, 21, 6, 128]
abbrev dktX5_rows_3 : List UInt8 := dkwX5_rows_3 ++ dktX5_rows_4
def dkwX5_rows_2 : List UInt8 := [180, 0, 51, 27, 50, 182, 0, 140, 54, 5, 42, 3, 21, 5, 42, 180, 0, 51, 27, 50, 42, 27]
abbrev dktX5_rows_2 : List UInt8 := dkwX5_rows_2 ++ dktX5_rows_3
def dkwX5_rows_1 : List UInt8 := [153, 0, 12, 42, 180, 0, 38, 27, 50, 28, 47, 173, 9, 66, 42, 27, 28, 42, 27, 182, 0, 137, 42]
abbrev dktX5_rows_1 : List UInt8 := dkwX5_rows_1 ++ dktX5_rows_2
def dkwX5_rows_0 : List UInt8 := [27, 42, 180, 0, 153, 160, 0, 5, 10, 173, 42, 180, 0, 38, 27, 50, 28, 47, 20, 0, 104, 148]
abbrev dktX5_rows_0 : List UInt8 := dkwX5_rows_0 ++ dktX5_rows_1
theorem dksX5_rows_0 : cX5_rows.data.toList.drop 0 = dktX5_rows_0 := by decide +kernel
theorem dksX5_rows_1 : cX5_rows.data.toList.drop 22 = dktX5_rows_1 := dk_seg dksX5_rows_0 22 rfl rfl
theorem dksX5_rows_2 : cX5_rows.data.toList.drop 45 = dktX5_rows_2 := dk_seg dksX5_rows_1 23 rfl rfl
theorem dksX5_rows_3 : cX5_rows.data.toList.drop 67 = dktX5_rows_3 := dk_seg dksX5_rows_2 22 rfl rfl
theorem dksX5_rows_4 : cX5_rows.data.toList.drop 90 = dktX5_rows_4 := dk_seg dksX5_rows_3 23 rfl rfl
theorem dksX5_rows_5 : cX5_rows.data.toList.drop 114 = dktX5_rows_5 := dk_seg dksX5_rows_4 24 rfl rfl
theorem dX5_rows_0 : decode cX5_rows 0 = .ok (.iload_n 1, 1) := dk_27 (dk_at dksX5_rows_0 0 rfl rfl)
theorem dX5_rows_1 : decode cX5_rows 1 = .ok (.aload_n 0, 1) := dk_42 (dk_at dksX5_rows_0 1 rfl rfl)
theorem dX5_rows_2 : decode cX5_rows 2 = .ok (.getfield 153, 3) := dk_180 0 153 (dk_at dksX5_rows_0 2 rfl rfl)
theorem dX5_rows_5 : decode cX5_rows 5 = .ok (.if_icmp .ne 5, 3) := dk_160 0 5 (dk_at dksX5_rows_0 5 rfl rfl)
theorem dX5_rows_8 : decode cX5_rows 8 = .ok (.lconst 1, 1) := dk_10 (dk_at dksX5_rows_0 8 rfl rfl)
theorem dX5_rows_9 : decode cX5_rows 9 = .ok (.lreturn, 1) := dk_173 (dk_at dksX5_rows_0 9 rfl rfl)
theorem dX5_rows_10 : decode cX5_rows 10 = .ok (.aload_n 0, 1) := dk_42 (dk_at dksX5_rows_0 10 rfl rfl)
theorem dX5_rows_11 : decode cX5_rows 11 = .ok (.getfield 38, 3) := dk_180 0 38 (dk_at dksX5_rows_0 11 rfl rfl)
theorem dX5_rows_14 : decode cX5_rows 14 = .ok (.iload_n 1, 1) := dk_27 (dk_at dksX5_rows_0 14 rfl rfl)
theorem dX5_rows_15 : decode cX5_rows 15 = .ok (.aaload, 1) := dk_50 (dk_at dksX5_rows_0 15 rfl rfl)
theorem dX5_rows_16 : decode cX5_rows 16 = .ok (.iload_n 2, 1) := dk_28 (dk_at dksX5_rows_0 16 rfl rfl)
theorem dX5_rows_17 : decode cX5_rows 17 = .ok (.laload, 1) := dk_47 (dk_at dksX5_rows_0 17 rfl rfl)
theorem dX5_rows_18 : decode cX5_rows 18 = .ok (.ldc2_w 104, 3) := dk_20 0 104 (dk_at dksX5_rows_0 18 rfl rfl)
theorem dX5_rows_21 : decode cX5_rows 21 = .ok (.lcmp, 1) := dk_148 (dk_at dksX5_rows_0 21 rfl rfl)
theorem dX5_rows_22 : decode cX5_rows 22 = .ok (.ifCond .eq 12, 3) := dk_153 0 12 (dk_at dksX5_rows_1 0 rfl rfl)
theorem dX5_rows_25 : decode cX5_rows 25 = .ok (.aload_n 0, 1) := dk_42 (dk_at dksX5_rows_1 3 rfl rfl)
theorem dX5_rows_26 : decode cX5_rows 26 = .ok (.getfield 38, 3) := dk_180 0 38 (dk_at dksX5_rows_1 4 rfl rfl)
theorem dX5_rows_29 : decode cX5_rows 29 = .ok (.iload_n 1, 1) := dk_27 (dk_at dksX5_rows_1 7 rfl rfl)
theorem dX5_rows_30 : decode cX5_rows 30 = .ok (.aaload, 1) := dk_50 (dk_at dksX5_rows_1 8 rfl rfl)
theorem dX5_rows_31 : decode cX5_rows 31 = .ok (.iload_n 2, 1) := dk_28 (dk_at dksX5_rows_1 9 rfl rfl)
theorem dX5_rows_32 : decode cX5_rows 32 = .ok (.laload, 1) := dk_47 (dk_at dksX5_rows_1 10 rfl rfl)
theorem dX5_rows_33 : decode cX5_rows 33 = .ok (.lreturn, 1) := dk_173 (dk_at dksX5_rows_1 11 rfl rfl)
theorem dX5_rows_34 : decode cX5_rows 34 = .ok (.lconst 0, 1) := dk_9 (dk_at dksX5_rows_1 12 rfl rfl)
theorem dX5_rows_35 : decode cX5_rows 35 = .ok (.lstore_n 3, 1) := dk_66 (dk_at dksX5_rows_1 13 rfl rfl)
theorem dX5_rows_36 : decode cX5_rows 36 = .ok (.aload_n 0, 1) := dk_42 (dk_at dksX5_rows_1 14 rfl rfl)
theorem dX5_rows_37 : decode cX5_rows 37 = .ok (.iload_n 1, 1) := dk_27 (dk_at dksX5_rows_1 15 rfl rfl)
theorem dX5_rows_38 : decode cX5_rows 38 = .ok (.iload_n 2, 1) := dk_28 (dk_at dksX5_rows_1 16 rfl rfl)
theorem dX5_rows_39 : decode cX5_rows 39 = .ok (.aload_n 0, 1) := dk_42 (dk_at dksX5_rows_1 17 rfl rfl)
theorem dX5_rows_40 : decode cX5_rows 40 = .ok (.iload_n 1, 1) := dk_27 (dk_at dksX5_rows_1 18 rfl rfl)
theorem dX5_rows_41 : decode cX5_rows 41 = .ok (.invokevirtual 137, 3) := dk_182 0 137 (dk_at dksX5_rows_1 19 rfl rfl)
theorem dX5_rows_44 : decode cX5_rows 44 = .ok (.aload_n 0, 1) := dk_42 (dk_at dksX5_rows_1 22 rfl rfl)
theorem dX5_rows_45 : decode cX5_rows 45 = .ok (.getfield 51, 3) := dk_180 0 51 (dk_at dksX5_rows_2 0 rfl rfl)
theorem dX5_rows_48 : decode cX5_rows 48 = .ok (.iload_n 1, 1) := dk_27 (dk_at dksX5_rows_2 3 rfl rfl)
theorem dX5_rows_49 : decode cX5_rows 49 = .ok (.aaload, 1) := dk_50 (dk_at dksX5_rows_2 4 rfl rfl)
theorem dX5_rows_50 : decode cX5_rows 50 = .ok (.invokevirtual 140, 3) := dk_182 0 140 (dk_at dksX5_rows_2 5 rfl rfl)
theorem dX5_rows_53 : decode cX5_rows 53 = .ok (.istore 5, 2) := dk_54 5 (dk_at dksX5_rows_2 8 rfl rfl)
theorem dX5_rows_55 : decode cX5_rows 55 = .ok (.aload_n 0, 1) := dk_42 (dk_at dksX5_rows_2 10 rfl rfl)
theorem dX5_rows_56 : decode cX5_rows 56 = .ok (.iconst 0, 1) := dk_3 (dk_at dksX5_rows_2 11 rfl rfl)
theorem dX5_rows_57 : decode cX5_rows 57 = .ok (.iload 5, 2) := dk_21 5 (dk_at dksX5_rows_2 12 rfl rfl)
theorem dX5_rows_59 : decode cX5_rows 59 = .ok (.aload_n 0, 1) := dk_42 (dk_at dksX5_rows_2 14 rfl rfl)
theorem dX5_rows_60 : decode cX5_rows 60 = .ok (.getfield 51, 3) := dk_180 0 51 (dk_at dksX5_rows_2 15 rfl rfl)
theorem dX5_rows_63 : decode cX5_rows 63 = .ok (.iload_n 1, 1) := dk_27 (dk_at dksX5_rows_2 18 rfl rfl)
theorem dX5_rows_64 : decode cX5_rows 64 = .ok (.aaload, 1) := dk_50 (dk_at dksX5_rows_2 19 rfl rfl)
theorem dX5_rows_65 : decode cX5_rows 65 = .ok (.aload_n 0, 1) := dk_42 (dk_at dksX5_rows_2 20 rfl rfl)
theorem dX5_rows_66 : decode cX5_rows 66 = .ok (.iload_n 1, 1) := dk_27 (dk_at dksX5_rows_2 21 rfl rfl)
theorem dX5_rows_67 : decode cX5_rows 67 = .ok (.invokevirtual 137, 3) := dk_182 0 137 (dk_at dksX5_rows_3 0 rfl rfl)
theorem dX5_rows_70 : decode cX5_rows 70 = .ok (.invokevirtual 144, 3) := dk_182 0 144 (dk_at dksX5_rows_3 3 rfl rfl)
theorem dX5_rows_73 : decode cX5_rows 73 = .ok (.istore 6, 2) := dk_54 6 (dk_at dksX5_rows_3 6 rfl rfl)
theorem dX5_rows_75 : decode cX5_rows 75 = .ok (.iload 6, 2) := dk_21 6 (dk_at dksX5_rows_3 8 rfl rfl)
theorem dX5_rows_77 : decode cX5_rows 77 = .ok (.iconst (-1), 1) := dk_2 (dk_at dksX5_rows_3 10 rfl rfl)
theorem dX5_rows_78 : decode cX5_rows 78 = .ok (.if_icmp .eq 41, 3) := dk_159 0 41 (dk_at dksX5_rows_3 11 rfl rfl)
theorem dX5_rows_81 : decode cX5_rows 81 = .ok (.lload_n 3, 1) := dk_33 (dk_at dksX5_rows_3 14 rfl rfl)
theorem dX5_rows_82 : decode cX5_rows 82 = .ok (.aload_n 0, 1) := dk_42 (dk_at dksX5_rows_3 15 rfl rfl)
theorem dX5_rows_83 : decode cX5_rows 83 = .ok (.iload_n 1, 1) := dk_27 (dk_at dksX5_rows_3 16 rfl rfl)
theorem dX5_rows_84 : decode cX5_rows 84 = .ok (.iconst 1, 1) := dk_4 (dk_at dksX5_rows_3 17 rfl rfl)
theorem dX5_rows_85 : decode cX5_rows 85 = .ok (.iadd, 1) := dk_96 (dk_at dksX5_rows_3 18 rfl rfl)
theorem dX5_rows_86 : decode cX5_rows 86 = .ok (.iload_n 2, 1) := dk_28 (dk_at dksX5_rows_3 19 rfl rfl)
theorem dX5_rows_87 : decode cX5_rows 87 = .ok (.iload 6, 2) := dk_21 6 (dk_at dksX5_rows_3 20 rfl rfl)
theorem dX5_rows_89 : decode cX5_rows 89 = .ok (.ior, 1) := dk_128 (dk_at dksX5_rows_3 22 rfl rfl)
theorem dX5_rows_90 : decode cX5_rows 90 = .ok (.invokevirtual 161, 3) := dk_182 0 161 (dk_at dksX5_rows_4 0 rfl rfl)
theorem dX5_rows_93 : decode cX5_rows 93 = .ok (.ladd, 1) := dk_97 (dk_at dksX5_rows_4 3 rfl rfl)
theorem dX5_rows_94 : decode cX5_rows 94 = .ok (.lstore_n 3, 1) := dk_66 (dk_at dksX5_rows_4 4 rfl rfl)
theorem dX5_rows_95 : decode cX5_rows 95 = .ok (.aload_n 0, 1) := dk_42 (dk_at dksX5_rows_4 5 rfl rfl)
theorem dX5_rows_96 : decode cX5_rows 96 = .ok (.iload 6, 2) := dk_21 6 (dk_at dksX5_rows_4 6 rfl rfl)
theorem dX5_rows_98 : decode cX5_rows 98 = .ok (.iload 5, 2) := dk_21 5 (dk_at dksX5_rows_4 8 rfl rfl)
theorem dX5_rows_100 : decode cX5_rows 100 = .ok (.aload_n 0, 1) := dk_42 (dk_at dksX5_rows_4 10 rfl rfl)
theorem dX5_rows_101 : decode cX5_rows 101 = .ok (.getfield 51, 3) := dk_180 0 51 (dk_at dksX5_rows_4 11 rfl rfl)
theorem dX5_rows_104 : decode cX5_rows 104 = .ok (.iload_n 1, 1) := dk_27 (dk_at dksX5_rows_4 14 rfl rfl)
theorem dX5_rows_105 : decode cX5_rows 105 = .ok (.aaload, 1) := dk_50 (dk_at dksX5_rows_4 15 rfl rfl)
theorem dX5_rows_106 : decode cX5_rows 106 = .ok (.aload_n 0, 1) := dk_42 (dk_at dksX5_rows_4 16 rfl rfl)
theorem dX5_rows_107 : decode cX5_rows 107 = .ok (.iload_n 1, 1) := dk_27 (dk_at dksX5_rows_4 17 rfl rfl)
theorem dX5_rows_108 : decode cX5_rows 108 = .ok (.invokevirtual 137, 3) := dk_182 0 137 (dk_at dksX5_rows_4 18 rfl rfl)
theorem dX5_rows_111 : decode cX5_rows 111 = .ok (.invokevirtual 144, 3) := dk_182 0 144 (dk_at dksX5_rows_4 21 rfl rfl)
theorem dX5_rows_114 : decode cX5_rows 114 = .ok (.istore 6, 2) := dk_54 6 (dk_at dksX5_rows_5 0 rfl rfl)
theorem dX5_rows_116 : decode cX5_rows 116 = .ok (.goto (-41), 3) := dk_167 255 215 (dk_at dksX5_rows_5 2 rfl rfl)
theorem dX5_rows_119 : decode cX5_rows 119 = .ok (.aload_n 0, 1) := dk_42 (dk_at dksX5_rows_5 5 rfl rfl)
theorem dX5_rows_120 : decode cX5_rows 120 = .ok (.getfield 38, 3) := dk_180 0 38 (dk_at dksX5_rows_5 6 rfl rfl)
theorem dX5_rows_123 : decode cX5_rows 123 = .ok (.iload_n 1, 1) := dk_27 (dk_at dksX5_rows_5 9 rfl rfl)
theorem dX5_rows_124 : decode cX5_rows 124 = .ok (.aaload, 1) := dk_50 (dk_at dksX5_rows_5 10 rfl rfl)
theorem dX5_rows_125 : decode cX5_rows 125 = .ok (.iload_n 2, 1) := dk_28 (dk_at dksX5_rows_5 11 rfl rfl)
theorem dX5_rows_126 : decode cX5_rows 126 = .ok (.lload_n 3, 1) := dk_33 (dk_at dksX5_rows_5 12 rfl rfl)
theorem dX5_rows_127 : decode cX5_rows 127 = .ok (.lastore, 1) := dk_80 (dk_at dksX5_rows_5 13 rfl rfl)
theorem dX5_rows_128 : decode cX5_rows 128 = .ok (.lload_n 3, 1) := dk_33 (dk_at dksX5_rows_5 14 rfl rfl)
theorem dX5_rows_129 : decode cX5_rows 129 = .ok (.lreturn, 1) := dk_173 (dk_at dksX5_rows_5 15 rfl rfl)
abbrev cX5_late : ByteArray := prog_14_method_11_code
def yX5_late : MethodName := ⟨RX5, "late", "(I)I"⟩
def dkwX5_late_9 : List UInt8 := [167, 255, 74, 132, 4, 1, 167, 255, 59, 29, 172]
abbrev dktX5_late_9 : List UInt8 := dkwX5_late_9 ++ []
def dkwX5_late_8 : List UInt8 := [180, 0, 51, 21, 4, 50, 42, 21, 4, 182, 0, 137, 182, 0, 144, 54, 7, 167, 255, 170, 132, 5, 1]
abbrev dktX5_late_8 : List UInt8 := dkwX5_late_8 ++ dktX5_late_9
def dkwX5_late_7 : List UInt8 := [21, 7, 27, 184, 0, 67, 153, 0, 8, 21, 4, 167, 0, 4, 29, 62, 42, 21, 7, 21, 6, 42]
abbrev dktX5_late_7 : List UInt8 := dkwX5_late_7 ++ dktX5_late_8
def dkwX5_late_6 : List UInt8 := [28, 162, 0, 6, 167, 0, 35, 42, 180, 0, 43, 21, 4, 4, 96, 50, 21, 5, 21, 7, 128, 4, 84]
abbrev dktX5_late_6 : List UInt8 := dkwX5_late_6 ++ dktX5_late_7
def dkwX5_late_5 : List UInt8 := [21, 7, 2, 159, 0, 86, 21, 4, 4, 96, 42, 21, 4, 4, 96, 21, 5, 21, 7, 128, 182, 0, 148, 96]
abbrev dktX5_late_5 : List UInt8 := dkwX5_late_5 ++ dktX5_late_6
def dkwX5_late_4 : List UInt8 := [54, 6, 42, 3, 21, 6, 42, 180, 0, 51, 21, 4, 50, 42, 21, 4, 182, 0, 137, 182, 0, 144, 54, 7]
abbrev dktX5_late_4 : List UInt8 := dkwX5_late_4 ++ dktX5_late_5
def dkwX5_late_3 : List UInt8 := [167, 0, 137, 42, 21, 4, 21, 5, 42, 21, 4, 182, 0, 137, 42, 180, 0, 51, 21, 4, 50, 182, 0, 140]
abbrev dktX5_late_3 : List UInt8 := dkwX5_late_3 ++ dktX5_late_4
def dkwX5_late_2 : List UInt8 := [21, 4, 50, 21, 5, 51, 153, 0, 155, 21, 4, 42, 21, 4, 21, 5, 182, 0, 148, 96, 28, 162, 0, 6]
abbrev dktX5_late_2 : List UInt8 := dkwX5_late_2 ++ dktX5_late_3
def dkwX5_late_1 : List UInt8 := [162, 0, 197, 3, 54, 5, 21, 5, 4, 42, 180, 0, 3, 182, 0, 54, 120, 162, 0, 174, 42, 180, 0, 43]
abbrev dktX5_late_1 : List UInt8 := dkwX5_late_1 ++ dktX5_late_2
def dkwX5_late_0 : List UInt8 := [42, 3, 3, 182, 0, 148, 61, 2, 62, 42, 180, 0, 43, 3, 50, 3, 4, 84, 3, 54, 4, 21, 4, 28]
abbrev dktX5_late_0 : List UInt8 := dkwX5_late_0 ++ dktX5_late_1
theorem dksX5_late_0 : cX5_late.data.toList.drop 0 = dktX5_late_0 := by decide +kernel
theorem dksX5_late_1 : cX5_late.data.toList.drop 24 = dktX5_late_1 := dk_seg dksX5_late_0 24 rfl rfl
theorem dksX5_late_2 : cX5_late.data.toList.drop 48 = dktX5_late_2 := dk_seg dksX5_late_1 24 rfl rfl
theorem dksX5_late_3 : cX5_late.data.toList.drop 72 = dktX5_late_3 := dk_seg dksX5_late_2 24 rfl rfl
theorem dksX5_late_4 : cX5_late.data.toList.drop 96 = dktX5_late_4 := dk_seg dksX5_late_3 24 rfl rfl
theorem dksX5_late_5 : cX5_late.data.toList.drop 120 = dktX5_late_5 := dk_seg dksX5_late_4 24 rfl rfl
theorem dksX5_late_6 : cX5_late.data.toList.drop 144 = dktX5_late_6 := dk_seg dksX5_late_5 24 rfl rfl
theorem dksX5_late_7 : cX5_late.data.toList.drop 167 = dktX5_late_7 := dk_seg dksX5_late_6 23 rfl rfl
theorem dksX5_late_8 : cX5_late.data.toList.drop 189 = dktX5_late_8 := dk_seg dksX5_late_7 22 rfl rfl
theorem dksX5_late_9 : cX5_late.data.toList.drop 212 = dktX5_late_9 := dk_seg dksX5_late_8 23 rfl rfl
theorem dX5_late_0 : decode cX5_late 0 = .ok (.aload_n 0, 1) := dk_42 (dk_at dksX5_late_0 0 rfl rfl)
theorem dX5_late_1 : decode cX5_late 1 = .ok (.iconst 0, 1) := dk_3 (dk_at dksX5_late_0 1 rfl rfl)
theorem dX5_late_2 : decode cX5_late 2 = .ok (.iconst 0, 1) := dk_3 (dk_at dksX5_late_0 2 rfl rfl)
theorem dX5_late_3 : decode cX5_late 3 = .ok (.invokevirtual 148, 3) := dk_182 0 148 (dk_at dksX5_late_0 3 rfl rfl)
theorem dX5_late_6 : decode cX5_late 6 = .ok (.istore_n 2, 1) := dk_61 (dk_at dksX5_late_0 6 rfl rfl)
theorem dX5_late_7 : decode cX5_late 7 = .ok (.iconst (-1), 1) := dk_2 (dk_at dksX5_late_0 7 rfl rfl)
theorem dX5_late_8 : decode cX5_late 8 = .ok (.istore_n 3, 1) := dk_62 (dk_at dksX5_late_0 8 rfl rfl)
theorem dX5_late_9 : decode cX5_late 9 = .ok (.aload_n 0, 1) := dk_42 (dk_at dksX5_late_0 9 rfl rfl)
theorem dX5_late_10 : decode cX5_late 10 = .ok (.getfield 43, 3) := dk_180 0 43 (dk_at dksX5_late_0 10 rfl rfl)
theorem dX5_late_13 : decode cX5_late 13 = .ok (.iconst 0, 1) := dk_3 (dk_at dksX5_late_0 13 rfl rfl)
theorem dX5_late_14 : decode cX5_late 14 = .ok (.aaload, 1) := dk_50 (dk_at dksX5_late_0 14 rfl rfl)
theorem dX5_late_15 : decode cX5_late 15 = .ok (.iconst 0, 1) := dk_3 (dk_at dksX5_late_0 15 rfl rfl)
theorem dX5_late_16 : decode cX5_late 16 = .ok (.iconst 1, 1) := dk_4 (dk_at dksX5_late_0 16 rfl rfl)
theorem dX5_late_17 : decode cX5_late 17 = .ok (.bastore, 1) := dk_84 (dk_at dksX5_late_0 17 rfl rfl)
theorem dX5_late_18 : decode cX5_late 18 = .ok (.iconst 0, 1) := dk_3 (dk_at dksX5_late_0 18 rfl rfl)
theorem dX5_late_19 : decode cX5_late 19 = .ok (.istore 4, 2) := dk_54 4 (dk_at dksX5_late_0 19 rfl rfl)
theorem dX5_late_21 : decode cX5_late 21 = .ok (.iload 4, 2) := dk_21 4 (dk_at dksX5_late_0 21 rfl rfl)
theorem dX5_late_23 : decode cX5_late 23 = .ok (.iload_n 2, 1) := dk_28 (dk_at dksX5_late_0 23 rfl rfl)
theorem dX5_late_24 : decode cX5_late 24 = .ok (.if_icmp .ge 197, 3) := dk_162 0 197 (dk_at dksX5_late_1 0 rfl rfl)
theorem dX5_late_27 : decode cX5_late 27 = .ok (.iconst 0, 1) := dk_3 (dk_at dksX5_late_1 3 rfl rfl)
theorem dX5_late_28 : decode cX5_late 28 = .ok (.istore 5, 2) := dk_54 5 (dk_at dksX5_late_1 4 rfl rfl)
theorem dX5_late_30 : decode cX5_late 30 = .ok (.iload 5, 2) := dk_21 5 (dk_at dksX5_late_1 6 rfl rfl)
theorem dX5_late_32 : decode cX5_late 32 = .ok (.iconst 1, 1) := dk_4 (dk_at dksX5_late_1 8 rfl rfl)
theorem dX5_late_33 : decode cX5_late 33 = .ok (.aload_n 0, 1) := dk_42 (dk_at dksX5_late_1 9 rfl rfl)
theorem dX5_late_34 : decode cX5_late 34 = .ok (.getfield 3, 3) := dk_180 0 3 (dk_at dksX5_late_1 10 rfl rfl)
theorem dX5_late_37 : decode cX5_late 37 = .ok (.invokevirtual 54, 3) := dk_182 0 54 (dk_at dksX5_late_1 13 rfl rfl)
theorem dX5_late_40 : decode cX5_late 40 = .ok (.ishl, 1) := dk_120 (dk_at dksX5_late_1 16 rfl rfl)
theorem dX5_late_41 : decode cX5_late 41 = .ok (.if_icmp .ge 174, 3) := dk_162 0 174 (dk_at dksX5_late_1 17 rfl rfl)
theorem dX5_late_44 : decode cX5_late 44 = .ok (.aload_n 0, 1) := dk_42 (dk_at dksX5_late_1 20 rfl rfl)
theorem dX5_late_45 : decode cX5_late 45 = .ok (.getfield 43, 3) := dk_180 0 43 (dk_at dksX5_late_1 21 rfl rfl)
theorem dX5_late_48 : decode cX5_late 48 = .ok (.iload 4, 2) := dk_21 4 (dk_at dksX5_late_2 0 rfl rfl)
theorem dX5_late_50 : decode cX5_late 50 = .ok (.aaload, 1) := dk_50 (dk_at dksX5_late_2 2 rfl rfl)
theorem dX5_late_51 : decode cX5_late 51 = .ok (.iload 5, 2) := dk_21 5 (dk_at dksX5_late_2 3 rfl rfl)
theorem dX5_late_53 : decode cX5_late 53 = .ok (.baload, 1) := dk_51 (dk_at dksX5_late_2 5 rfl rfl)
theorem dX5_late_54 : decode cX5_late 54 = .ok (.ifCond .eq 155, 3) := dk_153 0 155 (dk_at dksX5_late_2 6 rfl rfl)
theorem dX5_late_57 : decode cX5_late 57 = .ok (.iload 4, 2) := dk_21 4 (dk_at dksX5_late_2 9 rfl rfl)
theorem dX5_late_59 : decode cX5_late 59 = .ok (.aload_n 0, 1) := dk_42 (dk_at dksX5_late_2 11 rfl rfl)
theorem dX5_late_60 : decode cX5_late 60 = .ok (.iload 4, 2) := dk_21 4 (dk_at dksX5_late_2 12 rfl rfl)
theorem dX5_late_62 : decode cX5_late 62 = .ok (.iload 5, 2) := dk_21 5 (dk_at dksX5_late_2 14 rfl rfl)
theorem dX5_late_64 : decode cX5_late 64 = .ok (.invokevirtual 148, 3) := dk_182 0 148 (dk_at dksX5_late_2 16 rfl rfl)
theorem dX5_late_67 : decode cX5_late 67 = .ok (.iadd, 1) := dk_96 (dk_at dksX5_late_2 19 rfl rfl)
theorem dX5_late_68 : decode cX5_late 68 = .ok (.iload_n 2, 1) := dk_28 (dk_at dksX5_late_2 20 rfl rfl)
theorem dX5_late_69 : decode cX5_late 69 = .ok (.if_icmp .ge 6, 3) := dk_162 0 6 (dk_at dksX5_late_2 21 rfl rfl)
theorem dX5_late_72 : decode cX5_late 72 = .ok (.goto 137, 3) := dk_167 0 137 (dk_at dksX5_late_3 0 rfl rfl)
theorem dX5_late_75 : decode cX5_late 75 = .ok (.aload_n 0, 1) := dk_42 (dk_at dksX5_late_3 3 rfl rfl)
theorem dX5_late_76 : decode cX5_late 76 = .ok (.iload 4, 2) := dk_21 4 (dk_at dksX5_late_3 4 rfl rfl)
theorem dX5_late_78 : decode cX5_late 78 = .ok (.iload 5, 2) := dk_21 5 (dk_at dksX5_late_3 6 rfl rfl)
theorem dX5_late_80 : decode cX5_late 80 = .ok (.aload_n 0, 1) := dk_42 (dk_at dksX5_late_3 8 rfl rfl)
theorem dX5_late_81 : decode cX5_late 81 = .ok (.iload 4, 2) := dk_21 4 (dk_at dksX5_late_3 9 rfl rfl)
theorem dX5_late_83 : decode cX5_late 83 = .ok (.invokevirtual 137, 3) := dk_182 0 137 (dk_at dksX5_late_3 11 rfl rfl)
theorem dX5_late_86 : decode cX5_late 86 = .ok (.aload_n 0, 1) := dk_42 (dk_at dksX5_late_3 14 rfl rfl)
theorem dX5_late_87 : decode cX5_late 87 = .ok (.getfield 51, 3) := dk_180 0 51 (dk_at dksX5_late_3 15 rfl rfl)
theorem dX5_late_90 : decode cX5_late 90 = .ok (.iload 4, 2) := dk_21 4 (dk_at dksX5_late_3 18 rfl rfl)
theorem dX5_late_92 : decode cX5_late 92 = .ok (.aaload, 1) := dk_50 (dk_at dksX5_late_3 20 rfl rfl)
theorem dX5_late_93 : decode cX5_late 93 = .ok (.invokevirtual 140, 3) := dk_182 0 140 (dk_at dksX5_late_3 21 rfl rfl)
theorem dX5_late_96 : decode cX5_late 96 = .ok (.istore 6, 2) := dk_54 6 (dk_at dksX5_late_4 0 rfl rfl)
theorem dX5_late_98 : decode cX5_late 98 = .ok (.aload_n 0, 1) := dk_42 (dk_at dksX5_late_4 2 rfl rfl)
theorem dX5_late_99 : decode cX5_late 99 = .ok (.iconst 0, 1) := dk_3 (dk_at dksX5_late_4 3 rfl rfl)
theorem dX5_late_100 : decode cX5_late 100 = .ok (.iload 6, 2) := dk_21 6 (dk_at dksX5_late_4 4 rfl rfl)
theorem dX5_late_102 : decode cX5_late 102 = .ok (.aload_n 0, 1) := dk_42 (dk_at dksX5_late_4 6 rfl rfl)
theorem dX5_late_103 : decode cX5_late 103 = .ok (.getfield 51, 3) := dk_180 0 51 (dk_at dksX5_late_4 7 rfl rfl)
theorem dX5_late_106 : decode cX5_late 106 = .ok (.iload 4, 2) := dk_21 4 (dk_at dksX5_late_4 10 rfl rfl)
theorem dX5_late_108 : decode cX5_late 108 = .ok (.aaload, 1) := dk_50 (dk_at dksX5_late_4 12 rfl rfl)
theorem dX5_late_109 : decode cX5_late 109 = .ok (.aload_n 0, 1) := dk_42 (dk_at dksX5_late_4 13 rfl rfl)
theorem dX5_late_110 : decode cX5_late 110 = .ok (.iload 4, 2) := dk_21 4 (dk_at dksX5_late_4 14 rfl rfl)
theorem dX5_late_112 : decode cX5_late 112 = .ok (.invokevirtual 137, 3) := dk_182 0 137 (dk_at dksX5_late_4 16 rfl rfl)
theorem dX5_late_115 : decode cX5_late 115 = .ok (.invokevirtual 144, 3) := dk_182 0 144 (dk_at dksX5_late_4 19 rfl rfl)
theorem dX5_late_118 : decode cX5_late 118 = .ok (.istore 7, 2) := dk_54 7 (dk_at dksX5_late_4 22 rfl rfl)
theorem dX5_late_120 : decode cX5_late 120 = .ok (.iload 7, 2) := dk_21 7 (dk_at dksX5_late_5 0 rfl rfl)
theorem dX5_late_122 : decode cX5_late 122 = .ok (.iconst (-1), 1) := dk_2 (dk_at dksX5_late_5 2 rfl rfl)
theorem dX5_late_123 : decode cX5_late 123 = .ok (.if_icmp .eq 86, 3) := dk_159 0 86 (dk_at dksX5_late_5 3 rfl rfl)
theorem dX5_late_126 : decode cX5_late 126 = .ok (.iload 4, 2) := dk_21 4 (dk_at dksX5_late_5 6 rfl rfl)
theorem dX5_late_128 : decode cX5_late 128 = .ok (.iconst 1, 1) := dk_4 (dk_at dksX5_late_5 8 rfl rfl)
theorem dX5_late_129 : decode cX5_late 129 = .ok (.iadd, 1) := dk_96 (dk_at dksX5_late_5 9 rfl rfl)
theorem dX5_late_130 : decode cX5_late 130 = .ok (.aload_n 0, 1) := dk_42 (dk_at dksX5_late_5 10 rfl rfl)
theorem dX5_late_131 : decode cX5_late 131 = .ok (.iload 4, 2) := dk_21 4 (dk_at dksX5_late_5 11 rfl rfl)
theorem dX5_late_133 : decode cX5_late 133 = .ok (.iconst 1, 1) := dk_4 (dk_at dksX5_late_5 13 rfl rfl)
theorem dX5_late_134 : decode cX5_late 134 = .ok (.iadd, 1) := dk_96 (dk_at dksX5_late_5 14 rfl rfl)
theorem dX5_late_135 : decode cX5_late 135 = .ok (.iload 5, 2) := dk_21 5 (dk_at dksX5_late_5 15 rfl rfl)
theorem dX5_late_137 : decode cX5_late 137 = .ok (.iload 7, 2) := dk_21 7 (dk_at dksX5_late_5 17 rfl rfl)
theorem dX5_late_139 : decode cX5_late 139 = .ok (.ior, 1) := dk_128 (dk_at dksX5_late_5 19 rfl rfl)
theorem dX5_late_140 : decode cX5_late 140 = .ok (.invokevirtual 148, 3) := dk_182 0 148 (dk_at dksX5_late_5 20 rfl rfl)
theorem dX5_late_143 : decode cX5_late 143 = .ok (.iadd, 1) := dk_96 (dk_at dksX5_late_5 23 rfl rfl)
theorem dX5_late_144 : decode cX5_late 144 = .ok (.iload_n 2, 1) := dk_28 (dk_at dksX5_late_6 0 rfl rfl)
theorem dX5_late_145 : decode cX5_late 145 = .ok (.if_icmp .ge 6, 3) := dk_162 0 6 (dk_at dksX5_late_6 1 rfl rfl)
theorem dX5_late_148 : decode cX5_late 148 = .ok (.goto 35, 3) := dk_167 0 35 (dk_at dksX5_late_6 4 rfl rfl)
theorem dX5_late_151 : decode cX5_late 151 = .ok (.aload_n 0, 1) := dk_42 (dk_at dksX5_late_6 7 rfl rfl)
theorem dX5_late_152 : decode cX5_late 152 = .ok (.getfield 43, 3) := dk_180 0 43 (dk_at dksX5_late_6 8 rfl rfl)
theorem dX5_late_155 : decode cX5_late 155 = .ok (.iload 4, 2) := dk_21 4 (dk_at dksX5_late_6 11 rfl rfl)
theorem dX5_late_157 : decode cX5_late 157 = .ok (.iconst 1, 1) := dk_4 (dk_at dksX5_late_6 13 rfl rfl)
theorem dX5_late_158 : decode cX5_late 158 = .ok (.iadd, 1) := dk_96 (dk_at dksX5_late_6 14 rfl rfl)
theorem dX5_late_159 : decode cX5_late 159 = .ok (.aaload, 1) := dk_50 (dk_at dksX5_late_6 15 rfl rfl)
theorem dX5_late_160 : decode cX5_late 160 = .ok (.iload 5, 2) := dk_21 5 (dk_at dksX5_late_6 16 rfl rfl)
theorem dX5_late_162 : decode cX5_late 162 = .ok (.iload 7, 2) := dk_21 7 (dk_at dksX5_late_6 18 rfl rfl)
theorem dX5_late_164 : decode cX5_late 164 = .ok (.ior, 1) := dk_128 (dk_at dksX5_late_6 20 rfl rfl)
theorem dX5_late_165 : decode cX5_late 165 = .ok (.iconst 1, 1) := dk_4 (dk_at dksX5_late_6 21 rfl rfl)
theorem dX5_late_166 : decode cX5_late 166 = .ok (.bastore, 1) := dk_84 (dk_at dksX5_late_6 22 rfl rfl)
theorem dX5_late_167 : decode cX5_late 167 = .ok (.iload 7, 2) := dk_21 7 (dk_at dksX5_late_7 0 rfl rfl)
theorem dX5_late_169 : decode cX5_late 169 = .ok (.iload_n 1, 1) := dk_27 (dk_at dksX5_late_7 2 rfl rfl)
theorem dX5_late_170 : decode cX5_late 170 = .ok (.invokestatic 67, 3) := dk_184 0 67 (dk_at dksX5_late_7 3 rfl rfl)
theorem dX5_late_173 : decode cX5_late 173 = .ok (.ifCond .eq 8, 3) := dk_153 0 8 (dk_at dksX5_late_7 6 rfl rfl)
theorem dX5_late_176 : decode cX5_late 176 = .ok (.iload 4, 2) := dk_21 4 (dk_at dksX5_late_7 9 rfl rfl)
theorem dX5_late_178 : decode cX5_late 178 = .ok (.goto 4, 3) := dk_167 0 4 (dk_at dksX5_late_7 11 rfl rfl)
theorem dX5_late_181 : decode cX5_late 181 = .ok (.iload_n 3, 1) := dk_29 (dk_at dksX5_late_7 14 rfl rfl)
theorem dX5_late_182 : decode cX5_late 182 = .ok (.istore_n 3, 1) := dk_62 (dk_at dksX5_late_7 15 rfl rfl)
theorem dX5_late_183 : decode cX5_late 183 = .ok (.aload_n 0, 1) := dk_42 (dk_at dksX5_late_7 16 rfl rfl)
theorem dX5_late_184 : decode cX5_late 184 = .ok (.iload 7, 2) := dk_21 7 (dk_at dksX5_late_7 17 rfl rfl)
theorem dX5_late_186 : decode cX5_late 186 = .ok (.iload 6, 2) := dk_21 6 (dk_at dksX5_late_7 19 rfl rfl)
theorem dX5_late_188 : decode cX5_late 188 = .ok (.aload_n 0, 1) := dk_42 (dk_at dksX5_late_7 21 rfl rfl)
theorem dX5_late_189 : decode cX5_late 189 = .ok (.getfield 51, 3) := dk_180 0 51 (dk_at dksX5_late_8 0 rfl rfl)
theorem dX5_late_192 : decode cX5_late 192 = .ok (.iload 4, 2) := dk_21 4 (dk_at dksX5_late_8 3 rfl rfl)
theorem dX5_late_194 : decode cX5_late 194 = .ok (.aaload, 1) := dk_50 (dk_at dksX5_late_8 5 rfl rfl)
theorem dX5_late_195 : decode cX5_late 195 = .ok (.aload_n 0, 1) := dk_42 (dk_at dksX5_late_8 6 rfl rfl)
theorem dX5_late_196 : decode cX5_late 196 = .ok (.iload 4, 2) := dk_21 4 (dk_at dksX5_late_8 7 rfl rfl)
theorem dX5_late_198 : decode cX5_late 198 = .ok (.invokevirtual 137, 3) := dk_182 0 137 (dk_at dksX5_late_8 9 rfl rfl)
theorem dX5_late_201 : decode cX5_late 201 = .ok (.invokevirtual 144, 3) := dk_182 0 144 (dk_at dksX5_late_8 12 rfl rfl)
theorem dX5_late_204 : decode cX5_late 204 = .ok (.istore 7, 2) := dk_54 7 (dk_at dksX5_late_8 15 rfl rfl)
theorem dX5_late_206 : decode cX5_late 206 = .ok (.goto (-86), 3) := dk_167 255 170 (dk_at dksX5_late_8 17 rfl rfl)
theorem dX5_late_209 : decode cX5_late 209 = .ok (.iinc 5 1, 3) := dk_132 5 1 (dk_at dksX5_late_8 20 rfl rfl)
theorem dX5_late_212 : decode cX5_late 212 = .ok (.goto (-182), 3) := dk_167 255 74 (dk_at dksX5_late_9 0 rfl rfl)
theorem dX5_late_215 : decode cX5_late 215 = .ok (.iinc 4 1, 3) := dk_132 4 1 (dk_at dksX5_late_9 3 rfl rfl)
theorem dX5_late_218 : decode cX5_late 218 = .ok (.goto (-197), 3) := dk_167 255 59 (dk_at dksX5_late_9 6 rfl rfl)
theorem dX5_late_221 : decode cX5_late 221 = .ok (.iload_n 3, 1) := dk_29 (dk_at dksX5_late_9 9 rfl rfl)
theorem dX5_late_222 : decode cX5_late 222 = .ok (.ireturn, 1) := dk_172 (dk_at dksX5_late_9 10 rfl rfl)
abbrev cX5_turns : ByteArray := prog_14_method_13_code
def yX5_turns : MethodName := ⟨RX5, "turns", "(III)I"⟩
def dkwX5_turns_6 : List UInt8 := [54, 7, 167, 255, 192, 42, 180, 0, 48, 27, 50, 21, 4, 21, 5, 145, 84, 21, 5, 172]
abbrev dktX5_turns_6 : List UInt8 := dkwX5_turns_6 ++ []
def dkwX5_turns_5 : List UInt8 := [184, 0, 150, 54, 5, 42, 21, 7, 21, 6, 42, 180, 0, 51, 27, 50, 42, 27, 182, 0, 137, 182, 0, 144]
abbrev dktX5_turns_5 : List UInt8 := dkwX5_turns_5 ++ dktX5_turns_6
def dkwX5_turns_4 : List UInt8 := [154, 0, 29, 21, 5, 4, 42, 27, 4, 96, 28, 21, 7, 128, 42, 21, 7, 182, 0, 179, 182, 0, 182, 96]
abbrev dktX5_turns_4 : List UInt8 := dkwX5_turns_4 ++ dktX5_turns_5
def dkwX5_turns_3 : List UInt8 := [42, 27, 182, 0, 137, 182, 0, 144, 54, 7, 21, 7, 2, 159, 0, 64, 42, 21, 7, 182, 0, 179, 29, 126]
abbrev dktX5_turns_3 : List UInt8 := dkwX5_turns_3 ++ dktX5_turns_4
def dkwX5_turns_2 : List UInt8 := [182, 0, 137, 42, 180, 0, 51, 27, 50, 182, 0, 140, 54, 6, 42, 3, 21, 6, 42, 180, 0, 51, 27, 50]
abbrev dktX5_turns_2 : List UInt8 := dkwX5_turns_2 ++ dktX5_turns_3
def dkwX5_turns_1 : List UInt8 := [2, 159, 0, 13, 42, 180, 0, 48, 27, 50, 21, 4, 51, 172, 3, 54, 5, 42, 27, 28, 42, 27]
abbrev dktX5_turns_1 : List UInt8 := dkwX5_turns_1 ++ dktX5_turns_2
def dkwX5_turns_0 : List UInt8 := [27, 16, 10, 160, 0, 5, 3, 172, 28, 7, 120, 29, 128, 54, 4, 42, 180, 0, 48, 27, 50, 21, 4, 51]
abbrev dktX5_turns_0 : List UInt8 := dkwX5_turns_0 ++ dktX5_turns_1
theorem dksX5_turns_0 : cX5_turns.data.toList.drop 0 = dktX5_turns_0 := by decide +kernel
theorem dksX5_turns_1 : cX5_turns.data.toList.drop 24 = dktX5_turns_1 := dk_seg dksX5_turns_0 24 rfl rfl
theorem dksX5_turns_2 : cX5_turns.data.toList.drop 46 = dktX5_turns_2 := dk_seg dksX5_turns_1 22 rfl rfl
theorem dksX5_turns_3 : cX5_turns.data.toList.drop 70 = dktX5_turns_3 := dk_seg dksX5_turns_2 24 rfl rfl
theorem dksX5_turns_4 : cX5_turns.data.toList.drop 94 = dktX5_turns_4 := dk_seg dksX5_turns_3 24 rfl rfl
theorem dksX5_turns_5 : cX5_turns.data.toList.drop 118 = dktX5_turns_5 := dk_seg dksX5_turns_4 24 rfl rfl
theorem dksX5_turns_6 : cX5_turns.data.toList.drop 142 = dktX5_turns_6 := dk_seg dksX5_turns_5 24 rfl rfl
theorem dX5_turns_0 : decode cX5_turns 0 = .ok (.iload_n 1, 1) := dk_27 (dk_at dksX5_turns_0 0 rfl rfl)
theorem dX5_turns_1 : decode cX5_turns 1 = .ok (.bipush 10, 2) := dk_16 10 (dk_at dksX5_turns_0 1 rfl rfl)
theorem dX5_turns_3 : decode cX5_turns 3 = .ok (.if_icmp .ne 5, 3) := dk_160 0 5 (dk_at dksX5_turns_0 3 rfl rfl)
theorem dX5_turns_6 : decode cX5_turns 6 = .ok (.iconst 0, 1) := dk_3 (dk_at dksX5_turns_0 6 rfl rfl)
theorem dX5_turns_7 : decode cX5_turns 7 = .ok (.ireturn, 1) := dk_172 (dk_at dksX5_turns_0 7 rfl rfl)
theorem dX5_turns_8 : decode cX5_turns 8 = .ok (.iload_n 2, 1) := dk_28 (dk_at dksX5_turns_0 8 rfl rfl)
theorem dX5_turns_9 : decode cX5_turns 9 = .ok (.iconst 4, 1) := dk_7 (dk_at dksX5_turns_0 9 rfl rfl)
theorem dX5_turns_10 : decode cX5_turns 10 = .ok (.ishl, 1) := dk_120 (dk_at dksX5_turns_0 10 rfl rfl)
theorem dX5_turns_11 : decode cX5_turns 11 = .ok (.iload_n 3, 1) := dk_29 (dk_at dksX5_turns_0 11 rfl rfl)
theorem dX5_turns_12 : decode cX5_turns 12 = .ok (.ior, 1) := dk_128 (dk_at dksX5_turns_0 12 rfl rfl)
theorem dX5_turns_13 : decode cX5_turns 13 = .ok (.istore 4, 2) := dk_54 4 (dk_at dksX5_turns_0 13 rfl rfl)
theorem dX5_turns_15 : decode cX5_turns 15 = .ok (.aload_n 0, 1) := dk_42 (dk_at dksX5_turns_0 15 rfl rfl)
theorem dX5_turns_16 : decode cX5_turns 16 = .ok (.getfield 48, 3) := dk_180 0 48 (dk_at dksX5_turns_0 16 rfl rfl)
theorem dX5_turns_19 : decode cX5_turns 19 = .ok (.iload_n 1, 1) := dk_27 (dk_at dksX5_turns_0 19 rfl rfl)
theorem dX5_turns_20 : decode cX5_turns 20 = .ok (.aaload, 1) := dk_50 (dk_at dksX5_turns_0 20 rfl rfl)
theorem dX5_turns_21 : decode cX5_turns 21 = .ok (.iload 4, 2) := dk_21 4 (dk_at dksX5_turns_0 21 rfl rfl)
theorem dX5_turns_23 : decode cX5_turns 23 = .ok (.baload, 1) := dk_51 (dk_at dksX5_turns_0 23 rfl rfl)
theorem dX5_turns_24 : decode cX5_turns 24 = .ok (.iconst (-1), 1) := dk_2 (dk_at dksX5_turns_1 0 rfl rfl)
theorem dX5_turns_25 : decode cX5_turns 25 = .ok (.if_icmp .eq 13, 3) := dk_159 0 13 (dk_at dksX5_turns_1 1 rfl rfl)
theorem dX5_turns_28 : decode cX5_turns 28 = .ok (.aload_n 0, 1) := dk_42 (dk_at dksX5_turns_1 4 rfl rfl)
theorem dX5_turns_29 : decode cX5_turns 29 = .ok (.getfield 48, 3) := dk_180 0 48 (dk_at dksX5_turns_1 5 rfl rfl)
theorem dX5_turns_32 : decode cX5_turns 32 = .ok (.iload_n 1, 1) := dk_27 (dk_at dksX5_turns_1 8 rfl rfl)
theorem dX5_turns_33 : decode cX5_turns 33 = .ok (.aaload, 1) := dk_50 (dk_at dksX5_turns_1 9 rfl rfl)
theorem dX5_turns_34 : decode cX5_turns 34 = .ok (.iload 4, 2) := dk_21 4 (dk_at dksX5_turns_1 10 rfl rfl)
theorem dX5_turns_36 : decode cX5_turns 36 = .ok (.baload, 1) := dk_51 (dk_at dksX5_turns_1 12 rfl rfl)
theorem dX5_turns_37 : decode cX5_turns 37 = .ok (.ireturn, 1) := dk_172 (dk_at dksX5_turns_1 13 rfl rfl)
theorem dX5_turns_38 : decode cX5_turns 38 = .ok (.iconst 0, 1) := dk_3 (dk_at dksX5_turns_1 14 rfl rfl)
theorem dX5_turns_39 : decode cX5_turns 39 = .ok (.istore 5, 2) := dk_54 5 (dk_at dksX5_turns_1 15 rfl rfl)
theorem dX5_turns_41 : decode cX5_turns 41 = .ok (.aload_n 0, 1) := dk_42 (dk_at dksX5_turns_1 17 rfl rfl)
theorem dX5_turns_42 : decode cX5_turns 42 = .ok (.iload_n 1, 1) := dk_27 (dk_at dksX5_turns_1 18 rfl rfl)
theorem dX5_turns_43 : decode cX5_turns 43 = .ok (.iload_n 2, 1) := dk_28 (dk_at dksX5_turns_1 19 rfl rfl)
theorem dX5_turns_44 : decode cX5_turns 44 = .ok (.aload_n 0, 1) := dk_42 (dk_at dksX5_turns_1 20 rfl rfl)
theorem dX5_turns_45 : decode cX5_turns 45 = .ok (.iload_n 1, 1) := dk_27 (dk_at dksX5_turns_1 21 rfl rfl)
theorem dX5_turns_46 : decode cX5_turns 46 = .ok (.invokevirtual 137, 3) := dk_182 0 137 (dk_at dksX5_turns_2 0 rfl rfl)
theorem dX5_turns_49 : decode cX5_turns 49 = .ok (.aload_n 0, 1) := dk_42 (dk_at dksX5_turns_2 3 rfl rfl)
theorem dX5_turns_50 : decode cX5_turns 50 = .ok (.getfield 51, 3) := dk_180 0 51 (dk_at dksX5_turns_2 4 rfl rfl)
theorem dX5_turns_53 : decode cX5_turns 53 = .ok (.iload_n 1, 1) := dk_27 (dk_at dksX5_turns_2 7 rfl rfl)
theorem dX5_turns_54 : decode cX5_turns 54 = .ok (.aaload, 1) := dk_50 (dk_at dksX5_turns_2 8 rfl rfl)
theorem dX5_turns_55 : decode cX5_turns 55 = .ok (.invokevirtual 140, 3) := dk_182 0 140 (dk_at dksX5_turns_2 9 rfl rfl)
theorem dX5_turns_58 : decode cX5_turns 58 = .ok (.istore 6, 2) := dk_54 6 (dk_at dksX5_turns_2 12 rfl rfl)
theorem dX5_turns_60 : decode cX5_turns 60 = .ok (.aload_n 0, 1) := dk_42 (dk_at dksX5_turns_2 14 rfl rfl)
theorem dX5_turns_61 : decode cX5_turns 61 = .ok (.iconst 0, 1) := dk_3 (dk_at dksX5_turns_2 15 rfl rfl)
theorem dX5_turns_62 : decode cX5_turns 62 = .ok (.iload 6, 2) := dk_21 6 (dk_at dksX5_turns_2 16 rfl rfl)
theorem dX5_turns_64 : decode cX5_turns 64 = .ok (.aload_n 0, 1) := dk_42 (dk_at dksX5_turns_2 18 rfl rfl)
theorem dX5_turns_65 : decode cX5_turns 65 = .ok (.getfield 51, 3) := dk_180 0 51 (dk_at dksX5_turns_2 19 rfl rfl)
theorem dX5_turns_68 : decode cX5_turns 68 = .ok (.iload_n 1, 1) := dk_27 (dk_at dksX5_turns_2 22 rfl rfl)
theorem dX5_turns_69 : decode cX5_turns 69 = .ok (.aaload, 1) := dk_50 (dk_at dksX5_turns_2 23 rfl rfl)
theorem dX5_turns_70 : decode cX5_turns 70 = .ok (.aload_n 0, 1) := dk_42 (dk_at dksX5_turns_3 0 rfl rfl)
theorem dX5_turns_71 : decode cX5_turns 71 = .ok (.iload_n 1, 1) := dk_27 (dk_at dksX5_turns_3 1 rfl rfl)
theorem dX5_turns_72 : decode cX5_turns 72 = .ok (.invokevirtual 137, 3) := dk_182 0 137 (dk_at dksX5_turns_3 2 rfl rfl)
theorem dX5_turns_75 : decode cX5_turns 75 = .ok (.invokevirtual 144, 3) := dk_182 0 144 (dk_at dksX5_turns_3 5 rfl rfl)
theorem dX5_turns_78 : decode cX5_turns 78 = .ok (.istore 7, 2) := dk_54 7 (dk_at dksX5_turns_3 8 rfl rfl)
theorem dX5_turns_80 : decode cX5_turns 80 = .ok (.iload 7, 2) := dk_21 7 (dk_at dksX5_turns_3 10 rfl rfl)
theorem dX5_turns_82 : decode cX5_turns 82 = .ok (.iconst (-1), 1) := dk_2 (dk_at dksX5_turns_3 12 rfl rfl)
theorem dX5_turns_83 : decode cX5_turns 83 = .ok (.if_icmp .eq 64, 3) := dk_159 0 64 (dk_at dksX5_turns_3 13 rfl rfl)
theorem dX5_turns_86 : decode cX5_turns 86 = .ok (.aload_n 0, 1) := dk_42 (dk_at dksX5_turns_3 16 rfl rfl)
theorem dX5_turns_87 : decode cX5_turns 87 = .ok (.iload 7, 2) := dk_21 7 (dk_at dksX5_turns_3 17 rfl rfl)
theorem dX5_turns_89 : decode cX5_turns 89 = .ok (.invokevirtual 179, 3) := dk_182 0 179 (dk_at dksX5_turns_3 19 rfl rfl)
theorem dX5_turns_92 : decode cX5_turns 92 = .ok (.iload_n 3, 1) := dk_29 (dk_at dksX5_turns_3 22 rfl rfl)
theorem dX5_turns_93 : decode cX5_turns 93 = .ok (.iand, 1) := dk_126 (dk_at dksX5_turns_3 23 rfl rfl)
theorem dX5_turns_94 : decode cX5_turns 94 = .ok (.ifCond .ne 29, 3) := dk_154 0 29 (dk_at dksX5_turns_4 0 rfl rfl)
theorem dX5_turns_97 : decode cX5_turns 97 = .ok (.iload 5, 2) := dk_21 5 (dk_at dksX5_turns_4 3 rfl rfl)
theorem dX5_turns_99 : decode cX5_turns 99 = .ok (.iconst 1, 1) := dk_4 (dk_at dksX5_turns_4 5 rfl rfl)
theorem dX5_turns_100 : decode cX5_turns 100 = .ok (.aload_n 0, 1) := dk_42 (dk_at dksX5_turns_4 6 rfl rfl)
theorem dX5_turns_101 : decode cX5_turns 101 = .ok (.iload_n 1, 1) := dk_27 (dk_at dksX5_turns_4 7 rfl rfl)
theorem dX5_turns_102 : decode cX5_turns 102 = .ok (.iconst 1, 1) := dk_4 (dk_at dksX5_turns_4 8 rfl rfl)
theorem dX5_turns_103 : decode cX5_turns 103 = .ok (.iadd, 1) := dk_96 (dk_at dksX5_turns_4 9 rfl rfl)
theorem dX5_turns_104 : decode cX5_turns 104 = .ok (.iload_n 2, 1) := dk_28 (dk_at dksX5_turns_4 10 rfl rfl)
theorem dX5_turns_105 : decode cX5_turns 105 = .ok (.iload 7, 2) := dk_21 7 (dk_at dksX5_turns_4 11 rfl rfl)
theorem dX5_turns_107 : decode cX5_turns 107 = .ok (.ior, 1) := dk_128 (dk_at dksX5_turns_4 13 rfl rfl)
theorem dX5_turns_108 : decode cX5_turns 108 = .ok (.aload_n 0, 1) := dk_42 (dk_at dksX5_turns_4 14 rfl rfl)
theorem dX5_turns_109 : decode cX5_turns 109 = .ok (.iload 7, 2) := dk_21 7 (dk_at dksX5_turns_4 15 rfl rfl)
theorem dX5_turns_111 : decode cX5_turns 111 = .ok (.invokevirtual 179, 3) := dk_182 0 179 (dk_at dksX5_turns_4 17 rfl rfl)
theorem dX5_turns_114 : decode cX5_turns 114 = .ok (.invokevirtual 182, 3) := dk_182 0 182 (dk_at dksX5_turns_4 20 rfl rfl)
theorem dX5_turns_117 : decode cX5_turns 117 = .ok (.iadd, 1) := dk_96 (dk_at dksX5_turns_4 23 rfl rfl)
theorem dX5_turns_118 : decode cX5_turns 118 = .ok (.invokestatic 150, 3) := dk_184 0 150 (dk_at dksX5_turns_5 0 rfl rfl)
theorem dX5_turns_121 : decode cX5_turns 121 = .ok (.istore 5, 2) := dk_54 5 (dk_at dksX5_turns_5 3 rfl rfl)
theorem dX5_turns_123 : decode cX5_turns 123 = .ok (.aload_n 0, 1) := dk_42 (dk_at dksX5_turns_5 5 rfl rfl)
theorem dX5_turns_124 : decode cX5_turns 124 = .ok (.iload 7, 2) := dk_21 7 (dk_at dksX5_turns_5 6 rfl rfl)
theorem dX5_turns_126 : decode cX5_turns 126 = .ok (.iload 6, 2) := dk_21 6 (dk_at dksX5_turns_5 8 rfl rfl)
theorem dX5_turns_128 : decode cX5_turns 128 = .ok (.aload_n 0, 1) := dk_42 (dk_at dksX5_turns_5 10 rfl rfl)
theorem dX5_turns_129 : decode cX5_turns 129 = .ok (.getfield 51, 3) := dk_180 0 51 (dk_at dksX5_turns_5 11 rfl rfl)
theorem dX5_turns_132 : decode cX5_turns 132 = .ok (.iload_n 1, 1) := dk_27 (dk_at dksX5_turns_5 14 rfl rfl)
theorem dX5_turns_133 : decode cX5_turns 133 = .ok (.aaload, 1) := dk_50 (dk_at dksX5_turns_5 15 rfl rfl)
theorem dX5_turns_134 : decode cX5_turns 134 = .ok (.aload_n 0, 1) := dk_42 (dk_at dksX5_turns_5 16 rfl rfl)
theorem dX5_turns_135 : decode cX5_turns 135 = .ok (.iload_n 1, 1) := dk_27 (dk_at dksX5_turns_5 17 rfl rfl)
theorem dX5_turns_136 : decode cX5_turns 136 = .ok (.invokevirtual 137, 3) := dk_182 0 137 (dk_at dksX5_turns_5 18 rfl rfl)
theorem dX5_turns_139 : decode cX5_turns 139 = .ok (.invokevirtual 144, 3) := dk_182 0 144 (dk_at dksX5_turns_5 21 rfl rfl)
theorem dX5_turns_142 : decode cX5_turns 142 = .ok (.istore 7, 2) := dk_54 7 (dk_at dksX5_turns_6 0 rfl rfl)
theorem dX5_turns_144 : decode cX5_turns 144 = .ok (.goto (-64), 3) := dk_167 255 192 (dk_at dksX5_turns_6 2 rfl rfl)
theorem dX5_turns_147 : decode cX5_turns 147 = .ok (.aload_n 0, 1) := dk_42 (dk_at dksX5_turns_6 5 rfl rfl)
theorem dX5_turns_148 : decode cX5_turns 148 = .ok (.getfield 48, 3) := dk_180 0 48 (dk_at dksX5_turns_6 6 rfl rfl)
theorem dX5_turns_151 : decode cX5_turns 151 = .ok (.iload_n 1, 1) := dk_27 (dk_at dksX5_turns_6 9 rfl rfl)
theorem dX5_turns_152 : decode cX5_turns 152 = .ok (.aaload, 1) := dk_50 (dk_at dksX5_turns_6 10 rfl rfl)
theorem dX5_turns_153 : decode cX5_turns 153 = .ok (.iload 4, 2) := dk_21 4 (dk_at dksX5_turns_6 11 rfl rfl)
theorem dX5_turns_155 : decode cX5_turns 155 = .ok (.iload 5, 2) := dk_21 5 (dk_at dksX5_turns_6 13 rfl rfl)
theorem dX5_turns_157 : decode cX5_turns 157 = .ok (.i2b, 1) := dk_145 (dk_at dksX5_turns_6 15 rfl rfl)
theorem dX5_turns_158 : decode cX5_turns 158 = .ok (.bastore, 1) := dk_84 (dk_at dksX5_turns_6 16 rfl rfl)
theorem dX5_turns_159 : decode cX5_turns 159 = .ok (.iload 5, 2) := dk_21 5 (dk_at dksX5_turns_6 17 rfl rfl)
theorem dX5_turns_161 : decode cX5_turns 161 = .ok (.ireturn, 1) := dk_172 (dk_at dksX5_turns_6 19 rfl rfl)
abbrev cX5_lands : ByteArray := prog_14_method_12_code
def yX5_lands : MethodName := ⟨RX5, "lands", "(I)I"⟩
def dkwX5_lands_2 : List UInt8 := [167, 0, 4, 3, 128, 61, 132, 3, 1, 167, 255, 205, 28, 172]
abbrev dktX5_lands_2 : List UInt8 := dkwX5_lands_2 ++ []
def dkwX5_lands_1 : List UInt8 := [4, 42, 180, 0, 3, 180, 0, 86, 180, 0, 164, 29, 182, 0, 168, 192, 0, 174, 180, 0, 176, 120]
abbrev dktX5_lands_1 : List UInt8 := dkwX5_lands_1 ++ dktX5_lands_2
def dkwX5_lands_0 : List UInt8 := [3, 61, 3, 62, 29, 42, 180, 0, 3, 182, 0, 54, 162, 0, 46, 28, 27, 29, 184, 0, 67, 153, 0, 28]
abbrev dktX5_lands_0 : List UInt8 := dkwX5_lands_0 ++ dktX5_lands_1
theorem dksX5_lands_0 : cX5_lands.data.toList.drop 0 = dktX5_lands_0 := by decide +kernel
theorem dksX5_lands_1 : cX5_lands.data.toList.drop 24 = dktX5_lands_1 := dk_seg dksX5_lands_0 24 rfl rfl
theorem dksX5_lands_2 : cX5_lands.data.toList.drop 46 = dktX5_lands_2 := dk_seg dksX5_lands_1 22 rfl rfl
theorem dX5_lands_0 : decode cX5_lands 0 = .ok (.iconst 0, 1) := dk_3 (dk_at dksX5_lands_0 0 rfl rfl)
theorem dX5_lands_1 : decode cX5_lands 1 = .ok (.istore_n 2, 1) := dk_61 (dk_at dksX5_lands_0 1 rfl rfl)
theorem dX5_lands_2 : decode cX5_lands 2 = .ok (.iconst 0, 1) := dk_3 (dk_at dksX5_lands_0 2 rfl rfl)
theorem dX5_lands_3 : decode cX5_lands 3 = .ok (.istore_n 3, 1) := dk_62 (dk_at dksX5_lands_0 3 rfl rfl)
theorem dX5_lands_4 : decode cX5_lands 4 = .ok (.iload_n 3, 1) := dk_29 (dk_at dksX5_lands_0 4 rfl rfl)
theorem dX5_lands_5 : decode cX5_lands 5 = .ok (.aload_n 0, 1) := dk_42 (dk_at dksX5_lands_0 5 rfl rfl)
theorem dX5_lands_6 : decode cX5_lands 6 = .ok (.getfield 3, 3) := dk_180 0 3 (dk_at dksX5_lands_0 6 rfl rfl)
theorem dX5_lands_9 : decode cX5_lands 9 = .ok (.invokevirtual 54, 3) := dk_182 0 54 (dk_at dksX5_lands_0 9 rfl rfl)
theorem dX5_lands_12 : decode cX5_lands 12 = .ok (.if_icmp .ge 46, 3) := dk_162 0 46 (dk_at dksX5_lands_0 12 rfl rfl)
theorem dX5_lands_15 : decode cX5_lands 15 = .ok (.iload_n 2, 1) := dk_28 (dk_at dksX5_lands_0 15 rfl rfl)
theorem dX5_lands_16 : decode cX5_lands 16 = .ok (.iload_n 1, 1) := dk_27 (dk_at dksX5_lands_0 16 rfl rfl)
theorem dX5_lands_17 : decode cX5_lands 17 = .ok (.iload_n 3, 1) := dk_29 (dk_at dksX5_lands_0 17 rfl rfl)
theorem dX5_lands_18 : decode cX5_lands 18 = .ok (.invokestatic 67, 3) := dk_184 0 67 (dk_at dksX5_lands_0 18 rfl rfl)
theorem dX5_lands_21 : decode cX5_lands 21 = .ok (.ifCond .eq 28, 3) := dk_153 0 28 (dk_at dksX5_lands_0 21 rfl rfl)
theorem dX5_lands_24 : decode cX5_lands 24 = .ok (.iconst 1, 1) := dk_4 (dk_at dksX5_lands_1 0 rfl rfl)
theorem dX5_lands_25 : decode cX5_lands 25 = .ok (.aload_n 0, 1) := dk_42 (dk_at dksX5_lands_1 1 rfl rfl)
theorem dX5_lands_26 : decode cX5_lands 26 = .ok (.getfield 3, 3) := dk_180 0 3 (dk_at dksX5_lands_1 2 rfl rfl)
theorem dX5_lands_29 : decode cX5_lands 29 = .ok (.getfield 86, 3) := dk_180 0 86 (dk_at dksX5_lands_1 5 rfl rfl)
theorem dX5_lands_32 : decode cX5_lands 32 = .ok (.getfield 164, 3) := dk_180 0 164 (dk_at dksX5_lands_1 8 rfl rfl)
theorem dX5_lands_35 : decode cX5_lands 35 = .ok (.iload_n 3, 1) := dk_29 (dk_at dksX5_lands_1 11 rfl rfl)
theorem dX5_lands_36 : decode cX5_lands 36 = .ok (.invokevirtual 168, 3) := dk_182 0 168 (dk_at dksX5_lands_1 12 rfl rfl)
theorem dX5_lands_39 : decode cX5_lands 39 = .ok (.checkcast 174, 3) := dk_192 0 174 (dk_at dksX5_lands_1 15 rfl rfl)
theorem dX5_lands_42 : decode cX5_lands 42 = .ok (.getfield 176, 3) := dk_180 0 176 (dk_at dksX5_lands_1 18 rfl rfl)
theorem dX5_lands_45 : decode cX5_lands 45 = .ok (.ishl, 1) := dk_120 (dk_at dksX5_lands_1 21 rfl rfl)
theorem dX5_lands_46 : decode cX5_lands 46 = .ok (.goto 4, 3) := dk_167 0 4 (dk_at dksX5_lands_2 0 rfl rfl)
theorem dX5_lands_49 : decode cX5_lands 49 = .ok (.iconst 0, 1) := dk_3 (dk_at dksX5_lands_2 3 rfl rfl)
theorem dX5_lands_50 : decode cX5_lands 50 = .ok (.ior, 1) := dk_128 (dk_at dksX5_lands_2 4 rfl rfl)
theorem dX5_lands_51 : decode cX5_lands 51 = .ok (.istore_n 2, 1) := dk_61 (dk_at dksX5_lands_2 5 rfl rfl)
theorem dX5_lands_52 : decode cX5_lands 52 = .ok (.iinc 3 1, 3) := dk_132 3 1 (dk_at dksX5_lands_2 6 rfl rfl)
theorem dX5_lands_55 : decode cX5_lands 55 = .ok (.goto (-51), 3) := dk_167 255 205 (dk_at dksX5_lands_2 9 rfl rfl)
theorem dX5_lands_58 : decode cX5_lands 58 = .ok (.iload_n 2, 1) := dk_28 (dk_at dksX5_lands_2 12 rfl rfl)
theorem dX5_lands_59 : decode cX5_lands 59 = .ok (.ireturn, 1) := dk_172 (dk_at dksX5_lands_2 13 rfl rfl)
abbrev cX5_turnOf : ByteArray := prog_14_method_14_code
def yX5_turnOf : MethodName := ⟨RX5, "turnOf", "(I)I"⟩
def dkwX5_turnOf_6 : List UInt8 := [182, 0, 179, 62, 132, 5, 1, 167, 255, 119, 21, 4, 172]
abbrev dktX5_turnOf_6 : List UInt8 := dkwX5_turnOf_6 ++ []
def dkwX5_turnOf_5 : List UInt8 := [42, 21, 5, 182, 0, 137, 182, 0, 144, 54, 4, 167, 255, 197, 28, 21, 4, 128, 61, 42, 21, 4]
abbrev dktX5_turnOf_5 : List UInt8 := dkwX5_turnOf_5 ++ dktX5_turnOf_6
def dkwX5_turnOf_4 : List UInt8 := [182, 0, 179, 182, 0, 182, 96, 21, 6, 159, 0, 29, 42, 21, 4, 21, 7, 42, 180, 0, 51, 21, 5, 50]
abbrev dktX5_turnOf_4 : List UInt8 := dkwX5_turnOf_4 ++ dktX5_turnOf_5
def dkwX5_turnOf_3 : List UInt8 := [21, 4, 182, 0, 179, 29, 126, 154, 0, 28, 4, 42, 21, 5, 4, 96, 28, 21, 4, 128, 42, 21, 4]
abbrev dktX5_turnOf_3 : List UInt8 := dkwX5_turnOf_3 ++ dktX5_turnOf_4
def dkwX5_turnOf_2 : List UInt8 := [42, 3, 21, 7, 42, 180, 0, 51, 21, 5, 50, 42, 21, 5, 182, 0, 137, 182, 0, 144, 54, 4, 42]
abbrev dktX5_turnOf_2 : List UInt8 := dkwX5_turnOf_2 ++ dktX5_turnOf_3
def dkwX5_turnOf_1 : List UInt8 := [54, 6, 42, 21, 5, 28, 42, 21, 5, 182, 0, 137, 42, 180, 0, 51, 21, 5, 50, 182, 0, 140, 54, 7]
abbrev dktX5_turnOf_1 : List UInt8 := dkwX5_turnOf_1 ++ dktX5_turnOf_2
def dkwX5_turnOf_0 : List UInt8 := [3, 61, 3, 62, 2, 54, 4, 3, 54, 5, 21, 5, 27, 163, 0, 137, 42, 21, 5, 28, 29, 182, 0, 182]
abbrev dktX5_turnOf_0 : List UInt8 := dkwX5_turnOf_0 ++ dktX5_turnOf_1
theorem dksX5_turnOf_0 : cX5_turnOf.data.toList.drop 0 = dktX5_turnOf_0 := by decide +kernel
theorem dksX5_turnOf_1 : cX5_turnOf.data.toList.drop 24 = dktX5_turnOf_1 := dk_seg dksX5_turnOf_0 24 rfl rfl
theorem dksX5_turnOf_2 : cX5_turnOf.data.toList.drop 48 = dktX5_turnOf_2 := dk_seg dksX5_turnOf_1 24 rfl rfl
theorem dksX5_turnOf_3 : cX5_turnOf.data.toList.drop 71 = dktX5_turnOf_3 := dk_seg dksX5_turnOf_2 23 rfl rfl
theorem dksX5_turnOf_4 : cX5_turnOf.data.toList.drop 94 = dktX5_turnOf_4 := dk_seg dksX5_turnOf_3 23 rfl rfl
theorem dksX5_turnOf_5 : cX5_turnOf.data.toList.drop 118 = dktX5_turnOf_5 := dk_seg dksX5_turnOf_4 24 rfl rfl
theorem dksX5_turnOf_6 : cX5_turnOf.data.toList.drop 140 = dktX5_turnOf_6 := dk_seg dksX5_turnOf_5 22 rfl rfl
theorem dX5_turnOf_0 : decode cX5_turnOf 0 = .ok (.iconst 0, 1) := dk_3 (dk_at dksX5_turnOf_0 0 rfl rfl)
theorem dX5_turnOf_1 : decode cX5_turnOf 1 = .ok (.istore_n 2, 1) := dk_61 (dk_at dksX5_turnOf_0 1 rfl rfl)
theorem dX5_turnOf_2 : decode cX5_turnOf 2 = .ok (.iconst 0, 1) := dk_3 (dk_at dksX5_turnOf_0 2 rfl rfl)
theorem dX5_turnOf_3 : decode cX5_turnOf 3 = .ok (.istore_n 3, 1) := dk_62 (dk_at dksX5_turnOf_0 3 rfl rfl)
theorem dX5_turnOf_4 : decode cX5_turnOf 4 = .ok (.iconst (-1), 1) := dk_2 (dk_at dksX5_turnOf_0 4 rfl rfl)
theorem dX5_turnOf_5 : decode cX5_turnOf 5 = .ok (.istore 4, 2) := dk_54 4 (dk_at dksX5_turnOf_0 5 rfl rfl)
theorem dX5_turnOf_7 : decode cX5_turnOf 7 = .ok (.iconst 0, 1) := dk_3 (dk_at dksX5_turnOf_0 7 rfl rfl)
theorem dX5_turnOf_8 : decode cX5_turnOf 8 = .ok (.istore 5, 2) := dk_54 5 (dk_at dksX5_turnOf_0 8 rfl rfl)
theorem dX5_turnOf_10 : decode cX5_turnOf 10 = .ok (.iload 5, 2) := dk_21 5 (dk_at dksX5_turnOf_0 10 rfl rfl)
theorem dX5_turnOf_12 : decode cX5_turnOf 12 = .ok (.iload_n 1, 1) := dk_27 (dk_at dksX5_turnOf_0 12 rfl rfl)
theorem dX5_turnOf_13 : decode cX5_turnOf 13 = .ok (.if_icmp .gt 137, 3) := dk_163 0 137 (dk_at dksX5_turnOf_0 13 rfl rfl)
theorem dX5_turnOf_16 : decode cX5_turnOf 16 = .ok (.aload_n 0, 1) := dk_42 (dk_at dksX5_turnOf_0 16 rfl rfl)
theorem dX5_turnOf_17 : decode cX5_turnOf 17 = .ok (.iload 5, 2) := dk_21 5 (dk_at dksX5_turnOf_0 17 rfl rfl)
theorem dX5_turnOf_19 : decode cX5_turnOf 19 = .ok (.iload_n 2, 1) := dk_28 (dk_at dksX5_turnOf_0 19 rfl rfl)
theorem dX5_turnOf_20 : decode cX5_turnOf 20 = .ok (.iload_n 3, 1) := dk_29 (dk_at dksX5_turnOf_0 20 rfl rfl)
theorem dX5_turnOf_21 : decode cX5_turnOf 21 = .ok (.invokevirtual 182, 3) := dk_182 0 182 (dk_at dksX5_turnOf_0 21 rfl rfl)
theorem dX5_turnOf_24 : decode cX5_turnOf 24 = .ok (.istore 6, 2) := dk_54 6 (dk_at dksX5_turnOf_1 0 rfl rfl)
theorem dX5_turnOf_26 : decode cX5_turnOf 26 = .ok (.aload_n 0, 1) := dk_42 (dk_at dksX5_turnOf_1 2 rfl rfl)
theorem dX5_turnOf_27 : decode cX5_turnOf 27 = .ok (.iload 5, 2) := dk_21 5 (dk_at dksX5_turnOf_1 3 rfl rfl)
theorem dX5_turnOf_29 : decode cX5_turnOf 29 = .ok (.iload_n 2, 1) := dk_28 (dk_at dksX5_turnOf_1 5 rfl rfl)
theorem dX5_turnOf_30 : decode cX5_turnOf 30 = .ok (.aload_n 0, 1) := dk_42 (dk_at dksX5_turnOf_1 6 rfl rfl)
theorem dX5_turnOf_31 : decode cX5_turnOf 31 = .ok (.iload 5, 2) := dk_21 5 (dk_at dksX5_turnOf_1 7 rfl rfl)
theorem dX5_turnOf_33 : decode cX5_turnOf 33 = .ok (.invokevirtual 137, 3) := dk_182 0 137 (dk_at dksX5_turnOf_1 9 rfl rfl)
theorem dX5_turnOf_36 : decode cX5_turnOf 36 = .ok (.aload_n 0, 1) := dk_42 (dk_at dksX5_turnOf_1 12 rfl rfl)
theorem dX5_turnOf_37 : decode cX5_turnOf 37 = .ok (.getfield 51, 3) := dk_180 0 51 (dk_at dksX5_turnOf_1 13 rfl rfl)
theorem dX5_turnOf_40 : decode cX5_turnOf 40 = .ok (.iload 5, 2) := dk_21 5 (dk_at dksX5_turnOf_1 16 rfl rfl)
theorem dX5_turnOf_42 : decode cX5_turnOf 42 = .ok (.aaload, 1) := dk_50 (dk_at dksX5_turnOf_1 18 rfl rfl)
theorem dX5_turnOf_43 : decode cX5_turnOf 43 = .ok (.invokevirtual 140, 3) := dk_182 0 140 (dk_at dksX5_turnOf_1 19 rfl rfl)
theorem dX5_turnOf_46 : decode cX5_turnOf 46 = .ok (.istore 7, 2) := dk_54 7 (dk_at dksX5_turnOf_1 22 rfl rfl)
theorem dX5_turnOf_48 : decode cX5_turnOf 48 = .ok (.aload_n 0, 1) := dk_42 (dk_at dksX5_turnOf_2 0 rfl rfl)
theorem dX5_turnOf_49 : decode cX5_turnOf 49 = .ok (.iconst 0, 1) := dk_3 (dk_at dksX5_turnOf_2 1 rfl rfl)
theorem dX5_turnOf_50 : decode cX5_turnOf 50 = .ok (.iload 7, 2) := dk_21 7 (dk_at dksX5_turnOf_2 2 rfl rfl)
theorem dX5_turnOf_52 : decode cX5_turnOf 52 = .ok (.aload_n 0, 1) := dk_42 (dk_at dksX5_turnOf_2 4 rfl rfl)
theorem dX5_turnOf_53 : decode cX5_turnOf 53 = .ok (.getfield 51, 3) := dk_180 0 51 (dk_at dksX5_turnOf_2 5 rfl rfl)
theorem dX5_turnOf_56 : decode cX5_turnOf 56 = .ok (.iload 5, 2) := dk_21 5 (dk_at dksX5_turnOf_2 8 rfl rfl)
theorem dX5_turnOf_58 : decode cX5_turnOf 58 = .ok (.aaload, 1) := dk_50 (dk_at dksX5_turnOf_2 10 rfl rfl)
theorem dX5_turnOf_59 : decode cX5_turnOf 59 = .ok (.aload_n 0, 1) := dk_42 (dk_at dksX5_turnOf_2 11 rfl rfl)
theorem dX5_turnOf_60 : decode cX5_turnOf 60 = .ok (.iload 5, 2) := dk_21 5 (dk_at dksX5_turnOf_2 12 rfl rfl)
theorem dX5_turnOf_62 : decode cX5_turnOf 62 = .ok (.invokevirtual 137, 3) := dk_182 0 137 (dk_at dksX5_turnOf_2 14 rfl rfl)
theorem dX5_turnOf_65 : decode cX5_turnOf 65 = .ok (.invokevirtual 144, 3) := dk_182 0 144 (dk_at dksX5_turnOf_2 17 rfl rfl)
theorem dX5_turnOf_68 : decode cX5_turnOf 68 = .ok (.istore 4, 2) := dk_54 4 (dk_at dksX5_turnOf_2 20 rfl rfl)
theorem dX5_turnOf_70 : decode cX5_turnOf 70 = .ok (.aload_n 0, 1) := dk_42 (dk_at dksX5_turnOf_2 22 rfl rfl)
theorem dX5_turnOf_71 : decode cX5_turnOf 71 = .ok (.iload 4, 2) := dk_21 4 (dk_at dksX5_turnOf_3 0 rfl rfl)
theorem dX5_turnOf_73 : decode cX5_turnOf 73 = .ok (.invokevirtual 179, 3) := dk_182 0 179 (dk_at dksX5_turnOf_3 2 rfl rfl)
theorem dX5_turnOf_76 : decode cX5_turnOf 76 = .ok (.iload_n 3, 1) := dk_29 (dk_at dksX5_turnOf_3 5 rfl rfl)
theorem dX5_turnOf_77 : decode cX5_turnOf 77 = .ok (.iand, 1) := dk_126 (dk_at dksX5_turnOf_3 6 rfl rfl)
theorem dX5_turnOf_78 : decode cX5_turnOf 78 = .ok (.ifCond .ne 28, 3) := dk_154 0 28 (dk_at dksX5_turnOf_3 7 rfl rfl)
theorem dX5_turnOf_81 : decode cX5_turnOf 81 = .ok (.iconst 1, 1) := dk_4 (dk_at dksX5_turnOf_3 10 rfl rfl)
theorem dX5_turnOf_82 : decode cX5_turnOf 82 = .ok (.aload_n 0, 1) := dk_42 (dk_at dksX5_turnOf_3 11 rfl rfl)
theorem dX5_turnOf_83 : decode cX5_turnOf 83 = .ok (.iload 5, 2) := dk_21 5 (dk_at dksX5_turnOf_3 12 rfl rfl)
theorem dX5_turnOf_85 : decode cX5_turnOf 85 = .ok (.iconst 1, 1) := dk_4 (dk_at dksX5_turnOf_3 14 rfl rfl)
theorem dX5_turnOf_86 : decode cX5_turnOf 86 = .ok (.iadd, 1) := dk_96 (dk_at dksX5_turnOf_3 15 rfl rfl)
theorem dX5_turnOf_87 : decode cX5_turnOf 87 = .ok (.iload_n 2, 1) := dk_28 (dk_at dksX5_turnOf_3 16 rfl rfl)
theorem dX5_turnOf_88 : decode cX5_turnOf 88 = .ok (.iload 4, 2) := dk_21 4 (dk_at dksX5_turnOf_3 17 rfl rfl)
theorem dX5_turnOf_90 : decode cX5_turnOf 90 = .ok (.ior, 1) := dk_128 (dk_at dksX5_turnOf_3 19 rfl rfl)
theorem dX5_turnOf_91 : decode cX5_turnOf 91 = .ok (.aload_n 0, 1) := dk_42 (dk_at dksX5_turnOf_3 20 rfl rfl)
theorem dX5_turnOf_92 : decode cX5_turnOf 92 = .ok (.iload 4, 2) := dk_21 4 (dk_at dksX5_turnOf_3 21 rfl rfl)
theorem dX5_turnOf_94 : decode cX5_turnOf 94 = .ok (.invokevirtual 179, 3) := dk_182 0 179 (dk_at dksX5_turnOf_4 0 rfl rfl)
theorem dX5_turnOf_97 : decode cX5_turnOf 97 = .ok (.invokevirtual 182, 3) := dk_182 0 182 (dk_at dksX5_turnOf_4 3 rfl rfl)
theorem dX5_turnOf_100 : decode cX5_turnOf 100 = .ok (.iadd, 1) := dk_96 (dk_at dksX5_turnOf_4 6 rfl rfl)
theorem dX5_turnOf_101 : decode cX5_turnOf 101 = .ok (.iload 6, 2) := dk_21 6 (dk_at dksX5_turnOf_4 7 rfl rfl)
theorem dX5_turnOf_103 : decode cX5_turnOf 103 = .ok (.if_icmp .eq 29, 3) := dk_159 0 29 (dk_at dksX5_turnOf_4 9 rfl rfl)
theorem dX5_turnOf_106 : decode cX5_turnOf 106 = .ok (.aload_n 0, 1) := dk_42 (dk_at dksX5_turnOf_4 12 rfl rfl)
theorem dX5_turnOf_107 : decode cX5_turnOf 107 = .ok (.iload 4, 2) := dk_21 4 (dk_at dksX5_turnOf_4 13 rfl rfl)
theorem dX5_turnOf_109 : decode cX5_turnOf 109 = .ok (.iload 7, 2) := dk_21 7 (dk_at dksX5_turnOf_4 15 rfl rfl)
theorem dX5_turnOf_111 : decode cX5_turnOf 111 = .ok (.aload_n 0, 1) := dk_42 (dk_at dksX5_turnOf_4 17 rfl rfl)
theorem dX5_turnOf_112 : decode cX5_turnOf 112 = .ok (.getfield 51, 3) := dk_180 0 51 (dk_at dksX5_turnOf_4 18 rfl rfl)
theorem dX5_turnOf_115 : decode cX5_turnOf 115 = .ok (.iload 5, 2) := dk_21 5 (dk_at dksX5_turnOf_4 21 rfl rfl)
theorem dX5_turnOf_117 : decode cX5_turnOf 117 = .ok (.aaload, 1) := dk_50 (dk_at dksX5_turnOf_4 23 rfl rfl)
theorem dX5_turnOf_118 : decode cX5_turnOf 118 = .ok (.aload_n 0, 1) := dk_42 (dk_at dksX5_turnOf_5 0 rfl rfl)
theorem dX5_turnOf_119 : decode cX5_turnOf 119 = .ok (.iload 5, 2) := dk_21 5 (dk_at dksX5_turnOf_5 1 rfl rfl)
theorem dX5_turnOf_121 : decode cX5_turnOf 121 = .ok (.invokevirtual 137, 3) := dk_182 0 137 (dk_at dksX5_turnOf_5 3 rfl rfl)
theorem dX5_turnOf_124 : decode cX5_turnOf 124 = .ok (.invokevirtual 144, 3) := dk_182 0 144 (dk_at dksX5_turnOf_5 6 rfl rfl)
theorem dX5_turnOf_127 : decode cX5_turnOf 127 = .ok (.istore 4, 2) := dk_54 4 (dk_at dksX5_turnOf_5 9 rfl rfl)
theorem dX5_turnOf_129 : decode cX5_turnOf 129 = .ok (.goto (-59), 3) := dk_167 255 197 (dk_at dksX5_turnOf_5 11 rfl rfl)
theorem dX5_turnOf_132 : decode cX5_turnOf 132 = .ok (.iload_n 2, 1) := dk_28 (dk_at dksX5_turnOf_5 14 rfl rfl)
theorem dX5_turnOf_133 : decode cX5_turnOf 133 = .ok (.iload 4, 2) := dk_21 4 (dk_at dksX5_turnOf_5 15 rfl rfl)
theorem dX5_turnOf_135 : decode cX5_turnOf 135 = .ok (.ior, 1) := dk_128 (dk_at dksX5_turnOf_5 17 rfl rfl)
theorem dX5_turnOf_136 : decode cX5_turnOf 136 = .ok (.istore_n 2, 1) := dk_61 (dk_at dksX5_turnOf_5 18 rfl rfl)
theorem dX5_turnOf_137 : decode cX5_turnOf 137 = .ok (.aload_n 0, 1) := dk_42 (dk_at dksX5_turnOf_5 19 rfl rfl)
theorem dX5_turnOf_138 : decode cX5_turnOf 138 = .ok (.iload 4, 2) := dk_21 4 (dk_at dksX5_turnOf_5 20 rfl rfl)
theorem dX5_turnOf_140 : decode cX5_turnOf 140 = .ok (.invokevirtual 179, 3) := dk_182 0 179 (dk_at dksX5_turnOf_6 0 rfl rfl)
theorem dX5_turnOf_143 : decode cX5_turnOf 143 = .ok (.istore_n 3, 1) := dk_62 (dk_at dksX5_turnOf_6 3 rfl rfl)
theorem dX5_turnOf_144 : decode cX5_turnOf 144 = .ok (.iinc 5 1, 3) := dk_132 5 1 (dk_at dksX5_turnOf_6 4 rfl rfl)
theorem dX5_turnOf_147 : decode cX5_turnOf 147 = .ok (.goto (-137), 3) := dk_167 255 119 (dk_at dksX5_turnOf_6 7 rfl rfl)
theorem dX5_turnOf_150 : decode cX5_turnOf 150 = .ok (.iload 4, 2) := dk_21 4 (dk_at dksX5_turnOf_6 10 rfl rfl)
theorem dX5_turnOf_152 : decode cX5_turnOf 152 = .ok (.ireturn, 1) := dk_172 (dk_at dksX5_turnOf_6 12 rfl rfl)
theorem q127 : (Jvm.Cond.initialized "LitStrangers$Nights") ∈ lw_all := lw_g (lw_at lw_m1 9 rfl) rfl
theorem q212 : (Jvm.Cond.fieldLinkNest "LitStrangers$Nights" (62 : Nat) "LitStrangers$Books" "where" "[I" "LitStrangers") ∈ lw_tbl := lw_at lw_m1 94 rfl
theorem q216 : (Jvm.Cond.fieldLinkNest "LitStrangers$Nights" (76 : Nat) "LitStrangers$Books" "until" "[I" "LitStrangers") ∈ lw_tbl := lw_at lw_m1 98 rfl
theorem q219 : (Jvm.Cond.fieldLinkNest "LitStrangers$Nights" (115 : Nat) "LitStrangers$Books" "heard" "[I" "LitStrangers") ∈ lw_tbl := lw_at lw_m1 101 rfl
theorem q222 : (Jvm.Cond.fieldLinkNest "LitStrangers$Nights" (79 : Nat) "LitStrangers$Books" "day" "I" "LitStrangers") ∈ lw_tbl := lw_at lw_m1 104 rfl
theorem q254 : (Jvm.Cond.fieldLinkNest "LitStrangers$Nights" (164 : Nat) "LitStrangers$Coast" "people" "Ljava/util/ArrayList;" "LitStrangers") ∈ lw_tbl := lw_at lw_m1 136 rfl
theorem q258 : (Jvm.Cond.fieldLinkNest "LitStrangers$Nights" (90 : Nat) "LitStrangers$Coast" "talks" "[I" "LitStrangers") ∈ lw_tbl := lw_at lw_m1 140 rfl
theorem q325 : (Jvm.Cond.instantiable "LitStrangers$Nights" (12 : Nat)) ∈ lw_all := lw_g (lw_at lw_m1 207 rfl) rfl
theorem q327 : (Jvm.Cond.instanceMethod ({ cls := "LitStrangers$Nights", name := "<init>", desc := "(LLitStrangers;)V" } : Jvm.MethodName)) ∈ lw_all := lw_g (lw_at lw_m1 209 rfl) rfl
theorem q328 : (Jvm.Cond.code ({ cls := "LitStrangers$Nights", name := "<init>", desc := "(LLitStrangers;)V" } : Jvm.MethodName) prog_14_method_1_code (2 : Nat) (Option.none : Option Jvm.ClassFile.FieldType)) ∈ lw_all := lw_g (lw_at lw_m1 210 rfl) rfl
theorem q329 : (Jvm.Cond.methodLink "LitStrangers$Nights" (9 : Nat) ({ cls := "java/lang/Object", name := "<init>", desc := "()V" } : Jvm.MethodName)) ∈ lw_all := lw_g (lw_at lw_m1 211 rfl) rfl
theorem q330 : (Jvm.Cond.classLink "LitStrangers$Nights" (25 : Nat) "[[I") ∈ lw_all := lw_g (lw_at lw_m1 212 rfl) rfl
theorem q332 : (Jvm.Cond.classLink "LitStrangers$Nights" (36 : Nat) "[[J") ∈ lw_all := lw_g (lw_at lw_m1 214 rfl) rfl
theorem q334 : (Jvm.Cond.classLink "LitStrangers$Nights" (41 : Nat) "[[Z") ∈ lw_all := lw_g (lw_at lw_m1 216 rfl) rfl
theorem q336 : (Jvm.Cond.classLink "LitStrangers$Nights" (46 : Nat) "[[B") ∈ lw_all := lw_g (lw_at lw_m1 218 rfl) rfl
theorem q338 : (Jvm.Cond.fieldLink "LitStrangers$Nights" (15 : Nat) "LitStrangers$Nights" "from" "[I") ∈ lw_all := lw_g (lw_at lw_m1 220 rfl) rfl
theorem q340 : (Jvm.Cond.fieldLink "LitStrangers$Nights" (19 : Nat) "LitStrangers$Nights" "fares" "[I") ∈ lw_all := lw_g (lw_at lw_m1 222 rfl) rfl
theorem q341 : (Jvm.Cond.fieldLink "LitStrangers$Nights" (22 : Nat) "LitStrangers$Nights" "heard" "[I") ∈ lw_all := lw_g (lw_at lw_m1 223 rfl) rfl
theorem q342 : (Jvm.Cond.fieldLink "LitStrangers$Nights" (27 : Nat) "LitStrangers$Nights" "spoils" "[[I") ∈ lw_all := lw_g (lw_at lw_m1 224 rfl) rfl
theorem q343 : (Jvm.Cond.fieldLink "LitStrangers$Nights" (30 : Nat) "LitStrangers$Nights" "most" "[[I") ∈ lw_all := lw_g (lw_at lw_m1 225 rfl) rfl
theorem q344 : (Jvm.Cond.fieldLink "LitStrangers$Nights" (33 : Nat) "LitStrangers$Nights" "least" "[[I") ∈ lw_all := lw_g (lw_at lw_m1 226 rfl) rfl
theorem q345 : (Jvm.Cond.fieldLink "LitStrangers$Nights" (38 : Nat) "LitStrangers$Nights" "rows" "[[J") ∈ lw_all := lw_g (lw_at lw_m1 227 rfl) rfl
theorem q346 : (Jvm.Cond.fieldLink "LitStrangers$Nights" (43 : Nat) "LitStrangers$Nights" "comes" "[[Z") ∈ lw_all := lw_g (lw_at lw_m1 228 rfl) rfl
theorem q347 : (Jvm.Cond.fieldLink "LitStrangers$Nights" (48 : Nat) "LitStrangers$Nights" "turns" "[[B") ∈ lw_all := lw_g (lw_at lw_m1 229 rfl) rfl
theorem q348 : (Jvm.Cond.fieldLink "LitStrangers$Nights" (153 : Nat) "LitStrangers$Nights" "n" "I") ∈ lw_all := lw_g (lw_at lw_m1 230 rfl) rfl
theorem q350 : (Jvm.Cond.fieldLink "LitStrangers$Nights" (51 : Nat) "LitStrangers$Nights" "worths" "[[I") ∈ lw_all := lw_g (lw_at lw_m1 232 rfl) rfl
theorem q352 : (Jvm.Cond.fieldLink "LitStrangers$Nights" (3 : Nat) "LitStrangers$Nights" "this$0" "LLitStrangers;") ∈ lw_all := lw_g (lw_at lw_m1 234 rfl) rfl
theorem q353 : (Jvm.Cond.laysFinal "LitStrangers$Nights" "LitStrangers$Nights" "from" "[I") ∈ lw_all := lw_g (lw_at lw_m1 235 rfl) rfl
theorem q354 : (Jvm.Cond.soleField "LitStrangers$Nights" "from") ∈ lw_all := lw_g (lw_at lw_m1 236 rfl) rfl
theorem q355 : (Jvm.Cond.laysFinal "LitStrangers$Nights" "LitStrangers$Nights" "fares" "[I") ∈ lw_all := lw_g (lw_at lw_m1 237 rfl) rfl
theorem q356 : (Jvm.Cond.soleField "LitStrangers$Nights" "fares") ∈ lw_all := lw_g (lw_at lw_m1 238 rfl) rfl
theorem q357 : (Jvm.Cond.laysFinal "LitStrangers$Nights" "LitStrangers$Nights" "heard" "[I") ∈ lw_all := lw_g (lw_at lw_m1 239 rfl) rfl
theorem q358 : (Jvm.Cond.soleField "LitStrangers$Nights" "heard") ∈ lw_all := lw_g (lw_at lw_m2 0 rfl) rfl
theorem q359 : (Jvm.Cond.laysFinal "LitStrangers$Nights" "LitStrangers$Nights" "spoils" "[[I") ∈ lw_all := lw_g (lw_at lw_m2 1 rfl) rfl
theorem q360 : (Jvm.Cond.soleField "LitStrangers$Nights" "spoils") ∈ lw_all := lw_g (lw_at lw_m2 2 rfl) rfl
theorem q361 : (Jvm.Cond.laysFinal "LitStrangers$Nights" "LitStrangers$Nights" "most" "[[I") ∈ lw_all := lw_g (lw_at lw_m2 3 rfl) rfl
theorem q362 : (Jvm.Cond.soleField "LitStrangers$Nights" "most") ∈ lw_all := lw_g (lw_at lw_m2 4 rfl) rfl
theorem q363 : (Jvm.Cond.laysFinal "LitStrangers$Nights" "LitStrangers$Nights" "least" "[[I") ∈ lw_all := lw_g (lw_at lw_m2 5 rfl) rfl
theorem q364 : (Jvm.Cond.soleField "LitStrangers$Nights" "least") ∈ lw_all := lw_g (lw_at lw_m2 6 rfl) rfl
theorem q365 : (Jvm.Cond.laysFinal "LitStrangers$Nights" "LitStrangers$Nights" "rows" "[[J") ∈ lw_all := lw_g (lw_at lw_m2 7 rfl) rfl
theorem q366 : (Jvm.Cond.soleField "LitStrangers$Nights" "rows") ∈ lw_all := lw_g (lw_at lw_m2 8 rfl) rfl
theorem q367 : (Jvm.Cond.laysFinal "LitStrangers$Nights" "LitStrangers$Nights" "comes" "[[Z") ∈ lw_all := lw_g (lw_at lw_m2 9 rfl) rfl
theorem q368 : (Jvm.Cond.soleField "LitStrangers$Nights" "comes") ∈ lw_all := lw_g (lw_at lw_m2 10 rfl) rfl
theorem q369 : (Jvm.Cond.laysFinal "LitStrangers$Nights" "LitStrangers$Nights" "turns" "[[B") ∈ lw_all := lw_g (lw_at lw_m2 11 rfl) rfl
theorem q370 : (Jvm.Cond.soleField "LitStrangers$Nights" "turns") ∈ lw_all := lw_g (lw_at lw_m2 12 rfl) rfl
theorem q371 : (Jvm.Cond.lays "LitStrangers$Nights" "LitStrangers$Nights" "n" "I") ∈ lw_all := lw_g (lw_at lw_m2 13 rfl) rfl
theorem q372 : (Jvm.Cond.soleField "LitStrangers$Nights" "n") ∈ lw_all := lw_g (lw_at lw_m2 14 rfl) rfl
theorem q373 : (Jvm.Cond.laysFinal "LitStrangers$Nights" "LitStrangers$Nights" "worths" "[[I") ∈ lw_all := lw_g (lw_at lw_m2 15 rfl) rfl
theorem q374 : (Jvm.Cond.soleField "LitStrangers$Nights" "worths") ∈ lw_all := lw_g (lw_at lw_m2 16 rfl) rfl
theorem q375 : (Jvm.Cond.laysFinal "LitStrangers$Nights" "LitStrangers$Nights" "this$0" "LLitStrangers;") ∈ lw_all := lw_g (lw_at lw_m2 17 rfl) rfl
theorem q376 : (Jvm.Cond.soleField "LitStrangers$Nights" "this$0") ∈ lw_all := lw_g (lw_at lw_m2 18 rfl) rfl
theorem q377 : (Jvm.Cond.superclass "LitStrangers$Nights" "java/lang/Object") ∈ lw_all := lw_g (lw_at lw_m2 19 rfl) rfl
theorem q379 : (Jvm.Cond.fieldLinkNest "LitStrangers$Nights" (86 : Nat) "LitStrangers" "coast" "LLitStrangers$Coast;" "LitStrangers") ∈ lw_tbl := lw_at lw_m2 21 rfl
theorem q477 : (Jvm.Cond.fieldLinkNest "LitStrangers$Nights" (176 : Nat) "LitStrangers$Person" "land" "I" "LitStrangers") ∈ lw_tbl := lw_at lw_m2 119 rfl
theorem q529 : (Jvm.Cond.selects "LitStrangers$Nights" ({ cls := "java/lang/Object", name := "getClass", desc := "()Ljava/lang/Class;" } : Jvm.MethodName) ({ cls := "java/lang/Object", name := "getClass", desc := "()Ljava/lang/Class;" } : Jvm.MethodName)) ∈ lw_all := lw_g (lw_at lw_m2 171 rfl) rfl
theorem q1429 : (Jvm.Cond.instanceMethod ({ cls := "LitStrangers$Nights", name := "lay", desc := "(II)LLitStrangers$Nights;" } : Jvm.MethodName)) ∈ lw_all := lw_g (lw_at lw_m6 111 rfl) rfl
theorem q1430 : (Jvm.Cond.selects "LitStrangers$Nights" ({ cls := "LitStrangers$Nights", name := "lay", desc := "(II)LLitStrangers$Nights;" } : Jvm.MethodName) ({ cls := "LitStrangers$Nights", name := "lay", desc := "(II)LLitStrangers$Nights;" } : Jvm.MethodName)) ∈ lw_all := lw_g (lw_at lw_m6 112 rfl) rfl
theorem q1431 : (Jvm.Cond.code ({ cls := "LitStrangers$Nights", name := "lay", desc := "(II)LLitStrangers$Nights;" } : Jvm.MethodName) prog_14_method_2_code (6 : Nat) (Option.some (Jvm.ClassFile.FieldType.object "LitStrangers$Nights"))) ∈ lw_all := lw_g (lw_at lw_m6 113 rfl) rfl
theorem q1432 : (Jvm.Cond.methodLinkNest "LitStrangers$Nights" (54 : Nat) ({ cls := "LitStrangers", name := "many", desc := "()I" } : Jvm.MethodName) "LitStrangers") ∈ lw_tbl := lw_at lw_m6 114 rfl
theorem q1433 : (Jvm.Cond.methodLinkNest "LitStrangers$Nights" (58 : Nat) ({ cls := "LitStrangers", name := "books", desc := "()LLitStrangers$Books;" } : Jvm.MethodName) "LitStrangers") ∈ lw_tbl := lw_at lw_m6 115 rfl
theorem q1434 : (Jvm.Cond.methodLinkNest "LitStrangers$Nights" (67 : Nat) ({ cls := "LitStrangers", name := "has", desc := "(II)Z" } : Jvm.MethodName) "LitStrangers") ∈ lw_tbl := lw_at lw_m6 116 rfl
theorem q1435 : (Jvm.Cond.constant "LitStrangers$Nights" (71 : Nat) (100000000 : Int32)) ∈ lw_all := lw_g (lw_at lw_m6 117 rfl) rfl
theorem q1436 : (Jvm.Cond.methodLinkNest "LitStrangers$Nights" (72 : Nat) ({ cls := "LitStrangers", name := "takes", desc := "(I)I" } : Jvm.MethodName) "LitStrangers") ∈ lw_tbl := lw_at lw_m6 118 rfl
theorem q1437 : (Jvm.Cond.methodLinkNest "LitStrangers$Nights" (83 : Nat) ({ cls := "LitStrangers", name := "costs", desc := "(I)I" } : Jvm.MethodName) "LitStrangers") ∈ lw_tbl := lw_at lw_m6 119 rfl
theorem q1438 : (Jvm.Cond.methodLinkNest "LitStrangers$Nights" (95 : Nat) ({ cls := "LitStrangers", name := "spoils", desc := "(II)I" } : Jvm.MethodName) "LitStrangers") ∈ lw_tbl := lw_at lw_m6 120 rfl
theorem q1439 : (Jvm.Cond.methodLink "LitStrangers$Nights" (98 : Nat) ({ cls := "java/util/Arrays", name := "fill", desc := "([II)V" } : Jvm.MethodName)) ∈ lw_all := lw_g (lw_at lw_m6 121 rfl) rfl
theorem q1442 : (Jvm.Cond.constantLong "LitStrangers$Nights" (104 : Nat) (-1 : Int64)) ∈ lw_all := lw_g (lw_at lw_m6 124 rfl) rfl
theorem q1443 : (Jvm.Cond.methodLink "LitStrangers$Nights" (106 : Nat) ({ cls := "java/util/Arrays", name := "fill", desc := "([JJ)V" } : Jvm.MethodName)) ∈ lw_all := lw_g (lw_at lw_m6 125 rfl) rfl
theorem q1446 : (Jvm.Cond.methodLink "LitStrangers$Nights" (109 : Nat) ({ cls := "java/util/Arrays", name := "fill", desc := "([BB)V" } : Jvm.MethodName)) ∈ lw_all := lw_g (lw_at lw_m6 128 rfl) rfl
theorem q1449 : (Jvm.Cond.methodLink "LitStrangers$Nights" (112 : Nat) ({ cls := "java/util/Arrays", name := "fill", desc := "([ZZ)V" } : Jvm.MethodName)) ∈ lw_all := lw_g (lw_at lw_m6 131 rfl) rfl
theorem q1453 : (Jvm.Cond.instanceMethod ({ cls := "LitStrangers$Nights", name := "most", desc := "(II)I" } : Jvm.MethodName)) ∈ lw_all := lw_g (lw_at lw_m6 135 rfl) rfl
theorem q1454 : (Jvm.Cond.selects "LitStrangers$Nights" ({ cls := "LitStrangers$Nights", name := "most", desc := "(II)I" } : Jvm.MethodName) ({ cls := "LitStrangers$Nights", name := "most", desc := "(II)I" } : Jvm.MethodName)) ∈ lw_all := lw_g (lw_at lw_m6 136 rfl) rfl
theorem q1455 : (Jvm.Cond.code ({ cls := "LitStrangers$Nights", name := "most", desc := "(II)I" } : Jvm.MethodName) prog_14_method_7_code (6 : Nat) (Option.some Jvm.ClassFile.FieldType.int)) ∈ lw_all := lw_g (lw_at lw_m6 137 rfl) rfl
theorem q1456 : (Jvm.Cond.methodLink "LitStrangers$Nights" (137 : Nat) ({ cls := "LitStrangers$Nights", name := "fogOn", desc := "(I)Z" } : Jvm.MethodName)) ∈ lw_all := lw_g (lw_at lw_m6 138 rfl) rfl
theorem q1457 : (Jvm.Cond.privateMethod ({ cls := "LitStrangers$Nights", name := "fogOn", desc := "(I)Z" } : Jvm.MethodName)) ∈ lw_tbl := lw_at lw_m6 139 rfl
theorem q1458 : (Jvm.Cond.instanceMethod ({ cls := "LitStrangers$Nights", name := "fogOn", desc := "(I)Z" } : Jvm.MethodName)) ∈ lw_all := lw_g (lw_at lw_m6 140 rfl) rfl
theorem q1459 : (Jvm.Cond.code ({ cls := "LitStrangers$Nights", name := "fogOn", desc := "(I)Z" } : Jvm.MethodName) prog_14_method_6_code (2 : Nat) (Option.some Jvm.ClassFile.FieldType.boolean)) ∈ lw_all := lw_g (lw_at lw_m6 141 rfl) rfl
theorem q1460 : (Jvm.Cond.methodLinkNest "LitStrangers$Nights" (133 : Nat) ({ cls := "LitStrangers", name := "isFog", desc := "(I)Z" } : Jvm.MethodName) "LitStrangers") ∈ lw_tbl := lw_at lw_m6 142 rfl
theorem q1461 : (Jvm.Cond.methodLink "LitStrangers$Nights" (140 : Nat) ({ cls := "LitStrangers$Nights", name := "open", desc := "(IIZ[I)I" } : Jvm.MethodName)) ∈ lw_all := lw_g (lw_at lw_m6 143 rfl) rfl
theorem q1462 : (Jvm.Cond.privateMethod ({ cls := "LitStrangers$Nights", name := "open", desc := "(IIZ[I)I" } : Jvm.MethodName)) ∈ lw_tbl := lw_at lw_m6 144 rfl
theorem q1463 : (Jvm.Cond.instanceMethod ({ cls := "LitStrangers$Nights", name := "open", desc := "(IIZ[I)I" } : Jvm.MethodName)) ∈ lw_all := lw_g (lw_at lw_m6 145 rfl) rfl
theorem q1464 : (Jvm.Cond.code ({ cls := "LitStrangers$Nights", name := "open", desc := "(IIZ[I)I" } : Jvm.MethodName) prog_14_method_3_code (9 : Nat) (Option.some Jvm.ClassFile.FieldType.int)) ∈ lw_all := lw_g (lw_at lw_m6 146 rfl) rfl
theorem q1465 : (Jvm.Cond.methodLink "LitStrangers$Nights" (116 : Nat) ({ cls := "java/lang/Math", name := "min", desc := "(II)I" } : Jvm.MethodName)) ∈ lw_all := lw_g (lw_at lw_m6 147 rfl) rfl
theorem q1466 : (Jvm.Cond.methodLinkNest "LitStrangers$Nights" (121 : Nat) ({ cls := "LitStrangers", name := "isBarred", desc := "(IIIZ)Z" } : Jvm.MethodName) "LitStrangers") ∈ lw_tbl := lw_at lw_m6 148 rfl
theorem q1467 : (Jvm.Cond.methodLink "LitStrangers$Nights" (144 : Nat) ({ cls := "LitStrangers$Nights", name := "next", desc := "(II[IZ)I" } : Jvm.MethodName)) ∈ lw_all := lw_g (lw_at lw_m6 149 rfl) rfl
theorem q1468 : (Jvm.Cond.privateMethod ({ cls := "LitStrangers$Nights", name := "next", desc := "(II[IZ)I" } : Jvm.MethodName)) ∈ lw_tbl := lw_at lw_m6 150 rfl
theorem q1469 : (Jvm.Cond.instanceMethod ({ cls := "LitStrangers$Nights", name := "next", desc := "(II[IZ)I" } : Jvm.MethodName)) ∈ lw_all := lw_g (lw_at lw_m6 151 rfl) rfl
theorem q1470 : (Jvm.Cond.code ({ cls := "LitStrangers$Nights", name := "next", desc := "(II[IZ)I" } : Jvm.MethodName) prog_14_method_5_code (6 : Nat) (Option.some Jvm.ClassFile.FieldType.int)) ∈ lw_all := lw_g (lw_at lw_m6 152 rfl) rfl
theorem q1471 : (Jvm.Cond.methodLink "LitStrangers$Nights" (129 : Nat) ({ cls := "LitStrangers$Nights", name := "isCrew", desc := "(I[IZ)Z" } : Jvm.MethodName)) ∈ lw_all := lw_g (lw_at lw_m6 153 rfl) rfl
theorem q1472 : (Jvm.Cond.privateMethod ({ cls := "LitStrangers$Nights", name := "isCrew", desc := "(I[IZ)Z" } : Jvm.MethodName)) ∈ lw_tbl := lw_at lw_m6 154 rfl
theorem q1473 : (Jvm.Cond.instanceMethod ({ cls := "LitStrangers$Nights", name := "isCrew", desc := "(I[IZ)Z" } : Jvm.MethodName)) ∈ lw_all := lw_g (lw_at lw_m6 155 rfl) rfl
theorem q1474 : (Jvm.Cond.code ({ cls := "LitStrangers$Nights", name := "isCrew", desc := "(I[IZ)Z" } : Jvm.MethodName) prog_14_method_4_code (7 : Nat) (Option.some Jvm.ClassFile.FieldType.boolean)) ∈ lw_all := lw_g (lw_at lw_m6 156 rfl) rfl
theorem q1475 : (Jvm.Cond.methodLinkNest "LitStrangers$Nights" (125 : Nat) ({ cls := "LitStrangers", name := "need", desc := "(Z)I" } : Jvm.MethodName) "LitStrangers") ∈ lw_tbl := lw_at lw_m6 157 rfl
theorem q1476 : (Jvm.Cond.methodLink "LitStrangers$Nights" (148 : Nat) ({ cls := "LitStrangers$Nights", name := "most", desc := "(II)I" } : Jvm.MethodName)) ∈ lw_all := lw_g (lw_at lw_m6 158 rfl) rfl
theorem q1477 : (Jvm.Cond.methodLink "LitStrangers$Nights" (150 : Nat) ({ cls := "java/lang/Math", name := "max", desc := "(II)I" } : Jvm.MethodName)) ∈ lw_all := lw_g (lw_at lw_m6 159 rfl) rfl
theorem q1479 : (Jvm.Cond.instanceMethod ({ cls := "LitStrangers$Nights", name := "crew", desc := "(IZ)I" } : Jvm.MethodName)) ∈ lw_all := lw_g (lw_at lw_m6 161 rfl) rfl
theorem q1480 : (Jvm.Cond.selects "LitStrangers$Nights" ({ cls := "LitStrangers$Nights", name := "crew", desc := "(IZ)I" } : Jvm.MethodName) ({ cls := "LitStrangers$Nights", name := "crew", desc := "(IZ)I" } : Jvm.MethodName)) ∈ lw_all := lw_g (lw_at lw_m6 162 rfl) rfl
theorem q1481 : (Jvm.Cond.code ({ cls := "LitStrangers$Nights", name := "crew", desc := "(IZ)I" } : Jvm.MethodName) prog_14_method_15_code (7 : Nat) (Option.some Jvm.ClassFile.FieldType.int)) ∈ lw_all := lw_g (lw_at lw_m6 163 rfl) rfl
theorem q1482 : (Jvm.Cond.methodLink "LitStrangers$Nights" (156 : Nat) ({ cls := "LitStrangers$Nights", name := "fare", desc := "(I)I" } : Jvm.MethodName)) ∈ lw_all := lw_g (lw_at lw_m6 164 rfl) rfl
theorem q1483 : (Jvm.Cond.privateMethod ({ cls := "LitStrangers$Nights", name := "fare", desc := "(I)I" } : Jvm.MethodName)) ∈ lw_tbl := lw_at lw_m6 165 rfl
theorem q1484 : (Jvm.Cond.instanceMethod ({ cls := "LitStrangers$Nights", name := "fare", desc := "(I)I" } : Jvm.MethodName)) ∈ lw_all := lw_g (lw_at lw_m6 166 rfl) rfl
theorem q1485 : (Jvm.Cond.code ({ cls := "LitStrangers$Nights", name := "fare", desc := "(I)I" } : Jvm.MethodName) prog_14_method_8_code (4 : Nat) (Option.some Jvm.ClassFile.FieldType.int)) ∈ lw_all := lw_g (lw_at lw_m6 167 rfl) rfl
theorem q1486 : (Jvm.Cond.methodLink "LitStrangers$Nights" (159 : Nat) ({ cls := "LitStrangers$Nights", name := "least", desc := "(II)I" } : Jvm.MethodName)) ∈ lw_all := lw_g (lw_at lw_m6 168 rfl) rfl
theorem q1487 : (Jvm.Cond.instanceMethod ({ cls := "LitStrangers$Nights", name := "least", desc := "(II)I" } : Jvm.MethodName)) ∈ lw_all := lw_g (lw_at lw_m6 169 rfl) rfl
theorem q1488 : (Jvm.Cond.selects "LitStrangers$Nights" ({ cls := "LitStrangers$Nights", name := "least", desc := "(II)I" } : Jvm.MethodName) ({ cls := "LitStrangers$Nights", name := "least", desc := "(II)I" } : Jvm.MethodName)) ∈ lw_all := lw_g (lw_at lw_m6 170 rfl) rfl
theorem q1489 : (Jvm.Cond.code ({ cls := "LitStrangers$Nights", name := "least", desc := "(II)I" } : Jvm.MethodName) prog_14_method_9_code (6 : Nat) (Option.some Jvm.ClassFile.FieldType.int)) ∈ lw_all := lw_g (lw_at lw_m6 171 rfl) rfl
theorem q1501 : (Jvm.Cond.instanceMethod ({ cls := "LitStrangers$Nights", name := "rows", desc := "(II)J" } : Jvm.MethodName)) ∈ lw_all := lw_g (lw_at lw_m6 183 rfl) rfl
theorem q1502 : (Jvm.Cond.selects "LitStrangers$Nights" ({ cls := "LitStrangers$Nights", name := "rows", desc := "(II)J" } : Jvm.MethodName) ({ cls := "LitStrangers$Nights", name := "rows", desc := "(II)J" } : Jvm.MethodName)) ∈ lw_all := lw_g (lw_at lw_m6 184 rfl) rfl
theorem q1503 : (Jvm.Cond.code ({ cls := "LitStrangers$Nights", name := "rows", desc := "(II)J" } : Jvm.MethodName) prog_14_method_10_code (7 : Nat) (Option.some Jvm.ClassFile.FieldType.long)) ∈ lw_all := lw_g (lw_at lw_m6 185 rfl) rfl
theorem q1504 : (Jvm.Cond.methodLink "LitStrangers$Nights" (161 : Nat) ({ cls := "LitStrangers$Nights", name := "rows", desc := "(II)J" } : Jvm.MethodName)) ∈ lw_all := lw_g (lw_at lw_m6 186 rfl) rfl
theorem q1510 : (Jvm.Cond.instanceMethod ({ cls := "LitStrangers$Nights", name := "late", desc := "(I)I" } : Jvm.MethodName)) ∈ lw_all := lw_g (lw_at lw_m6 192 rfl) rfl
theorem q1511 : (Jvm.Cond.selects "LitStrangers$Nights" ({ cls := "LitStrangers$Nights", name := "late", desc := "(I)I" } : Jvm.MethodName) ({ cls := "LitStrangers$Nights", name := "late", desc := "(I)I" } : Jvm.MethodName)) ∈ lw_all := lw_g (lw_at lw_m6 193 rfl) rfl
theorem q1512 : (Jvm.Cond.code ({ cls := "LitStrangers$Nights", name := "late", desc := "(I)I" } : Jvm.MethodName) prog_14_method_11_code (8 : Nat) (Option.some Jvm.ClassFile.FieldType.int)) ∈ lw_all := lw_g (lw_at lw_m6 194 rfl) rfl
theorem q1518 : (Jvm.Cond.instanceMethod ({ cls := "LitStrangers$Nights", name := "turns", desc := "(III)I" } : Jvm.MethodName)) ∈ lw_all := lw_g (lw_at lw_m6 200 rfl) rfl
theorem q1519 : (Jvm.Cond.selects "LitStrangers$Nights" ({ cls := "LitStrangers$Nights", name := "turns", desc := "(III)I" } : Jvm.MethodName) ({ cls := "LitStrangers$Nights", name := "turns", desc := "(III)I" } : Jvm.MethodName)) ∈ lw_all := lw_g (lw_at lw_m6 201 rfl) rfl
theorem q1520 : (Jvm.Cond.code ({ cls := "LitStrangers$Nights", name := "turns", desc := "(III)I" } : Jvm.MethodName) prog_14_method_13_code (8 : Nat) (Option.some Jvm.ClassFile.FieldType.int)) ∈ lw_all := lw_g (lw_at lw_m6 202 rfl) rfl
theorem q1521 : (Jvm.Cond.methodLink "LitStrangers$Nights" (179 : Nat) ({ cls := "LitStrangers$Nights", name := "lands", desc := "(I)I" } : Jvm.MethodName)) ∈ lw_all := lw_g (lw_at lw_m6 203 rfl) rfl
theorem q1522 : (Jvm.Cond.privateMethod ({ cls := "LitStrangers$Nights", name := "lands", desc := "(I)I" } : Jvm.MethodName)) ∈ lw_tbl := lw_at lw_m6 204 rfl
theorem q1523 : (Jvm.Cond.instanceMethod ({ cls := "LitStrangers$Nights", name := "lands", desc := "(I)I" } : Jvm.MethodName)) ∈ lw_all := lw_g (lw_at lw_m6 205 rfl) rfl
theorem q1524 : (Jvm.Cond.code ({ cls := "LitStrangers$Nights", name := "lands", desc := "(I)I" } : Jvm.MethodName) prog_14_method_12_code (4 : Nat) (Option.some Jvm.ClassFile.FieldType.int)) ∈ lw_all := lw_g (lw_at lw_m6 206 rfl) rfl
theorem q1525 : (Jvm.Cond.methodLink "LitStrangers$Nights" (168 : Nat) ({ cls := "java/util/ArrayList", name := "get", desc := "(I)Ljava/lang/Object;" } : Jvm.MethodName)) ∈ lw_all := lw_g (lw_at lw_m6 207 rfl) rfl
theorem q1526 : (Jvm.Cond.classLink "LitStrangers$Nights" (174 : Nat) "LitStrangers$Person") ∈ lw_all := lw_g (lw_at lw_m6 208 rfl) rfl
theorem q1527 : (Jvm.Cond.methodLink "LitStrangers$Nights" (182 : Nat) ({ cls := "LitStrangers$Nights", name := "turns", desc := "(III)I" } : Jvm.MethodName)) ∈ lw_all := lw_g (lw_at lw_m6 209 rfl) rfl
theorem q1529 : (Jvm.Cond.instanceMethod ({ cls := "LitStrangers$Nights", name := "turnOf", desc := "(I)I" } : Jvm.MethodName)) ∈ lw_all := lw_g (lw_at lw_m6 211 rfl) rfl
theorem q1530 : (Jvm.Cond.selects "LitStrangers$Nights" ({ cls := "LitStrangers$Nights", name := "turnOf", desc := "(I)I" } : Jvm.MethodName) ({ cls := "LitStrangers$Nights", name := "turnOf", desc := "(I)I" } : Jvm.MethodName)) ∈ lw_all := lw_g (lw_at lw_m6 212 rfl) rfl
theorem q1531 : (Jvm.Cond.code ({ cls := "LitStrangers$Nights", name := "turnOf", desc := "(I)I" } : Jvm.MethodName) prog_14_method_14_code (8 : Nat) (Option.some Jvm.ClassFile.FieldType.int)) ∈ lw_all := lw_g (lw_at lw_m6 213 rfl) rfl
theorem q2421 : (Jvm.Cond.castable "LitStrangers$Nights" "java/lang/Object") ∈ lw_tbl := lw_at lw_m10 143 rfl
theorem in_X5 : ∀ w ∈ wsX50, w ∈ lw_all := lw_in wsX50 [353, 355, 357, 359, 361, 363, 365, 367, 369, 371, 373, 375] (by decide +kernel) (by decide +kernel)
/-! LitStrangers$Reader -/
set_option maxRecDepth 100000
def RX8 : String := "LitStrangers$Reader"
abbrev cX8_init : ByteArray := prog_21_method_1_code
def yX8_init : MethodName := ⟨RX8, "<init>", "(LLitStrangers;[Ljava/lang/String;)V"⟩
def dkwX8_init_0 : List UInt8 := [42, 43, 181, 0, 3, 42, 183, 0, 9, 42, 16, 50, 189, 0, 15, 181, 0, 17, 42, 44, 181, 0, 21, 177]
abbrev dktX8_init_0 : List UInt8 := dkwX8_init_0 ++ []
theorem dksX8_init_0 : cX8_init.data.toList.drop 0 = dktX8_init_0 := by decide +kernel
theorem dX8_init_0 : decode cX8_init 0 = .ok (.aload_n 0, 1) := dk_42 (dk_at dksX8_init_0 0 rfl rfl)
theorem dX8_init_1 : decode cX8_init 1 = .ok (.aload_n 1, 1) := dk_43 (dk_at dksX8_init_0 1 rfl rfl)
theorem dX8_init_2 : decode cX8_init 2 = .ok (.putfield 3, 3) := dk_181 0 3 (dk_at dksX8_init_0 2 rfl rfl)
theorem dX8_init_5 : decode cX8_init 5 = .ok (.aload_n 0, 1) := dk_42 (dk_at dksX8_init_0 5 rfl rfl)
theorem dX8_init_6 : decode cX8_init 6 = .ok (.invokespecial 9, 3) := dk_183 0 9 (dk_at dksX8_init_0 6 rfl rfl)
theorem dX8_init_9 : decode cX8_init 9 = .ok (.aload_n 0, 1) := dk_42 (dk_at dksX8_init_0 9 rfl rfl)
theorem dX8_init_10 : decode cX8_init 10 = .ok (.bipush 50, 2) := dk_16 50 (dk_at dksX8_init_0 10 rfl rfl)
theorem dX8_init_12 : decode cX8_init 12 = .ok (.anewarray 15, 3) := dk_189 0 15 (dk_at dksX8_init_0 12 rfl rfl)
theorem dX8_init_15 : decode cX8_init 15 = .ok (.putfield 17, 3) := dk_181 0 17 (dk_at dksX8_init_0 15 rfl rfl)
theorem dX8_init_18 : decode cX8_init 18 = .ok (.aload_n 0, 1) := dk_42 (dk_at dksX8_init_0 18 rfl rfl)
theorem dX8_init_19 : decode cX8_init 19 = .ok (.aload_n 2, 1) := dk_44 (dk_at dksX8_init_0 19 rfl rfl)
theorem dX8_init_20 : decode cX8_init 20 = .ok (.putfield 21, 3) := dk_181 0 21 (dk_at dksX8_init_0 20 rfl rfl)
theorem dX8_init_23 : decode cX8_init 23 = .ok (.return_, 1) := dk_177 (dk_at dksX8_init_0 23 rfl rfl)
abbrev cX8_readAll : ByteArray := prog_21_method_2_code
def yX8_readAll : MethodName := ⟨RX8, "readAll", "()I"⟩
def dkwX8_readAll_2 : List UInt8 := [180, 0, 46, 160, 0, 7, 4, 167, 0, 4, 3, 182, 0, 28, 27, 172]
abbrev dktX8_readAll_2 : List UInt8 := dkwX8_readAll_2 ++ []
def dkwX8_readAll_1 : List UInt8 := [182, 0, 32, 132, 1, 1, 42, 18, 36, 182, 0, 38, 154, 255, 227, 42, 42, 180, 0, 42, 42, 180, 0, 3]
abbrev dktX8_readAll_1 : List UInt8 := dkwX8_readAll_1 ++ dktX8_readAll_2
def dkwX8_readAll_0 : List UInt8 := [3, 60, 42, 182, 0, 25, 42, 27, 16, 12, 162, 0, 7, 4, 167, 0, 4, 3, 182, 0, 28, 42, 27]
abbrev dktX8_readAll_0 : List UInt8 := dkwX8_readAll_0 ++ dktX8_readAll_1
theorem dksX8_readAll_0 : cX8_readAll.data.toList.drop 0 = dktX8_readAll_0 := by decide +kernel
theorem dksX8_readAll_1 : cX8_readAll.data.toList.drop 23 = dktX8_readAll_1 := dk_seg dksX8_readAll_0 23 rfl rfl
theorem dksX8_readAll_2 : cX8_readAll.data.toList.drop 47 = dktX8_readAll_2 := dk_seg dksX8_readAll_1 24 rfl rfl
theorem dX8_readAll_0 : decode cX8_readAll 0 = .ok (.iconst 0, 1) := dk_3 (dk_at dksX8_readAll_0 0 rfl rfl)
theorem dX8_readAll_1 : decode cX8_readAll 1 = .ok (.istore_n 1, 1) := dk_60 (dk_at dksX8_readAll_0 1 rfl rfl)
theorem dX8_readAll_2 : decode cX8_readAll 2 = .ok (.aload_n 0, 1) := dk_42 (dk_at dksX8_readAll_0 2 rfl rfl)
theorem dX8_readAll_3 : decode cX8_readAll 3 = .ok (.invokevirtual 25, 3) := dk_182 0 25 (dk_at dksX8_readAll_0 3 rfl rfl)
theorem dX8_readAll_6 : decode cX8_readAll 6 = .ok (.aload_n 0, 1) := dk_42 (dk_at dksX8_readAll_0 6 rfl rfl)
theorem dX8_readAll_7 : decode cX8_readAll 7 = .ok (.iload_n 1, 1) := dk_27 (dk_at dksX8_readAll_0 7 rfl rfl)
theorem dX8_readAll_8 : decode cX8_readAll 8 = .ok (.bipush 12, 2) := dk_16 12 (dk_at dksX8_readAll_0 8 rfl rfl)
theorem dX8_readAll_10 : decode cX8_readAll 10 = .ok (.if_icmp .ge 7, 3) := dk_162 0 7 (dk_at dksX8_readAll_0 10 rfl rfl)
theorem dX8_readAll_13 : decode cX8_readAll 13 = .ok (.iconst 1, 1) := dk_4 (dk_at dksX8_readAll_0 13 rfl rfl)
theorem dX8_readAll_14 : decode cX8_readAll 14 = .ok (.goto 4, 3) := dk_167 0 4 (dk_at dksX8_readAll_0 14 rfl rfl)
theorem dX8_readAll_17 : decode cX8_readAll 17 = .ok (.iconst 0, 1) := dk_3 (dk_at dksX8_readAll_0 17 rfl rfl)
theorem dX8_readAll_18 : decode cX8_readAll 18 = .ok (.invokevirtual 28, 3) := dk_182 0 28 (dk_at dksX8_readAll_0 18 rfl rfl)
theorem dX8_readAll_21 : decode cX8_readAll 21 = .ok (.aload_n 0, 1) := dk_42 (dk_at dksX8_readAll_0 21 rfl rfl)
theorem dX8_readAll_22 : decode cX8_readAll 22 = .ok (.iload_n 1, 1) := dk_27 (dk_at dksX8_readAll_0 22 rfl rfl)
theorem dX8_readAll_23 : decode cX8_readAll 23 = .ok (.invokevirtual 32, 3) := dk_182 0 32 (dk_at dksX8_readAll_1 0 rfl rfl)
theorem dX8_readAll_26 : decode cX8_readAll 26 = .ok (.iinc 1 1, 3) := dk_132 1 1 (dk_at dksX8_readAll_1 3 rfl rfl)
theorem dX8_readAll_29 : decode cX8_readAll 29 = .ok (.aload_n 0, 1) := dk_42 (dk_at dksX8_readAll_1 6 rfl rfl)
theorem dX8_readAll_30 : decode cX8_readAll 30 = .ok (.ldc 36, 2) := dk_18 36 (dk_at dksX8_readAll_1 7 rfl rfl)
theorem dX8_readAll_32 : decode cX8_readAll 32 = .ok (.invokevirtual 38, 3) := dk_182 0 38 (dk_at dksX8_readAll_1 9 rfl rfl)
theorem dX8_readAll_35 : decode cX8_readAll 35 = .ok (.ifCond .ne (-29), 3) := dk_154 255 227 (dk_at dksX8_readAll_1 12 rfl rfl)
theorem dX8_readAll_38 : decode cX8_readAll 38 = .ok (.aload_n 0, 1) := dk_42 (dk_at dksX8_readAll_1 15 rfl rfl)
theorem dX8_readAll_39 : decode cX8_readAll 39 = .ok (.aload_n 0, 1) := dk_42 (dk_at dksX8_readAll_1 16 rfl rfl)
theorem dX8_readAll_40 : decode cX8_readAll 40 = .ok (.getfield 42, 3) := dk_180 0 42 (dk_at dksX8_readAll_1 17 rfl rfl)
theorem dX8_readAll_43 : decode cX8_readAll 43 = .ok (.aload_n 0, 1) := dk_42 (dk_at dksX8_readAll_1 20 rfl rfl)
theorem dX8_readAll_44 : decode cX8_readAll 44 = .ok (.getfield 3, 3) := dk_180 0 3 (dk_at dksX8_readAll_1 21 rfl rfl)
theorem dX8_readAll_47 : decode cX8_readAll 47 = .ok (.getfield 46, 3) := dk_180 0 46 (dk_at dksX8_readAll_2 0 rfl rfl)
theorem dX8_readAll_50 : decode cX8_readAll 50 = .ok (.if_icmp .ne 7, 3) := dk_160 0 7 (dk_at dksX8_readAll_2 3 rfl rfl)
theorem dX8_readAll_53 : decode cX8_readAll 53 = .ok (.iconst 1, 1) := dk_4 (dk_at dksX8_readAll_2 6 rfl rfl)
theorem dX8_readAll_54 : decode cX8_readAll 54 = .ok (.goto 4, 3) := dk_167 0 4 (dk_at dksX8_readAll_2 7 rfl rfl)
theorem dX8_readAll_57 : decode cX8_readAll 57 = .ok (.iconst 0, 1) := dk_3 (dk_at dksX8_readAll_2 10 rfl rfl)
theorem dX8_readAll_58 : decode cX8_readAll 58 = .ok (.invokevirtual 28, 3) := dk_182 0 28 (dk_at dksX8_readAll_2 11 rfl rfl)
theorem dX8_readAll_61 : decode cX8_readAll 61 = .ok (.iload_n 1, 1) := dk_27 (dk_at dksX8_readAll_2 14 rfl rfl)
theorem dX8_readAll_62 : decode cX8_readAll 62 = .ok (.ireturn, 1) := dk_172 (dk_at dksX8_readAll_2 15 rfl rfl)
abbrev cX8_next : ByteArray := prog_21_method_4_code
def yX8_next : MethodName := ⟨RX8, "next", "()V"⟩
def dkwX8_next_8 : List UInt8 := [181, 0, 49, 167, 255, 188, 177]
abbrev dktX8_next_8 : List UInt8 := dkwX8_next_8 ++ []
def dkwX8_next_7 : List UInt8 := [180, 0, 3, 180, 0, 52, 42, 180, 0, 49, 51, 184, 0, 60, 153, 0, 16, 42, 89, 180, 0, 49, 4, 96]
abbrev dktX8_next_7 : List UInt8 := dkwX8_next_7 ++ dktX8_next_8
def dkwX8_next_6 : List UInt8 := [180, 0, 3, 180, 0, 52, 42, 180, 0, 49, 51, 184, 0, 56, 154, 0, 25, 28, 153, 0, 34, 42]
abbrev dktX8_next_6 : List UInt8 := dkwX8_next_6 ++ dktX8_next_7
def dkwX8_next_5 : List UInt8 := [181, 0, 49, 42, 180, 0, 49, 42, 180, 0, 3, 180, 0, 46, 162, 0, 60, 27, 153, 0, 21, 42]
abbrev dktX8_next_5 : List UInt8 := dkwX8_next_5 ++ dktX8_next_6
def dkwX8_next_4 : List UInt8 := [180, 0, 3, 180, 0, 52, 42, 180, 0, 49, 51, 184, 0, 60, 61, 42, 89, 180, 0, 49, 4, 96]
abbrev dktX8_next_4 : List UInt8 := dkwX8_next_4 ++ dktX8_next_5
def dkwX8_next_3 : List UInt8 := [180, 0, 46, 160, 0, 4, 177, 42, 180, 0, 3, 180, 0, 52, 42, 180, 0, 49, 51, 184, 0, 56, 60, 42]
abbrev dktX8_next_3 : List UInt8 := dkwX8_next_3 ++ dktX8_next_4
def dkwX8_next_2 : List UInt8 := [181, 0, 42, 167, 255, 215, 42, 42, 180, 0, 42, 181, 0, 49, 42, 180, 0, 49, 42, 180, 0, 3]
abbrev dktX8_next_2 : List UInt8 := dkwX8_next_2 ++ dktX8_next_3
def dkwX8_next_1 : List UInt8 := [180, 0, 3, 180, 0, 52, 42, 180, 0, 42, 51, 16, 32, 160, 0, 16, 42, 89, 180, 0, 42, 4, 96]
abbrev dktX8_next_1 : List UInt8 := dkwX8_next_1 ++ dktX8_next_2
def dkwX8_next_0 : List UInt8 := [42, 42, 180, 0, 49, 181, 0, 42, 42, 180, 0, 42, 42, 180, 0, 3, 180, 0, 46, 162, 0, 33, 42]
abbrev dktX8_next_0 : List UInt8 := dkwX8_next_0 ++ dktX8_next_1
theorem dksX8_next_0 : cX8_next.data.toList.drop 0 = dktX8_next_0 := by decide +kernel
theorem dksX8_next_1 : cX8_next.data.toList.drop 23 = dktX8_next_1 := dk_seg dksX8_next_0 23 rfl rfl
theorem dksX8_next_2 : cX8_next.data.toList.drop 46 = dktX8_next_2 := dk_seg dksX8_next_1 23 rfl rfl
theorem dksX8_next_3 : cX8_next.data.toList.drop 68 = dktX8_next_3 := dk_seg dksX8_next_2 22 rfl rfl
theorem dksX8_next_4 : cX8_next.data.toList.drop 92 = dktX8_next_4 := dk_seg dksX8_next_3 24 rfl rfl
theorem dksX8_next_5 : cX8_next.data.toList.drop 114 = dktX8_next_5 := dk_seg dksX8_next_4 22 rfl rfl
theorem dksX8_next_6 : cX8_next.data.toList.drop 136 = dktX8_next_6 := dk_seg dksX8_next_5 22 rfl rfl
theorem dksX8_next_7 : cX8_next.data.toList.drop 158 = dktX8_next_7 := dk_seg dksX8_next_6 22 rfl rfl
theorem dksX8_next_8 : cX8_next.data.toList.drop 182 = dktX8_next_8 := dk_seg dksX8_next_7 24 rfl rfl
theorem dX8_next_0 : decode cX8_next 0 = .ok (.aload_n 0, 1) := dk_42 (dk_at dksX8_next_0 0 rfl rfl)
theorem dX8_next_1 : decode cX8_next 1 = .ok (.aload_n 0, 1) := dk_42 (dk_at dksX8_next_0 1 rfl rfl)
theorem dX8_next_2 : decode cX8_next 2 = .ok (.getfield 49, 3) := dk_180 0 49 (dk_at dksX8_next_0 2 rfl rfl)
theorem dX8_next_5 : decode cX8_next 5 = .ok (.putfield 42, 3) := dk_181 0 42 (dk_at dksX8_next_0 5 rfl rfl)
theorem dX8_next_8 : decode cX8_next 8 = .ok (.aload_n 0, 1) := dk_42 (dk_at dksX8_next_0 8 rfl rfl)
theorem dX8_next_9 : decode cX8_next 9 = .ok (.getfield 42, 3) := dk_180 0 42 (dk_at dksX8_next_0 9 rfl rfl)
theorem dX8_next_12 : decode cX8_next 12 = .ok (.aload_n 0, 1) := dk_42 (dk_at dksX8_next_0 12 rfl rfl)
theorem dX8_next_13 : decode cX8_next 13 = .ok (.getfield 3, 3) := dk_180 0 3 (dk_at dksX8_next_0 13 rfl rfl)
theorem dX8_next_16 : decode cX8_next 16 = .ok (.getfield 46, 3) := dk_180 0 46 (dk_at dksX8_next_0 16 rfl rfl)
theorem dX8_next_19 : decode cX8_next 19 = .ok (.if_icmp .ge 33, 3) := dk_162 0 33 (dk_at dksX8_next_0 19 rfl rfl)
theorem dX8_next_22 : decode cX8_next 22 = .ok (.aload_n 0, 1) := dk_42 (dk_at dksX8_next_0 22 rfl rfl)
theorem dX8_next_23 : decode cX8_next 23 = .ok (.getfield 3, 3) := dk_180 0 3 (dk_at dksX8_next_1 0 rfl rfl)
theorem dX8_next_26 : decode cX8_next 26 = .ok (.getfield 52, 3) := dk_180 0 52 (dk_at dksX8_next_1 3 rfl rfl)
theorem dX8_next_29 : decode cX8_next 29 = .ok (.aload_n 0, 1) := dk_42 (dk_at dksX8_next_1 6 rfl rfl)
theorem dX8_next_30 : decode cX8_next 30 = .ok (.getfield 42, 3) := dk_180 0 42 (dk_at dksX8_next_1 7 rfl rfl)
theorem dX8_next_33 : decode cX8_next 33 = .ok (.baload, 1) := dk_51 (dk_at dksX8_next_1 10 rfl rfl)
theorem dX8_next_34 : decode cX8_next 34 = .ok (.bipush 32, 2) := dk_16 32 (dk_at dksX8_next_1 11 rfl rfl)
theorem dX8_next_36 : decode cX8_next 36 = .ok (.if_icmp .ne 16, 3) := dk_160 0 16 (dk_at dksX8_next_1 13 rfl rfl)
theorem dX8_next_39 : decode cX8_next 39 = .ok (.aload_n 0, 1) := dk_42 (dk_at dksX8_next_1 16 rfl rfl)
theorem dX8_next_40 : decode cX8_next 40 = .ok (.dup, 1) := dk_89 (dk_at dksX8_next_1 17 rfl rfl)
theorem dX8_next_41 : decode cX8_next 41 = .ok (.getfield 42, 3) := dk_180 0 42 (dk_at dksX8_next_1 18 rfl rfl)
theorem dX8_next_44 : decode cX8_next 44 = .ok (.iconst 1, 1) := dk_4 (dk_at dksX8_next_1 21 rfl rfl)
theorem dX8_next_45 : decode cX8_next 45 = .ok (.iadd, 1) := dk_96 (dk_at dksX8_next_1 22 rfl rfl)
theorem dX8_next_46 : decode cX8_next 46 = .ok (.putfield 42, 3) := dk_181 0 42 (dk_at dksX8_next_2 0 rfl rfl)
theorem dX8_next_49 : decode cX8_next 49 = .ok (.goto (-41), 3) := dk_167 255 215 (dk_at dksX8_next_2 3 rfl rfl)
theorem dX8_next_52 : decode cX8_next 52 = .ok (.aload_n 0, 1) := dk_42 (dk_at dksX8_next_2 6 rfl rfl)
theorem dX8_next_53 : decode cX8_next 53 = .ok (.aload_n 0, 1) := dk_42 (dk_at dksX8_next_2 7 rfl rfl)
theorem dX8_next_54 : decode cX8_next 54 = .ok (.getfield 42, 3) := dk_180 0 42 (dk_at dksX8_next_2 8 rfl rfl)
theorem dX8_next_57 : decode cX8_next 57 = .ok (.putfield 49, 3) := dk_181 0 49 (dk_at dksX8_next_2 11 rfl rfl)
theorem dX8_next_60 : decode cX8_next 60 = .ok (.aload_n 0, 1) := dk_42 (dk_at dksX8_next_2 14 rfl rfl)
theorem dX8_next_61 : decode cX8_next 61 = .ok (.getfield 49, 3) := dk_180 0 49 (dk_at dksX8_next_2 15 rfl rfl)
theorem dX8_next_64 : decode cX8_next 64 = .ok (.aload_n 0, 1) := dk_42 (dk_at dksX8_next_2 18 rfl rfl)
theorem dX8_next_65 : decode cX8_next 65 = .ok (.getfield 3, 3) := dk_180 0 3 (dk_at dksX8_next_2 19 rfl rfl)
theorem dX8_next_68 : decode cX8_next 68 = .ok (.getfield 46, 3) := dk_180 0 46 (dk_at dksX8_next_3 0 rfl rfl)
theorem dX8_next_71 : decode cX8_next 71 = .ok (.if_icmp .ne 4, 3) := dk_160 0 4 (dk_at dksX8_next_3 3 rfl rfl)
theorem dX8_next_74 : decode cX8_next 74 = .ok (.return_, 1) := dk_177 (dk_at dksX8_next_3 6 rfl rfl)
theorem dX8_next_75 : decode cX8_next 75 = .ok (.aload_n 0, 1) := dk_42 (dk_at dksX8_next_3 7 rfl rfl)
theorem dX8_next_76 : decode cX8_next 76 = .ok (.getfield 3, 3) := dk_180 0 3 (dk_at dksX8_next_3 8 rfl rfl)
theorem dX8_next_79 : decode cX8_next 79 = .ok (.getfield 52, 3) := dk_180 0 52 (dk_at dksX8_next_3 11 rfl rfl)
theorem dX8_next_82 : decode cX8_next 82 = .ok (.aload_n 0, 1) := dk_42 (dk_at dksX8_next_3 14 rfl rfl)
theorem dX8_next_83 : decode cX8_next 83 = .ok (.getfield 49, 3) := dk_180 0 49 (dk_at dksX8_next_3 15 rfl rfl)
theorem dX8_next_86 : decode cX8_next 86 = .ok (.baload, 1) := dk_51 (dk_at dksX8_next_3 18 rfl rfl)
theorem dX8_next_87 : decode cX8_next 87 = .ok (.invokestatic 56, 3) := dk_184 0 56 (dk_at dksX8_next_3 19 rfl rfl)
theorem dX8_next_90 : decode cX8_next 90 = .ok (.istore_n 1, 1) := dk_60 (dk_at dksX8_next_3 22 rfl rfl)
theorem dX8_next_91 : decode cX8_next 91 = .ok (.aload_n 0, 1) := dk_42 (dk_at dksX8_next_3 23 rfl rfl)
theorem dX8_next_92 : decode cX8_next 92 = .ok (.getfield 3, 3) := dk_180 0 3 (dk_at dksX8_next_4 0 rfl rfl)
theorem dX8_next_95 : decode cX8_next 95 = .ok (.getfield 52, 3) := dk_180 0 52 (dk_at dksX8_next_4 3 rfl rfl)
theorem dX8_next_98 : decode cX8_next 98 = .ok (.aload_n 0, 1) := dk_42 (dk_at dksX8_next_4 6 rfl rfl)
theorem dX8_next_99 : decode cX8_next 99 = .ok (.getfield 49, 3) := dk_180 0 49 (dk_at dksX8_next_4 7 rfl rfl)
theorem dX8_next_102 : decode cX8_next 102 = .ok (.baload, 1) := dk_51 (dk_at dksX8_next_4 10 rfl rfl)
theorem dX8_next_103 : decode cX8_next 103 = .ok (.invokestatic 60, 3) := dk_184 0 60 (dk_at dksX8_next_4 11 rfl rfl)
theorem dX8_next_106 : decode cX8_next 106 = .ok (.istore_n 2, 1) := dk_61 (dk_at dksX8_next_4 14 rfl rfl)
theorem dX8_next_107 : decode cX8_next 107 = .ok (.aload_n 0, 1) := dk_42 (dk_at dksX8_next_4 15 rfl rfl)
theorem dX8_next_108 : decode cX8_next 108 = .ok (.dup, 1) := dk_89 (dk_at dksX8_next_4 16 rfl rfl)
theorem dX8_next_109 : decode cX8_next 109 = .ok (.getfield 49, 3) := dk_180 0 49 (dk_at dksX8_next_4 17 rfl rfl)
theorem dX8_next_112 : decode cX8_next 112 = .ok (.iconst 1, 1) := dk_4 (dk_at dksX8_next_4 20 rfl rfl)
theorem dX8_next_113 : decode cX8_next 113 = .ok (.iadd, 1) := dk_96 (dk_at dksX8_next_4 21 rfl rfl)
theorem dX8_next_114 : decode cX8_next 114 = .ok (.putfield 49, 3) := dk_181 0 49 (dk_at dksX8_next_5 0 rfl rfl)
theorem dX8_next_117 : decode cX8_next 117 = .ok (.aload_n 0, 1) := dk_42 (dk_at dksX8_next_5 3 rfl rfl)
theorem dX8_next_118 : decode cX8_next 118 = .ok (.getfield 49, 3) := dk_180 0 49 (dk_at dksX8_next_5 4 rfl rfl)
theorem dX8_next_121 : decode cX8_next 121 = .ok (.aload_n 0, 1) := dk_42 (dk_at dksX8_next_5 7 rfl rfl)
theorem dX8_next_122 : decode cX8_next 122 = .ok (.getfield 3, 3) := dk_180 0 3 (dk_at dksX8_next_5 8 rfl rfl)
theorem dX8_next_125 : decode cX8_next 125 = .ok (.getfield 46, 3) := dk_180 0 46 (dk_at dksX8_next_5 11 rfl rfl)
theorem dX8_next_128 : decode cX8_next 128 = .ok (.if_icmp .ge 60, 3) := dk_162 0 60 (dk_at dksX8_next_5 14 rfl rfl)
theorem dX8_next_131 : decode cX8_next 131 = .ok (.iload_n 1, 1) := dk_27 (dk_at dksX8_next_5 17 rfl rfl)
theorem dX8_next_132 : decode cX8_next 132 = .ok (.ifCond .eq 21, 3) := dk_153 0 21 (dk_at dksX8_next_5 18 rfl rfl)
theorem dX8_next_135 : decode cX8_next 135 = .ok (.aload_n 0, 1) := dk_42 (dk_at dksX8_next_5 21 rfl rfl)
theorem dX8_next_136 : decode cX8_next 136 = .ok (.getfield 3, 3) := dk_180 0 3 (dk_at dksX8_next_6 0 rfl rfl)
theorem dX8_next_139 : decode cX8_next 139 = .ok (.getfield 52, 3) := dk_180 0 52 (dk_at dksX8_next_6 3 rfl rfl)
theorem dX8_next_142 : decode cX8_next 142 = .ok (.aload_n 0, 1) := dk_42 (dk_at dksX8_next_6 6 rfl rfl)
theorem dX8_next_143 : decode cX8_next 143 = .ok (.getfield 49, 3) := dk_180 0 49 (dk_at dksX8_next_6 7 rfl rfl)
theorem dX8_next_146 : decode cX8_next 146 = .ok (.baload, 1) := dk_51 (dk_at dksX8_next_6 10 rfl rfl)
theorem dX8_next_147 : decode cX8_next 147 = .ok (.invokestatic 56, 3) := dk_184 0 56 (dk_at dksX8_next_6 11 rfl rfl)
theorem dX8_next_150 : decode cX8_next 150 = .ok (.ifCond .ne 25, 3) := dk_154 0 25 (dk_at dksX8_next_6 14 rfl rfl)
theorem dX8_next_153 : decode cX8_next 153 = .ok (.iload_n 2, 1) := dk_28 (dk_at dksX8_next_6 17 rfl rfl)
theorem dX8_next_154 : decode cX8_next 154 = .ok (.ifCond .eq 34, 3) := dk_153 0 34 (dk_at dksX8_next_6 18 rfl rfl)
theorem dX8_next_157 : decode cX8_next 157 = .ok (.aload_n 0, 1) := dk_42 (dk_at dksX8_next_6 21 rfl rfl)
theorem dX8_next_158 : decode cX8_next 158 = .ok (.getfield 3, 3) := dk_180 0 3 (dk_at dksX8_next_7 0 rfl rfl)
theorem dX8_next_161 : decode cX8_next 161 = .ok (.getfield 52, 3) := dk_180 0 52 (dk_at dksX8_next_7 3 rfl rfl)
theorem dX8_next_164 : decode cX8_next 164 = .ok (.aload_n 0, 1) := dk_42 (dk_at dksX8_next_7 6 rfl rfl)
theorem dX8_next_165 : decode cX8_next 165 = .ok (.getfield 49, 3) := dk_180 0 49 (dk_at dksX8_next_7 7 rfl rfl)
theorem dX8_next_168 : decode cX8_next 168 = .ok (.baload, 1) := dk_51 (dk_at dksX8_next_7 10 rfl rfl)
theorem dX8_next_169 : decode cX8_next 169 = .ok (.invokestatic 60, 3) := dk_184 0 60 (dk_at dksX8_next_7 11 rfl rfl)
theorem dX8_next_172 : decode cX8_next 172 = .ok (.ifCond .eq 16, 3) := dk_153 0 16 (dk_at dksX8_next_7 14 rfl rfl)
theorem dX8_next_175 : decode cX8_next 175 = .ok (.aload_n 0, 1) := dk_42 (dk_at dksX8_next_7 17 rfl rfl)
theorem dX8_next_176 : decode cX8_next 176 = .ok (.dup, 1) := dk_89 (dk_at dksX8_next_7 18 rfl rfl)
theorem dX8_next_177 : decode cX8_next 177 = .ok (.getfield 49, 3) := dk_180 0 49 (dk_at dksX8_next_7 19 rfl rfl)
theorem dX8_next_180 : decode cX8_next 180 = .ok (.iconst 1, 1) := dk_4 (dk_at dksX8_next_7 22 rfl rfl)
theorem dX8_next_181 : decode cX8_next 181 = .ok (.iadd, 1) := dk_96 (dk_at dksX8_next_7 23 rfl rfl)
theorem dX8_next_182 : decode cX8_next 182 = .ok (.putfield 49, 3) := dk_181 0 49 (dk_at dksX8_next_8 0 rfl rfl)
theorem dX8_next_185 : decode cX8_next 185 = .ok (.goto (-68), 3) := dk_167 255 188 (dk_at dksX8_next_8 3 rfl rfl)
theorem dX8_next_188 : decode cX8_next 188 = .ok (.return_, 1) := dk_177 (dk_at dksX8_next_8 6 rfl rfl)
abbrev cX8_must : ByteArray := prog_21_method_8_code
def yX8_must : MethodName := ⟨RX8, "must", "(Z)V"⟩
def dkwX8_must_0 : List UInt8 := [27, 154, 0, 15, 187, 0, 76, 89, 42, 180, 0, 42, 183, 0, 78, 191, 177]
abbrev dktX8_must_0 : List UInt8 := dkwX8_must_0 ++ []
theorem dksX8_must_0 : cX8_must.data.toList.drop 0 = dktX8_must_0 := by decide +kernel
theorem dX8_must_0 : decode cX8_must 0 = .ok (.iload_n 1, 1) := dk_27 (dk_at dksX8_must_0 0 rfl rfl)
theorem dX8_must_1 : decode cX8_must 1 = .ok (.ifCond .ne 15, 3) := dk_154 0 15 (dk_at dksX8_must_0 1 rfl rfl)
theorem dX8_must_4 : decode cX8_must 4 = .ok (.new 76, 3) := dk_187 0 76 (dk_at dksX8_must_0 4 rfl rfl)
theorem dX8_must_7 : decode cX8_must 7 = .ok (.dup, 1) := dk_89 (dk_at dksX8_must_0 7 rfl rfl)
theorem dX8_must_8 : decode cX8_must 8 = .ok (.aload_n 0, 1) := dk_42 (dk_at dksX8_must_0 8 rfl rfl)
theorem dX8_must_9 : decode cX8_must 9 = .ok (.getfield 42, 3) := dk_180 0 42 (dk_at dksX8_must_0 9 rfl rfl)
theorem dX8_must_12 : decode cX8_must 12 = .ok (.invokespecial 78, 3) := dk_183 0 78 (dk_at dksX8_must_0 12 rfl rfl)
theorem dX8_must_15 : decode cX8_must 15 = .ok (.athrow, 1) := dk_191 (dk_at dksX8_must_0 15 rfl rfl)
theorem dX8_must_16 : decode cX8_must 16 = .ok (.return_, 1) := dk_177 (dk_at dksX8_must_0 16 rfl rfl)
abbrev cX8_which : ByteArray := prog_21_method_6_code
def yX8_which : MethodName := ⟨RX8, "which", "([Ljava/lang/String;)I"⟩
def dkwX8_which_1 : List UInt8 := [167, 255, 235, 2, 172]
abbrev dktX8_which_1 : List UInt8 := dkwX8_which_1 ++ []
def dkwX8_which_0 : List UInt8 := [3, 61, 28, 43, 190, 162, 0, 21, 42, 43, 28, 50, 182, 0, 73, 153, 0, 5, 28, 172, 132, 2, 1]
abbrev dktX8_which_0 : List UInt8 := dkwX8_which_0 ++ dktX8_which_1
theorem dksX8_which_0 : cX8_which.data.toList.drop 0 = dktX8_which_0 := by decide +kernel
theorem dksX8_which_1 : cX8_which.data.toList.drop 23 = dktX8_which_1 := dk_seg dksX8_which_0 23 rfl rfl
theorem dX8_which_0 : decode cX8_which 0 = .ok (.iconst 0, 1) := dk_3 (dk_at dksX8_which_0 0 rfl rfl)
theorem dX8_which_1 : decode cX8_which 1 = .ok (.istore_n 2, 1) := dk_61 (dk_at dksX8_which_0 1 rfl rfl)
theorem dX8_which_2 : decode cX8_which 2 = .ok (.iload_n 2, 1) := dk_28 (dk_at dksX8_which_0 2 rfl rfl)
theorem dX8_which_3 : decode cX8_which 3 = .ok (.aload_n 1, 1) := dk_43 (dk_at dksX8_which_0 3 rfl rfl)
theorem dX8_which_4 : decode cX8_which 4 = .ok (.arraylength, 1) := dk_190 (dk_at dksX8_which_0 4 rfl rfl)
theorem dX8_which_5 : decode cX8_which 5 = .ok (.if_icmp .ge 21, 3) := dk_162 0 21 (dk_at dksX8_which_0 5 rfl rfl)
theorem dX8_which_8 : decode cX8_which 8 = .ok (.aload_n 0, 1) := dk_42 (dk_at dksX8_which_0 8 rfl rfl)
theorem dX8_which_9 : decode cX8_which 9 = .ok (.aload_n 1, 1) := dk_43 (dk_at dksX8_which_0 9 rfl rfl)
theorem dX8_which_10 : decode cX8_which 10 = .ok (.iload_n 2, 1) := dk_28 (dk_at dksX8_which_0 10 rfl rfl)
theorem dX8_which_11 : decode cX8_which 11 = .ok (.aaload, 1) := dk_50 (dk_at dksX8_which_0 11 rfl rfl)
theorem dX8_which_12 : decode cX8_which 12 = .ok (.invokevirtual 73, 3) := dk_182 0 73 (dk_at dksX8_which_0 12 rfl rfl)
theorem dX8_which_15 : decode cX8_which 15 = .ok (.ifCond .eq 5, 3) := dk_153 0 5 (dk_at dksX8_which_0 15 rfl rfl)
theorem dX8_which_18 : decode cX8_which 18 = .ok (.iload_n 2, 1) := dk_28 (dk_at dksX8_which_0 18 rfl rfl)
theorem dX8_which_19 : decode cX8_which 19 = .ok (.ireturn, 1) := dk_172 (dk_at dksX8_which_0 19 rfl rfl)
theorem dX8_which_20 : decode cX8_which 20 = .ok (.iinc 2 1, 3) := dk_132 2 1 (dk_at dksX8_which_0 20 rfl rfl)
theorem dX8_which_23 : decode cX8_which 23 = .ok (.goto (-21), 3) := dk_167 255 235 (dk_at dksX8_which_1 0 rfl rfl)
theorem dX8_which_26 : decode cX8_which 26 = .ok (.iconst (-1), 1) := dk_2 (dk_at dksX8_which_1 3 rfl rfl)
theorem dX8_which_27 : decode cX8_which 27 = .ok (.ireturn, 1) := dk_172 (dk_at dksX8_which_1 4 rfl rfl)
abbrev cX8_isWord : ByteArray := prog_21_method_5_code
def yX8_isWord : MethodName := ⟨RX8, "isWord", "(Ljava/lang/String;)Z"⟩
def dkwX8_isWord_2 : List UInt8 := [182, 0, 69, 159, 0, 5, 3, 172, 132, 2, 1, 167, 255, 221, 4, 172]
abbrev dktX8_isWord_2 : List UInt8 := dkwX8_isWord_2 ++ []
def dkwX8_isWord_1 : List UInt8 := [182, 0, 63, 162, 0, 33, 42, 180, 0, 3, 180, 0, 52, 42, 180, 0, 42, 28, 96, 51, 43, 28]
abbrev dktX8_isWord_1 : List UInt8 := dkwX8_isWord_1 ++ dktX8_isWord_2
def dkwX8_isWord_0 : List UInt8 := [42, 180, 0, 49, 42, 180, 0, 42, 100, 43, 182, 0, 63, 159, 0, 5, 3, 172, 3, 61, 28, 43]
abbrev dktX8_isWord_0 : List UInt8 := dkwX8_isWord_0 ++ dktX8_isWord_1
theorem dksX8_isWord_0 : cX8_isWord.data.toList.drop 0 = dktX8_isWord_0 := by decide +kernel
theorem dksX8_isWord_1 : cX8_isWord.data.toList.drop 22 = dktX8_isWord_1 := dk_seg dksX8_isWord_0 22 rfl rfl
theorem dksX8_isWord_2 : cX8_isWord.data.toList.drop 44 = dktX8_isWord_2 := dk_seg dksX8_isWord_1 22 rfl rfl
theorem dX8_isWord_0 : decode cX8_isWord 0 = .ok (.aload_n 0, 1) := dk_42 (dk_at dksX8_isWord_0 0 rfl rfl)
theorem dX8_isWord_1 : decode cX8_isWord 1 = .ok (.getfield 49, 3) := dk_180 0 49 (dk_at dksX8_isWord_0 1 rfl rfl)
theorem dX8_isWord_4 : decode cX8_isWord 4 = .ok (.aload_n 0, 1) := dk_42 (dk_at dksX8_isWord_0 4 rfl rfl)
theorem dX8_isWord_5 : decode cX8_isWord 5 = .ok (.getfield 42, 3) := dk_180 0 42 (dk_at dksX8_isWord_0 5 rfl rfl)
theorem dX8_isWord_8 : decode cX8_isWord 8 = .ok (.isub, 1) := dk_100 (dk_at dksX8_isWord_0 8 rfl rfl)
theorem dX8_isWord_9 : decode cX8_isWord 9 = .ok (.aload_n 1, 1) := dk_43 (dk_at dksX8_isWord_0 9 rfl rfl)
theorem dX8_isWord_10 : decode cX8_isWord 10 = .ok (.invokevirtual 63, 3) := dk_182 0 63 (dk_at dksX8_isWord_0 10 rfl rfl)
theorem dX8_isWord_13 : decode cX8_isWord 13 = .ok (.if_icmp .eq 5, 3) := dk_159 0 5 (dk_at dksX8_isWord_0 13 rfl rfl)
theorem dX8_isWord_16 : decode cX8_isWord 16 = .ok (.iconst 0, 1) := dk_3 (dk_at dksX8_isWord_0 16 rfl rfl)
theorem dX8_isWord_17 : decode cX8_isWord 17 = .ok (.ireturn, 1) := dk_172 (dk_at dksX8_isWord_0 17 rfl rfl)
theorem dX8_isWord_18 : decode cX8_isWord 18 = .ok (.iconst 0, 1) := dk_3 (dk_at dksX8_isWord_0 18 rfl rfl)
theorem dX8_isWord_19 : decode cX8_isWord 19 = .ok (.istore_n 2, 1) := dk_61 (dk_at dksX8_isWord_0 19 rfl rfl)
theorem dX8_isWord_20 : decode cX8_isWord 20 = .ok (.iload_n 2, 1) := dk_28 (dk_at dksX8_isWord_0 20 rfl rfl)
theorem dX8_isWord_21 : decode cX8_isWord 21 = .ok (.aload_n 1, 1) := dk_43 (dk_at dksX8_isWord_0 21 rfl rfl)
theorem dX8_isWord_22 : decode cX8_isWord 22 = .ok (.invokevirtual 63, 3) := dk_182 0 63 (dk_at dksX8_isWord_1 0 rfl rfl)
theorem dX8_isWord_25 : decode cX8_isWord 25 = .ok (.if_icmp .ge 33, 3) := dk_162 0 33 (dk_at dksX8_isWord_1 3 rfl rfl)
theorem dX8_isWord_28 : decode cX8_isWord 28 = .ok (.aload_n 0, 1) := dk_42 (dk_at dksX8_isWord_1 6 rfl rfl)
theorem dX8_isWord_29 : decode cX8_isWord 29 = .ok (.getfield 3, 3) := dk_180 0 3 (dk_at dksX8_isWord_1 7 rfl rfl)
theorem dX8_isWord_32 : decode cX8_isWord 32 = .ok (.getfield 52, 3) := dk_180 0 52 (dk_at dksX8_isWord_1 10 rfl rfl)
theorem dX8_isWord_35 : decode cX8_isWord 35 = .ok (.aload_n 0, 1) := dk_42 (dk_at dksX8_isWord_1 13 rfl rfl)
theorem dX8_isWord_36 : decode cX8_isWord 36 = .ok (.getfield 42, 3) := dk_180 0 42 (dk_at dksX8_isWord_1 14 rfl rfl)
theorem dX8_isWord_39 : decode cX8_isWord 39 = .ok (.iload_n 2, 1) := dk_28 (dk_at dksX8_isWord_1 17 rfl rfl)
theorem dX8_isWord_40 : decode cX8_isWord 40 = .ok (.iadd, 1) := dk_96 (dk_at dksX8_isWord_1 18 rfl rfl)
theorem dX8_isWord_41 : decode cX8_isWord 41 = .ok (.baload, 1) := dk_51 (dk_at dksX8_isWord_1 19 rfl rfl)
theorem dX8_isWord_42 : decode cX8_isWord 42 = .ok (.aload_n 1, 1) := dk_43 (dk_at dksX8_isWord_1 20 rfl rfl)
theorem dX8_isWord_43 : decode cX8_isWord 43 = .ok (.iload_n 2, 1) := dk_28 (dk_at dksX8_isWord_1 21 rfl rfl)
theorem dX8_isWord_44 : decode cX8_isWord 44 = .ok (.invokevirtual 69, 3) := dk_182 0 69 (dk_at dksX8_isWord_2 0 rfl rfl)
theorem dX8_isWord_47 : decode cX8_isWord 47 = .ok (.if_icmp .eq 5, 3) := dk_159 0 5 (dk_at dksX8_isWord_2 3 rfl rfl)
theorem dX8_isWord_50 : decode cX8_isWord 50 = .ok (.iconst 0, 1) := dk_3 (dk_at dksX8_isWord_2 6 rfl rfl)
theorem dX8_isWord_51 : decode cX8_isWord 51 = .ok (.ireturn, 1) := dk_172 (dk_at dksX8_isWord_2 7 rfl rfl)
theorem dX8_isWord_52 : decode cX8_isWord 52 = .ok (.iinc 2 1, 3) := dk_132 2 1 (dk_at dksX8_isWord_2 8 rfl rfl)
theorem dX8_isWord_55 : decode cX8_isWord 55 = .ok (.goto (-35), 3) := dk_167 255 221 (dk_at dksX8_isWord_2 11 rfl rfl)
theorem dX8_isWord_58 : decode cX8_isWord 58 = .ok (.iconst 1, 1) := dk_4 (dk_at dksX8_isWord_2 14 rfl rfl)
theorem dX8_isWord_59 : decode cX8_isWord 59 = .ok (.ireturn, 1) := dk_172 (dk_at dksX8_isWord_2 15 rfl rfl)
abbrev cX8_sum : ByteArray := prog_21_method_18_code
def yX8_sum : MethodName := ⟨RX8, "sum", "()LLitStrangers$Sum;"⟩
def dkwX8_sum_2 : List UInt8 := [182, 0, 154, 183, 0, 163, 76, 167, 255, 207, 43, 176]
abbrev dktX8_sum_2 : List UInt8 := dkwX8_sum_2 ++ []
def dkwX8_sum_1 : List UInt8 := [180, 0, 3, 180, 0, 52, 42, 180, 0, 42, 51, 61, 42, 182, 0, 25, 187, 0, 161, 89, 43, 28, 42]
abbrev dktX8_sum_1 : List UInt8 := dkwX8_sum_1 ++ dktX8_sum_2
def dkwX8_sum_0 : List UInt8 := [42, 182, 0, 154, 76, 42, 18, 157, 182, 0, 73, 154, 0, 12, 42, 18, 159, 182, 0, 73, 153, 0, 37, 42]
abbrev dktX8_sum_0 : List UInt8 := dkwX8_sum_0 ++ dktX8_sum_1
theorem dksX8_sum_0 : cX8_sum.data.toList.drop 0 = dktX8_sum_0 := by decide +kernel
theorem dksX8_sum_1 : cX8_sum.data.toList.drop 24 = dktX8_sum_1 := dk_seg dksX8_sum_0 24 rfl rfl
theorem dksX8_sum_2 : cX8_sum.data.toList.drop 47 = dktX8_sum_2 := dk_seg dksX8_sum_1 23 rfl rfl
theorem dX8_sum_0 : decode cX8_sum 0 = .ok (.aload_n 0, 1) := dk_42 (dk_at dksX8_sum_0 0 rfl rfl)
theorem dX8_sum_1 : decode cX8_sum 1 = .ok (.invokevirtual 154, 3) := dk_182 0 154 (dk_at dksX8_sum_0 1 rfl rfl)
theorem dX8_sum_4 : decode cX8_sum 4 = .ok (.astore_n 1, 1) := dk_76 (dk_at dksX8_sum_0 4 rfl rfl)
theorem dX8_sum_5 : decode cX8_sum 5 = .ok (.aload_n 0, 1) := dk_42 (dk_at dksX8_sum_0 5 rfl rfl)
theorem dX8_sum_6 : decode cX8_sum 6 = .ok (.ldc 157, 2) := dk_18 157 (dk_at dksX8_sum_0 6 rfl rfl)
theorem dX8_sum_8 : decode cX8_sum 8 = .ok (.invokevirtual 73, 3) := dk_182 0 73 (dk_at dksX8_sum_0 8 rfl rfl)
theorem dX8_sum_11 : decode cX8_sum 11 = .ok (.ifCond .ne 12, 3) := dk_154 0 12 (dk_at dksX8_sum_0 11 rfl rfl)
theorem dX8_sum_14 : decode cX8_sum 14 = .ok (.aload_n 0, 1) := dk_42 (dk_at dksX8_sum_0 14 rfl rfl)
theorem dX8_sum_15 : decode cX8_sum 15 = .ok (.ldc 159, 2) := dk_18 159 (dk_at dksX8_sum_0 15 rfl rfl)
theorem dX8_sum_17 : decode cX8_sum 17 = .ok (.invokevirtual 73, 3) := dk_182 0 73 (dk_at dksX8_sum_0 17 rfl rfl)
theorem dX8_sum_20 : decode cX8_sum 20 = .ok (.ifCond .eq 37, 3) := dk_153 0 37 (dk_at dksX8_sum_0 20 rfl rfl)
theorem dX8_sum_23 : decode cX8_sum 23 = .ok (.aload_n 0, 1) := dk_42 (dk_at dksX8_sum_0 23 rfl rfl)
theorem dX8_sum_24 : decode cX8_sum 24 = .ok (.getfield 3, 3) := dk_180 0 3 (dk_at dksX8_sum_1 0 rfl rfl)
theorem dX8_sum_27 : decode cX8_sum 27 = .ok (.getfield 52, 3) := dk_180 0 52 (dk_at dksX8_sum_1 3 rfl rfl)
theorem dX8_sum_30 : decode cX8_sum 30 = .ok (.aload_n 0, 1) := dk_42 (dk_at dksX8_sum_1 6 rfl rfl)
theorem dX8_sum_31 : decode cX8_sum 31 = .ok (.getfield 42, 3) := dk_180 0 42 (dk_at dksX8_sum_1 7 rfl rfl)
theorem dX8_sum_34 : decode cX8_sum 34 = .ok (.baload, 1) := dk_51 (dk_at dksX8_sum_1 10 rfl rfl)
theorem dX8_sum_35 : decode cX8_sum 35 = .ok (.istore_n 2, 1) := dk_61 (dk_at dksX8_sum_1 11 rfl rfl)
theorem dX8_sum_36 : decode cX8_sum 36 = .ok (.aload_n 0, 1) := dk_42 (dk_at dksX8_sum_1 12 rfl rfl)
theorem dX8_sum_37 : decode cX8_sum 37 = .ok (.invokevirtual 25, 3) := dk_182 0 25 (dk_at dksX8_sum_1 13 rfl rfl)
theorem dX8_sum_40 : decode cX8_sum 40 = .ok (.new 161, 3) := dk_187 0 161 (dk_at dksX8_sum_1 16 rfl rfl)
theorem dX8_sum_43 : decode cX8_sum 43 = .ok (.dup, 1) := dk_89 (dk_at dksX8_sum_1 19 rfl rfl)
theorem dX8_sum_44 : decode cX8_sum 44 = .ok (.aload_n 1, 1) := dk_43 (dk_at dksX8_sum_1 20 rfl rfl)
theorem dX8_sum_45 : decode cX8_sum 45 = .ok (.iload_n 2, 1) := dk_28 (dk_at dksX8_sum_1 21 rfl rfl)
theorem dX8_sum_46 : decode cX8_sum 46 = .ok (.aload_n 0, 1) := dk_42 (dk_at dksX8_sum_1 22 rfl rfl)
theorem dX8_sum_47 : decode cX8_sum 47 = .ok (.invokevirtual 154, 3) := dk_182 0 154 (dk_at dksX8_sum_2 0 rfl rfl)
theorem dX8_sum_50 : decode cX8_sum 50 = .ok (.invokespecial 163, 3) := dk_183 0 163 (dk_at dksX8_sum_2 3 rfl rfl)
theorem dX8_sum_53 : decode cX8_sum 53 = .ok (.astore_n 1, 1) := dk_76 (dk_at dksX8_sum_2 6 rfl rfl)
theorem dX8_sum_54 : decode cX8_sum 54 = .ok (.goto (-49), 3) := dk_167 255 207 (dk_at dksX8_sum_2 7 rfl rfl)
theorem dX8_sum_57 : decode cX8_sum 57 = .ok (.aload_n 1, 1) := dk_43 (dk_at dksX8_sum_2 10 rfl rfl)
theorem dX8_sum_58 : decode cX8_sum 58 = .ok (.areturn, 1) := dk_176 (dk_at dksX8_sum_2 11 rfl rfl)
abbrev cX8_term : ByteArray := prog_21_method_19_code
def yX8_term : MethodName := ⟨RX8, "term", "()LLitStrangers$Sum;"⟩
def dkwX8_term_2 : List UInt8 := [182, 0, 25, 187, 0, 161, 89, 43, 28, 42, 182, 0, 164, 183, 0, 163, 76, 167, 255, 198, 43, 176]
abbrev dktX8_term_2 : List UInt8 := dkwX8_term_2 ++ []
def dkwX8_term_1 : List UInt8 := [18, 171, 182, 0, 73, 153, 0, 37, 42, 180, 0, 3, 180, 0, 52, 42, 180, 0, 42, 51, 61, 42]
abbrev dktX8_term_1 : List UInt8 := dkwX8_term_1 ++ dktX8_term_2
def dkwX8_term_0 : List UInt8 := [42, 182, 0, 164, 76, 42, 18, 167, 182, 0, 73, 154, 0, 21, 42, 18, 169, 182, 0, 73, 154, 0, 12, 42]
abbrev dktX8_term_0 : List UInt8 := dkwX8_term_0 ++ dktX8_term_1
theorem dksX8_term_0 : cX8_term.data.toList.drop 0 = dktX8_term_0 := by decide +kernel
theorem dksX8_term_1 : cX8_term.data.toList.drop 24 = dktX8_term_1 := dk_seg dksX8_term_0 24 rfl rfl
theorem dksX8_term_2 : cX8_term.data.toList.drop 46 = dktX8_term_2 := dk_seg dksX8_term_1 22 rfl rfl
theorem dX8_term_0 : decode cX8_term 0 = .ok (.aload_n 0, 1) := dk_42 (dk_at dksX8_term_0 0 rfl rfl)
theorem dX8_term_1 : decode cX8_term 1 = .ok (.invokevirtual 164, 3) := dk_182 0 164 (dk_at dksX8_term_0 1 rfl rfl)
theorem dX8_term_4 : decode cX8_term 4 = .ok (.astore_n 1, 1) := dk_76 (dk_at dksX8_term_0 4 rfl rfl)
theorem dX8_term_5 : decode cX8_term 5 = .ok (.aload_n 0, 1) := dk_42 (dk_at dksX8_term_0 5 rfl rfl)
theorem dX8_term_6 : decode cX8_term 6 = .ok (.ldc 167, 2) := dk_18 167 (dk_at dksX8_term_0 6 rfl rfl)
theorem dX8_term_8 : decode cX8_term 8 = .ok (.invokevirtual 73, 3) := dk_182 0 73 (dk_at dksX8_term_0 8 rfl rfl)
theorem dX8_term_11 : decode cX8_term 11 = .ok (.ifCond .ne 21, 3) := dk_154 0 21 (dk_at dksX8_term_0 11 rfl rfl)
theorem dX8_term_14 : decode cX8_term 14 = .ok (.aload_n 0, 1) := dk_42 (dk_at dksX8_term_0 14 rfl rfl)
theorem dX8_term_15 : decode cX8_term 15 = .ok (.ldc 169, 2) := dk_18 169 (dk_at dksX8_term_0 15 rfl rfl)
theorem dX8_term_17 : decode cX8_term 17 = .ok (.invokevirtual 73, 3) := dk_182 0 73 (dk_at dksX8_term_0 17 rfl rfl)
theorem dX8_term_20 : decode cX8_term 20 = .ok (.ifCond .ne 12, 3) := dk_154 0 12 (dk_at dksX8_term_0 20 rfl rfl)
theorem dX8_term_23 : decode cX8_term 23 = .ok (.aload_n 0, 1) := dk_42 (dk_at dksX8_term_0 23 rfl rfl)
theorem dX8_term_24 : decode cX8_term 24 = .ok (.ldc 171, 2) := dk_18 171 (dk_at dksX8_term_1 0 rfl rfl)
theorem dX8_term_26 : decode cX8_term 26 = .ok (.invokevirtual 73, 3) := dk_182 0 73 (dk_at dksX8_term_1 2 rfl rfl)
theorem dX8_term_29 : decode cX8_term 29 = .ok (.ifCond .eq 37, 3) := dk_153 0 37 (dk_at dksX8_term_1 5 rfl rfl)
theorem dX8_term_32 : decode cX8_term 32 = .ok (.aload_n 0, 1) := dk_42 (dk_at dksX8_term_1 8 rfl rfl)
theorem dX8_term_33 : decode cX8_term 33 = .ok (.getfield 3, 3) := dk_180 0 3 (dk_at dksX8_term_1 9 rfl rfl)
theorem dX8_term_36 : decode cX8_term 36 = .ok (.getfield 52, 3) := dk_180 0 52 (dk_at dksX8_term_1 12 rfl rfl)
theorem dX8_term_39 : decode cX8_term 39 = .ok (.aload_n 0, 1) := dk_42 (dk_at dksX8_term_1 15 rfl rfl)
theorem dX8_term_40 : decode cX8_term 40 = .ok (.getfield 42, 3) := dk_180 0 42 (dk_at dksX8_term_1 16 rfl rfl)
theorem dX8_term_43 : decode cX8_term 43 = .ok (.baload, 1) := dk_51 (dk_at dksX8_term_1 19 rfl rfl)
theorem dX8_term_44 : decode cX8_term 44 = .ok (.istore_n 2, 1) := dk_61 (dk_at dksX8_term_1 20 rfl rfl)
theorem dX8_term_45 : decode cX8_term 45 = .ok (.aload_n 0, 1) := dk_42 (dk_at dksX8_term_1 21 rfl rfl)
theorem dX8_term_46 : decode cX8_term 46 = .ok (.invokevirtual 25, 3) := dk_182 0 25 (dk_at dksX8_term_2 0 rfl rfl)
theorem dX8_term_49 : decode cX8_term 49 = .ok (.new 161, 3) := dk_187 0 161 (dk_at dksX8_term_2 3 rfl rfl)
theorem dX8_term_52 : decode cX8_term 52 = .ok (.dup, 1) := dk_89 (dk_at dksX8_term_2 6 rfl rfl)
theorem dX8_term_53 : decode cX8_term 53 = .ok (.aload_n 1, 1) := dk_43 (dk_at dksX8_term_2 7 rfl rfl)
theorem dX8_term_54 : decode cX8_term 54 = .ok (.iload_n 2, 1) := dk_28 (dk_at dksX8_term_2 8 rfl rfl)
theorem dX8_term_55 : decode cX8_term 55 = .ok (.aload_n 0, 1) := dk_42 (dk_at dksX8_term_2 9 rfl rfl)
theorem dX8_term_56 : decode cX8_term 56 = .ok (.invokevirtual 164, 3) := dk_182 0 164 (dk_at dksX8_term_2 10 rfl rfl)
theorem dX8_term_59 : decode cX8_term 59 = .ok (.invokespecial 163, 3) := dk_183 0 163 (dk_at dksX8_term_2 13 rfl rfl)
theorem dX8_term_62 : decode cX8_term 62 = .ok (.astore_n 1, 1) := dk_76 (dk_at dksX8_term_2 16 rfl rfl)
theorem dX8_term_63 : decode cX8_term 63 = .ok (.goto (-58), 3) := dk_167 255 198 (dk_at dksX8_term_2 17 rfl rfl)
theorem dX8_term_66 : decode cX8_term 66 = .ok (.aload_n 1, 1) := dk_43 (dk_at dksX8_term_2 20 rfl rfl)
theorem dX8_term_67 : decode cX8_term 67 = .ok (.areturn, 1) := dk_176 (dk_at dksX8_term_2 21 rfl rfl)
abbrev cX8_part : ByteArray := prog_21_method_20_code
def yX8_part : MethodName := ⟨RX8, "part", "()LLitStrangers$Sum;"⟩
def dkwX8_part_5 : List UInt8 := [176]
abbrev dktX8_part_5 : List UInt8 := dkwX8_part_5 ++ []
def dkwX8_part_4 : List UInt8 := [42, 17, 3, 232, 182, 0, 186, 183, 0, 190, 176, 42, 182, 0, 181, 42, 182, 0, 25, 42, 27, 182, 0, 191]
abbrev dktX8_part_4 : List UInt8 := dkwX8_part_4 ++ dktX8_part_5
def dkwX8_part_3 : List UInt8 := [153, 0, 7, 4, 167, 0, 4, 3, 182, 0, 28, 27, 2, 160, 0, 22, 42, 182, 0, 181, 187, 0, 184, 89]
abbrev dktX8_part_3 : List UInt8 := dkwX8_part_3 ++ dktX8_part_4
def dkwX8_part_2 : List UInt8 := [180, 0, 3, 180, 0, 46, 162, 0, 25, 42, 180, 0, 3, 180, 0, 52, 42, 180, 0, 42, 51, 184, 0, 60]
abbrev dktX8_part_2 : List UInt8 := dkwX8_part_2 ++ dktX8_part_3
def dkwX8_part_1 : List UInt8 := [43, 176, 42, 42, 180, 0, 21, 182, 0, 177, 60, 42, 27, 2, 160, 0, 35, 42, 180, 0, 42, 42]
abbrev dktX8_part_1 : List UInt8 := dkwX8_part_1 ++ dktX8_part_2
def dkwX8_part_0 : List UInt8 := [42, 18, 173, 182, 0, 73, 153, 0, 20, 42, 182, 0, 123, 42, 182, 0, 135, 76, 42, 18, 175, 182, 0, 131]
abbrev dktX8_part_0 : List UInt8 := dkwX8_part_0 ++ dktX8_part_1
theorem dksX8_part_0 : cX8_part.data.toList.drop 0 = dktX8_part_0 := by decide +kernel
theorem dksX8_part_1 : cX8_part.data.toList.drop 24 = dktX8_part_1 := dk_seg dksX8_part_0 24 rfl rfl
theorem dksX8_part_2 : cX8_part.data.toList.drop 46 = dktX8_part_2 := dk_seg dksX8_part_1 22 rfl rfl
theorem dksX8_part_3 : cX8_part.data.toList.drop 70 = dktX8_part_3 := dk_seg dksX8_part_2 24 rfl rfl
theorem dksX8_part_4 : cX8_part.data.toList.drop 94 = dktX8_part_4 := dk_seg dksX8_part_3 24 rfl rfl
theorem dksX8_part_5 : cX8_part.data.toList.drop 118 = dktX8_part_5 := dk_seg dksX8_part_4 24 rfl rfl
theorem dX8_part_0 : decode cX8_part 0 = .ok (.aload_n 0, 1) := dk_42 (dk_at dksX8_part_0 0 rfl rfl)
theorem dX8_part_1 : decode cX8_part 1 = .ok (.ldc 173, 2) := dk_18 173 (dk_at dksX8_part_0 1 rfl rfl)
theorem dX8_part_3 : decode cX8_part 3 = .ok (.invokevirtual 73, 3) := dk_182 0 73 (dk_at dksX8_part_0 3 rfl rfl)
theorem dX8_part_6 : decode cX8_part 6 = .ok (.ifCond .eq 20, 3) := dk_153 0 20 (dk_at dksX8_part_0 6 rfl rfl)
theorem dX8_part_9 : decode cX8_part 9 = .ok (.aload_n 0, 1) := dk_42 (dk_at dksX8_part_0 9 rfl rfl)
theorem dX8_part_10 : decode cX8_part 10 = .ok (.invokevirtual 123, 3) := dk_182 0 123 (dk_at dksX8_part_0 10 rfl rfl)
theorem dX8_part_13 : decode cX8_part 13 = .ok (.aload_n 0, 1) := dk_42 (dk_at dksX8_part_0 13 rfl rfl)
theorem dX8_part_14 : decode cX8_part 14 = .ok (.invokevirtual 135, 3) := dk_182 0 135 (dk_at dksX8_part_0 14 rfl rfl)
theorem dX8_part_17 : decode cX8_part 17 = .ok (.astore_n 1, 1) := dk_76 (dk_at dksX8_part_0 17 rfl rfl)
theorem dX8_part_18 : decode cX8_part 18 = .ok (.aload_n 0, 1) := dk_42 (dk_at dksX8_part_0 18 rfl rfl)
theorem dX8_part_19 : decode cX8_part 19 = .ok (.ldc 175, 2) := dk_18 175 (dk_at dksX8_part_0 19 rfl rfl)
theorem dX8_part_21 : decode cX8_part 21 = .ok (.invokevirtual 131, 3) := dk_182 0 131 (dk_at dksX8_part_0 21 rfl rfl)
theorem dX8_part_24 : decode cX8_part 24 = .ok (.aload_n 1, 1) := dk_43 (dk_at dksX8_part_1 0 rfl rfl)
theorem dX8_part_25 : decode cX8_part 25 = .ok (.areturn, 1) := dk_176 (dk_at dksX8_part_1 1 rfl rfl)
theorem dX8_part_26 : decode cX8_part 26 = .ok (.aload_n 0, 1) := dk_42 (dk_at dksX8_part_1 2 rfl rfl)
theorem dX8_part_27 : decode cX8_part 27 = .ok (.aload_n 0, 1) := dk_42 (dk_at dksX8_part_1 3 rfl rfl)
theorem dX8_part_28 : decode cX8_part 28 = .ok (.getfield 21, 3) := dk_180 0 21 (dk_at dksX8_part_1 4 rfl rfl)
theorem dX8_part_31 : decode cX8_part 31 = .ok (.invokevirtual 177, 3) := dk_182 0 177 (dk_at dksX8_part_1 7 rfl rfl)
theorem dX8_part_34 : decode cX8_part 34 = .ok (.istore_n 1, 1) := dk_60 (dk_at dksX8_part_1 10 rfl rfl)
theorem dX8_part_35 : decode cX8_part 35 = .ok (.aload_n 0, 1) := dk_42 (dk_at dksX8_part_1 11 rfl rfl)
theorem dX8_part_36 : decode cX8_part 36 = .ok (.iload_n 1, 1) := dk_27 (dk_at dksX8_part_1 12 rfl rfl)
theorem dX8_part_37 : decode cX8_part 37 = .ok (.iconst (-1), 1) := dk_2 (dk_at dksX8_part_1 13 rfl rfl)
theorem dX8_part_38 : decode cX8_part 38 = .ok (.if_icmp .ne 35, 3) := dk_160 0 35 (dk_at dksX8_part_1 14 rfl rfl)
theorem dX8_part_41 : decode cX8_part 41 = .ok (.aload_n 0, 1) := dk_42 (dk_at dksX8_part_1 17 rfl rfl)
theorem dX8_part_42 : decode cX8_part 42 = .ok (.getfield 42, 3) := dk_180 0 42 (dk_at dksX8_part_1 18 rfl rfl)
theorem dX8_part_45 : decode cX8_part 45 = .ok (.aload_n 0, 1) := dk_42 (dk_at dksX8_part_1 21 rfl rfl)
theorem dX8_part_46 : decode cX8_part 46 = .ok (.getfield 3, 3) := dk_180 0 3 (dk_at dksX8_part_2 0 rfl rfl)
theorem dX8_part_49 : decode cX8_part 49 = .ok (.getfield 46, 3) := dk_180 0 46 (dk_at dksX8_part_2 3 rfl rfl)
theorem dX8_part_52 : decode cX8_part 52 = .ok (.if_icmp .ge 25, 3) := dk_162 0 25 (dk_at dksX8_part_2 6 rfl rfl)
theorem dX8_part_55 : decode cX8_part 55 = .ok (.aload_n 0, 1) := dk_42 (dk_at dksX8_part_2 9 rfl rfl)
theorem dX8_part_56 : decode cX8_part 56 = .ok (.getfield 3, 3) := dk_180 0 3 (dk_at dksX8_part_2 10 rfl rfl)
theorem dX8_part_59 : decode cX8_part 59 = .ok (.getfield 52, 3) := dk_180 0 52 (dk_at dksX8_part_2 13 rfl rfl)
theorem dX8_part_62 : decode cX8_part 62 = .ok (.aload_n 0, 1) := dk_42 (dk_at dksX8_part_2 16 rfl rfl)
theorem dX8_part_63 : decode cX8_part 63 = .ok (.getfield 42, 3) := dk_180 0 42 (dk_at dksX8_part_2 17 rfl rfl)
theorem dX8_part_66 : decode cX8_part 66 = .ok (.baload, 1) := dk_51 (dk_at dksX8_part_2 20 rfl rfl)
theorem dX8_part_67 : decode cX8_part 67 = .ok (.invokestatic 60, 3) := dk_184 0 60 (dk_at dksX8_part_2 21 rfl rfl)
theorem dX8_part_70 : decode cX8_part 70 = .ok (.ifCond .eq 7, 3) := dk_153 0 7 (dk_at dksX8_part_3 0 rfl rfl)
theorem dX8_part_73 : decode cX8_part 73 = .ok (.iconst 1, 1) := dk_4 (dk_at dksX8_part_3 3 rfl rfl)
theorem dX8_part_74 : decode cX8_part 74 = .ok (.goto 4, 3) := dk_167 0 4 (dk_at dksX8_part_3 4 rfl rfl)
theorem dX8_part_77 : decode cX8_part 77 = .ok (.iconst 0, 1) := dk_3 (dk_at dksX8_part_3 7 rfl rfl)
theorem dX8_part_78 : decode cX8_part 78 = .ok (.invokevirtual 28, 3) := dk_182 0 28 (dk_at dksX8_part_3 8 rfl rfl)
theorem dX8_part_81 : decode cX8_part 81 = .ok (.iload_n 1, 1) := dk_27 (dk_at dksX8_part_3 11 rfl rfl)
theorem dX8_part_82 : decode cX8_part 82 = .ok (.iconst (-1), 1) := dk_2 (dk_at dksX8_part_3 12 rfl rfl)
theorem dX8_part_83 : decode cX8_part 83 = .ok (.if_icmp .ne 22, 3) := dk_160 0 22 (dk_at dksX8_part_3 13 rfl rfl)
theorem dX8_part_86 : decode cX8_part 86 = .ok (.aload_n 0, 1) := dk_42 (dk_at dksX8_part_3 16 rfl rfl)
theorem dX8_part_87 : decode cX8_part 87 = .ok (.invokevirtual 181, 3) := dk_182 0 181 (dk_at dksX8_part_3 17 rfl rfl)
theorem dX8_part_90 : decode cX8_part 90 = .ok (.new 184, 3) := dk_187 0 184 (dk_at dksX8_part_3 20 rfl rfl)
theorem dX8_part_93 : decode cX8_part 93 = .ok (.dup, 1) := dk_89 (dk_at dksX8_part_3 23 rfl rfl)
theorem dX8_part_94 : decode cX8_part 94 = .ok (.aload_n 0, 1) := dk_42 (dk_at dksX8_part_4 0 rfl rfl)
theorem dX8_part_95 : decode cX8_part 95 = .ok (.sipush 1000, 3) := dk_17 3 232 (dk_at dksX8_part_4 1 rfl rfl)
theorem dX8_part_98 : decode cX8_part 98 = .ok (.invokevirtual 186, 3) := dk_182 0 186 (dk_at dksX8_part_4 4 rfl rfl)
theorem dX8_part_101 : decode cX8_part 101 = .ok (.invokespecial 190, 3) := dk_183 0 190 (dk_at dksX8_part_4 7 rfl rfl)
theorem dX8_part_104 : decode cX8_part 104 = .ok (.areturn, 1) := dk_176 (dk_at dksX8_part_4 10 rfl rfl)
theorem dX8_part_105 : decode cX8_part 105 = .ok (.aload_n 0, 1) := dk_42 (dk_at dksX8_part_4 11 rfl rfl)
theorem dX8_part_106 : decode cX8_part 106 = .ok (.invokevirtual 181, 3) := dk_182 0 181 (dk_at dksX8_part_4 12 rfl rfl)
theorem dX8_part_109 : decode cX8_part 109 = .ok (.aload_n 0, 1) := dk_42 (dk_at dksX8_part_4 15 rfl rfl)
theorem dX8_part_110 : decode cX8_part 110 = .ok (.invokevirtual 25, 3) := dk_182 0 25 (dk_at dksX8_part_4 16 rfl rfl)
theorem dX8_part_113 : decode cX8_part 113 = .ok (.aload_n 0, 1) := dk_42 (dk_at dksX8_part_4 19 rfl rfl)
theorem dX8_part_114 : decode cX8_part 114 = .ok (.iload_n 1, 1) := dk_27 (dk_at dksX8_part_4 20 rfl rfl)
theorem dX8_part_115 : decode cX8_part 115 = .ok (.invokevirtual 191, 3) := dk_182 0 191 (dk_at dksX8_part_4 21 rfl rfl)
theorem dX8_part_118 : decode cX8_part 118 = .ok (.areturn, 1) := dk_176 (dk_at dksX8_part_5 0 rfl rfl)
abbrev cX8_open : ByteArray := prog_21_method_14_code
def yX8_open : MethodName := ⟨RX8, "open", "()V"⟩
def dkwX8_open_1 : List UInt8 := [96, 181, 0, 113, 42, 182, 0, 25, 177]
abbrev dktX8_open_1 : List UInt8 := dkwX8_open_1 ++ []
def dkwX8_open_0 : List UInt8 := [42, 42, 180, 0, 113, 16, 8, 162, 0, 7, 4, 167, 0, 4, 3, 182, 0, 28, 42, 89, 180, 0, 113, 4]
abbrev dktX8_open_0 : List UInt8 := dkwX8_open_0 ++ dktX8_open_1
theorem dksX8_open_0 : cX8_open.data.toList.drop 0 = dktX8_open_0 := by decide +kernel
theorem dksX8_open_1 : cX8_open.data.toList.drop 24 = dktX8_open_1 := dk_seg dksX8_open_0 24 rfl rfl
theorem dX8_open_0 : decode cX8_open 0 = .ok (.aload_n 0, 1) := dk_42 (dk_at dksX8_open_0 0 rfl rfl)
theorem dX8_open_1 : decode cX8_open 1 = .ok (.aload_n 0, 1) := dk_42 (dk_at dksX8_open_0 1 rfl rfl)
theorem dX8_open_2 : decode cX8_open 2 = .ok (.getfield 113, 3) := dk_180 0 113 (dk_at dksX8_open_0 2 rfl rfl)
theorem dX8_open_5 : decode cX8_open 5 = .ok (.bipush 8, 2) := dk_16 8 (dk_at dksX8_open_0 5 rfl rfl)
theorem dX8_open_7 : decode cX8_open 7 = .ok (.if_icmp .ge 7, 3) := dk_162 0 7 (dk_at dksX8_open_0 7 rfl rfl)
theorem dX8_open_10 : decode cX8_open 10 = .ok (.iconst 1, 1) := dk_4 (dk_at dksX8_open_0 10 rfl rfl)
theorem dX8_open_11 : decode cX8_open 11 = .ok (.goto 4, 3) := dk_167 0 4 (dk_at dksX8_open_0 11 rfl rfl)
theorem dX8_open_14 : decode cX8_open 14 = .ok (.iconst 0, 1) := dk_3 (dk_at dksX8_open_0 14 rfl rfl)
theorem dX8_open_15 : decode cX8_open 15 = .ok (.invokevirtual 28, 3) := dk_182 0 28 (dk_at dksX8_open_0 15 rfl rfl)
theorem dX8_open_18 : decode cX8_open 18 = .ok (.aload_n 0, 1) := dk_42 (dk_at dksX8_open_0 18 rfl rfl)
theorem dX8_open_19 : decode cX8_open 19 = .ok (.dup, 1) := dk_89 (dk_at dksX8_open_0 19 rfl rfl)
theorem dX8_open_20 : decode cX8_open 20 = .ok (.getfield 113, 3) := dk_180 0 113 (dk_at dksX8_open_0 20 rfl rfl)
theorem dX8_open_23 : decode cX8_open 23 = .ok (.iconst 1, 1) := dk_4 (dk_at dksX8_open_0 23 rfl rfl)
theorem dX8_open_24 : decode cX8_open 24 = .ok (.iadd, 1) := dk_96 (dk_at dksX8_open_1 0 rfl rfl)
theorem dX8_open_25 : decode cX8_open 25 = .ok (.putfield 113, 3) := dk_181 0 113 (dk_at dksX8_open_1 1 rfl rfl)
theorem dX8_open_28 : decode cX8_open 28 = .ok (.aload_n 0, 1) := dk_42 (dk_at dksX8_open_1 4 rfl rfl)
theorem dX8_open_29 : decode cX8_open 29 = .ok (.invokevirtual 25, 3) := dk_182 0 25 (dk_at dksX8_open_1 5 rfl rfl)
theorem dX8_open_32 : decode cX8_open 32 = .ok (.return_, 1) := dk_177 (dk_at dksX8_open_1 8 rfl rfl)
abbrev cX8_close : ByteArray := prog_21_method_15_code
def yX8_close : MethodName := ⟨RX8, "close", "(Ljava/lang/String;)V"⟩
def dkwX8_close_0 : List UInt8 := [42, 42, 43, 182, 0, 38, 182, 0, 28, 42, 89, 180, 0, 113, 4, 100, 181, 0, 113, 177]
abbrev dktX8_close_0 : List UInt8 := dkwX8_close_0 ++ []
theorem dksX8_close_0 : cX8_close.data.toList.drop 0 = dktX8_close_0 := by decide +kernel
theorem dX8_close_0 : decode cX8_close 0 = .ok (.aload_n 0, 1) := dk_42 (dk_at dksX8_close_0 0 rfl rfl)
theorem dX8_close_1 : decode cX8_close 1 = .ok (.aload_n 0, 1) := dk_42 (dk_at dksX8_close_0 1 rfl rfl)
theorem dX8_close_2 : decode cX8_close 2 = .ok (.aload_n 1, 1) := dk_43 (dk_at dksX8_close_0 2 rfl rfl)
theorem dX8_close_3 : decode cX8_close 3 = .ok (.invokevirtual 38, 3) := dk_182 0 38 (dk_at dksX8_close_0 3 rfl rfl)
theorem dX8_close_6 : decode cX8_close 6 = .ok (.invokevirtual 28, 3) := dk_182 0 28 (dk_at dksX8_close_0 6 rfl rfl)
theorem dX8_close_9 : decode cX8_close 9 = .ok (.aload_n 0, 1) := dk_42 (dk_at dksX8_close_0 9 rfl rfl)
theorem dX8_close_10 : decode cX8_close 10 = .ok (.dup, 1) := dk_89 (dk_at dksX8_close_0 10 rfl rfl)
theorem dX8_close_11 : decode cX8_close 11 = .ok (.getfield 113, 3) := dk_180 0 113 (dk_at dksX8_close_0 11 rfl rfl)
theorem dX8_close_14 : decode cX8_close 14 = .ok (.iconst 1, 1) := dk_4 (dk_at dksX8_close_0 14 rfl rfl)
theorem dX8_close_15 : decode cX8_close 15 = .ok (.isub, 1) := dk_100 (dk_at dksX8_close_0 15 rfl rfl)
theorem dX8_close_16 : decode cX8_close 16 = .ok (.putfield 113, 3) := dk_181 0 113 (dk_at dksX8_close_0 16 rfl rfl)
theorem dX8_close_19 : decode cX8_close 19 = .ok (.return_, 1) := dk_177 (dk_at dksX8_close_0 19 rfl rfl)
abbrev cX8_accept : ByteArray := prog_21_method_7_code
def yX8_accept : MethodName := ⟨RX8, "accept", "(Ljava/lang/String;)Z"⟩
def dkwX8_accept_0 : List UInt8 := [42, 43, 182, 0, 73, 61, 28, 153, 0, 7, 42, 182, 0, 25, 28, 172]
abbrev dktX8_accept_0 : List UInt8 := dkwX8_accept_0 ++ []
theorem dksX8_accept_0 : cX8_accept.data.toList.drop 0 = dktX8_accept_0 := by decide +kernel
theorem dX8_accept_0 : decode cX8_accept 0 = .ok (.aload_n 0, 1) := dk_42 (dk_at dksX8_accept_0 0 rfl rfl)
theorem dX8_accept_1 : decode cX8_accept 1 = .ok (.aload_n 1, 1) := dk_43 (dk_at dksX8_accept_0 1 rfl rfl)
theorem dX8_accept_2 : decode cX8_accept 2 = .ok (.invokevirtual 73, 3) := dk_182 0 73 (dk_at dksX8_accept_0 2 rfl rfl)
theorem dX8_accept_5 : decode cX8_accept 5 = .ok (.istore_n 2, 1) := dk_61 (dk_at dksX8_accept_0 5 rfl rfl)
theorem dX8_accept_6 : decode cX8_accept 6 = .ok (.iload_n 2, 1) := dk_28 (dk_at dksX8_accept_0 6 rfl rfl)
theorem dX8_accept_7 : decode cX8_accept 7 = .ok (.ifCond .eq 7, 3) := dk_153 0 7 (dk_at dksX8_accept_0 7 rfl rfl)
theorem dX8_accept_10 : decode cX8_accept 10 = .ok (.aload_n 0, 1) := dk_42 (dk_at dksX8_accept_0 10 rfl rfl)
theorem dX8_accept_11 : decode cX8_accept 11 = .ok (.invokevirtual 25, 3) := dk_182 0 25 (dk_at dksX8_accept_0 11 rfl rfl)
theorem dX8_accept_14 : decode cX8_accept 14 = .ok (.iload_n 2, 1) := dk_28 (dk_at dksX8_accept_0 14 rfl rfl)
theorem dX8_accept_15 : decode cX8_accept 15 = .ok (.ireturn, 1) := dk_172 (dk_at dksX8_accept_0 15 rfl rfl)
abbrev cX8_leaf : ByteArray := prog_21_method_16_code
def yX8_leaf : MethodName := ⟨RX8, "leaf", "()V"⟩
def dkwX8_leaf_1 : List UInt8 := [96, 181, 0, 116, 177]
abbrev dktX8_leaf_1 : List UInt8 := dkwX8_leaf_1 ++ []
def dkwX8_leaf_0 : List UInt8 := [42, 42, 180, 0, 116, 16, 50, 162, 0, 7, 4, 167, 0, 4, 3, 182, 0, 28, 42, 89, 180, 0, 116, 4]
abbrev dktX8_leaf_0 : List UInt8 := dkwX8_leaf_0 ++ dktX8_leaf_1
theorem dksX8_leaf_0 : cX8_leaf.data.toList.drop 0 = dktX8_leaf_0 := by decide +kernel
theorem dksX8_leaf_1 : cX8_leaf.data.toList.drop 24 = dktX8_leaf_1 := dk_seg dksX8_leaf_0 24 rfl rfl
theorem dX8_leaf_0 : decode cX8_leaf 0 = .ok (.aload_n 0, 1) := dk_42 (dk_at dksX8_leaf_0 0 rfl rfl)
theorem dX8_leaf_1 : decode cX8_leaf 1 = .ok (.aload_n 0, 1) := dk_42 (dk_at dksX8_leaf_0 1 rfl rfl)
theorem dX8_leaf_2 : decode cX8_leaf 2 = .ok (.getfield 116, 3) := dk_180 0 116 (dk_at dksX8_leaf_0 2 rfl rfl)
theorem dX8_leaf_5 : decode cX8_leaf 5 = .ok (.bipush 50, 2) := dk_16 50 (dk_at dksX8_leaf_0 5 rfl rfl)
theorem dX8_leaf_7 : decode cX8_leaf 7 = .ok (.if_icmp .ge 7, 3) := dk_162 0 7 (dk_at dksX8_leaf_0 7 rfl rfl)
theorem dX8_leaf_10 : decode cX8_leaf 10 = .ok (.iconst 1, 1) := dk_4 (dk_at dksX8_leaf_0 10 rfl rfl)
theorem dX8_leaf_11 : decode cX8_leaf 11 = .ok (.goto 4, 3) := dk_167 0 4 (dk_at dksX8_leaf_0 11 rfl rfl)
theorem dX8_leaf_14 : decode cX8_leaf 14 = .ok (.iconst 0, 1) := dk_3 (dk_at dksX8_leaf_0 14 rfl rfl)
theorem dX8_leaf_15 : decode cX8_leaf 15 = .ok (.invokevirtual 28, 3) := dk_182 0 28 (dk_at dksX8_leaf_0 15 rfl rfl)
theorem dX8_leaf_18 : decode cX8_leaf 18 = .ok (.aload_n 0, 1) := dk_42 (dk_at dksX8_leaf_0 18 rfl rfl)
theorem dX8_leaf_19 : decode cX8_leaf 19 = .ok (.dup, 1) := dk_89 (dk_at dksX8_leaf_0 19 rfl rfl)
theorem dX8_leaf_20 : decode cX8_leaf 20 = .ok (.getfield 116, 3) := dk_180 0 116 (dk_at dksX8_leaf_0 20 rfl rfl)
theorem dX8_leaf_23 : decode cX8_leaf 23 = .ok (.iconst 1, 1) := dk_4 (dk_at dksX8_leaf_0 23 rfl rfl)
theorem dX8_leaf_24 : decode cX8_leaf 24 = .ok (.iadd, 1) := dk_96 (dk_at dksX8_leaf_1 0 rfl rfl)
theorem dX8_leaf_25 : decode cX8_leaf 25 = .ok (.putfield 116, 3) := dk_181 0 116 (dk_at dksX8_leaf_1 1 rfl rfl)
theorem dX8_leaf_28 : decode cX8_leaf 28 = .ok (.return_, 1) := dk_177 (dk_at dksX8_leaf_1 4 rfl rfl)
abbrev cX8_number : ByteArray := prog_21_method_9_code
def yX8_number : MethodName := ⟨RX8, "number", "(I)I"⟩
def dkwX8_number_4 : List UInt8 := [167, 0, 4, 3, 182, 0, 28, 42, 182, 0, 25, 28, 172]
abbrev dktX8_number_4 : List UInt8 := dkwX8_number_4 ++ []
def dkwX8_number_3 : List UInt8 := [180, 0, 52, 29, 51, 96, 16, 48, 100, 61, 132, 3, 1, 167, 255, 222, 42, 28, 27, 163, 0, 7, 4]
abbrev dktX8_number_3 : List UInt8 := dkwX8_number_3 ++ dktX8_number_4
def dkwX8_number_2 : List UInt8 := [62, 29, 42, 180, 0, 49, 162, 0, 32, 28, 27, 163, 0, 27, 16, 10, 28, 104, 42, 180, 0, 3]
abbrev dktX8_number_2 : List UInt8 := dkwX8_number_2 ++ dktX8_number_3
def dkwX8_number_1 : List UInt8 := [180, 0, 42, 51, 184, 0, 60, 153, 0, 7, 4, 167, 0, 4, 3, 182, 0, 28, 3, 61, 42, 180, 0, 42]
abbrev dktX8_number_1 : List UInt8 := dkwX8_number_1 ++ dktX8_number_2
def dkwX8_number_0 : List UInt8 := [42, 42, 180, 0, 42, 42, 180, 0, 3, 180, 0, 46, 162, 0, 25, 42, 180, 0, 3, 180, 0, 52, 42]
abbrev dktX8_number_0 : List UInt8 := dkwX8_number_0 ++ dktX8_number_1
theorem dksX8_number_0 : cX8_number.data.toList.drop 0 = dktX8_number_0 := by decide +kernel
theorem dksX8_number_1 : cX8_number.data.toList.drop 23 = dktX8_number_1 := dk_seg dksX8_number_0 23 rfl rfl
theorem dksX8_number_2 : cX8_number.data.toList.drop 47 = dktX8_number_2 := dk_seg dksX8_number_1 24 rfl rfl
theorem dksX8_number_3 : cX8_number.data.toList.drop 69 = dktX8_number_3 := dk_seg dksX8_number_2 22 rfl rfl
theorem dksX8_number_4 : cX8_number.data.toList.drop 92 = dktX8_number_4 := dk_seg dksX8_number_3 23 rfl rfl
theorem dX8_number_0 : decode cX8_number 0 = .ok (.aload_n 0, 1) := dk_42 (dk_at dksX8_number_0 0 rfl rfl)
theorem dX8_number_1 : decode cX8_number 1 = .ok (.aload_n 0, 1) := dk_42 (dk_at dksX8_number_0 1 rfl rfl)
theorem dX8_number_2 : decode cX8_number 2 = .ok (.getfield 42, 3) := dk_180 0 42 (dk_at dksX8_number_0 2 rfl rfl)
theorem dX8_number_5 : decode cX8_number 5 = .ok (.aload_n 0, 1) := dk_42 (dk_at dksX8_number_0 5 rfl rfl)
theorem dX8_number_6 : decode cX8_number 6 = .ok (.getfield 3, 3) := dk_180 0 3 (dk_at dksX8_number_0 6 rfl rfl)
theorem dX8_number_9 : decode cX8_number 9 = .ok (.getfield 46, 3) := dk_180 0 46 (dk_at dksX8_number_0 9 rfl rfl)
theorem dX8_number_12 : decode cX8_number 12 = .ok (.if_icmp .ge 25, 3) := dk_162 0 25 (dk_at dksX8_number_0 12 rfl rfl)
theorem dX8_number_15 : decode cX8_number 15 = .ok (.aload_n 0, 1) := dk_42 (dk_at dksX8_number_0 15 rfl rfl)
theorem dX8_number_16 : decode cX8_number 16 = .ok (.getfield 3, 3) := dk_180 0 3 (dk_at dksX8_number_0 16 rfl rfl)
theorem dX8_number_19 : decode cX8_number 19 = .ok (.getfield 52, 3) := dk_180 0 52 (dk_at dksX8_number_0 19 rfl rfl)
theorem dX8_number_22 : decode cX8_number 22 = .ok (.aload_n 0, 1) := dk_42 (dk_at dksX8_number_0 22 rfl rfl)
theorem dX8_number_23 : decode cX8_number 23 = .ok (.getfield 42, 3) := dk_180 0 42 (dk_at dksX8_number_1 0 rfl rfl)
theorem dX8_number_26 : decode cX8_number 26 = .ok (.baload, 1) := dk_51 (dk_at dksX8_number_1 3 rfl rfl)
theorem dX8_number_27 : decode cX8_number 27 = .ok (.invokestatic 60, 3) := dk_184 0 60 (dk_at dksX8_number_1 4 rfl rfl)
theorem dX8_number_30 : decode cX8_number 30 = .ok (.ifCond .eq 7, 3) := dk_153 0 7 (dk_at dksX8_number_1 7 rfl rfl)
theorem dX8_number_33 : decode cX8_number 33 = .ok (.iconst 1, 1) := dk_4 (dk_at dksX8_number_1 10 rfl rfl)
theorem dX8_number_34 : decode cX8_number 34 = .ok (.goto 4, 3) := dk_167 0 4 (dk_at dksX8_number_1 11 rfl rfl)
theorem dX8_number_37 : decode cX8_number 37 = .ok (.iconst 0, 1) := dk_3 (dk_at dksX8_number_1 14 rfl rfl)
theorem dX8_number_38 : decode cX8_number 38 = .ok (.invokevirtual 28, 3) := dk_182 0 28 (dk_at dksX8_number_1 15 rfl rfl)
theorem dX8_number_41 : decode cX8_number 41 = .ok (.iconst 0, 1) := dk_3 (dk_at dksX8_number_1 18 rfl rfl)
theorem dX8_number_42 : decode cX8_number 42 = .ok (.istore_n 2, 1) := dk_61 (dk_at dksX8_number_1 19 rfl rfl)
theorem dX8_number_43 : decode cX8_number 43 = .ok (.aload_n 0, 1) := dk_42 (dk_at dksX8_number_1 20 rfl rfl)
theorem dX8_number_44 : decode cX8_number 44 = .ok (.getfield 42, 3) := dk_180 0 42 (dk_at dksX8_number_1 21 rfl rfl)
theorem dX8_number_47 : decode cX8_number 47 = .ok (.istore_n 3, 1) := dk_62 (dk_at dksX8_number_2 0 rfl rfl)
theorem dX8_number_48 : decode cX8_number 48 = .ok (.iload_n 3, 1) := dk_29 (dk_at dksX8_number_2 1 rfl rfl)
theorem dX8_number_49 : decode cX8_number 49 = .ok (.aload_n 0, 1) := dk_42 (dk_at dksX8_number_2 2 rfl rfl)
theorem dX8_number_50 : decode cX8_number 50 = .ok (.getfield 49, 3) := dk_180 0 49 (dk_at dksX8_number_2 3 rfl rfl)
theorem dX8_number_53 : decode cX8_number 53 = .ok (.if_icmp .ge 32, 3) := dk_162 0 32 (dk_at dksX8_number_2 6 rfl rfl)
theorem dX8_number_56 : decode cX8_number 56 = .ok (.iload_n 2, 1) := dk_28 (dk_at dksX8_number_2 9 rfl rfl)
theorem dX8_number_57 : decode cX8_number 57 = .ok (.iload_n 1, 1) := dk_27 (dk_at dksX8_number_2 10 rfl rfl)
theorem dX8_number_58 : decode cX8_number 58 = .ok (.if_icmp .gt 27, 3) := dk_163 0 27 (dk_at dksX8_number_2 11 rfl rfl)
theorem dX8_number_61 : decode cX8_number 61 = .ok (.bipush 10, 2) := dk_16 10 (dk_at dksX8_number_2 14 rfl rfl)
theorem dX8_number_63 : decode cX8_number 63 = .ok (.iload_n 2, 1) := dk_28 (dk_at dksX8_number_2 16 rfl rfl)
theorem dX8_number_64 : decode cX8_number 64 = .ok (.imul, 1) := dk_104 (dk_at dksX8_number_2 17 rfl rfl)
theorem dX8_number_65 : decode cX8_number 65 = .ok (.aload_n 0, 1) := dk_42 (dk_at dksX8_number_2 18 rfl rfl)
theorem dX8_number_66 : decode cX8_number 66 = .ok (.getfield 3, 3) := dk_180 0 3 (dk_at dksX8_number_2 19 rfl rfl)
theorem dX8_number_69 : decode cX8_number 69 = .ok (.getfield 52, 3) := dk_180 0 52 (dk_at dksX8_number_3 0 rfl rfl)
theorem dX8_number_72 : decode cX8_number 72 = .ok (.iload_n 3, 1) := dk_29 (dk_at dksX8_number_3 3 rfl rfl)
theorem dX8_number_73 : decode cX8_number 73 = .ok (.baload, 1) := dk_51 (dk_at dksX8_number_3 4 rfl rfl)
theorem dX8_number_74 : decode cX8_number 74 = .ok (.iadd, 1) := dk_96 (dk_at dksX8_number_3 5 rfl rfl)
theorem dX8_number_75 : decode cX8_number 75 = .ok (.bipush 48, 2) := dk_16 48 (dk_at dksX8_number_3 6 rfl rfl)
theorem dX8_number_77 : decode cX8_number 77 = .ok (.isub, 1) := dk_100 (dk_at dksX8_number_3 8 rfl rfl)
theorem dX8_number_78 : decode cX8_number 78 = .ok (.istore_n 2, 1) := dk_61 (dk_at dksX8_number_3 9 rfl rfl)
theorem dX8_number_79 : decode cX8_number 79 = .ok (.iinc 3 1, 3) := dk_132 3 1 (dk_at dksX8_number_3 10 rfl rfl)
theorem dX8_number_82 : decode cX8_number 82 = .ok (.goto (-34), 3) := dk_167 255 222 (dk_at dksX8_number_3 13 rfl rfl)
theorem dX8_number_85 : decode cX8_number 85 = .ok (.aload_n 0, 1) := dk_42 (dk_at dksX8_number_3 16 rfl rfl)
theorem dX8_number_86 : decode cX8_number 86 = .ok (.iload_n 2, 1) := dk_28 (dk_at dksX8_number_3 17 rfl rfl)
theorem dX8_number_87 : decode cX8_number 87 = .ok (.iload_n 1, 1) := dk_27 (dk_at dksX8_number_3 18 rfl rfl)
theorem dX8_number_88 : decode cX8_number 88 = .ok (.if_icmp .gt 7, 3) := dk_163 0 7 (dk_at dksX8_number_3 19 rfl rfl)
theorem dX8_number_91 : decode cX8_number 91 = .ok (.iconst 1, 1) := dk_4 (dk_at dksX8_number_3 22 rfl rfl)
theorem dX8_number_92 : decode cX8_number 92 = .ok (.goto 4, 3) := dk_167 0 4 (dk_at dksX8_number_4 0 rfl rfl)
theorem dX8_number_95 : decode cX8_number 95 = .ok (.iconst 0, 1) := dk_3 (dk_at dksX8_number_4 3 rfl rfl)
theorem dX8_number_96 : decode cX8_number 96 = .ok (.invokevirtual 28, 3) := dk_182 0 28 (dk_at dksX8_number_4 4 rfl rfl)
theorem dX8_number_99 : decode cX8_number 99 = .ok (.aload_n 0, 1) := dk_42 (dk_at dksX8_number_4 7 rfl rfl)
theorem dX8_number_100 : decode cX8_number 100 = .ok (.invokevirtual 25, 3) := dk_182 0 25 (dk_at dksX8_number_4 8 rfl rfl)
theorem dX8_number_103 : decode cX8_number 103 = .ok (.iload_n 2, 1) := dk_28 (dk_at dksX8_number_4 11 rfl rfl)
theorem dX8_number_104 : decode cX8_number 104 = .ok (.ireturn, 1) := dk_172 (dk_at dksX8_number_4 12 rfl rfl)
abbrev cX8_behindWord : ByteArray := prog_21_method_21_code
def yX8_behindWord : MethodName := ⟨RX8, "behindWord", "(I)LLitStrangers$Sum;"⟩
def dkwX8_behindWord_0 : List UInt8 := [187, 0, 195, 89, 27, 183, 0, 197, 176]
abbrev dktX8_behindWord_0 : List UInt8 := dkwX8_behindWord_0 ++ []
theorem dksX8_behindWord_0 : cX8_behindWord.data.toList.drop 0 = dktX8_behindWord_0 := by decide +kernel
theorem dX8_behindWord_0 : decode cX8_behindWord 0 = .ok (.new 195, 3) := dk_187 0 195 (dk_at dksX8_behindWord_0 0 rfl rfl)
theorem dX8_behindWord_3 : decode cX8_behindWord 3 = .ok (.dup, 1) := dk_89 (dk_at dksX8_behindWord_0 3 rfl rfl)
theorem dX8_behindWord_4 : decode cX8_behindWord 4 = .ok (.iload_n 1, 1) := dk_27 (dk_at dksX8_behindWord_0 4 rfl rfl)
theorem dX8_behindWord_5 : decode cX8_behindWord 5 = .ok (.invokespecial 197, 3) := dk_183 0 197 (dk_at dksX8_behindWord_0 5 rfl rfl)
theorem dX8_behindWord_8 : decode cX8_behindWord 8 = .ok (.areturn, 1) := dk_176 (dk_at dksX8_behindWord_0 8 rfl rfl)
abbrev cX8_test : ByteArray := prog_21_method_10_code
def yX8_test : MethodName := ⟨RX8, "test", "()LLitStrangers$Test;"⟩
def dkwX8_test_1 : List UInt8 := [182, 0, 83, 182, 0, 87, 167, 255, 239, 42, 3, 27, 182, 0, 93, 176]
abbrev dktX8_test_1 : List UInt8 := dkwX8_test_1 ++ []
def dkwX8_test_0 : List UInt8 := [42, 180, 0, 80, 60, 42, 42, 182, 0, 83, 182, 0, 87, 42, 18, 91, 182, 0, 38, 153, 0, 14, 42, 42]
abbrev dktX8_test_0 : List UInt8 := dkwX8_test_0 ++ dktX8_test_1
theorem dksX8_test_0 : cX8_test.data.toList.drop 0 = dktX8_test_0 := by decide +kernel
theorem dksX8_test_1 : cX8_test.data.toList.drop 24 = dktX8_test_1 := dk_seg dksX8_test_0 24 rfl rfl
theorem dX8_test_0 : decode cX8_test 0 = .ok (.aload_n 0, 1) := dk_42 (dk_at dksX8_test_0 0 rfl rfl)
theorem dX8_test_1 : decode cX8_test 1 = .ok (.getfield 80, 3) := dk_180 0 80 (dk_at dksX8_test_0 1 rfl rfl)
theorem dX8_test_4 : decode cX8_test 4 = .ok (.istore_n 1, 1) := dk_60 (dk_at dksX8_test_0 4 rfl rfl)
theorem dX8_test_5 : decode cX8_test 5 = .ok (.aload_n 0, 1) := dk_42 (dk_at dksX8_test_0 5 rfl rfl)
theorem dX8_test_6 : decode cX8_test 6 = .ok (.aload_n 0, 1) := dk_42 (dk_at dksX8_test_0 6 rfl rfl)
theorem dX8_test_7 : decode cX8_test 7 = .ok (.invokevirtual 83, 3) := dk_182 0 83 (dk_at dksX8_test_0 7 rfl rfl)
theorem dX8_test_10 : decode cX8_test 10 = .ok (.invokevirtual 87, 3) := dk_182 0 87 (dk_at dksX8_test_0 10 rfl rfl)
theorem dX8_test_13 : decode cX8_test 13 = .ok (.aload_n 0, 1) := dk_42 (dk_at dksX8_test_0 13 rfl rfl)
theorem dX8_test_14 : decode cX8_test 14 = .ok (.ldc 91, 2) := dk_18 91 (dk_at dksX8_test_0 14 rfl rfl)
theorem dX8_test_16 : decode cX8_test 16 = .ok (.invokevirtual 38, 3) := dk_182 0 38 (dk_at dksX8_test_0 16 rfl rfl)
theorem dX8_test_19 : decode cX8_test 19 = .ok (.ifCond .eq 14, 3) := dk_153 0 14 (dk_at dksX8_test_0 19 rfl rfl)
theorem dX8_test_22 : decode cX8_test 22 = .ok (.aload_n 0, 1) := dk_42 (dk_at dksX8_test_0 22 rfl rfl)
theorem dX8_test_23 : decode cX8_test 23 = .ok (.aload_n 0, 1) := dk_42 (dk_at dksX8_test_0 23 rfl rfl)
theorem dX8_test_24 : decode cX8_test 24 = .ok (.invokevirtual 83, 3) := dk_182 0 83 (dk_at dksX8_test_1 0 rfl rfl)
theorem dX8_test_27 : decode cX8_test 27 = .ok (.invokevirtual 87, 3) := dk_182 0 87 (dk_at dksX8_test_1 3 rfl rfl)
theorem dX8_test_30 : decode cX8_test 30 = .ok (.goto (-17), 3) := dk_167 255 239 (dk_at dksX8_test_1 6 rfl rfl)
theorem dX8_test_33 : decode cX8_test 33 = .ok (.aload_n 0, 1) := dk_42 (dk_at dksX8_test_1 9 rfl rfl)
theorem dX8_test_34 : decode cX8_test 34 = .ok (.iconst 0, 1) := dk_3 (dk_at dksX8_test_1 10 rfl rfl)
theorem dX8_test_35 : decode cX8_test 35 = .ok (.iload_n 1, 1) := dk_27 (dk_at dksX8_test_1 11 rfl rfl)
theorem dX8_test_36 : decode cX8_test 36 = .ok (.invokevirtual 93, 3) := dk_182 0 93 (dk_at dksX8_test_1 12 rfl rfl)
theorem dX8_test_39 : decode cX8_test 39 = .ok (.areturn, 1) := dk_176 (dk_at dksX8_test_1 15 rfl rfl)
abbrev cX8_both : ByteArray := prog_21_method_11_code
def yX8_both : MethodName := ⟨RX8, "both", "()LLitStrangers$Test;"⟩
def dkwX8_both_1 : List UInt8 := [182, 0, 97, 182, 0, 87, 167, 255, 239, 42, 4, 27, 182, 0, 93, 176]
abbrev dktX8_both_1 : List UInt8 := dkwX8_both_1 ++ []
def dkwX8_both_0 : List UInt8 := [42, 180, 0, 80, 60, 42, 42, 182, 0, 97, 182, 0, 87, 42, 18, 100, 182, 0, 38, 153, 0, 14, 42, 42]
abbrev dktX8_both_0 : List UInt8 := dkwX8_both_0 ++ dktX8_both_1
theorem dksX8_both_0 : cX8_both.data.toList.drop 0 = dktX8_both_0 := by decide +kernel
theorem dksX8_both_1 : cX8_both.data.toList.drop 24 = dktX8_both_1 := dk_seg dksX8_both_0 24 rfl rfl
theorem dX8_both_0 : decode cX8_both 0 = .ok (.aload_n 0, 1) := dk_42 (dk_at dksX8_both_0 0 rfl rfl)
theorem dX8_both_1 : decode cX8_both 1 = .ok (.getfield 80, 3) := dk_180 0 80 (dk_at dksX8_both_0 1 rfl rfl)
theorem dX8_both_4 : decode cX8_both 4 = .ok (.istore_n 1, 1) := dk_60 (dk_at dksX8_both_0 4 rfl rfl)
theorem dX8_both_5 : decode cX8_both 5 = .ok (.aload_n 0, 1) := dk_42 (dk_at dksX8_both_0 5 rfl rfl)
theorem dX8_both_6 : decode cX8_both 6 = .ok (.aload_n 0, 1) := dk_42 (dk_at dksX8_both_0 6 rfl rfl)
theorem dX8_both_7 : decode cX8_both 7 = .ok (.invokevirtual 97, 3) := dk_182 0 97 (dk_at dksX8_both_0 7 rfl rfl)
theorem dX8_both_10 : decode cX8_both 10 = .ok (.invokevirtual 87, 3) := dk_182 0 87 (dk_at dksX8_both_0 10 rfl rfl)
theorem dX8_both_13 : decode cX8_both 13 = .ok (.aload_n 0, 1) := dk_42 (dk_at dksX8_both_0 13 rfl rfl)
theorem dX8_both_14 : decode cX8_both 14 = .ok (.ldc 100, 2) := dk_18 100 (dk_at dksX8_both_0 14 rfl rfl)
theorem dX8_both_16 : decode cX8_both 16 = .ok (.invokevirtual 38, 3) := dk_182 0 38 (dk_at dksX8_both_0 16 rfl rfl)
theorem dX8_both_19 : decode cX8_both 19 = .ok (.ifCond .eq 14, 3) := dk_153 0 14 (dk_at dksX8_both_0 19 rfl rfl)
theorem dX8_both_22 : decode cX8_both 22 = .ok (.aload_n 0, 1) := dk_42 (dk_at dksX8_both_0 22 rfl rfl)
theorem dX8_both_23 : decode cX8_both 23 = .ok (.aload_n 0, 1) := dk_42 (dk_at dksX8_both_0 23 rfl rfl)
theorem dX8_both_24 : decode cX8_both 24 = .ok (.invokevirtual 97, 3) := dk_182 0 97 (dk_at dksX8_both_1 0 rfl rfl)
theorem dX8_both_27 : decode cX8_both 27 = .ok (.invokevirtual 87, 3) := dk_182 0 87 (dk_at dksX8_both_1 3 rfl rfl)
theorem dX8_both_30 : decode cX8_both 30 = .ok (.goto (-17), 3) := dk_167 255 239 (dk_at dksX8_both_1 6 rfl rfl)
theorem dX8_both_33 : decode cX8_both 33 = .ok (.aload_n 0, 1) := dk_42 (dk_at dksX8_both_1 9 rfl rfl)
theorem dX8_both_34 : decode cX8_both 34 = .ok (.iconst 1, 1) := dk_4 (dk_at dksX8_both_1 10 rfl rfl)
theorem dX8_both_35 : decode cX8_both 35 = .ok (.iload_n 1, 1) := dk_27 (dk_at dksX8_both_1 11 rfl rfl)
theorem dX8_both_36 : decode cX8_both 36 = .ok (.invokevirtual 93, 3) := dk_182 0 93 (dk_at dksX8_both_1 12 rfl rfl)
theorem dX8_both_39 : decode cX8_both 39 = .ok (.areturn, 1) := dk_176 (dk_at dksX8_both_1 15 rfl rfl)
abbrev cX8_plain : ByteArray := prog_21_method_17_code
def yX8_plain : MethodName := ⟨RX8, "plain", "()LLitStrangers$Test;"⟩
def dkwX8_plain_5 : List UInt8 := [182, 0, 135, 183, 0, 147, 77, 27, 153, 0, 14, 187, 0, 150, 89, 44, 183, 0, 152, 167, 0, 4, 44, 176]
abbrev dktX8_plain_5 : List UInt8 := dkwX8_plain_5 ++ []
def dkwX8_plain_4 : List UInt8 := [180, 0, 52, 42, 180, 0, 42, 51, 54, 4, 42, 182, 0, 25, 187, 0, 145, 89, 45, 21, 4, 42]
abbrev dktX8_plain_4 : List UInt8 := dkwX8_plain_4 ++ dktX8_plain_5
def dkwX8_plain_3 : List UInt8 := [154, 0, 12, 42, 18, 143, 182, 0, 73, 153, 0, 7, 4, 167, 0, 4, 3, 182, 0, 28, 42, 180, 0, 3]
abbrev dktX8_plain_3 : List UInt8 := dkwX8_plain_3 ++ dktX8_plain_4
def dkwX8_plain_2 : List UInt8 := [167, 0, 77, 42, 182, 0, 135, 78, 42, 42, 18, 139, 182, 0, 73, 154, 0, 21, 42, 18, 141, 182, 0, 73]
abbrev dktX8_plain_2 : List UInt8 := dkwX8_plain_2 ++ dktX8_plain_3
def dkwX8_plain_1 : List UInt8 := [42, 18, 121, 182, 0, 73, 153, 0, 21, 42, 182, 0, 123, 42, 182, 0, 126, 77, 42, 18, 129, 182, 0, 131]
abbrev dktX8_plain_1 : List UInt8 := dkwX8_plain_1 ++ dktX8_plain_2
def dkwX8_plain_0 : List UInt8 := [3, 60, 42, 18, 119, 182, 0, 38, 153, 0, 16, 27, 154, 0, 7, 4, 167, 0, 4, 3, 60, 167, 255, 237]
abbrev dktX8_plain_0 : List UInt8 := dkwX8_plain_0 ++ dktX8_plain_1
theorem dksX8_plain_0 : cX8_plain.data.toList.drop 0 = dktX8_plain_0 := by decide +kernel
theorem dksX8_plain_1 : cX8_plain.data.toList.drop 24 = dktX8_plain_1 := dk_seg dksX8_plain_0 24 rfl rfl
theorem dksX8_plain_2 : cX8_plain.data.toList.drop 48 = dktX8_plain_2 := dk_seg dksX8_plain_1 24 rfl rfl
theorem dksX8_plain_3 : cX8_plain.data.toList.drop 72 = dktX8_plain_3 := dk_seg dksX8_plain_2 24 rfl rfl
theorem dksX8_plain_4 : cX8_plain.data.toList.drop 96 = dktX8_plain_4 := dk_seg dksX8_plain_3 24 rfl rfl
theorem dksX8_plain_5 : cX8_plain.data.toList.drop 118 = dktX8_plain_5 := dk_seg dksX8_plain_4 22 rfl rfl
theorem dX8_plain_0 : decode cX8_plain 0 = .ok (.iconst 0, 1) := dk_3 (dk_at dksX8_plain_0 0 rfl rfl)
theorem dX8_plain_1 : decode cX8_plain 1 = .ok (.istore_n 1, 1) := dk_60 (dk_at dksX8_plain_0 1 rfl rfl)
theorem dX8_plain_2 : decode cX8_plain 2 = .ok (.aload_n 0, 1) := dk_42 (dk_at dksX8_plain_0 2 rfl rfl)
theorem dX8_plain_3 : decode cX8_plain 3 = .ok (.ldc 119, 2) := dk_18 119 (dk_at dksX8_plain_0 3 rfl rfl)
theorem dX8_plain_5 : decode cX8_plain 5 = .ok (.invokevirtual 38, 3) := dk_182 0 38 (dk_at dksX8_plain_0 5 rfl rfl)
theorem dX8_plain_8 : decode cX8_plain 8 = .ok (.ifCond .eq 16, 3) := dk_153 0 16 (dk_at dksX8_plain_0 8 rfl rfl)
theorem dX8_plain_11 : decode cX8_plain 11 = .ok (.iload_n 1, 1) := dk_27 (dk_at dksX8_plain_0 11 rfl rfl)
theorem dX8_plain_12 : decode cX8_plain 12 = .ok (.ifCond .ne 7, 3) := dk_154 0 7 (dk_at dksX8_plain_0 12 rfl rfl)
theorem dX8_plain_15 : decode cX8_plain 15 = .ok (.iconst 1, 1) := dk_4 (dk_at dksX8_plain_0 15 rfl rfl)
theorem dX8_plain_16 : decode cX8_plain 16 = .ok (.goto 4, 3) := dk_167 0 4 (dk_at dksX8_plain_0 16 rfl rfl)
theorem dX8_plain_19 : decode cX8_plain 19 = .ok (.iconst 0, 1) := dk_3 (dk_at dksX8_plain_0 19 rfl rfl)
theorem dX8_plain_20 : decode cX8_plain 20 = .ok (.istore_n 1, 1) := dk_60 (dk_at dksX8_plain_0 20 rfl rfl)
theorem dX8_plain_21 : decode cX8_plain 21 = .ok (.goto (-19), 3) := dk_167 255 237 (dk_at dksX8_plain_0 21 rfl rfl)
theorem dX8_plain_24 : decode cX8_plain 24 = .ok (.aload_n 0, 1) := dk_42 (dk_at dksX8_plain_1 0 rfl rfl)
theorem dX8_plain_25 : decode cX8_plain 25 = .ok (.ldc 121, 2) := dk_18 121 (dk_at dksX8_plain_1 1 rfl rfl)
theorem dX8_plain_27 : decode cX8_plain 27 = .ok (.invokevirtual 73, 3) := dk_182 0 73 (dk_at dksX8_plain_1 3 rfl rfl)
theorem dX8_plain_30 : decode cX8_plain 30 = .ok (.ifCond .eq 21, 3) := dk_153 0 21 (dk_at dksX8_plain_1 6 rfl rfl)
theorem dX8_plain_33 : decode cX8_plain 33 = .ok (.aload_n 0, 1) := dk_42 (dk_at dksX8_plain_1 9 rfl rfl)
theorem dX8_plain_34 : decode cX8_plain 34 = .ok (.invokevirtual 123, 3) := dk_182 0 123 (dk_at dksX8_plain_1 10 rfl rfl)
theorem dX8_plain_37 : decode cX8_plain 37 = .ok (.aload_n 0, 1) := dk_42 (dk_at dksX8_plain_1 13 rfl rfl)
theorem dX8_plain_38 : decode cX8_plain 38 = .ok (.invokevirtual 126, 3) := dk_182 0 126 (dk_at dksX8_plain_1 14 rfl rfl)
theorem dX8_plain_41 : decode cX8_plain 41 = .ok (.astore_n 2, 1) := dk_77 (dk_at dksX8_plain_1 17 rfl rfl)
theorem dX8_plain_42 : decode cX8_plain 42 = .ok (.aload_n 0, 1) := dk_42 (dk_at dksX8_plain_1 18 rfl rfl)
theorem dX8_plain_43 : decode cX8_plain 43 = .ok (.ldc 129, 2) := dk_18 129 (dk_at dksX8_plain_1 19 rfl rfl)
theorem dX8_plain_45 : decode cX8_plain 45 = .ok (.invokevirtual 131, 3) := dk_182 0 131 (dk_at dksX8_plain_1 21 rfl rfl)
theorem dX8_plain_48 : decode cX8_plain 48 = .ok (.goto 77, 3) := dk_167 0 77 (dk_at dksX8_plain_2 0 rfl rfl)
theorem dX8_plain_51 : decode cX8_plain 51 = .ok (.aload_n 0, 1) := dk_42 (dk_at dksX8_plain_2 3 rfl rfl)
theorem dX8_plain_52 : decode cX8_plain 52 = .ok (.invokevirtual 135, 3) := dk_182 0 135 (dk_at dksX8_plain_2 4 rfl rfl)
theorem dX8_plain_55 : decode cX8_plain 55 = .ok (.astore_n 3, 1) := dk_78 (dk_at dksX8_plain_2 7 rfl rfl)
theorem dX8_plain_56 : decode cX8_plain 56 = .ok (.aload_n 0, 1) := dk_42 (dk_at dksX8_plain_2 8 rfl rfl)
theorem dX8_plain_57 : decode cX8_plain 57 = .ok (.aload_n 0, 1) := dk_42 (dk_at dksX8_plain_2 9 rfl rfl)
theorem dX8_plain_58 : decode cX8_plain 58 = .ok (.ldc 139, 2) := dk_18 139 (dk_at dksX8_plain_2 10 rfl rfl)
theorem dX8_plain_60 : decode cX8_plain 60 = .ok (.invokevirtual 73, 3) := dk_182 0 73 (dk_at dksX8_plain_2 12 rfl rfl)
theorem dX8_plain_63 : decode cX8_plain 63 = .ok (.ifCond .ne 21, 3) := dk_154 0 21 (dk_at dksX8_plain_2 15 rfl rfl)
theorem dX8_plain_66 : decode cX8_plain 66 = .ok (.aload_n 0, 1) := dk_42 (dk_at dksX8_plain_2 18 rfl rfl)
theorem dX8_plain_67 : decode cX8_plain 67 = .ok (.ldc 141, 2) := dk_18 141 (dk_at dksX8_plain_2 19 rfl rfl)
theorem dX8_plain_69 : decode cX8_plain 69 = .ok (.invokevirtual 73, 3) := dk_182 0 73 (dk_at dksX8_plain_2 21 rfl rfl)
theorem dX8_plain_72 : decode cX8_plain 72 = .ok (.ifCond .ne 12, 3) := dk_154 0 12 (dk_at dksX8_plain_3 0 rfl rfl)
theorem dX8_plain_75 : decode cX8_plain 75 = .ok (.aload_n 0, 1) := dk_42 (dk_at dksX8_plain_3 3 rfl rfl)
theorem dX8_plain_76 : decode cX8_plain 76 = .ok (.ldc 143, 2) := dk_18 143 (dk_at dksX8_plain_3 4 rfl rfl)
theorem dX8_plain_78 : decode cX8_plain 78 = .ok (.invokevirtual 73, 3) := dk_182 0 73 (dk_at dksX8_plain_3 6 rfl rfl)
theorem dX8_plain_81 : decode cX8_plain 81 = .ok (.ifCond .eq 7, 3) := dk_153 0 7 (dk_at dksX8_plain_3 9 rfl rfl)
theorem dX8_plain_84 : decode cX8_plain 84 = .ok (.iconst 1, 1) := dk_4 (dk_at dksX8_plain_3 12 rfl rfl)
theorem dX8_plain_85 : decode cX8_plain 85 = .ok (.goto 4, 3) := dk_167 0 4 (dk_at dksX8_plain_3 13 rfl rfl)
theorem dX8_plain_88 : decode cX8_plain 88 = .ok (.iconst 0, 1) := dk_3 (dk_at dksX8_plain_3 16 rfl rfl)
theorem dX8_plain_89 : decode cX8_plain 89 = .ok (.invokevirtual 28, 3) := dk_182 0 28 (dk_at dksX8_plain_3 17 rfl rfl)
theorem dX8_plain_92 : decode cX8_plain 92 = .ok (.aload_n 0, 1) := dk_42 (dk_at dksX8_plain_3 20 rfl rfl)
theorem dX8_plain_93 : decode cX8_plain 93 = .ok (.getfield 3, 3) := dk_180 0 3 (dk_at dksX8_plain_3 21 rfl rfl)
theorem dX8_plain_96 : decode cX8_plain 96 = .ok (.getfield 52, 3) := dk_180 0 52 (dk_at dksX8_plain_4 0 rfl rfl)
theorem dX8_plain_99 : decode cX8_plain 99 = .ok (.aload_n 0, 1) := dk_42 (dk_at dksX8_plain_4 3 rfl rfl)
theorem dX8_plain_100 : decode cX8_plain 100 = .ok (.getfield 42, 3) := dk_180 0 42 (dk_at dksX8_plain_4 4 rfl rfl)
theorem dX8_plain_103 : decode cX8_plain 103 = .ok (.baload, 1) := dk_51 (dk_at dksX8_plain_4 7 rfl rfl)
theorem dX8_plain_104 : decode cX8_plain 104 = .ok (.istore 4, 2) := dk_54 4 (dk_at dksX8_plain_4 8 rfl rfl)
theorem dX8_plain_106 : decode cX8_plain 106 = .ok (.aload_n 0, 1) := dk_42 (dk_at dksX8_plain_4 10 rfl rfl)
theorem dX8_plain_107 : decode cX8_plain 107 = .ok (.invokevirtual 25, 3) := dk_182 0 25 (dk_at dksX8_plain_4 11 rfl rfl)
theorem dX8_plain_110 : decode cX8_plain 110 = .ok (.new 145, 3) := dk_187 0 145 (dk_at dksX8_plain_4 14 rfl rfl)
theorem dX8_plain_113 : decode cX8_plain 113 = .ok (.dup, 1) := dk_89 (dk_at dksX8_plain_4 17 rfl rfl)
theorem dX8_plain_114 : decode cX8_plain 114 = .ok (.aload_n 3, 1) := dk_45 (dk_at dksX8_plain_4 18 rfl rfl)
theorem dX8_plain_115 : decode cX8_plain 115 = .ok (.iload 4, 2) := dk_21 4 (dk_at dksX8_plain_4 19 rfl rfl)
theorem dX8_plain_117 : decode cX8_plain 117 = .ok (.aload_n 0, 1) := dk_42 (dk_at dksX8_plain_4 21 rfl rfl)
theorem dX8_plain_118 : decode cX8_plain 118 = .ok (.invokevirtual 135, 3) := dk_182 0 135 (dk_at dksX8_plain_5 0 rfl rfl)
theorem dX8_plain_121 : decode cX8_plain 121 = .ok (.invokespecial 147, 3) := dk_183 0 147 (dk_at dksX8_plain_5 3 rfl rfl)
theorem dX8_plain_124 : decode cX8_plain 124 = .ok (.astore_n 2, 1) := dk_77 (dk_at dksX8_plain_5 6 rfl rfl)
theorem dX8_plain_125 : decode cX8_plain 125 = .ok (.iload_n 1, 1) := dk_27 (dk_at dksX8_plain_5 7 rfl rfl)
theorem dX8_plain_126 : decode cX8_plain 126 = .ok (.ifCond .eq 14, 3) := dk_153 0 14 (dk_at dksX8_plain_5 8 rfl rfl)
theorem dX8_plain_129 : decode cX8_plain 129 = .ok (.new 150, 3) := dk_187 0 150 (dk_at dksX8_plain_5 11 rfl rfl)
theorem dX8_plain_132 : decode cX8_plain 132 = .ok (.dup, 1) := dk_89 (dk_at dksX8_plain_5 14 rfl rfl)
theorem dX8_plain_133 : decode cX8_plain 133 = .ok (.aload_n 2, 1) := dk_44 (dk_at dksX8_plain_5 15 rfl rfl)
theorem dX8_plain_134 : decode cX8_plain 134 = .ok (.invokespecial 152, 3) := dk_183 0 152 (dk_at dksX8_plain_5 16 rfl rfl)
theorem dX8_plain_137 : decode cX8_plain 137 = .ok (.goto 4, 3) := dk_167 0 4 (dk_at dksX8_plain_5 19 rfl rfl)
theorem dX8_plain_140 : decode cX8_plain 140 = .ok (.aload_n 2, 1) := dk_44 (dk_at dksX8_plain_5 22 rfl rfl)
theorem dX8_plain_141 : decode cX8_plain 141 = .ok (.areturn, 1) := dk_176 (dk_at dksX8_plain_5 23 rfl rfl)
abbrev cX8_add : ByteArray := prog_21_method_12_code
def yX8_add : MethodName := ⟨RX8, "add", "(LLitStrangers$Test;)V"⟩
def dkwX8_add_0 : List UInt8 := [42, 180, 0, 17, 42, 180, 0, 80, 43, 83, 42, 89, 180, 0, 80, 4, 96, 181, 0, 80, 177]
abbrev dktX8_add_0 : List UInt8 := dkwX8_add_0 ++ []
theorem dksX8_add_0 : cX8_add.data.toList.drop 0 = dktX8_add_0 := by decide +kernel
theorem dX8_add_0 : decode cX8_add 0 = .ok (.aload_n 0, 1) := dk_42 (dk_at dksX8_add_0 0 rfl rfl)
theorem dX8_add_1 : decode cX8_add 1 = .ok (.getfield 17, 3) := dk_180 0 17 (dk_at dksX8_add_0 1 rfl rfl)
theorem dX8_add_4 : decode cX8_add 4 = .ok (.aload_n 0, 1) := dk_42 (dk_at dksX8_add_0 4 rfl rfl)
theorem dX8_add_5 : decode cX8_add 5 = .ok (.getfield 80, 3) := dk_180 0 80 (dk_at dksX8_add_0 5 rfl rfl)
theorem dX8_add_8 : decode cX8_add 8 = .ok (.aload_n 1, 1) := dk_43 (dk_at dksX8_add_0 8 rfl rfl)
theorem dX8_add_9 : decode cX8_add 9 = .ok (.aastore, 1) := dk_83 (dk_at dksX8_add_0 9 rfl rfl)
theorem dX8_add_10 : decode cX8_add 10 = .ok (.aload_n 0, 1) := dk_42 (dk_at dksX8_add_0 10 rfl rfl)
theorem dX8_add_11 : decode cX8_add 11 = .ok (.dup, 1) := dk_89 (dk_at dksX8_add_0 11 rfl rfl)
theorem dX8_add_12 : decode cX8_add 12 = .ok (.getfield 80, 3) := dk_180 0 80 (dk_at dksX8_add_0 12 rfl rfl)
theorem dX8_add_15 : decode cX8_add 15 = .ok (.iconst 1, 1) := dk_4 (dk_at dksX8_add_0 15 rfl rfl)
theorem dX8_add_16 : decode cX8_add 16 = .ok (.iadd, 1) := dk_96 (dk_at dksX8_add_0 16 rfl rfl)
theorem dX8_add_17 : decode cX8_add 17 = .ok (.putfield 80, 3) := dk_181 0 80 (dk_at dksX8_add_0 17 rfl rfl)
theorem dX8_add_20 : decode cX8_add 20 = .ok (.return_, 1) := dk_177 (dk_at dksX8_add_0 20 rfl rfl)
abbrev cX8_row : ByteArray := prog_21_method_13_code
def yX8_row : MethodName := ⟨RX8, "row", "(ZI)LLitStrangers$Test;"⟩
def dkwX8_row_2 : List UInt8 := [25, 4, 183, 0, 110, 78, 42, 28, 181, 0, 80, 45, 176]
abbrev dktX8_row_2 : List UInt8 := dkwX8_row_2 ++ []
def dkwX8_row_1 : List UInt8 := [189, 0, 15, 58, 4, 42, 180, 0, 17, 28, 25, 4, 3, 25, 4, 190, 184, 0, 102, 187, 0, 108, 89, 27]
abbrev dktX8_row_1 : List UInt8 := dkwX8_row_1 ++ dktX8_row_2
def dkwX8_row_0 : List UInt8 := [42, 180, 0, 17, 28, 50, 78, 42, 180, 0, 80, 28, 100, 4, 164, 0, 39, 42, 180, 0, 80, 28, 100]
abbrev dktX8_row_0 : List UInt8 := dkwX8_row_0 ++ dktX8_row_1
theorem dksX8_row_0 : cX8_row.data.toList.drop 0 = dktX8_row_0 := by decide +kernel
theorem dksX8_row_1 : cX8_row.data.toList.drop 23 = dktX8_row_1 := dk_seg dksX8_row_0 23 rfl rfl
theorem dksX8_row_2 : cX8_row.data.toList.drop 47 = dktX8_row_2 := dk_seg dksX8_row_1 24 rfl rfl
theorem dX8_row_0 : decode cX8_row 0 = .ok (.aload_n 0, 1) := dk_42 (dk_at dksX8_row_0 0 rfl rfl)
theorem dX8_row_1 : decode cX8_row 1 = .ok (.getfield 17, 3) := dk_180 0 17 (dk_at dksX8_row_0 1 rfl rfl)
theorem dX8_row_4 : decode cX8_row 4 = .ok (.iload_n 2, 1) := dk_28 (dk_at dksX8_row_0 4 rfl rfl)
theorem dX8_row_5 : decode cX8_row 5 = .ok (.aaload, 1) := dk_50 (dk_at dksX8_row_0 5 rfl rfl)
theorem dX8_row_6 : decode cX8_row 6 = .ok (.astore_n 3, 1) := dk_78 (dk_at dksX8_row_0 6 rfl rfl)
theorem dX8_row_7 : decode cX8_row 7 = .ok (.aload_n 0, 1) := dk_42 (dk_at dksX8_row_0 7 rfl rfl)
theorem dX8_row_8 : decode cX8_row 8 = .ok (.getfield 80, 3) := dk_180 0 80 (dk_at dksX8_row_0 8 rfl rfl)
theorem dX8_row_11 : decode cX8_row 11 = .ok (.iload_n 2, 1) := dk_28 (dk_at dksX8_row_0 11 rfl rfl)
theorem dX8_row_12 : decode cX8_row 12 = .ok (.isub, 1) := dk_100 (dk_at dksX8_row_0 12 rfl rfl)
theorem dX8_row_13 : decode cX8_row 13 = .ok (.iconst 1, 1) := dk_4 (dk_at dksX8_row_0 13 rfl rfl)
theorem dX8_row_14 : decode cX8_row 14 = .ok (.if_icmp .le 39, 3) := dk_164 0 39 (dk_at dksX8_row_0 14 rfl rfl)
theorem dX8_row_17 : decode cX8_row 17 = .ok (.aload_n 0, 1) := dk_42 (dk_at dksX8_row_0 17 rfl rfl)
theorem dX8_row_18 : decode cX8_row 18 = .ok (.getfield 80, 3) := dk_180 0 80 (dk_at dksX8_row_0 18 rfl rfl)
theorem dX8_row_21 : decode cX8_row 21 = .ok (.iload_n 2, 1) := dk_28 (dk_at dksX8_row_0 21 rfl rfl)
theorem dX8_row_22 : decode cX8_row 22 = .ok (.isub, 1) := dk_100 (dk_at dksX8_row_0 22 rfl rfl)
theorem dX8_row_23 : decode cX8_row 23 = .ok (.anewarray 15, 3) := dk_189 0 15 (dk_at dksX8_row_1 0 rfl rfl)
theorem dX8_row_26 : decode cX8_row 26 = .ok (.astore 4, 2) := dk_58 4 (dk_at dksX8_row_1 3 rfl rfl)
theorem dX8_row_28 : decode cX8_row 28 = .ok (.aload_n 0, 1) := dk_42 (dk_at dksX8_row_1 5 rfl rfl)
theorem dX8_row_29 : decode cX8_row 29 = .ok (.getfield 17, 3) := dk_180 0 17 (dk_at dksX8_row_1 6 rfl rfl)
theorem dX8_row_32 : decode cX8_row 32 = .ok (.iload_n 2, 1) := dk_28 (dk_at dksX8_row_1 9 rfl rfl)
theorem dX8_row_33 : decode cX8_row 33 = .ok (.aload 4, 2) := dk_25 4 (dk_at dksX8_row_1 10 rfl rfl)
theorem dX8_row_35 : decode cX8_row 35 = .ok (.iconst 0, 1) := dk_3 (dk_at dksX8_row_1 12 rfl rfl)
theorem dX8_row_36 : decode cX8_row 36 = .ok (.aload 4, 2) := dk_25 4 (dk_at dksX8_row_1 13 rfl rfl)
theorem dX8_row_38 : decode cX8_row 38 = .ok (.arraylength, 1) := dk_190 (dk_at dksX8_row_1 15 rfl rfl)
theorem dX8_row_39 : decode cX8_row 39 = .ok (.invokestatic 102, 3) := dk_184 0 102 (dk_at dksX8_row_1 16 rfl rfl)
theorem dX8_row_42 : decode cX8_row 42 = .ok (.new 108, 3) := dk_187 0 108 (dk_at dksX8_row_1 19 rfl rfl)
theorem dX8_row_45 : decode cX8_row 45 = .ok (.dup, 1) := dk_89 (dk_at dksX8_row_1 22 rfl rfl)
theorem dX8_row_46 : decode cX8_row 46 = .ok (.iload_n 1, 1) := dk_27 (dk_at dksX8_row_1 23 rfl rfl)
theorem dX8_row_47 : decode cX8_row 47 = .ok (.aload 4, 2) := dk_25 4 (dk_at dksX8_row_2 0 rfl rfl)
theorem dX8_row_49 : decode cX8_row 49 = .ok (.invokespecial 110, 3) := dk_183 0 110 (dk_at dksX8_row_2 2 rfl rfl)
theorem dX8_row_52 : decode cX8_row 52 = .ok (.astore_n 3, 1) := dk_78 (dk_at dksX8_row_2 5 rfl rfl)
theorem dX8_row_53 : decode cX8_row 53 = .ok (.aload_n 0, 1) := dk_42 (dk_at dksX8_row_2 6 rfl rfl)
theorem dX8_row_54 : decode cX8_row 54 = .ok (.iload_n 2, 1) := dk_28 (dk_at dksX8_row_2 7 rfl rfl)
theorem dX8_row_55 : decode cX8_row 55 = .ok (.putfield 80, 3) := dk_181 0 80 (dk_at dksX8_row_2 8 rfl rfl)
theorem dX8_row_58 : decode cX8_row 58 = .ok (.aload_n 3, 1) := dk_45 (dk_at dksX8_row_2 11 rfl rfl)
theorem dX8_row_59 : decode cX8_row 59 = .ok (.areturn, 1) := dk_176 (dk_at dksX8_row_2 12 rfl rfl)
theorem q142 : (Jvm.Cond.initialized "LitStrangers$Reader") ∈ lw_all := lw_g (lw_at lw_m1 24 rfl) rfl
theorem q394 : (Jvm.Cond.fieldLinkNest "LitStrangers$Reader" (52 : Nat) "LitStrangers" "tape" "[B" "LitStrangers") ∈ lw_tbl := lw_at lw_m2 36 rfl
theorem q395 : (Jvm.Cond.fieldLinkNest "LitStrangers$Reader" (46 : Nat) "LitStrangers" "taped" "I" "LitStrangers") ∈ lw_tbl := lw_at lw_m2 37 rfl
theorem q741 : (Jvm.Cond.instanceMethod ({ cls := "LitStrangers$Reader", name := "<init>", desc := "(LLitStrangers;[Ljava/lang/String;)V" } : Jvm.MethodName)) ∈ lw_all := lw_g (lw_at lw_m3 143 rfl) rfl
theorem q742 : (Jvm.Cond.code ({ cls := "LitStrangers$Reader", name := "<init>", desc := "(LLitStrangers;[Ljava/lang/String;)V" } : Jvm.MethodName) prog_21_method_1_code (3 : Nat) (Option.none : Option Jvm.ClassFile.FieldType)) ∈ lw_all := lw_g (lw_at lw_m3 144 rfl) rfl
theorem q743 : (Jvm.Cond.methodLink "LitStrangers$Reader" (9 : Nat) ({ cls := "java/lang/Object", name := "<init>", desc := "()V" } : Jvm.MethodName)) ∈ lw_all := lw_g (lw_at lw_m3 145 rfl) rfl
theorem q744 : (Jvm.Cond.classLink "LitStrangers$Reader" (15 : Nat) "LitStrangers$Test") ∈ lw_all := lw_g (lw_at lw_m3 146 rfl) rfl
theorem q755 : (Jvm.Cond.fieldLink "LitStrangers$Reader" (42 : Nat) "LitStrangers$Reader" "from" "I") ∈ lw_all := lw_g (lw_at lw_m3 157 rfl) rfl
theorem q760 : (Jvm.Cond.fieldLink "LitStrangers$Reader" (49 : Nat) "LitStrangers$Reader" "to" "I") ∈ lw_all := lw_g (lw_at lw_m3 162 rfl) rfl
theorem q761 : (Jvm.Cond.fieldLink "LitStrangers$Reader" (116 : Nat) "LitStrangers$Reader" "leaves" "I") ∈ lw_all := lw_g (lw_at lw_m3 163 rfl) rfl
theorem q762 : (Jvm.Cond.fieldLink "LitStrangers$Reader" (113 : Nat) "LitStrangers$Reader" "deep" "I") ∈ lw_all := lw_g (lw_at lw_m3 164 rfl) rfl
theorem q763 : (Jvm.Cond.fieldLink "LitStrangers$Reader" (80 : Nat) "LitStrangers$Reader" "piled" "I") ∈ lw_all := lw_g (lw_at lw_m3 165 rfl) rfl
theorem q764 : (Jvm.Cond.fieldLink "LitStrangers$Reader" (17 : Nat) "LitStrangers$Reader" "pile" "[LLitStrangers$Test;") ∈ lw_all := lw_g (lw_at lw_m3 166 rfl) rfl
theorem q765 : (Jvm.Cond.fieldLink "LitStrangers$Reader" (21 : Nat) "LitStrangers$Reader" "words" "[Ljava/lang/String;") ∈ lw_all := lw_g (lw_at lw_m3 167 rfl) rfl
theorem q766 : (Jvm.Cond.fieldLink "LitStrangers$Reader" (3 : Nat) "LitStrangers$Reader" "this$0" "LLitStrangers;") ∈ lw_all := lw_g (lw_at lw_m3 168 rfl) rfl
theorem q774 : (Jvm.Cond.soleField "LitStrangers$Reader" "from") ∈ lw_all := lw_g (lw_at lw_m3 176 rfl) rfl
theorem q776 : (Jvm.Cond.soleField "LitStrangers$Reader" "to") ∈ lw_all := lw_g (lw_at lw_m3 178 rfl) rfl
theorem q778 : (Jvm.Cond.soleField "LitStrangers$Reader" "leaves") ∈ lw_all := lw_g (lw_at lw_m3 180 rfl) rfl
theorem q780 : (Jvm.Cond.soleField "LitStrangers$Reader" "deep") ∈ lw_all := lw_g (lw_at lw_m3 182 rfl) rfl
theorem q782 : (Jvm.Cond.soleField "LitStrangers$Reader" "piled") ∈ lw_all := lw_g (lw_at lw_m3 184 rfl) rfl
theorem q784 : (Jvm.Cond.soleField "LitStrangers$Reader" "pile") ∈ lw_all := lw_g (lw_at lw_m3 186 rfl) rfl
theorem q786 : (Jvm.Cond.soleField "LitStrangers$Reader" "words") ∈ lw_all := lw_g (lw_at lw_m3 188 rfl) rfl
theorem q788 : (Jvm.Cond.soleField "LitStrangers$Reader" "this$0") ∈ lw_all := lw_g (lw_at lw_m3 190 rfl) rfl
theorem q796 : (Jvm.Cond.declares ({ cls := "LitStrangers$Reader", name := "readAll", desc := "()I" } : Jvm.MethodName)) ∈ lw_tbl := lw_at lw_m3 198 rfl
theorem q798 : (Jvm.Cond.instanceMethod ({ cls := "LitStrangers$Reader", name := "readAll", desc := "()I" } : Jvm.MethodName)) ∈ lw_all := lw_g (lw_at lw_m3 200 rfl) rfl
theorem q799 : (Jvm.Cond.code ({ cls := "LitStrangers$Reader", name := "readAll", desc := "()I" } : Jvm.MethodName) prog_21_method_2_code (2 : Nat) (Option.some Jvm.ClassFile.FieldType.int)) ∈ lw_all := lw_g (lw_at lw_m3 201 rfl) rfl
theorem q800 : (Jvm.Cond.methodLink "LitStrangers$Reader" (25 : Nat) ({ cls := "LitStrangers$Reader", name := "next", desc := "()V" } : Jvm.MethodName)) ∈ lw_all := lw_g (lw_at lw_m3 202 rfl) rfl
theorem q801 : (Jvm.Cond.instanceMethod ({ cls := "LitStrangers$Reader", name := "next", desc := "()V" } : Jvm.MethodName)) ∈ lw_all := lw_g (lw_at lw_m3 203 rfl) rfl
theorem q802 : (Jvm.Cond.sameMethod "LitStrangers$Reader" "LitStrangers$Reader" "next" "()V") ∈ lw_all := lw_g (lw_at lw_m3 204 rfl) rfl
theorem q805 : (Jvm.Cond.code ({ cls := "LitStrangers$Reader", name := "next", desc := "()V" } : Jvm.MethodName) prog_21_method_4_code (3 : Nat) (Option.none : Option Jvm.ClassFile.FieldType)) ∈ lw_all := lw_g (lw_at lw_m3 207 rfl) rfl
theorem q806 : (Jvm.Cond.methodLinkNest "LitStrangers$Reader" (56 : Nat) ({ cls := "LitStrangers", name := "isLetter", desc := "(I)Z" } : Jvm.MethodName) "LitStrangers") ∈ lw_tbl := lw_at lw_m3 208 rfl
theorem q809 : (Jvm.Cond.methodLinkNest "LitStrangers$Reader" (60 : Nat) ({ cls := "LitStrangers", name := "isDigit", desc := "(I)Z" } : Jvm.MethodName) "LitStrangers") ∈ lw_tbl := lw_at lw_m3 211 rfl
theorem q812 : (Jvm.Cond.methodLink "LitStrangers$Reader" (28 : Nat) ({ cls := "LitStrangers$Reader", name := "must", desc := "(Z)V" } : Jvm.MethodName)) ∈ lw_all := lw_g (lw_at lw_m3 214 rfl) rfl
theorem q813 : (Jvm.Cond.instanceMethod ({ cls := "LitStrangers$Reader", name := "must", desc := "(Z)V" } : Jvm.MethodName)) ∈ lw_all := lw_g (lw_at lw_m3 215 rfl) rfl
theorem q814 : (Jvm.Cond.sameMethod "LitStrangers$Reader" "LitStrangers$Reader" "must" "(Z)V") ∈ lw_all := lw_g (lw_at lw_m3 216 rfl) rfl
theorem q817 : (Jvm.Cond.code ({ cls := "LitStrangers$Reader", name := "must", desc := "(Z)V" } : Jvm.MethodName) prog_21_method_8_code (2 : Nat) (Option.none : Option Jvm.ClassFile.FieldType)) ∈ lw_all := lw_g (lw_at lw_m3 219 rfl) rfl
theorem q818 : (Jvm.Cond.classLink "LitStrangers$Reader" (76 : Nat) "LitStrangers$Wrong") ∈ lw_all := lw_g (lw_at lw_m3 220 rfl) rfl
theorem q827 : (Jvm.Cond.methodLink "LitStrangers$Reader" (78 : Nat) ({ cls := "LitStrangers$Wrong", name := "<init>", desc := "(I)V" } : Jvm.MethodName)) ∈ lw_all := lw_g (lw_at lw_m3 229 rfl) rfl
theorem q842 : (Jvm.Cond.methodLink "LitStrangers$Reader" (32 : Nat) ({ cls := "LitStrangers$Reader", name := "read", desc := "(I)V" } : Jvm.MethodName)) ∈ lw_all := lw_g (lw_at lw_m4 4 rfl) rfl
theorem q843 : (Jvm.Cond.declares ({ cls := "LitStrangers$Reader", name := "read", desc := "(I)V" } : Jvm.MethodName)) ∈ lw_tbl := lw_at lw_m4 5 rfl
theorem q844 : (Jvm.Cond.sameMethod "LitStrangers$Reader" "LitStrangers$Reader" "read" "(I)V") ∈ lw_all := lw_g (lw_at lw_m4 6 rfl) rfl
theorem q850 : (Jvm.Cond.declares ({ cls := "LitStrangers$Reader", name := "which", desc := "([Ljava/lang/String;)I" } : Jvm.MethodName)) ∈ lw_tbl := lw_at lw_m4 12 rfl
theorem q852 : (Jvm.Cond.instanceMethod ({ cls := "LitStrangers$Reader", name := "which", desc := "([Ljava/lang/String;)I" } : Jvm.MethodName)) ∈ lw_all := lw_g (lw_at lw_m4 14 rfl) rfl
theorem q853 : (Jvm.Cond.code ({ cls := "LitStrangers$Reader", name := "which", desc := "([Ljava/lang/String;)I" } : Jvm.MethodName) prog_21_method_6_code (3 : Nat) (Option.some Jvm.ClassFile.FieldType.int)) ∈ lw_all := lw_g (lw_at lw_m4 15 rfl) rfl
theorem q854 : (Jvm.Cond.methodLink "LitStrangers$Reader" (73 : Nat) ({ cls := "LitStrangers$Reader", name := "isWord", desc := "(Ljava/lang/String;)Z" } : Jvm.MethodName)) ∈ lw_all := lw_g (lw_at lw_m4 16 rfl) rfl
theorem q855 : (Jvm.Cond.instanceMethod ({ cls := "LitStrangers$Reader", name := "isWord", desc := "(Ljava/lang/String;)Z" } : Jvm.MethodName)) ∈ lw_all := lw_g (lw_at lw_m4 17 rfl) rfl
theorem q856 : (Jvm.Cond.sameMethod "LitStrangers$Reader" "LitStrangers$Reader" "isWord" "(Ljava/lang/String;)Z") ∈ lw_all := lw_g (lw_at lw_m4 18 rfl) rfl
theorem q859 : (Jvm.Cond.code ({ cls := "LitStrangers$Reader", name := "isWord", desc := "(Ljava/lang/String;)Z" } : Jvm.MethodName) prog_21_method_5_code (3 : Nat) (Option.some Jvm.ClassFile.FieldType.boolean)) ∈ lw_all := lw_g (lw_at lw_m4 21 rfl) rfl
theorem q860 : (Jvm.Cond.methodLink "LitStrangers$Reader" (63 : Nat) ({ cls := "java/lang/String", name := "length", desc := "()I" } : Jvm.MethodName)) ∈ lw_all := lw_g (lw_at lw_m4 22 rfl) rfl
theorem q870 : (Jvm.Cond.methodLink "LitStrangers$Reader" (69 : Nat) ({ cls := "java/lang/String", name := "charAt", desc := "(I)C" } : Jvm.MethodName)) ∈ lw_all := lw_g (lw_at lw_m4 32 rfl) rfl
theorem q908 : (Jvm.Cond.declares ({ cls := "LitStrangers$Reader", name := "must", desc := "(Z)V" } : Jvm.MethodName)) ∈ lw_tbl := lw_at lw_m4 70 rfl
theorem q912 : (Jvm.Cond.declares ({ cls := "LitStrangers$Reader", name := "next", desc := "()V" } : Jvm.MethodName)) ∈ lw_tbl := lw_at lw_m4 74 rfl
theorem q916 : (Jvm.Cond.declares ({ cls := "LitStrangers$Reader", name := "sum", desc := "()LLitStrangers$Sum;" } : Jvm.MethodName)) ∈ lw_tbl := lw_at lw_m4 78 rfl
theorem q918 : (Jvm.Cond.instanceMethod ({ cls := "LitStrangers$Reader", name := "sum", desc := "()LLitStrangers$Sum;" } : Jvm.MethodName)) ∈ lw_all := lw_g (lw_at lw_m4 80 rfl) rfl
theorem q919 : (Jvm.Cond.code ({ cls := "LitStrangers$Reader", name := "sum", desc := "()LLitStrangers$Sum;" } : Jvm.MethodName) prog_21_method_18_code (3 : Nat) (Option.some (Jvm.ClassFile.FieldType.object "LitStrangers$Sum"))) ∈ lw_all := lw_g (lw_at lw_m4 81 rfl) rfl
theorem q920 : (Jvm.Cond.methodLink "LitStrangers$Reader" (154 : Nat) ({ cls := "LitStrangers$Reader", name := "term", desc := "()LLitStrangers$Sum;" } : Jvm.MethodName)) ∈ lw_all := lw_g (lw_at lw_m4 82 rfl) rfl
theorem q921 : (Jvm.Cond.privateMethod ({ cls := "LitStrangers$Reader", name := "term", desc := "()LLitStrangers$Sum;" } : Jvm.MethodName)) ∈ lw_tbl := lw_at lw_m4 83 rfl
theorem q922 : (Jvm.Cond.instanceMethod ({ cls := "LitStrangers$Reader", name := "term", desc := "()LLitStrangers$Sum;" } : Jvm.MethodName)) ∈ lw_all := lw_g (lw_at lw_m4 84 rfl) rfl
theorem q923 : (Jvm.Cond.code ({ cls := "LitStrangers$Reader", name := "term", desc := "()LLitStrangers$Sum;" } : Jvm.MethodName) prog_21_method_19_code (3 : Nat) (Option.some (Jvm.ClassFile.FieldType.object "LitStrangers$Sum"))) ∈ lw_all := lw_g (lw_at lw_m4 85 rfl) rfl
theorem q924 : (Jvm.Cond.methodLink "LitStrangers$Reader" (164 : Nat) ({ cls := "LitStrangers$Reader", name := "part", desc := "()LLitStrangers$Sum;" } : Jvm.MethodName)) ∈ lw_all := lw_g (lw_at lw_m4 86 rfl) rfl
theorem q925 : (Jvm.Cond.privateMethod ({ cls := "LitStrangers$Reader", name := "part", desc := "()LLitStrangers$Sum;" } : Jvm.MethodName)) ∈ lw_tbl := lw_at lw_m4 87 rfl
theorem q926 : (Jvm.Cond.instanceMethod ({ cls := "LitStrangers$Reader", name := "part", desc := "()LLitStrangers$Sum;" } : Jvm.MethodName)) ∈ lw_all := lw_g (lw_at lw_m4 88 rfl) rfl
theorem q927 : (Jvm.Cond.code ({ cls := "LitStrangers$Reader", name := "part", desc := "()LLitStrangers$Sum;" } : Jvm.MethodName) prog_21_method_20_code (2 : Nat) (Option.some (Jvm.ClassFile.FieldType.object "LitStrangers$Sum"))) ∈ lw_all := lw_g (lw_at lw_m4 89 rfl) rfl
theorem q928 : (Jvm.Cond.stringRef "LitStrangers$Reader" (173 : Nat) "[") ∈ lw_tbl := lw_at lw_m4 90 rfl
theorem q929 : (Jvm.Cond.methodLink "LitStrangers$Reader" (123 : Nat) ({ cls := "LitStrangers$Reader", name := "open", desc := "()V" } : Jvm.MethodName)) ∈ lw_all := lw_g (lw_at lw_m4 91 rfl) rfl
theorem q930 : (Jvm.Cond.privateMethod ({ cls := "LitStrangers$Reader", name := "open", desc := "()V" } : Jvm.MethodName)) ∈ lw_tbl := lw_at lw_m4 92 rfl
theorem q931 : (Jvm.Cond.instanceMethod ({ cls := "LitStrangers$Reader", name := "open", desc := "()V" } : Jvm.MethodName)) ∈ lw_all := lw_g (lw_at lw_m4 93 rfl) rfl
theorem q932 : (Jvm.Cond.code ({ cls := "LitStrangers$Reader", name := "open", desc := "()V" } : Jvm.MethodName) prog_21_method_14_code (1 : Nat) (Option.none : Option Jvm.ClassFile.FieldType)) ∈ lw_all := lw_g (lw_at lw_m4 94 rfl) rfl
theorem q933 : (Jvm.Cond.methodLink "LitStrangers$Reader" (135 : Nat) ({ cls := "LitStrangers$Reader", name := "sum", desc := "()LLitStrangers$Sum;" } : Jvm.MethodName)) ∈ lw_all := lw_g (lw_at lw_m4 95 rfl) rfl
theorem q934 : (Jvm.Cond.stringRef "LitStrangers$Reader" (175 : Nat) "]") ∈ lw_tbl := lw_at lw_m4 96 rfl
theorem q935 : (Jvm.Cond.methodLink "LitStrangers$Reader" (131 : Nat) ({ cls := "LitStrangers$Reader", name := "close", desc := "(Ljava/lang/String;)V" } : Jvm.MethodName)) ∈ lw_all := lw_g (lw_at lw_m4 97 rfl) rfl
theorem q936 : (Jvm.Cond.privateMethod ({ cls := "LitStrangers$Reader", name := "close", desc := "(Ljava/lang/String;)V" } : Jvm.MethodName)) ∈ lw_tbl := lw_at lw_m4 98 rfl
theorem q937 : (Jvm.Cond.instanceMethod ({ cls := "LitStrangers$Reader", name := "close", desc := "(Ljava/lang/String;)V" } : Jvm.MethodName)) ∈ lw_all := lw_g (lw_at lw_m4 99 rfl) rfl
theorem q938 : (Jvm.Cond.code ({ cls := "LitStrangers$Reader", name := "close", desc := "(Ljava/lang/String;)V" } : Jvm.MethodName) prog_21_method_15_code (2 : Nat) (Option.none : Option Jvm.ClassFile.FieldType)) ∈ lw_all := lw_g (lw_at lw_m4 100 rfl) rfl
theorem q939 : (Jvm.Cond.methodLink "LitStrangers$Reader" (38 : Nat) ({ cls := "LitStrangers$Reader", name := "accept", desc := "(Ljava/lang/String;)Z" } : Jvm.MethodName)) ∈ lw_all := lw_g (lw_at lw_m4 101 rfl) rfl
theorem q940 : (Jvm.Cond.instanceMethod ({ cls := "LitStrangers$Reader", name := "accept", desc := "(Ljava/lang/String;)Z" } : Jvm.MethodName)) ∈ lw_all := lw_g (lw_at lw_m4 102 rfl) rfl
theorem q941 : (Jvm.Cond.sameMethod "LitStrangers$Reader" "LitStrangers$Reader" "accept" "(Ljava/lang/String;)Z") ∈ lw_all := lw_g (lw_at lw_m4 103 rfl) rfl
theorem q944 : (Jvm.Cond.code ({ cls := "LitStrangers$Reader", name := "accept", desc := "(Ljava/lang/String;)Z" } : Jvm.MethodName) prog_21_method_7_code (3 : Nat) (Option.some Jvm.ClassFile.FieldType.boolean)) ∈ lw_all := lw_g (lw_at lw_m4 106 rfl) rfl
theorem q945 : (Jvm.Cond.methodLink "LitStrangers$Reader" (177 : Nat) ({ cls := "LitStrangers$Reader", name := "which", desc := "([Ljava/lang/String;)I" } : Jvm.MethodName)) ∈ lw_all := lw_g (lw_at lw_m4 107 rfl) rfl
theorem q946 : (Jvm.Cond.methodLink "LitStrangers$Reader" (181 : Nat) ({ cls := "LitStrangers$Reader", name := "leaf", desc := "()V" } : Jvm.MethodName)) ∈ lw_all := lw_g (lw_at lw_m4 108 rfl) rfl
theorem q947 : (Jvm.Cond.privateMethod ({ cls := "LitStrangers$Reader", name := "leaf", desc := "()V" } : Jvm.MethodName)) ∈ lw_tbl := lw_at lw_m4 109 rfl
theorem q948 : (Jvm.Cond.instanceMethod ({ cls := "LitStrangers$Reader", name := "leaf", desc := "()V" } : Jvm.MethodName)) ∈ lw_all := lw_g (lw_at lw_m4 110 rfl) rfl
theorem q949 : (Jvm.Cond.code ({ cls := "LitStrangers$Reader", name := "leaf", desc := "()V" } : Jvm.MethodName) prog_21_method_16_code (1 : Nat) (Option.none : Option Jvm.ClassFile.FieldType)) ∈ lw_all := lw_g (lw_at lw_m4 111 rfl) rfl
theorem q950 : (Jvm.Cond.classLink "LitStrangers$Reader" (184 : Nat) "LitStrangers$Amount") ∈ lw_all := lw_g (lw_at lw_m4 112 rfl) rfl
theorem q952 : (Jvm.Cond.methodLink "LitStrangers$Reader" (186 : Nat) ({ cls := "LitStrangers$Reader", name := "number", desc := "(I)I" } : Jvm.MethodName)) ∈ lw_all := lw_g (lw_at lw_m4 114 rfl) rfl
theorem q953 : (Jvm.Cond.instanceMethod ({ cls := "LitStrangers$Reader", name := "number", desc := "(I)I" } : Jvm.MethodName)) ∈ lw_all := lw_g (lw_at lw_m4 115 rfl) rfl
theorem q954 : (Jvm.Cond.sameMethod "LitStrangers$Reader" "LitStrangers$Reader" "number" "(I)I") ∈ lw_all := lw_g (lw_at lw_m4 116 rfl) rfl
theorem q957 : (Jvm.Cond.code ({ cls := "LitStrangers$Reader", name := "number", desc := "(I)I" } : Jvm.MethodName) prog_21_method_9_code (4 : Nat) (Option.some Jvm.ClassFile.FieldType.int)) ∈ lw_all := lw_g (lw_at lw_m4 119 rfl) rfl
theorem q958 : (Jvm.Cond.methodLink "LitStrangers$Reader" (190 : Nat) ({ cls := "LitStrangers$Amount", name := "<init>", desc := "(I)V" } : Jvm.MethodName)) ∈ lw_all := lw_g (lw_at lw_m4 120 rfl) rfl
theorem q969 : (Jvm.Cond.methodLink "LitStrangers$Reader" (191 : Nat) ({ cls := "LitStrangers$Reader", name := "behindWord", desc := "(I)LLitStrangers$Sum;" } : Jvm.MethodName)) ∈ lw_all := lw_g (lw_at lw_m4 131 rfl) rfl
theorem q970 : (Jvm.Cond.instanceMethod ({ cls := "LitStrangers$Reader", name := "behindWord", desc := "(I)LLitStrangers$Sum;" } : Jvm.MethodName)) ∈ lw_all := lw_g (lw_at lw_m4 132 rfl) rfl
theorem q971 : (Jvm.Cond.sameMethod "LitStrangers$Reader" "LitStrangers$Reader" "behindWord" "(I)LLitStrangers$Sum;") ∈ lw_all := lw_g (lw_at lw_m4 133 rfl) rfl
theorem q990 : (Jvm.Cond.declares ({ cls := "LitStrangers$Reader", name := "number", desc := "(I)I" } : Jvm.MethodName)) ∈ lw_tbl := lw_at lw_m4 152 rfl
theorem q1006 : (Jvm.Cond.code ({ cls := "LitStrangers$Reader", name := "behindWord", desc := "(I)LLitStrangers$Sum;" } : Jvm.MethodName) prog_21_method_21_code (2 : Nat) (Option.some (Jvm.ClassFile.FieldType.object "LitStrangers$Sum"))) ∈ lw_all := lw_g (lw_at lw_m4 168 rfl) rfl
theorem q1007 : (Jvm.Cond.classLink "LitStrangers$Reader" (195 : Nat) "LitStrangers$Part") ∈ lw_all := lw_g (lw_at lw_m4 169 rfl) rfl
theorem q1008 : (Jvm.Cond.methodLink "LitStrangers$Reader" (197 : Nat) ({ cls := "LitStrangers$Part", name := "<init>", desc := "(I)V" } : Jvm.MethodName)) ∈ lw_all := lw_g (lw_at lw_m4 170 rfl) rfl
theorem q1009 : (Jvm.Cond.stringRef "LitStrangers$Reader" (167 : Nat) "*") ∈ lw_tbl := lw_at lw_m4 171 rfl
theorem q1010 : (Jvm.Cond.stringRef "LitStrangers$Reader" (169 : Nat) "/") ∈ lw_tbl := lw_at lw_m4 172 rfl
theorem q1011 : (Jvm.Cond.stringRef "LitStrangers$Reader" (171 : Nat) "%") ∈ lw_tbl := lw_at lw_m4 173 rfl
theorem q1012 : (Jvm.Cond.classLink "LitStrangers$Reader" (161 : Nat) "LitStrangers$Joined") ∈ lw_all := lw_g (lw_at lw_m4 174 rfl) rfl
theorem q1014 : (Jvm.Cond.methodLink "LitStrangers$Reader" (163 : Nat) ({ cls := "LitStrangers$Joined", name := "<init>", desc := "(LLitStrangers$Sum;ILLitStrangers$Sum;)V" } : Jvm.MethodName)) ∈ lw_all := lw_g (lw_at lw_m4 176 rfl) rfl
theorem q1028 : (Jvm.Cond.stringRef "LitStrangers$Reader" (157 : Nat) "+") ∈ lw_tbl := lw_at lw_m4 190 rfl
theorem q1029 : (Jvm.Cond.stringRef "LitStrangers$Reader" (159 : Nat) "-") ∈ lw_tbl := lw_at lw_m4 191 rfl
theorem q1034 : (Jvm.Cond.declares ({ cls := "LitStrangers$Reader", name := "accept", desc := "(Ljava/lang/String;)Z" } : Jvm.MethodName)) ∈ lw_tbl := lw_at lw_m4 196 rfl
theorem q1038 : (Jvm.Cond.declares ({ cls := "LitStrangers$Reader", name := "test", desc := "()LLitStrangers$Test;" } : Jvm.MethodName)) ∈ lw_tbl := lw_at lw_m4 200 rfl
theorem q1040 : (Jvm.Cond.instanceMethod ({ cls := "LitStrangers$Reader", name := "test", desc := "()LLitStrangers$Test;" } : Jvm.MethodName)) ∈ lw_all := lw_g (lw_at lw_m4 202 rfl) rfl
theorem q1041 : (Jvm.Cond.code ({ cls := "LitStrangers$Reader", name := "test", desc := "()LLitStrangers$Test;" } : Jvm.MethodName) prog_21_method_10_code (2 : Nat) (Option.some (Jvm.ClassFile.FieldType.object "LitStrangers$Test"))) ∈ lw_all := lw_g (lw_at lw_m4 203 rfl) rfl
theorem q1042 : (Jvm.Cond.methodLink "LitStrangers$Reader" (83 : Nat) ({ cls := "LitStrangers$Reader", name := "both", desc := "()LLitStrangers$Test;" } : Jvm.MethodName)) ∈ lw_all := lw_g (lw_at lw_m4 204 rfl) rfl
theorem q1043 : (Jvm.Cond.privateMethod ({ cls := "LitStrangers$Reader", name := "both", desc := "()LLitStrangers$Test;" } : Jvm.MethodName)) ∈ lw_tbl := lw_at lw_m4 205 rfl
theorem q1044 : (Jvm.Cond.instanceMethod ({ cls := "LitStrangers$Reader", name := "both", desc := "()LLitStrangers$Test;" } : Jvm.MethodName)) ∈ lw_all := lw_g (lw_at lw_m4 206 rfl) rfl
theorem q1045 : (Jvm.Cond.code ({ cls := "LitStrangers$Reader", name := "both", desc := "()LLitStrangers$Test;" } : Jvm.MethodName) prog_21_method_11_code (2 : Nat) (Option.some (Jvm.ClassFile.FieldType.object "LitStrangers$Test"))) ∈ lw_all := lw_g (lw_at lw_m4 207 rfl) rfl
theorem q1046 : (Jvm.Cond.methodLink "LitStrangers$Reader" (97 : Nat) ({ cls := "LitStrangers$Reader", name := "plain", desc := "()LLitStrangers$Test;" } : Jvm.MethodName)) ∈ lw_all := lw_g (lw_at lw_m4 208 rfl) rfl
theorem q1047 : (Jvm.Cond.privateMethod ({ cls := "LitStrangers$Reader", name := "plain", desc := "()LLitStrangers$Test;" } : Jvm.MethodName)) ∈ lw_tbl := lw_at lw_m4 209 rfl
theorem q1048 : (Jvm.Cond.instanceMethod ({ cls := "LitStrangers$Reader", name := "plain", desc := "()LLitStrangers$Test;" } : Jvm.MethodName)) ∈ lw_all := lw_g (lw_at lw_m4 210 rfl) rfl
theorem q1049 : (Jvm.Cond.code ({ cls := "LitStrangers$Reader", name := "plain", desc := "()LLitStrangers$Test;" } : Jvm.MethodName) prog_21_method_17_code (5 : Nat) (Option.some (Jvm.ClassFile.FieldType.object "LitStrangers$Test"))) ∈ lw_all := lw_g (lw_at lw_m4 211 rfl) rfl
theorem q1050 : (Jvm.Cond.stringRef "LitStrangers$Reader" (119 : Nat) "not") ∈ lw_tbl := lw_at lw_m4 212 rfl
theorem q1051 : (Jvm.Cond.stringRef "LitStrangers$Reader" (121 : Nat) "(") ∈ lw_tbl := lw_at lw_m4 213 rfl
theorem q1052 : (Jvm.Cond.methodLink "LitStrangers$Reader" (126 : Nat) ({ cls := "LitStrangers$Reader", name := "test", desc := "()LLitStrangers$Test;" } : Jvm.MethodName)) ∈ lw_all := lw_g (lw_at lw_m4 214 rfl) rfl
theorem q1053 : (Jvm.Cond.stringRef "LitStrangers$Reader" (129 : Nat) ")") ∈ lw_tbl := lw_at lw_m4 215 rfl
theorem q1054 : (Jvm.Cond.stringRef "LitStrangers$Reader" (139 : Nat) "<") ∈ lw_tbl := lw_at lw_m4 216 rfl
theorem q1055 : (Jvm.Cond.stringRef "LitStrangers$Reader" (141 : Nat) ">") ∈ lw_tbl := lw_at lw_m4 217 rfl
theorem q1056 : (Jvm.Cond.stringRef "LitStrangers$Reader" (143 : Nat) "=") ∈ lw_tbl := lw_at lw_m4 218 rfl
theorem q1057 : (Jvm.Cond.classLink "LitStrangers$Reader" (145 : Nat) "LitStrangers$Compared") ∈ lw_all := lw_g (lw_at lw_m4 219 rfl) rfl
theorem q1059 : (Jvm.Cond.methodLink "LitStrangers$Reader" (147 : Nat) ({ cls := "LitStrangers$Compared", name := "<init>", desc := "(LLitStrangers$Sum;ILLitStrangers$Sum;)V" } : Jvm.MethodName)) ∈ lw_all := lw_g (lw_at lw_m4 221 rfl) rfl
theorem q1076 : (Jvm.Cond.classLink "LitStrangers$Reader" (150 : Nat) "LitStrangers$Not") ∈ lw_all := lw_g (lw_at lw_m4 238 rfl) rfl
theorem q1078 : (Jvm.Cond.methodLink "LitStrangers$Reader" (152 : Nat) ({ cls := "LitStrangers$Not", name := "<init>", desc := "(LLitStrangers$Test;)V" } : Jvm.MethodName)) ∈ lw_all := lw_g (lw_at lw_m5 0 rfl) rfl
theorem q1086 : (Jvm.Cond.methodLink "LitStrangers$Reader" (87 : Nat) ({ cls := "LitStrangers$Reader", name := "add", desc := "(LLitStrangers$Test;)V" } : Jvm.MethodName)) ∈ lw_all := lw_g (lw_at lw_m5 8 rfl) rfl
theorem q1087 : (Jvm.Cond.privateMethod ({ cls := "LitStrangers$Reader", name := "add", desc := "(LLitStrangers$Test;)V" } : Jvm.MethodName)) ∈ lw_tbl := lw_at lw_m5 9 rfl
theorem q1088 : (Jvm.Cond.instanceMethod ({ cls := "LitStrangers$Reader", name := "add", desc := "(LLitStrangers$Test;)V" } : Jvm.MethodName)) ∈ lw_all := lw_g (lw_at lw_m5 10 rfl) rfl
theorem q1089 : (Jvm.Cond.code ({ cls := "LitStrangers$Reader", name := "add", desc := "(LLitStrangers$Test;)V" } : Jvm.MethodName) prog_21_method_12_code (2 : Nat) (Option.none : Option Jvm.ClassFile.FieldType)) ∈ lw_all := lw_g (lw_at lw_m5 11 rfl) rfl
theorem q1090 : (Jvm.Cond.stringRef "LitStrangers$Reader" (100 : Nat) "and") ∈ lw_tbl := lw_at lw_m5 12 rfl
theorem q1091 : (Jvm.Cond.methodLink "LitStrangers$Reader" (93 : Nat) ({ cls := "LitStrangers$Reader", name := "row", desc := "(ZI)LLitStrangers$Test;" } : Jvm.MethodName)) ∈ lw_all := lw_g (lw_at lw_m5 13 rfl) rfl
theorem q1092 : (Jvm.Cond.privateMethod ({ cls := "LitStrangers$Reader", name := "row", desc := "(ZI)LLitStrangers$Test;" } : Jvm.MethodName)) ∈ lw_tbl := lw_at lw_m5 14 rfl
theorem q1093 : (Jvm.Cond.instanceMethod ({ cls := "LitStrangers$Reader", name := "row", desc := "(ZI)LLitStrangers$Test;" } : Jvm.MethodName)) ∈ lw_all := lw_g (lw_at lw_m5 15 rfl) rfl
theorem q1094 : (Jvm.Cond.code ({ cls := "LitStrangers$Reader", name := "row", desc := "(ZI)LLitStrangers$Test;" } : Jvm.MethodName) prog_21_method_13_code (5 : Nat) (Option.some (Jvm.ClassFile.FieldType.object "LitStrangers$Test"))) ∈ lw_all := lw_g (lw_at lw_m5 16 rfl) rfl
theorem q1095 : (Jvm.Cond.methodLink "LitStrangers$Reader" (102 : Nat) ({ cls := "java/lang/System", name := "arraycopy", desc := "(Ljava/lang/Object;ILjava/lang/Object;II)V" } : Jvm.MethodName)) ∈ lw_all := lw_g (lw_at lw_m5 17 rfl) rfl
theorem q1096 : (Jvm.Cond.classLink "LitStrangers$Reader" (108 : Nat) "LitStrangers$Row") ∈ lw_all := lw_g (lw_at lw_m5 18 rfl) rfl
theorem q1098 : (Jvm.Cond.methodLink "LitStrangers$Reader" (110 : Nat) ({ cls := "LitStrangers$Row", name := "<init>", desc := "(Z[LLitStrangers$Test;)V" } : Jvm.MethodName)) ∈ lw_all := lw_g (lw_at lw_m5 20 rfl) rfl
theorem q1109 : (Jvm.Cond.stringRef "LitStrangers$Reader" (91 : Nat) "or") ∈ lw_tbl := lw_at lw_m5 31 rfl
theorem q1220 : (Jvm.Cond.stringRef "LitStrangers$Reader" (36 : Nat) ";") ∈ lw_tbl := lw_at lw_m5 142 rfl
theorem q2391 : (Jvm.Cond.sameMethod "LitStrangers$Reader" "LitStrangers$Reader" "term" "()LLitStrangers$Sum;") ∈ lw_all := lw_g (lw_at lw_m10 113 rfl) rfl
theorem q2392 : (Jvm.Cond.sameMethod "LitStrangers$Reader" "LitStrangers$Reader" "part" "()LLitStrangers$Sum;") ∈ lw_all := lw_g (lw_at lw_m10 114 rfl) rfl
theorem q2393 : (Jvm.Cond.sameMethod "LitStrangers$Reader" "LitStrangers$Reader" "open" "()V") ∈ lw_all := lw_g (lw_at lw_m10 115 rfl) rfl
theorem q2394 : (Jvm.Cond.sameMethod "LitStrangers$Reader" "LitStrangers$Reader" "sum" "()LLitStrangers$Sum;") ∈ lw_all := lw_g (lw_at lw_m10 116 rfl) rfl
theorem q2397 : (Jvm.Cond.sameMethod "LitStrangers$Reader" "LitStrangers$Reader" "close" "(Ljava/lang/String;)V") ∈ lw_all := lw_g (lw_at lw_m10 119 rfl) rfl
theorem q2398 : (Jvm.Cond.sameMethod "LitStrangers$Reader" "LitStrangers$Reader" "which" "([Ljava/lang/String;)I") ∈ lw_all := lw_g (lw_at lw_m10 120 rfl) rfl
theorem q2401 : (Jvm.Cond.sameMethod "LitStrangers$Reader" "LitStrangers$Reader" "leaf" "()V") ∈ lw_all := lw_g (lw_at lw_m10 123 rfl) rfl
theorem q2402 : (Jvm.Cond.sameMethod "LitStrangers$Reader" "LitStrangers$Reader" "both" "()LLitStrangers$Test;") ∈ lw_all := lw_g (lw_at lw_m10 124 rfl) rfl
theorem q2403 : (Jvm.Cond.sameMethod "LitStrangers$Reader" "LitStrangers$Reader" "plain" "()LLitStrangers$Test;") ∈ lw_all := lw_g (lw_at lw_m10 125 rfl) rfl
theorem q2404 : (Jvm.Cond.sameMethod "LitStrangers$Reader" "LitStrangers$Reader" "test" "()LLitStrangers$Test;") ∈ lw_all := lw_g (lw_at lw_m10 126 rfl) rfl
theorem q2407 : (Jvm.Cond.sameMethod "LitStrangers$Reader" "LitStrangers$Reader" "add" "(LLitStrangers$Test;)V") ∈ lw_all := lw_g (lw_at lw_m10 129 rfl) rfl
theorem q2408 : (Jvm.Cond.sameMethod "LitStrangers$Reader" "LitStrangers$Reader" "row" "(ZI)LLitStrangers$Test;") ∈ lw_all := lw_g (lw_at lw_m10 130 rfl) rfl
/-! LitStrangers$LawReader -/
set_option maxRecDepth 100000
def RX9 : String := "LitStrangers$LawReader"
def TX9 : u_T := fun k => match k with
  | 0 => ("LitStrangers$Reader", "from", "I", false)
  | 1 => ("LitStrangers$Reader", "to", "I", false)
  | 2 => ("LitStrangers$Reader", "leaves", "I", false)
  | 3 => ("LitStrangers$Reader", "deep", "I", false)
  | 4 => ("LitStrangers$Reader", "piled", "I", false)
  | 5 => ("LitStrangers$Reader", "pile", "[LLitStrangers$Test;", true)
  | 6 => ("LitStrangers$Reader", "words", "[Ljava/lang/String;", true)
  | 7 => ("LitStrangers$Reader", "this$0", "LLitStrangers;", true)
  | 8 => ("LitStrangers$LawReader", "row", "[LLitStrangers$Clause;", true)
  | 9 => ("LitStrangers$LawReader", "heads", "[Ljava/lang/String;", true)
  | _ => ("LitStrangers$LawReader", "this$0", "LLitStrangers;", true)
def tyX9 : Nat → FieldType := fun k => match k with
  | 0 => .int
  | 1 => .int
  | 2 => .int
  | 3 => .int
  | 4 => .int
  | 5 => .array (.object "LitStrangers$Test")
  | 6 => .array (.object "java/lang/String")
  | 7 => .object "LitStrangers"
  | 8 => .array (.object "LitStrangers$Clause")
  | 9 => .array (.object "java/lang/String")
  | _ => .object "LitStrangers"
abbrev wsX90 : List Cond := u_ws RX9 TX9 11
-- two fields of one name: no nmX9
theorem tyX9_ok : ∀ k, k < 11 → parseFieldDescriptor (TX9 k).2.2.1 = some (tyX9 k) := by decide +kernel
abbrev cX9_init : ByteArray := prog_12_method_1_code
def yX9_init : MethodName := ⟨RX9, "<init>", "(LLitStrangers;)V"⟩
def dkwX9_init_4 : List UInt8 := [18, 47, 83, 89, 6, 18, 49, 83, 89, 7, 18, 51, 83, 181, 0, 53, 177]
abbrev dktX9_init_4 : List UInt8 := dkwX9_init_4 ++ []
def dkwX9_init_3 : List UInt8 := [189, 0, 37, 181, 0, 39, 42, 8, 189, 0, 9, 89, 3, 18, 43, 83, 89, 4, 18, 45, 83, 89, 5]
abbrev dktX9_init_3 : List UInt8 := dkwX9_init_3 ++ dktX9_init_4
def dkwX9_init_2 : List UInt8 := [89, 16, 7, 18, 25, 83, 89, 16, 8, 18, 27, 83, 89, 16, 9, 18, 29, 83, 183, 0, 31, 42, 16, 12]
abbrev dktX9_init_2 : List UInt8 := dkwX9_init_2 ++ dktX9_init_3
def dkwX9_init_1 : List UInt8 := [18, 15, 83, 89, 6, 18, 17, 83, 89, 7, 18, 19, 83, 89, 8, 18, 21, 83, 89, 16, 6, 18, 23, 83]
abbrev dktX9_init_1 : List UInt8 := dkwX9_init_1 ++ dktX9_init_2
def dkwX9_init_0 : List UInt8 := [42, 43, 181, 0, 3, 42, 43, 16, 10, 189, 0, 9, 89, 3, 18, 11, 83, 89, 4, 18, 13, 83, 89, 5]
abbrev dktX9_init_0 : List UInt8 := dkwX9_init_0 ++ dktX9_init_1
theorem dksX9_init_0 : cX9_init.data.toList.drop 0 = dktX9_init_0 := by decide +kernel
theorem dksX9_init_1 : cX9_init.data.toList.drop 24 = dktX9_init_1 := dk_seg dksX9_init_0 24 rfl rfl
theorem dksX9_init_2 : cX9_init.data.toList.drop 48 = dktX9_init_2 := dk_seg dksX9_init_1 24 rfl rfl
theorem dksX9_init_3 : cX9_init.data.toList.drop 72 = dktX9_init_3 := dk_seg dksX9_init_2 24 rfl rfl
theorem dksX9_init_4 : cX9_init.data.toList.drop 95 = dktX9_init_4 := dk_seg dksX9_init_3 23 rfl rfl
theorem dX9_init_0 : decode cX9_init 0 = .ok (.aload_n 0, 1) := dk_42 (dk_at dksX9_init_0 0 rfl rfl)
theorem dX9_init_1 : decode cX9_init 1 = .ok (.aload_n 1, 1) := dk_43 (dk_at dksX9_init_0 1 rfl rfl)
theorem dX9_init_2 : decode cX9_init 2 = .ok (.putfield 3, 3) := dk_181 0 3 (dk_at dksX9_init_0 2 rfl rfl)
theorem dX9_init_5 : decode cX9_init 5 = .ok (.aload_n 0, 1) := dk_42 (dk_at dksX9_init_0 5 rfl rfl)
theorem dX9_init_6 : decode cX9_init 6 = .ok (.aload_n 1, 1) := dk_43 (dk_at dksX9_init_0 6 rfl rfl)
theorem dX9_init_7 : decode cX9_init 7 = .ok (.bipush 10, 2) := dk_16 10 (dk_at dksX9_init_0 7 rfl rfl)
theorem dX9_init_9 : decode cX9_init 9 = .ok (.anewarray 9, 3) := dk_189 0 9 (dk_at dksX9_init_0 9 rfl rfl)
theorem dX9_init_12 : decode cX9_init 12 = .ok (.dup, 1) := dk_89 (dk_at dksX9_init_0 12 rfl rfl)
theorem dX9_init_13 : decode cX9_init 13 = .ok (.iconst 0, 1) := dk_3 (dk_at dksX9_init_0 13 rfl rfl)
theorem dX9_init_14 : decode cX9_init 14 = .ok (.ldc 11, 2) := dk_18 11 (dk_at dksX9_init_0 14 rfl rfl)
theorem dX9_init_16 : decode cX9_init 16 = .ok (.aastore, 1) := dk_83 (dk_at dksX9_init_0 16 rfl rfl)
theorem dX9_init_17 : decode cX9_init 17 = .ok (.dup, 1) := dk_89 (dk_at dksX9_init_0 17 rfl rfl)
theorem dX9_init_18 : decode cX9_init 18 = .ok (.iconst 1, 1) := dk_4 (dk_at dksX9_init_0 18 rfl rfl)
theorem dX9_init_19 : decode cX9_init 19 = .ok (.ldc 13, 2) := dk_18 13 (dk_at dksX9_init_0 19 rfl rfl)
theorem dX9_init_21 : decode cX9_init 21 = .ok (.aastore, 1) := dk_83 (dk_at dksX9_init_0 21 rfl rfl)
theorem dX9_init_22 : decode cX9_init 22 = .ok (.dup, 1) := dk_89 (dk_at dksX9_init_0 22 rfl rfl)
theorem dX9_init_23 : decode cX9_init 23 = .ok (.iconst 2, 1) := dk_5 (dk_at dksX9_init_0 23 rfl rfl)
theorem dX9_init_24 : decode cX9_init 24 = .ok (.ldc 15, 2) := dk_18 15 (dk_at dksX9_init_1 0 rfl rfl)
theorem dX9_init_26 : decode cX9_init 26 = .ok (.aastore, 1) := dk_83 (dk_at dksX9_init_1 2 rfl rfl)
theorem dX9_init_27 : decode cX9_init 27 = .ok (.dup, 1) := dk_89 (dk_at dksX9_init_1 3 rfl rfl)
theorem dX9_init_28 : decode cX9_init 28 = .ok (.iconst 3, 1) := dk_6 (dk_at dksX9_init_1 4 rfl rfl)
theorem dX9_init_29 : decode cX9_init 29 = .ok (.ldc 17, 2) := dk_18 17 (dk_at dksX9_init_1 5 rfl rfl)
theorem dX9_init_31 : decode cX9_init 31 = .ok (.aastore, 1) := dk_83 (dk_at dksX9_init_1 7 rfl rfl)
theorem dX9_init_32 : decode cX9_init 32 = .ok (.dup, 1) := dk_89 (dk_at dksX9_init_1 8 rfl rfl)
theorem dX9_init_33 : decode cX9_init 33 = .ok (.iconst 4, 1) := dk_7 (dk_at dksX9_init_1 9 rfl rfl)
theorem dX9_init_34 : decode cX9_init 34 = .ok (.ldc 19, 2) := dk_18 19 (dk_at dksX9_init_1 10 rfl rfl)
theorem dX9_init_36 : decode cX9_init 36 = .ok (.aastore, 1) := dk_83 (dk_at dksX9_init_1 12 rfl rfl)
theorem dX9_init_37 : decode cX9_init 37 = .ok (.dup, 1) := dk_89 (dk_at dksX9_init_1 13 rfl rfl)
theorem dX9_init_38 : decode cX9_init 38 = .ok (.iconst 5, 1) := dk_8 (dk_at dksX9_init_1 14 rfl rfl)
theorem dX9_init_39 : decode cX9_init 39 = .ok (.ldc 21, 2) := dk_18 21 (dk_at dksX9_init_1 15 rfl rfl)
theorem dX9_init_41 : decode cX9_init 41 = .ok (.aastore, 1) := dk_83 (dk_at dksX9_init_1 17 rfl rfl)
theorem dX9_init_42 : decode cX9_init 42 = .ok (.dup, 1) := dk_89 (dk_at dksX9_init_1 18 rfl rfl)
theorem dX9_init_43 : decode cX9_init 43 = .ok (.bipush 6, 2) := dk_16 6 (dk_at dksX9_init_1 19 rfl rfl)
theorem dX9_init_45 : decode cX9_init 45 = .ok (.ldc 23, 2) := dk_18 23 (dk_at dksX9_init_1 21 rfl rfl)
theorem dX9_init_47 : decode cX9_init 47 = .ok (.aastore, 1) := dk_83 (dk_at dksX9_init_1 23 rfl rfl)
theorem dX9_init_48 : decode cX9_init 48 = .ok (.dup, 1) := dk_89 (dk_at dksX9_init_2 0 rfl rfl)
theorem dX9_init_49 : decode cX9_init 49 = .ok (.bipush 7, 2) := dk_16 7 (dk_at dksX9_init_2 1 rfl rfl)
theorem dX9_init_51 : decode cX9_init 51 = .ok (.ldc 25, 2) := dk_18 25 (dk_at dksX9_init_2 3 rfl rfl)
theorem dX9_init_53 : decode cX9_init 53 = .ok (.aastore, 1) := dk_83 (dk_at dksX9_init_2 5 rfl rfl)
theorem dX9_init_54 : decode cX9_init 54 = .ok (.dup, 1) := dk_89 (dk_at dksX9_init_2 6 rfl rfl)
theorem dX9_init_55 : decode cX9_init 55 = .ok (.bipush 8, 2) := dk_16 8 (dk_at dksX9_init_2 7 rfl rfl)
theorem dX9_init_57 : decode cX9_init 57 = .ok (.ldc 27, 2) := dk_18 27 (dk_at dksX9_init_2 9 rfl rfl)
theorem dX9_init_59 : decode cX9_init 59 = .ok (.aastore, 1) := dk_83 (dk_at dksX9_init_2 11 rfl rfl)
theorem dX9_init_60 : decode cX9_init 60 = .ok (.dup, 1) := dk_89 (dk_at dksX9_init_2 12 rfl rfl)
theorem dX9_init_61 : decode cX9_init 61 = .ok (.bipush 9, 2) := dk_16 9 (dk_at dksX9_init_2 13 rfl rfl)
theorem dX9_init_63 : decode cX9_init 63 = .ok (.ldc 29, 2) := dk_18 29 (dk_at dksX9_init_2 15 rfl rfl)
theorem dX9_init_65 : decode cX9_init 65 = .ok (.aastore, 1) := dk_83 (dk_at dksX9_init_2 17 rfl rfl)
theorem dX9_init_66 : decode cX9_init 66 = .ok (.invokespecial 31, 3) := dk_183 0 31 (dk_at dksX9_init_2 18 rfl rfl)
theorem dX9_init_69 : decode cX9_init 69 = .ok (.aload_n 0, 1) := dk_42 (dk_at dksX9_init_2 21 rfl rfl)
theorem dX9_init_70 : decode cX9_init 70 = .ok (.bipush 12, 2) := dk_16 12 (dk_at dksX9_init_2 22 rfl rfl)
theorem dX9_init_72 : decode cX9_init 72 = .ok (.anewarray 37, 3) := dk_189 0 37 (dk_at dksX9_init_3 0 rfl rfl)
theorem dX9_init_75 : decode cX9_init 75 = .ok (.putfield 39, 3) := dk_181 0 39 (dk_at dksX9_init_3 3 rfl rfl)
theorem dX9_init_78 : decode cX9_init 78 = .ok (.aload_n 0, 1) := dk_42 (dk_at dksX9_init_3 6 rfl rfl)
theorem dX9_init_79 : decode cX9_init 79 = .ok (.iconst 5, 1) := dk_8 (dk_at dksX9_init_3 7 rfl rfl)
theorem dX9_init_80 : decode cX9_init 80 = .ok (.anewarray 9, 3) := dk_189 0 9 (dk_at dksX9_init_3 8 rfl rfl)
theorem dX9_init_83 : decode cX9_init 83 = .ok (.dup, 1) := dk_89 (dk_at dksX9_init_3 11 rfl rfl)
theorem dX9_init_84 : decode cX9_init 84 = .ok (.iconst 0, 1) := dk_3 (dk_at dksX9_init_3 12 rfl rfl)
theorem dX9_init_85 : decode cX9_init 85 = .ok (.ldc 43, 2) := dk_18 43 (dk_at dksX9_init_3 13 rfl rfl)
theorem dX9_init_87 : decode cX9_init 87 = .ok (.aastore, 1) := dk_83 (dk_at dksX9_init_3 15 rfl rfl)
theorem dX9_init_88 : decode cX9_init 88 = .ok (.dup, 1) := dk_89 (dk_at dksX9_init_3 16 rfl rfl)
theorem dX9_init_89 : decode cX9_init 89 = .ok (.iconst 1, 1) := dk_4 (dk_at dksX9_init_3 17 rfl rfl)
theorem dX9_init_90 : decode cX9_init 90 = .ok (.ldc 45, 2) := dk_18 45 (dk_at dksX9_init_3 18 rfl rfl)
theorem dX9_init_92 : decode cX9_init 92 = .ok (.aastore, 1) := dk_83 (dk_at dksX9_init_3 20 rfl rfl)
theorem dX9_init_93 : decode cX9_init 93 = .ok (.dup, 1) := dk_89 (dk_at dksX9_init_3 21 rfl rfl)
theorem dX9_init_94 : decode cX9_init 94 = .ok (.iconst 2, 1) := dk_5 (dk_at dksX9_init_3 22 rfl rfl)
theorem dX9_init_95 : decode cX9_init 95 = .ok (.ldc 47, 2) := dk_18 47 (dk_at dksX9_init_4 0 rfl rfl)
theorem dX9_init_97 : decode cX9_init 97 = .ok (.aastore, 1) := dk_83 (dk_at dksX9_init_4 2 rfl rfl)
theorem dX9_init_98 : decode cX9_init 98 = .ok (.dup, 1) := dk_89 (dk_at dksX9_init_4 3 rfl rfl)
theorem dX9_init_99 : decode cX9_init 99 = .ok (.iconst 3, 1) := dk_6 (dk_at dksX9_init_4 4 rfl rfl)
theorem dX9_init_100 : decode cX9_init 100 = .ok (.ldc 49, 2) := dk_18 49 (dk_at dksX9_init_4 5 rfl rfl)
theorem dX9_init_102 : decode cX9_init 102 = .ok (.aastore, 1) := dk_83 (dk_at dksX9_init_4 7 rfl rfl)
theorem dX9_init_103 : decode cX9_init 103 = .ok (.dup, 1) := dk_89 (dk_at dksX9_init_4 8 rfl rfl)
theorem dX9_init_104 : decode cX9_init 104 = .ok (.iconst 4, 1) := dk_7 (dk_at dksX9_init_4 9 rfl rfl)
theorem dX9_init_105 : decode cX9_init 105 = .ok (.ldc 51, 2) := dk_18 51 (dk_at dksX9_init_4 10 rfl rfl)
theorem dX9_init_107 : decode cX9_init 107 = .ok (.aastore, 1) := dk_83 (dk_at dksX9_init_4 12 rfl rfl)
theorem dX9_init_108 : decode cX9_init 108 = .ok (.putfield 53, 3) := dk_181 0 53 (dk_at dksX9_init_4 13 rfl rfl)
theorem dX9_init_111 : decode cX9_init 111 = .ok (.return_, 1) := dk_177 (dk_at dksX9_init_4 16 rfl rfl)
abbrev cX9_read : ByteArray := prog_12_method_2_code
def yX9_read : MethodName := ⟨RX9, "read", "()LLitStrangers$Text;"⟩
def dkwX9_read_1 : List UInt8 := [43, 183, 0, 69, 176]
abbrev dktX9_read_1 : List UInt8 := dkwX9_read_1 ++ []
def dkwX9_read_0 : List UInt8 := [42, 182, 0, 57, 189, 0, 37, 76, 42, 180, 0, 39, 3, 43, 3, 43, 190, 184, 0, 61, 187, 0, 67, 89]
abbrev dktX9_read_0 : List UInt8 := dkwX9_read_0 ++ dktX9_read_1
theorem dksX9_read_0 : cX9_read.data.toList.drop 0 = dktX9_read_0 := by decide +kernel
theorem dksX9_read_1 : cX9_read.data.toList.drop 24 = dktX9_read_1 := dk_seg dksX9_read_0 24 rfl rfl
theorem dX9_read_0 : decode cX9_read 0 = .ok (.aload_n 0, 1) := dk_42 (dk_at dksX9_read_0 0 rfl rfl)
theorem dX9_read_1 : decode cX9_read 1 = .ok (.invokevirtual 57, 3) := dk_182 0 57 (dk_at dksX9_read_0 1 rfl rfl)
theorem dX9_read_4 : decode cX9_read 4 = .ok (.anewarray 37, 3) := dk_189 0 37 (dk_at dksX9_read_0 4 rfl rfl)
theorem dX9_read_7 : decode cX9_read 7 = .ok (.astore_n 1, 1) := dk_76 (dk_at dksX9_read_0 7 rfl rfl)
theorem dX9_read_8 : decode cX9_read 8 = .ok (.aload_n 0, 1) := dk_42 (dk_at dksX9_read_0 8 rfl rfl)
theorem dX9_read_9 : decode cX9_read 9 = .ok (.getfield 39, 3) := dk_180 0 39 (dk_at dksX9_read_0 9 rfl rfl)
theorem dX9_read_12 : decode cX9_read 12 = .ok (.iconst 0, 1) := dk_3 (dk_at dksX9_read_0 12 rfl rfl)
theorem dX9_read_13 : decode cX9_read 13 = .ok (.aload_n 1, 1) := dk_43 (dk_at dksX9_read_0 13 rfl rfl)
theorem dX9_read_14 : decode cX9_read 14 = .ok (.iconst 0, 1) := dk_3 (dk_at dksX9_read_0 14 rfl rfl)
theorem dX9_read_15 : decode cX9_read 15 = .ok (.aload_n 1, 1) := dk_43 (dk_at dksX9_read_0 15 rfl rfl)
theorem dX9_read_16 : decode cX9_read 16 = .ok (.arraylength, 1) := dk_190 (dk_at dksX9_read_0 16 rfl rfl)
theorem dX9_read_17 : decode cX9_read 17 = .ok (.invokestatic 61, 3) := dk_184 0 61 (dk_at dksX9_read_0 17 rfl rfl)
theorem dX9_read_20 : decode cX9_read 20 = .ok (.new 67, 3) := dk_187 0 67 (dk_at dksX9_read_0 20 rfl rfl)
theorem dX9_read_23 : decode cX9_read 23 = .ok (.dup, 1) := dk_89 (dk_at dksX9_read_0 23 rfl rfl)
theorem dX9_read_24 : decode cX9_read 24 = .ok (.aload_n 1, 1) := dk_43 (dk_at dksX9_read_1 0 rfl rfl)
theorem dX9_read_25 : decode cX9_read 25 = .ok (.invokespecial 69, 3) := dk_183 0 69 (dk_at dksX9_read_1 1 rfl rfl)
theorem dX9_read_28 : decode cX9_read 28 = .ok (.areturn, 1) := dk_176 (dk_at dksX9_read_1 4 rfl rfl)
abbrev cX9_read_2 : ByteArray := prog_12_method_3_code
def yX9_read_2 : MethodName := ⟨RX9, "read", "(I)V"⟩
def dkwX9_read_2_3 : List UInt8 := [183, 0, 98, 83, 177]
abbrev dktX9_read_2_3 : List UInt8 := dkwX9_read_2_3 ++ []
def dkwX9_read_2_2 : List UInt8 := [187, 0, 37, 89, 28, 45, 42, 18, 88, 182, 0, 90, 153, 0, 10, 42, 182, 0, 94, 167, 0, 4, 1]
abbrev dktX9_read_2_2 : List UInt8 := dkwX9_read_2_2 ++ dktX9_read_2_3
def dkwX9_read_2_1 : List UInt8 := [182, 0, 80, 28, 7, 162, 0, 10, 42, 182, 0, 84, 167, 0, 4, 1, 78, 42, 180, 0, 39, 27]
abbrev dktX9_read_2_1 : List UInt8 := dkwX9_read_2_1 ++ dktX9_read_2_2
def dkwX9_read_2_0 : List UInt8 := [42, 42, 180, 0, 53, 182, 0, 72, 61, 42, 28, 2, 159, 0, 7, 4, 167, 0, 4, 3, 182, 0, 76, 42]
abbrev dktX9_read_2_0 : List UInt8 := dkwX9_read_2_0 ++ dktX9_read_2_1
theorem dksX9_read_2_0 : cX9_read_2.data.toList.drop 0 = dktX9_read_2_0 := by decide +kernel
theorem dksX9_read_2_1 : cX9_read_2.data.toList.drop 24 = dktX9_read_2_1 := dk_seg dksX9_read_2_0 24 rfl rfl
theorem dksX9_read_2_2 : cX9_read_2.data.toList.drop 46 = dktX9_read_2_2 := dk_seg dksX9_read_2_1 22 rfl rfl
theorem dksX9_read_2_3 : cX9_read_2.data.toList.drop 69 = dktX9_read_2_3 := dk_seg dksX9_read_2_2 23 rfl rfl
theorem dX9_read_2_0 : decode cX9_read_2 0 = .ok (.aload_n 0, 1) := dk_42 (dk_at dksX9_read_2_0 0 rfl rfl)
theorem dX9_read_2_1 : decode cX9_read_2 1 = .ok (.aload_n 0, 1) := dk_42 (dk_at dksX9_read_2_0 1 rfl rfl)
theorem dX9_read_2_2 : decode cX9_read_2 2 = .ok (.getfield 53, 3) := dk_180 0 53 (dk_at dksX9_read_2_0 2 rfl rfl)
theorem dX9_read_2_5 : decode cX9_read_2 5 = .ok (.invokevirtual 72, 3) := dk_182 0 72 (dk_at dksX9_read_2_0 5 rfl rfl)
theorem dX9_read_2_8 : decode cX9_read_2 8 = .ok (.istore_n 2, 1) := dk_61 (dk_at dksX9_read_2_0 8 rfl rfl)
theorem dX9_read_2_9 : decode cX9_read_2 9 = .ok (.aload_n 0, 1) := dk_42 (dk_at dksX9_read_2_0 9 rfl rfl)
theorem dX9_read_2_10 : decode cX9_read_2 10 = .ok (.iload_n 2, 1) := dk_28 (dk_at dksX9_read_2_0 10 rfl rfl)
theorem dX9_read_2_11 : decode cX9_read_2 11 = .ok (.iconst (-1), 1) := dk_2 (dk_at dksX9_read_2_0 11 rfl rfl)
theorem dX9_read_2_12 : decode cX9_read_2 12 = .ok (.if_icmp .eq 7, 3) := dk_159 0 7 (dk_at dksX9_read_2_0 12 rfl rfl)
theorem dX9_read_2_15 : decode cX9_read_2 15 = .ok (.iconst 1, 1) := dk_4 (dk_at dksX9_read_2_0 15 rfl rfl)
theorem dX9_read_2_16 : decode cX9_read_2 16 = .ok (.goto 4, 3) := dk_167 0 4 (dk_at dksX9_read_2_0 16 rfl rfl)
theorem dX9_read_2_19 : decode cX9_read_2 19 = .ok (.iconst 0, 1) := dk_3 (dk_at dksX9_read_2_0 19 rfl rfl)
theorem dX9_read_2_20 : decode cX9_read_2 20 = .ok (.invokevirtual 76, 3) := dk_182 0 76 (dk_at dksX9_read_2_0 20 rfl rfl)
theorem dX9_read_2_23 : decode cX9_read_2 23 = .ok (.aload_n 0, 1) := dk_42 (dk_at dksX9_read_2_0 23 rfl rfl)
theorem dX9_read_2_24 : decode cX9_read_2 24 = .ok (.invokevirtual 80, 3) := dk_182 0 80 (dk_at dksX9_read_2_1 0 rfl rfl)
theorem dX9_read_2_27 : decode cX9_read_2 27 = .ok (.iload_n 2, 1) := dk_28 (dk_at dksX9_read_2_1 3 rfl rfl)
theorem dX9_read_2_28 : decode cX9_read_2 28 = .ok (.iconst 4, 1) := dk_7 (dk_at dksX9_read_2_1 4 rfl rfl)
theorem dX9_read_2_29 : decode cX9_read_2 29 = .ok (.if_icmp .ge 10, 3) := dk_162 0 10 (dk_at dksX9_read_2_1 5 rfl rfl)
theorem dX9_read_2_32 : decode cX9_read_2 32 = .ok (.aload_n 0, 1) := dk_42 (dk_at dksX9_read_2_1 8 rfl rfl)
theorem dX9_read_2_33 : decode cX9_read_2 33 = .ok (.invokevirtual 84, 3) := dk_182 0 84 (dk_at dksX9_read_2_1 9 rfl rfl)
theorem dX9_read_2_36 : decode cX9_read_2 36 = .ok (.goto 4, 3) := dk_167 0 4 (dk_at dksX9_read_2_1 12 rfl rfl)
theorem dX9_read_2_39 : decode cX9_read_2 39 = .ok (.aconst_null, 1) := dk_1 (dk_at dksX9_read_2_1 15 rfl rfl)
theorem dX9_read_2_40 : decode cX9_read_2 40 = .ok (.astore_n 3, 1) := dk_78 (dk_at dksX9_read_2_1 16 rfl rfl)
theorem dX9_read_2_41 : decode cX9_read_2 41 = .ok (.aload_n 0, 1) := dk_42 (dk_at dksX9_read_2_1 17 rfl rfl)
theorem dX9_read_2_42 : decode cX9_read_2 42 = .ok (.getfield 39, 3) := dk_180 0 39 (dk_at dksX9_read_2_1 18 rfl rfl)
theorem dX9_read_2_45 : decode cX9_read_2 45 = .ok (.iload_n 1, 1) := dk_27 (dk_at dksX9_read_2_1 21 rfl rfl)
theorem dX9_read_2_46 : decode cX9_read_2 46 = .ok (.new 37, 3) := dk_187 0 37 (dk_at dksX9_read_2_2 0 rfl rfl)
theorem dX9_read_2_49 : decode cX9_read_2 49 = .ok (.dup, 1) := dk_89 (dk_at dksX9_read_2_2 3 rfl rfl)
theorem dX9_read_2_50 : decode cX9_read_2 50 = .ok (.iload_n 2, 1) := dk_28 (dk_at dksX9_read_2_2 4 rfl rfl)
theorem dX9_read_2_51 : decode cX9_read_2 51 = .ok (.aload_n 3, 1) := dk_45 (dk_at dksX9_read_2_2 5 rfl rfl)
theorem dX9_read_2_52 : decode cX9_read_2 52 = .ok (.aload_n 0, 1) := dk_42 (dk_at dksX9_read_2_2 6 rfl rfl)
theorem dX9_read_2_53 : decode cX9_read_2 53 = .ok (.ldc 88, 2) := dk_18 88 (dk_at dksX9_read_2_2 7 rfl rfl)
theorem dX9_read_2_55 : decode cX9_read_2 55 = .ok (.invokevirtual 90, 3) := dk_182 0 90 (dk_at dksX9_read_2_2 9 rfl rfl)
theorem dX9_read_2_58 : decode cX9_read_2 58 = .ok (.ifCond .eq 10, 3) := dk_153 0 10 (dk_at dksX9_read_2_2 12 rfl rfl)
theorem dX9_read_2_61 : decode cX9_read_2 61 = .ok (.aload_n 0, 1) := dk_42 (dk_at dksX9_read_2_2 15 rfl rfl)
theorem dX9_read_2_62 : decode cX9_read_2 62 = .ok (.invokevirtual 94, 3) := dk_182 0 94 (dk_at dksX9_read_2_2 16 rfl rfl)
theorem dX9_read_2_65 : decode cX9_read_2 65 = .ok (.goto 4, 3) := dk_167 0 4 (dk_at dksX9_read_2_2 19 rfl rfl)
theorem dX9_read_2_68 : decode cX9_read_2 68 = .ok (.aconst_null, 1) := dk_1 (dk_at dksX9_read_2_2 22 rfl rfl)
theorem dX9_read_2_69 : decode cX9_read_2 69 = .ok (.invokespecial 98, 3) := dk_183 0 98 (dk_at dksX9_read_2_3 0 rfl rfl)
theorem dX9_read_2_72 : decode cX9_read_2 72 = .ok (.aastore, 1) := dk_83 (dk_at dksX9_read_2_3 3 rfl rfl)
theorem dX9_read_2_73 : decode cX9_read_2 73 = .ok (.return_, 1) := dk_177 (dk_at dksX9_read_2_3 4 rfl rfl)
theorem q143 : (Jvm.Cond.initialized "LitStrangers$LawReader") ∈ lw_all := lw_g (lw_at lw_m1 25 rfl) rfl
theorem q527 : (Jvm.Cond.selects "LitStrangers$LawReader" ({ cls := "java/lang/Object", name := "getClass", desc := "()Ljava/lang/Class;" } : Jvm.MethodName) ({ cls := "java/lang/Object", name := "getClass", desc := "()Ljava/lang/Class;" } : Jvm.MethodName)) ∈ lw_all := lw_g (lw_at lw_m2 169 rfl) rfl
theorem q724 : (Jvm.Cond.instantiable "LitStrangers$LawReader" (11 : Nat)) ∈ lw_all := lw_g (lw_at lw_m3 126 rfl) rfl
theorem q726 : (Jvm.Cond.instanceMethod ({ cls := "LitStrangers$LawReader", name := "<init>", desc := "(LLitStrangers;)V" } : Jvm.MethodName)) ∈ lw_all := lw_g (lw_at lw_m3 128 rfl) rfl
theorem q727 : (Jvm.Cond.code ({ cls := "LitStrangers$LawReader", name := "<init>", desc := "(LLitStrangers;)V" } : Jvm.MethodName) prog_12_method_1_code (2 : Nat) (Option.none : Option Jvm.ClassFile.FieldType)) ∈ lw_all := lw_g (lw_at lw_m3 129 rfl) rfl
theorem q728 : (Jvm.Cond.classLink "LitStrangers$LawReader" (9 : Nat) "java/lang/String") ∈ lw_all := lw_g (lw_at lw_m3 130 rfl) rfl
theorem q730 : (Jvm.Cond.stringRef "LitStrangers$LawReader" (11 : Nat) "person") ∈ lw_tbl := lw_at lw_m3 132 rfl
theorem q731 : (Jvm.Cond.stringRef "LitStrangers$LawReader" (13 : Nat) "road") ∈ lw_tbl := lw_at lw_m3 133 rfl
theorem q732 : (Jvm.Cond.stringRef "LitStrangers$LawReader" (15 : Nat) "land") ∈ lw_tbl := lw_at lw_m3 134 rfl
theorem q733 : (Jvm.Cond.stringRef "LitStrangers$LawReader" (17 : Nat) "heard") ∈ lw_tbl := lw_at lw_m3 135 rfl
theorem q734 : (Jvm.Cond.stringRef "LitStrangers$LawReader" (19 : Nat) "other") ∈ lw_tbl := lw_at lw_m3 136 rfl
theorem q735 : (Jvm.Cond.stringRef "LitStrangers$LawReader" (21 : Nat) "theirs") ∈ lw_tbl := lw_at lw_m3 137 rfl
theorem q736 : (Jvm.Cond.stringRef "LitStrangers$LawReader" (23 : Nat) "far") ∈ lw_tbl := lw_at lw_m3 138 rfl
theorem q737 : (Jvm.Cond.stringRef "LitStrangers$LawReader" (25 : Nat) "day") ∈ lw_tbl := lw_at lw_m3 139 rfl
theorem q738 : (Jvm.Cond.stringRef "LitStrangers$LawReader" (27 : Nat) "fog") ∈ lw_tbl := lw_at lw_m3 140 rfl
theorem q739 : (Jvm.Cond.stringRef "LitStrangers$LawReader" (29 : Nat) "mood") ∈ lw_tbl := lw_at lw_m3 141 rfl
theorem q740 : (Jvm.Cond.methodLink "LitStrangers$LawReader" (31 : Nat) ({ cls := "LitStrangers$Reader", name := "<init>", desc := "(LLitStrangers;[Ljava/lang/String;)V" } : Jvm.MethodName)) ∈ lw_all := lw_g (lw_at lw_m3 142 rfl) rfl
theorem q746 : (Jvm.Cond.classLink "LitStrangers$LawReader" (37 : Nat) "LitStrangers$Clause") ∈ lw_all := lw_g (lw_at lw_m3 148 rfl) rfl
theorem q747 : (Jvm.Cond.stringRef "LitStrangers$LawReader" (43 : Nat) "takes") ∈ lw_tbl := lw_at lw_m3 149 rfl
theorem q748 : (Jvm.Cond.stringRef "LitStrangers$LawReader" (45 : Nat) "costs") ∈ lw_tbl := lw_at lw_m3 150 rfl
theorem q749 : (Jvm.Cond.stringRef "LitStrangers$LawReader" (47 : Nat) "lodges") ∈ lw_tbl := lw_at lw_m3 151 rfl
theorem q750 : (Jvm.Cond.stringRef "LitStrangers$LawReader" (49 : Nat) "spoils") ∈ lw_tbl := lw_at lw_m3 152 rfl
theorem q751 : (Jvm.Cond.stringRef "LitStrangers$LawReader" (51 : Nat) "bars") ∈ lw_tbl := lw_at lw_m3 153 rfl
theorem q752 : (Jvm.Cond.fieldLink "LitStrangers$LawReader" (39 : Nat) "LitStrangers$LawReader" "row" "[LLitStrangers$Clause;") ∈ lw_all := lw_g (lw_at lw_m3 154 rfl) rfl
theorem q753 : (Jvm.Cond.fieldLink "LitStrangers$LawReader" (53 : Nat) "LitStrangers$LawReader" "heads" "[Ljava/lang/String;") ∈ lw_all := lw_g (lw_at lw_m3 155 rfl) rfl
theorem q754 : (Jvm.Cond.fieldLink "LitStrangers$LawReader" (3 : Nat) "LitStrangers$LawReader" "this$0" "LLitStrangers;") ∈ lw_all := lw_g (lw_at lw_m3 156 rfl) rfl
theorem q767 : (Jvm.Cond.laysFinal "LitStrangers$LawReader" "LitStrangers$LawReader" "row" "[LLitStrangers$Clause;") ∈ lw_all := lw_g (lw_at lw_m3 169 rfl) rfl
theorem q768 : (Jvm.Cond.soleField "LitStrangers$LawReader" "row") ∈ lw_all := lw_g (lw_at lw_m3 170 rfl) rfl
theorem q769 : (Jvm.Cond.laysFinal "LitStrangers$LawReader" "LitStrangers$LawReader" "heads" "[Ljava/lang/String;") ∈ lw_all := lw_g (lw_at lw_m3 171 rfl) rfl
theorem q770 : (Jvm.Cond.soleField "LitStrangers$LawReader" "heads") ∈ lw_all := lw_g (lw_at lw_m3 172 rfl) rfl
theorem q771 : (Jvm.Cond.laysFinal "LitStrangers$LawReader" "LitStrangers$LawReader" "this$0" "LLitStrangers;") ∈ lw_all := lw_g (lw_at lw_m3 173 rfl) rfl
theorem q772 : (Jvm.Cond.soleField "LitStrangers$LawReader" "this$0") ∈ lw_all := lw_g (lw_at lw_m3 174 rfl) rfl
theorem q773 : (Jvm.Cond.lays "LitStrangers$LawReader" "LitStrangers$Reader" "from" "I") ∈ lw_all := lw_g (lw_at lw_m3 175 rfl) rfl
theorem q775 : (Jvm.Cond.lays "LitStrangers$LawReader" "LitStrangers$Reader" "to" "I") ∈ lw_all := lw_g (lw_at lw_m3 177 rfl) rfl
theorem q777 : (Jvm.Cond.lays "LitStrangers$LawReader" "LitStrangers$Reader" "leaves" "I") ∈ lw_all := lw_g (lw_at lw_m3 179 rfl) rfl
theorem q779 : (Jvm.Cond.lays "LitStrangers$LawReader" "LitStrangers$Reader" "deep" "I") ∈ lw_all := lw_g (lw_at lw_m3 181 rfl) rfl
theorem q781 : (Jvm.Cond.lays "LitStrangers$LawReader" "LitStrangers$Reader" "piled" "I") ∈ lw_all := lw_g (lw_at lw_m3 183 rfl) rfl
theorem q783 : (Jvm.Cond.laysFinal "LitStrangers$LawReader" "LitStrangers$Reader" "pile" "[LLitStrangers$Test;") ∈ lw_all := lw_g (lw_at lw_m3 185 rfl) rfl
theorem q785 : (Jvm.Cond.laysFinal "LitStrangers$LawReader" "LitStrangers$Reader" "words" "[Ljava/lang/String;") ∈ lw_all := lw_g (lw_at lw_m3 187 rfl) rfl
theorem q787 : (Jvm.Cond.laysFinal "LitStrangers$LawReader" "LitStrangers$Reader" "this$0" "LLitStrangers;") ∈ lw_all := lw_g (lw_at lw_m3 189 rfl) rfl
theorem q789 : (Jvm.Cond.superclass "LitStrangers$LawReader" "LitStrangers$Reader") ∈ lw_all := lw_g (lw_at lw_m3 191 rfl) rfl
theorem q791 : (Jvm.Cond.instanceMethod ({ cls := "LitStrangers$LawReader", name := "read", desc := "()LLitStrangers$Text;" } : Jvm.MethodName)) ∈ lw_all := lw_g (lw_at lw_m3 193 rfl) rfl
theorem q792 : (Jvm.Cond.selects "LitStrangers$LawReader" ({ cls := "LitStrangers$LawReader", name := "read", desc := "()LLitStrangers$Text;" } : Jvm.MethodName) ({ cls := "LitStrangers$LawReader", name := "read", desc := "()LLitStrangers$Text;" } : Jvm.MethodName)) ∈ lw_all := lw_g (lw_at lw_m3 194 rfl) rfl
theorem q793 : (Jvm.Cond.code ({ cls := "LitStrangers$LawReader", name := "read", desc := "()LLitStrangers$Text;" } : Jvm.MethodName) prog_12_method_2_code (2 : Nat) (Option.some (Jvm.ClassFile.FieldType.object "LitStrangers$Text"))) ∈ lw_all := lw_g (lw_at lw_m3 195 rfl) rfl
theorem q794 : (Jvm.Cond.methodLink "LitStrangers$LawReader" (57 : Nat) ({ cls := "LitStrangers$LawReader", name := "readAll", desc := "()I" } : Jvm.MethodName)) ∈ lw_all := lw_g (lw_at lw_m3 196 rfl) rfl
theorem q795 : (Jvm.Cond.sameMethod "LitStrangers$LawReader" "LitStrangers$Reader" "readAll" "()I") ∈ lw_all := lw_g (lw_at lw_m3 197 rfl) rfl
theorem q797 : (Jvm.Cond.selects "LitStrangers$LawReader" ({ cls := "LitStrangers$LawReader", name := "readAll", desc := "()I" } : Jvm.MethodName) ({ cls := "LitStrangers$Reader", name := "readAll", desc := "()I" } : Jvm.MethodName)) ∈ lw_all := lw_g (lw_at lw_m3 199 rfl) rfl
theorem q803 : (Jvm.Cond.selects "LitStrangers$LawReader" ({ cls := "LitStrangers$Reader", name := "next", desc := "()V" } : Jvm.MethodName) ({ cls := "LitStrangers$Reader", name := "next", desc := "()V" } : Jvm.MethodName)) ∈ lw_all := lw_g (lw_at lw_m3 205 rfl) rfl
theorem q815 : (Jvm.Cond.selects "LitStrangers$LawReader" ({ cls := "LitStrangers$Reader", name := "must", desc := "(Z)V" } : Jvm.MethodName) ({ cls := "LitStrangers$Reader", name := "must", desc := "(Z)V" } : Jvm.MethodName)) ∈ lw_all := lw_g (lw_at lw_m3 217 rfl) rfl
theorem q845 : (Jvm.Cond.selects "LitStrangers$LawReader" ({ cls := "LitStrangers$Reader", name := "read", desc := "(I)V" } : Jvm.MethodName) ({ cls := "LitStrangers$LawReader", name := "read", desc := "(I)V" } : Jvm.MethodName)) ∈ lw_all := lw_g (lw_at lw_m4 7 rfl) rfl
theorem q846 : (Jvm.Cond.instanceMethod ({ cls := "LitStrangers$LawReader", name := "read", desc := "(I)V" } : Jvm.MethodName)) ∈ lw_all := lw_g (lw_at lw_m4 8 rfl) rfl
theorem q847 : (Jvm.Cond.code ({ cls := "LitStrangers$LawReader", name := "read", desc := "(I)V" } : Jvm.MethodName) prog_12_method_3_code (4 : Nat) (Option.none : Option Jvm.ClassFile.FieldType)) ∈ lw_all := lw_g (lw_at lw_m4 9 rfl) rfl
theorem q848 : (Jvm.Cond.methodLink "LitStrangers$LawReader" (72 : Nat) ({ cls := "LitStrangers$LawReader", name := "which", desc := "([Ljava/lang/String;)I" } : Jvm.MethodName)) ∈ lw_all := lw_g (lw_at lw_m4 10 rfl) rfl
theorem q849 : (Jvm.Cond.sameMethod "LitStrangers$LawReader" "LitStrangers$Reader" "which" "([Ljava/lang/String;)I") ∈ lw_all := lw_g (lw_at lw_m4 11 rfl) rfl
theorem q851 : (Jvm.Cond.selects "LitStrangers$LawReader" ({ cls := "LitStrangers$LawReader", name := "which", desc := "([Ljava/lang/String;)I" } : Jvm.MethodName) ({ cls := "LitStrangers$Reader", name := "which", desc := "([Ljava/lang/String;)I" } : Jvm.MethodName)) ∈ lw_all := lw_g (lw_at lw_m4 13 rfl) rfl
theorem q857 : (Jvm.Cond.selects "LitStrangers$LawReader" ({ cls := "LitStrangers$Reader", name := "isWord", desc := "(Ljava/lang/String;)Z" } : Jvm.MethodName) ({ cls := "LitStrangers$Reader", name := "isWord", desc := "(Ljava/lang/String;)Z" } : Jvm.MethodName)) ∈ lw_all := lw_g (lw_at lw_m4 19 rfl) rfl
theorem q906 : (Jvm.Cond.methodLink "LitStrangers$LawReader" (76 : Nat) ({ cls := "LitStrangers$LawReader", name := "must", desc := "(Z)V" } : Jvm.MethodName)) ∈ lw_all := lw_g (lw_at lw_m4 68 rfl) rfl
theorem q907 : (Jvm.Cond.sameMethod "LitStrangers$LawReader" "LitStrangers$Reader" "must" "(Z)V") ∈ lw_all := lw_g (lw_at lw_m4 69 rfl) rfl
theorem q909 : (Jvm.Cond.selects "LitStrangers$LawReader" ({ cls := "LitStrangers$LawReader", name := "must", desc := "(Z)V" } : Jvm.MethodName) ({ cls := "LitStrangers$Reader", name := "must", desc := "(Z)V" } : Jvm.MethodName)) ∈ lw_all := lw_g (lw_at lw_m4 71 rfl) rfl
theorem q910 : (Jvm.Cond.methodLink "LitStrangers$LawReader" (80 : Nat) ({ cls := "LitStrangers$LawReader", name := "next", desc := "()V" } : Jvm.MethodName)) ∈ lw_all := lw_g (lw_at lw_m4 72 rfl) rfl
theorem q911 : (Jvm.Cond.sameMethod "LitStrangers$LawReader" "LitStrangers$Reader" "next" "()V") ∈ lw_all := lw_g (lw_at lw_m4 73 rfl) rfl
theorem q913 : (Jvm.Cond.selects "LitStrangers$LawReader" ({ cls := "LitStrangers$LawReader", name := "next", desc := "()V" } : Jvm.MethodName) ({ cls := "LitStrangers$Reader", name := "next", desc := "()V" } : Jvm.MethodName)) ∈ lw_all := lw_g (lw_at lw_m4 75 rfl) rfl
theorem q914 : (Jvm.Cond.methodLink "LitStrangers$LawReader" (84 : Nat) ({ cls := "LitStrangers$LawReader", name := "sum", desc := "()LLitStrangers$Sum;" } : Jvm.MethodName)) ∈ lw_all := lw_g (lw_at lw_m4 76 rfl) rfl
theorem q915 : (Jvm.Cond.sameMethod "LitStrangers$LawReader" "LitStrangers$Reader" "sum" "()LLitStrangers$Sum;") ∈ lw_all := lw_g (lw_at lw_m4 77 rfl) rfl
theorem q917 : (Jvm.Cond.selects "LitStrangers$LawReader" ({ cls := "LitStrangers$LawReader", name := "sum", desc := "()LLitStrangers$Sum;" } : Jvm.MethodName) ({ cls := "LitStrangers$Reader", name := "sum", desc := "()LLitStrangers$Sum;" } : Jvm.MethodName)) ∈ lw_all := lw_g (lw_at lw_m4 79 rfl) rfl
theorem q942 : (Jvm.Cond.selects "LitStrangers$LawReader" ({ cls := "LitStrangers$Reader", name := "accept", desc := "(Ljava/lang/String;)Z" } : Jvm.MethodName) ({ cls := "LitStrangers$Reader", name := "accept", desc := "(Ljava/lang/String;)Z" } : Jvm.MethodName)) ∈ lw_all := lw_g (lw_at lw_m4 104 rfl) rfl
theorem q955 : (Jvm.Cond.selects "LitStrangers$LawReader" ({ cls := "LitStrangers$Reader", name := "number", desc := "(I)I" } : Jvm.MethodName) ({ cls := "LitStrangers$Reader", name := "number", desc := "(I)I" } : Jvm.MethodName)) ∈ lw_all := lw_g (lw_at lw_m4 117 rfl) rfl
theorem q972 : (Jvm.Cond.selects "LitStrangers$LawReader" ({ cls := "LitStrangers$Reader", name := "behindWord", desc := "(I)LLitStrangers$Sum;" } : Jvm.MethodName) ({ cls := "LitStrangers$Reader", name := "behindWord", desc := "(I)LLitStrangers$Sum;" } : Jvm.MethodName)) ∈ lw_all := lw_g (lw_at lw_m4 134 rfl) rfl
theorem q1031 : (Jvm.Cond.stringRef "LitStrangers$LawReader" (88 : Nat) "if") ∈ lw_tbl := lw_at lw_m4 193 rfl
theorem q1032 : (Jvm.Cond.methodLink "LitStrangers$LawReader" (90 : Nat) ({ cls := "LitStrangers$LawReader", name := "accept", desc := "(Ljava/lang/String;)Z" } : Jvm.MethodName)) ∈ lw_all := lw_g (lw_at lw_m4 194 rfl) rfl
theorem q1033 : (Jvm.Cond.sameMethod "LitStrangers$LawReader" "LitStrangers$Reader" "accept" "(Ljava/lang/String;)Z") ∈ lw_all := lw_g (lw_at lw_m4 195 rfl) rfl
theorem q1035 : (Jvm.Cond.selects "LitStrangers$LawReader" ({ cls := "LitStrangers$LawReader", name := "accept", desc := "(Ljava/lang/String;)Z" } : Jvm.MethodName) ({ cls := "LitStrangers$Reader", name := "accept", desc := "(Ljava/lang/String;)Z" } : Jvm.MethodName)) ∈ lw_all := lw_g (lw_at lw_m4 197 rfl) rfl
theorem q1036 : (Jvm.Cond.methodLink "LitStrangers$LawReader" (94 : Nat) ({ cls := "LitStrangers$LawReader", name := "test", desc := "()LLitStrangers$Test;" } : Jvm.MethodName)) ∈ lw_all := lw_g (lw_at lw_m4 198 rfl) rfl
theorem q1037 : (Jvm.Cond.sameMethod "LitStrangers$LawReader" "LitStrangers$Reader" "test" "()LLitStrangers$Test;") ∈ lw_all := lw_g (lw_at lw_m4 199 rfl) rfl
theorem q1039 : (Jvm.Cond.selects "LitStrangers$LawReader" ({ cls := "LitStrangers$LawReader", name := "test", desc := "()LLitStrangers$Test;" } : Jvm.MethodName) ({ cls := "LitStrangers$Reader", name := "test", desc := "()LLitStrangers$Test;" } : Jvm.MethodName)) ∈ lw_all := lw_g (lw_at lw_m4 201 rfl) rfl
theorem q1110 : (Jvm.Cond.methodLink "LitStrangers$LawReader" (98 : Nat) ({ cls := "LitStrangers$Clause", name := "<init>", desc := "(ILLitStrangers$Sum;LLitStrangers$Test;)V" } : Jvm.MethodName)) ∈ lw_all := lw_g (lw_at lw_m5 32 rfl) rfl
theorem q1221 : (Jvm.Cond.methodLink "LitStrangers$LawReader" (61 : Nat) ({ cls := "java/lang/System", name := "arraycopy", desc := "(Ljava/lang/Object;ILjava/lang/Object;II)V" } : Jvm.MethodName)) ∈ lw_all := lw_g (lw_at lw_m5 143 rfl) rfl
theorem q1222 : (Jvm.Cond.classLink "LitStrangers$LawReader" (67 : Nat) "LitStrangers$Text") ∈ lw_all := lw_g (lw_at lw_m5 144 rfl) rfl
theorem q1223 : (Jvm.Cond.methodLink "LitStrangers$LawReader" (69 : Nat) ({ cls := "LitStrangers$Text", name := "<init>", desc := "([LLitStrangers$Clause;)V" } : Jvm.MethodName)) ∈ lw_all := lw_g (lw_at lw_m5 145 rfl) rfl
theorem q2395 : (Jvm.Cond.selects "LitStrangers$LawReader" ({ cls := "LitStrangers$Reader", name := "sum", desc := "()LLitStrangers$Sum;" } : Jvm.MethodName) ({ cls := "LitStrangers$Reader", name := "sum", desc := "()LLitStrangers$Sum;" } : Jvm.MethodName)) ∈ lw_all := lw_g (lw_at lw_m10 117 rfl) rfl
theorem q2399 : (Jvm.Cond.selects "LitStrangers$LawReader" ({ cls := "LitStrangers$Reader", name := "which", desc := "([Ljava/lang/String;)I" } : Jvm.MethodName) ({ cls := "LitStrangers$Reader", name := "which", desc := "([Ljava/lang/String;)I" } : Jvm.MethodName)) ∈ lw_all := lw_g (lw_at lw_m10 121 rfl) rfl
theorem q2405 : (Jvm.Cond.selects "LitStrangers$LawReader" ({ cls := "LitStrangers$Reader", name := "test", desc := "()LLitStrangers$Test;" } : Jvm.MethodName) ({ cls := "LitStrangers$Reader", name := "test", desc := "()LLitStrangers$Test;" } : Jvm.MethodName)) ∈ lw_all := lw_g (lw_at lw_m10 127 rfl) rfl
theorem q2425 : (Jvm.Cond.castable "LitStrangers$LawReader" "java/lang/Object") ∈ lw_tbl := lw_at lw_m10 147 rfl
theorem in_X9 : ∀ w ∈ wsX90, w ∈ lw_all := lw_in wsX90 [773, 775, 777, 779, 781, 783, 785, 787, 767, 769, 771] (by decide +kernel) (by decide +kernel)
/-! LitStrangers$OrderReader -/
set_option maxRecDepth 100000
def RX25 : String := "LitStrangers$OrderReader"
def TX25 : u_T := fun k => match k with
  | 0 => ("LitStrangers$Reader", "from", "I", false)
  | 1 => ("LitStrangers$Reader", "to", "I", false)
  | 2 => ("LitStrangers$Reader", "leaves", "I", false)
  | 3 => ("LitStrangers$Reader", "deep", "I", false)
  | 4 => ("LitStrangers$Reader", "piled", "I", false)
  | 5 => ("LitStrangers$Reader", "pile", "[LLitStrangers$Test;", true)
  | 6 => ("LitStrangers$Reader", "words", "[Ljava/lang/String;", true)
  | 7 => ("LitStrangers$Reader", "this$0", "LLitStrangers;", true)
  | 8 => ("LitStrangers$OrderReader", "row", "[LLitStrangers$Order;", true)
  | _ => ("LitStrangers$OrderReader", "this$0", "LLitStrangers;", true)
def tyX25 : Nat → FieldType := fun k => match k with
  | 0 => .int
  | 1 => .int
  | 2 => .int
  | 3 => .int
  | 4 => .int
  | 5 => .array (.object "LitStrangers$Test")
  | 6 => .array (.object "java/lang/String")
  | 7 => .object "LitStrangers"
  | 8 => .array (.object "LitStrangers$Order")
  | _ => .object "LitStrangers"
abbrev wsX250 : List Cond := u_ws RX25 TX25 10
-- two fields of one name: no nmX25
theorem tyX25_ok : ∀ k, k < 10 → parseFieldDescriptor (TX25 k).2.2.1 = some (tyX25 k) := by decide +kernel
abbrev cX25_behindWord : ByteArray := prog_18_method_4_code
def yX25_behindWord : MethodName := ⟨RX25, "behindWord", "(I)LLitStrangers$Sum;"⟩
def dkwX25_behindWord_1 : List UInt8 := [27, 8, 160, 0, 7, 4, 167, 0, 4, 3, 42, 16, 9, 182, 0, 67, 183, 0, 71, 176]
abbrev dktX25_behindWord_1 : List UInt8 := dkwX25_behindWord_1 ++ []
def dkwX25_behindWord_0 : List UInt8 := [27, 8, 162, 0, 14, 187, 0, 60, 89, 27, 183, 0, 62, 167, 0, 30, 187, 0, 65, 89, 42, 180, 0, 3]
abbrev dktX25_behindWord_0 : List UInt8 := dkwX25_behindWord_0 ++ dktX25_behindWord_1
theorem dksX25_behindWord_0 : cX25_behindWord.data.toList.drop 0 = dktX25_behindWord_0 := by decide +kernel
theorem dksX25_behindWord_1 : cX25_behindWord.data.toList.drop 24 = dktX25_behindWord_1 := dk_seg dksX25_behindWord_0 24 rfl rfl
theorem dX25_behindWord_0 : decode cX25_behindWord 0 = .ok (.iload_n 1, 1) := dk_27 (dk_at dksX25_behindWord_0 0 rfl rfl)
theorem dX25_behindWord_1 : decode cX25_behindWord 1 = .ok (.iconst 5, 1) := dk_8 (dk_at dksX25_behindWord_0 1 rfl rfl)
theorem dX25_behindWord_2 : decode cX25_behindWord 2 = .ok (.if_icmp .ge 14, 3) := dk_162 0 14 (dk_at dksX25_behindWord_0 2 rfl rfl)
theorem dX25_behindWord_5 : decode cX25_behindWord 5 = .ok (.new 60, 3) := dk_187 0 60 (dk_at dksX25_behindWord_0 5 rfl rfl)
theorem dX25_behindWord_8 : decode cX25_behindWord 8 = .ok (.dup, 1) := dk_89 (dk_at dksX25_behindWord_0 8 rfl rfl)
theorem dX25_behindWord_9 : decode cX25_behindWord 9 = .ok (.iload_n 1, 1) := dk_27 (dk_at dksX25_behindWord_0 9 rfl rfl)
theorem dX25_behindWord_10 : decode cX25_behindWord 10 = .ok (.invokespecial 62, 3) := dk_183 0 62 (dk_at dksX25_behindWord_0 10 rfl rfl)
theorem dX25_behindWord_13 : decode cX25_behindWord 13 = .ok (.goto 30, 3) := dk_167 0 30 (dk_at dksX25_behindWord_0 13 rfl rfl)
theorem dX25_behindWord_16 : decode cX25_behindWord 16 = .ok (.new 65, 3) := dk_187 0 65 (dk_at dksX25_behindWord_0 16 rfl rfl)
theorem dX25_behindWord_19 : decode cX25_behindWord 19 = .ok (.dup, 1) := dk_89 (dk_at dksX25_behindWord_0 19 rfl rfl)
theorem dX25_behindWord_20 : decode cX25_behindWord 20 = .ok (.aload_n 0, 1) := dk_42 (dk_at dksX25_behindWord_0 20 rfl rfl)
theorem dX25_behindWord_21 : decode cX25_behindWord 21 = .ok (.getfield 3, 3) := dk_180 0 3 (dk_at dksX25_behindWord_0 21 rfl rfl)
theorem dX25_behindWord_24 : decode cX25_behindWord 24 = .ok (.iload_n 1, 1) := dk_27 (dk_at dksX25_behindWord_1 0 rfl rfl)
theorem dX25_behindWord_25 : decode cX25_behindWord 25 = .ok (.iconst 5, 1) := dk_8 (dk_at dksX25_behindWord_1 1 rfl rfl)
theorem dX25_behindWord_26 : decode cX25_behindWord 26 = .ok (.if_icmp .ne 7, 3) := dk_160 0 7 (dk_at dksX25_behindWord_1 2 rfl rfl)
theorem dX25_behindWord_29 : decode cX25_behindWord 29 = .ok (.iconst 1, 1) := dk_4 (dk_at dksX25_behindWord_1 5 rfl rfl)
theorem dX25_behindWord_30 : decode cX25_behindWord 30 = .ok (.goto 4, 3) := dk_167 0 4 (dk_at dksX25_behindWord_1 6 rfl rfl)
theorem dX25_behindWord_33 : decode cX25_behindWord 33 = .ok (.iconst 0, 1) := dk_3 (dk_at dksX25_behindWord_1 9 rfl rfl)
theorem dX25_behindWord_34 : decode cX25_behindWord 34 = .ok (.aload_n 0, 1) := dk_42 (dk_at dksX25_behindWord_1 10 rfl rfl)
theorem dX25_behindWord_35 : decode cX25_behindWord 35 = .ok (.bipush 9, 2) := dk_16 9 (dk_at dksX25_behindWord_1 11 rfl rfl)
theorem dX25_behindWord_37 : decode cX25_behindWord 37 = .ok (.invokevirtual 67, 3) := dk_182 0 67 (dk_at dksX25_behindWord_1 13 rfl rfl)
theorem dX25_behindWord_40 : decode cX25_behindWord 40 = .ok (.invokespecial 71, 3) := dk_183 0 71 (dk_at dksX25_behindWord_1 16 rfl rfl)
theorem dX25_behindWord_43 : decode cX25_behindWord 43 = .ok (.areturn, 1) := dk_176 (dk_at dksX25_behindWord_1 19 rfl rfl)
abbrev cX25_read : ByteArray := prog_18_method_6_code
def yX25_read : MethodName := ⟨RX25, "read", "(I)V"⟩
def dkwX25_read_2 : List UInt8 := [153, 0, 10, 42, 182, 0, 119, 167, 0, 4, 1, 181, 0, 123, 42, 180, 0, 33, 27, 44, 83, 177]
abbrev dktX25_read_2 : List UInt8 := dkwX25_read_2 ++ []
def dkwX25_read_1 : List UInt8 := [167, 0, 4, 3, 182, 0, 98, 44, 42, 16, 20, 182, 0, 67, 181, 0, 115, 44, 42, 18, 117, 182, 0, 76]
abbrev dktX25_read_1 : List UInt8 := dkwX25_read_1 ++ dktX25_read_2
def dkwX25_read_0 : List UInt8 := [42, 182, 0, 105, 77, 42, 18, 109, 182, 0, 76, 153, 0, 29, 42, 42, 182, 0, 111, 154, 0, 7, 4]
abbrev dktX25_read_0 : List UInt8 := dkwX25_read_0 ++ dktX25_read_1
theorem dksX25_read_0 : cX25_read.data.toList.drop 0 = dktX25_read_0 := by decide +kernel
theorem dksX25_read_1 : cX25_read.data.toList.drop 23 = dktX25_read_1 := dk_seg dksX25_read_0 23 rfl rfl
theorem dksX25_read_2 : cX25_read.data.toList.drop 47 = dktX25_read_2 := dk_seg dksX25_read_1 24 rfl rfl
theorem dX25_read_0 : decode cX25_read 0 = .ok (.aload_n 0, 1) := dk_42 (dk_at dksX25_read_0 0 rfl rfl)
theorem dX25_read_1 : decode cX25_read 1 = .ok (.invokevirtual 105, 3) := dk_182 0 105 (dk_at dksX25_read_0 1 rfl rfl)
theorem dX25_read_4 : decode cX25_read 4 = .ok (.astore_n 2, 1) := dk_77 (dk_at dksX25_read_0 4 rfl rfl)
theorem dX25_read_5 : decode cX25_read 5 = .ok (.aload_n 0, 1) := dk_42 (dk_at dksX25_read_0 5 rfl rfl)
theorem dX25_read_6 : decode cX25_read 6 = .ok (.ldc 109, 2) := dk_18 109 (dk_at dksX25_read_0 6 rfl rfl)
theorem dX25_read_8 : decode cX25_read 8 = .ok (.invokevirtual 76, 3) := dk_182 0 76 (dk_at dksX25_read_0 8 rfl rfl)
theorem dX25_read_11 : decode cX25_read 11 = .ok (.ifCond .eq 29, 3) := dk_153 0 29 (dk_at dksX25_read_0 11 rfl rfl)
theorem dX25_read_14 : decode cX25_read 14 = .ok (.aload_n 0, 1) := dk_42 (dk_at dksX25_read_0 14 rfl rfl)
theorem dX25_read_15 : decode cX25_read 15 = .ok (.aload_n 0, 1) := dk_42 (dk_at dksX25_read_0 15 rfl rfl)
theorem dX25_read_16 : decode cX25_read 16 = .ok (.invokevirtual 111, 3) := dk_182 0 111 (dk_at dksX25_read_0 16 rfl rfl)
theorem dX25_read_19 : decode cX25_read 19 = .ok (.ifCond .ne 7, 3) := dk_154 0 7 (dk_at dksX25_read_0 19 rfl rfl)
theorem dX25_read_22 : decode cX25_read 22 = .ok (.iconst 1, 1) := dk_4 (dk_at dksX25_read_0 22 rfl rfl)
theorem dX25_read_23 : decode cX25_read 23 = .ok (.goto 4, 3) := dk_167 0 4 (dk_at dksX25_read_1 0 rfl rfl)
theorem dX25_read_26 : decode cX25_read 26 = .ok (.iconst 0, 1) := dk_3 (dk_at dksX25_read_1 3 rfl rfl)
theorem dX25_read_27 : decode cX25_read 27 = .ok (.invokevirtual 98, 3) := dk_182 0 98 (dk_at dksX25_read_1 4 rfl rfl)
theorem dX25_read_30 : decode cX25_read 30 = .ok (.aload_n 2, 1) := dk_44 (dk_at dksX25_read_1 7 rfl rfl)
theorem dX25_read_31 : decode cX25_read 31 = .ok (.aload_n 0, 1) := dk_42 (dk_at dksX25_read_1 8 rfl rfl)
theorem dX25_read_32 : decode cX25_read 32 = .ok (.bipush 20, 2) := dk_16 20 (dk_at dksX25_read_1 9 rfl rfl)
theorem dX25_read_34 : decode cX25_read 34 = .ok (.invokevirtual 67, 3) := dk_182 0 67 (dk_at dksX25_read_1 11 rfl rfl)
theorem dX25_read_37 : decode cX25_read 37 = .ok (.putfield 115, 3) := dk_181 0 115 (dk_at dksX25_read_1 14 rfl rfl)
theorem dX25_read_40 : decode cX25_read 40 = .ok (.aload_n 2, 1) := dk_44 (dk_at dksX25_read_1 17 rfl rfl)
theorem dX25_read_41 : decode cX25_read 41 = .ok (.aload_n 0, 1) := dk_42 (dk_at dksX25_read_1 18 rfl rfl)
theorem dX25_read_42 : decode cX25_read 42 = .ok (.ldc 117, 2) := dk_18 117 (dk_at dksX25_read_1 19 rfl rfl)
theorem dX25_read_44 : decode cX25_read 44 = .ok (.invokevirtual 76, 3) := dk_182 0 76 (dk_at dksX25_read_1 21 rfl rfl)
theorem dX25_read_47 : decode cX25_read 47 = .ok (.ifCond .eq 10, 3) := dk_153 0 10 (dk_at dksX25_read_2 0 rfl rfl)
theorem dX25_read_50 : decode cX25_read 50 = .ok (.aload_n 0, 1) := dk_42 (dk_at dksX25_read_2 3 rfl rfl)
theorem dX25_read_51 : decode cX25_read 51 = .ok (.invokevirtual 119, 3) := dk_182 0 119 (dk_at dksX25_read_2 4 rfl rfl)
theorem dX25_read_54 : decode cX25_read 54 = .ok (.goto 4, 3) := dk_167 0 4 (dk_at dksX25_read_2 7 rfl rfl)
theorem dX25_read_57 : decode cX25_read 57 = .ok (.aconst_null, 1) := dk_1 (dk_at dksX25_read_2 10 rfl rfl)
theorem dX25_read_58 : decode cX25_read 58 = .ok (.putfield 123, 3) := dk_181 0 123 (dk_at dksX25_read_2 11 rfl rfl)
theorem dX25_read_61 : decode cX25_read 61 = .ok (.aload_n 0, 1) := dk_42 (dk_at dksX25_read_2 14 rfl rfl)
theorem dX25_read_62 : decode cX25_read 62 = .ok (.getfield 33, 3) := dk_180 0 33 (dk_at dksX25_read_2 15 rfl rfl)
theorem dX25_read_65 : decode cX25_read 65 = .ok (.iload_n 1, 1) := dk_27 (dk_at dksX25_read_2 18 rfl rfl)
theorem dX25_read_66 : decode cX25_read 66 = .ok (.aload_n 2, 1) := dk_44 (dk_at dksX25_read_2 19 rfl rfl)
theorem dX25_read_67 : decode cX25_read 67 = .ok (.aastore, 1) := dk_83 (dk_at dksX25_read_2 20 rfl rfl)
theorem dX25_read_68 : decode cX25_read 68 = .ok (.return_, 1) := dk_177 (dk_at dksX25_read_2 21 rfl rfl)
abbrev cX25_act : ByteArray := prog_18_method_5_code
def yX25_act : MethodName := ⟨RX25, "act", "()LLitStrangers$Order;"⟩
def dkwX25_act_2 : List UInt8 := [18, 96, 182, 0, 76, 182, 0, 98, 187, 0, 102, 89, 42, 180, 0, 3, 42, 182, 0, 89, 183, 0, 104, 176]
abbrev dktX25_act_2 : List UInt8 := dkwX25_act_2 ++ []
def dkwX25_act_1 : List UInt8 := [182, 0, 76, 153, 0, 19, 187, 0, 87, 89, 42, 180, 0, 3, 42, 182, 0, 89, 183, 0, 93, 176, 42, 42]
abbrev dktX25_act_1 : List UInt8 := dkwX25_act_1 ++ dktX25_act_2
def dkwX25_act_0 : List UInt8 := [42, 18, 74, 182, 0, 76, 153, 0, 15, 187, 0, 80, 89, 42, 180, 0, 3, 183, 0, 82, 176, 42, 18, 85]
abbrev dktX25_act_0 : List UInt8 := dkwX25_act_0 ++ dktX25_act_1
theorem dksX25_act_0 : cX25_act.data.toList.drop 0 = dktX25_act_0 := by decide +kernel
theorem dksX25_act_1 : cX25_act.data.toList.drop 24 = dktX25_act_1 := dk_seg dksX25_act_0 24 rfl rfl
theorem dksX25_act_2 : cX25_act.data.toList.drop 48 = dktX25_act_2 := dk_seg dksX25_act_1 24 rfl rfl
theorem dX25_act_0 : decode cX25_act 0 = .ok (.aload_n 0, 1) := dk_42 (dk_at dksX25_act_0 0 rfl rfl)
theorem dX25_act_1 : decode cX25_act 1 = .ok (.ldc 74, 2) := dk_18 74 (dk_at dksX25_act_0 1 rfl rfl)
theorem dX25_act_3 : decode cX25_act 3 = .ok (.invokevirtual 76, 3) := dk_182 0 76 (dk_at dksX25_act_0 3 rfl rfl)
theorem dX25_act_6 : decode cX25_act 6 = .ok (.ifCond .eq 15, 3) := dk_153 0 15 (dk_at dksX25_act_0 6 rfl rfl)
theorem dX25_act_9 : decode cX25_act 9 = .ok (.new 80, 3) := dk_187 0 80 (dk_at dksX25_act_0 9 rfl rfl)
theorem dX25_act_12 : decode cX25_act 12 = .ok (.dup, 1) := dk_89 (dk_at dksX25_act_0 12 rfl rfl)
theorem dX25_act_13 : decode cX25_act 13 = .ok (.aload_n 0, 1) := dk_42 (dk_at dksX25_act_0 13 rfl rfl)
theorem dX25_act_14 : decode cX25_act 14 = .ok (.getfield 3, 3) := dk_180 0 3 (dk_at dksX25_act_0 14 rfl rfl)
theorem dX25_act_17 : decode cX25_act 17 = .ok (.invokespecial 82, 3) := dk_183 0 82 (dk_at dksX25_act_0 17 rfl rfl)
theorem dX25_act_20 : decode cX25_act 20 = .ok (.areturn, 1) := dk_176 (dk_at dksX25_act_0 20 rfl rfl)
theorem dX25_act_21 : decode cX25_act 21 = .ok (.aload_n 0, 1) := dk_42 (dk_at dksX25_act_0 21 rfl rfl)
theorem dX25_act_22 : decode cX25_act 22 = .ok (.ldc 85, 2) := dk_18 85 (dk_at dksX25_act_0 22 rfl rfl)
theorem dX25_act_24 : decode cX25_act 24 = .ok (.invokevirtual 76, 3) := dk_182 0 76 (dk_at dksX25_act_1 0 rfl rfl)
theorem dX25_act_27 : decode cX25_act 27 = .ok (.ifCond .eq 19, 3) := dk_153 0 19 (dk_at dksX25_act_1 3 rfl rfl)
theorem dX25_act_30 : decode cX25_act 30 = .ok (.new 87, 3) := dk_187 0 87 (dk_at dksX25_act_1 6 rfl rfl)
theorem dX25_act_33 : decode cX25_act 33 = .ok (.dup, 1) := dk_89 (dk_at dksX25_act_1 9 rfl rfl)
theorem dX25_act_34 : decode cX25_act 34 = .ok (.aload_n 0, 1) := dk_42 (dk_at dksX25_act_1 10 rfl rfl)
theorem dX25_act_35 : decode cX25_act 35 = .ok (.getfield 3, 3) := dk_180 0 3 (dk_at dksX25_act_1 11 rfl rfl)
theorem dX25_act_38 : decode cX25_act 38 = .ok (.aload_n 0, 1) := dk_42 (dk_at dksX25_act_1 14 rfl rfl)
theorem dX25_act_39 : decode cX25_act 39 = .ok (.invokevirtual 89, 3) := dk_182 0 89 (dk_at dksX25_act_1 15 rfl rfl)
theorem dX25_act_42 : decode cX25_act 42 = .ok (.invokespecial 93, 3) := dk_183 0 93 (dk_at dksX25_act_1 18 rfl rfl)
theorem dX25_act_45 : decode cX25_act 45 = .ok (.areturn, 1) := dk_176 (dk_at dksX25_act_1 21 rfl rfl)
theorem dX25_act_46 : decode cX25_act 46 = .ok (.aload_n 0, 1) := dk_42 (dk_at dksX25_act_1 22 rfl rfl)
theorem dX25_act_47 : decode cX25_act 47 = .ok (.aload_n 0, 1) := dk_42 (dk_at dksX25_act_1 23 rfl rfl)
theorem dX25_act_48 : decode cX25_act 48 = .ok (.ldc 96, 2) := dk_18 96 (dk_at dksX25_act_2 0 rfl rfl)
theorem dX25_act_50 : decode cX25_act 50 = .ok (.invokevirtual 76, 3) := dk_182 0 76 (dk_at dksX25_act_2 2 rfl rfl)
theorem dX25_act_53 : decode cX25_act 53 = .ok (.invokevirtual 98, 3) := dk_182 0 98 (dk_at dksX25_act_2 5 rfl rfl)
theorem dX25_act_56 : decode cX25_act 56 = .ok (.new 102, 3) := dk_187 0 102 (dk_at dksX25_act_2 8 rfl rfl)
theorem dX25_act_59 : decode cX25_act 59 = .ok (.dup, 1) := dk_89 (dk_at dksX25_act_2 11 rfl rfl)
theorem dX25_act_60 : decode cX25_act 60 = .ok (.aload_n 0, 1) := dk_42 (dk_at dksX25_act_2 12 rfl rfl)
theorem dX25_act_61 : decode cX25_act 61 = .ok (.getfield 3, 3) := dk_180 0 3 (dk_at dksX25_act_2 13 rfl rfl)
theorem dX25_act_64 : decode cX25_act 64 = .ok (.aload_n 0, 1) := dk_42 (dk_at dksX25_act_2 16 rfl rfl)
theorem dX25_act_65 : decode cX25_act 65 = .ok (.invokevirtual 89, 3) := dk_182 0 89 (dk_at dksX25_act_2 17 rfl rfl)
theorem dX25_act_68 : decode cX25_act 68 = .ok (.invokespecial 104, 3) := dk_183 0 104 (dk_at dksX25_act_2 20 rfl rfl)
theorem dX25_act_71 : decode cX25_act 71 = .ok (.areturn, 1) := dk_176 (dk_at dksX25_act_2 23 rfl rfl)
abbrev cX25_isNought : ByteArray := prog_18_method_3_code
def yX25_isNought : MethodName := ⟨RX25, "isNought", "()Z"⟩
def dkwX25_isNought_2 : List UInt8 := [167, 0, 4, 3, 126, 60, 132, 2, 1, 167, 255, 223, 27, 172]
abbrev dktX25_isNought_2 : List UInt8 := dkwX25_isNought_2 ++ []
def dkwX25_isNought_1 : List UInt8 := [180, 0, 51, 162, 0, 31, 27, 42, 180, 0, 3, 180, 0, 54, 28, 51, 16, 48, 160, 0, 7, 4]
abbrev dktX25_isNought_1 : List UInt8 := dkwX25_isNought_1 ++ dktX25_isNought_2
def dkwX25_isNought_0 : List UInt8 := [42, 180, 0, 47, 42, 180, 0, 51, 162, 0, 7, 4, 167, 0, 4, 3, 60, 42, 180, 0, 47, 61, 28, 42]
abbrev dktX25_isNought_0 : List UInt8 := dkwX25_isNought_0 ++ dktX25_isNought_1
theorem dksX25_isNought_0 : cX25_isNought.data.toList.drop 0 = dktX25_isNought_0 := by decide +kernel
theorem dksX25_isNought_1 : cX25_isNought.data.toList.drop 24 = dktX25_isNought_1 := dk_seg dksX25_isNought_0 24 rfl rfl
theorem dksX25_isNought_2 : cX25_isNought.data.toList.drop 46 = dktX25_isNought_2 := dk_seg dksX25_isNought_1 22 rfl rfl
theorem dX25_isNought_0 : decode cX25_isNought 0 = .ok (.aload_n 0, 1) := dk_42 (dk_at dksX25_isNought_0 0 rfl rfl)
theorem dX25_isNought_1 : decode cX25_isNought 1 = .ok (.getfield 47, 3) := dk_180 0 47 (dk_at dksX25_isNought_0 1 rfl rfl)
theorem dX25_isNought_4 : decode cX25_isNought 4 = .ok (.aload_n 0, 1) := dk_42 (dk_at dksX25_isNought_0 4 rfl rfl)
theorem dX25_isNought_5 : decode cX25_isNought 5 = .ok (.getfield 51, 3) := dk_180 0 51 (dk_at dksX25_isNought_0 5 rfl rfl)
theorem dX25_isNought_8 : decode cX25_isNought 8 = .ok (.if_icmp .ge 7, 3) := dk_162 0 7 (dk_at dksX25_isNought_0 8 rfl rfl)
theorem dX25_isNought_11 : decode cX25_isNought 11 = .ok (.iconst 1, 1) := dk_4 (dk_at dksX25_isNought_0 11 rfl rfl)
theorem dX25_isNought_12 : decode cX25_isNought 12 = .ok (.goto 4, 3) := dk_167 0 4 (dk_at dksX25_isNought_0 12 rfl rfl)
theorem dX25_isNought_15 : decode cX25_isNought 15 = .ok (.iconst 0, 1) := dk_3 (dk_at dksX25_isNought_0 15 rfl rfl)
theorem dX25_isNought_16 : decode cX25_isNought 16 = .ok (.istore_n 1, 1) := dk_60 (dk_at dksX25_isNought_0 16 rfl rfl)
theorem dX25_isNought_17 : decode cX25_isNought 17 = .ok (.aload_n 0, 1) := dk_42 (dk_at dksX25_isNought_0 17 rfl rfl)
theorem dX25_isNought_18 : decode cX25_isNought 18 = .ok (.getfield 47, 3) := dk_180 0 47 (dk_at dksX25_isNought_0 18 rfl rfl)
theorem dX25_isNought_21 : decode cX25_isNought 21 = .ok (.istore_n 2, 1) := dk_61 (dk_at dksX25_isNought_0 21 rfl rfl)
theorem dX25_isNought_22 : decode cX25_isNought 22 = .ok (.iload_n 2, 1) := dk_28 (dk_at dksX25_isNought_0 22 rfl rfl)
theorem dX25_isNought_23 : decode cX25_isNought 23 = .ok (.aload_n 0, 1) := dk_42 (dk_at dksX25_isNought_0 23 rfl rfl)
theorem dX25_isNought_24 : decode cX25_isNought 24 = .ok (.getfield 51, 3) := dk_180 0 51 (dk_at dksX25_isNought_1 0 rfl rfl)
theorem dX25_isNought_27 : decode cX25_isNought 27 = .ok (.if_icmp .ge 31, 3) := dk_162 0 31 (dk_at dksX25_isNought_1 3 rfl rfl)
theorem dX25_isNought_30 : decode cX25_isNought 30 = .ok (.iload_n 1, 1) := dk_27 (dk_at dksX25_isNought_1 6 rfl rfl)
theorem dX25_isNought_31 : decode cX25_isNought 31 = .ok (.aload_n 0, 1) := dk_42 (dk_at dksX25_isNought_1 7 rfl rfl)
theorem dX25_isNought_32 : decode cX25_isNought 32 = .ok (.getfield 3, 3) := dk_180 0 3 (dk_at dksX25_isNought_1 8 rfl rfl)
theorem dX25_isNought_35 : decode cX25_isNought 35 = .ok (.getfield 54, 3) := dk_180 0 54 (dk_at dksX25_isNought_1 11 rfl rfl)
theorem dX25_isNought_38 : decode cX25_isNought 38 = .ok (.iload_n 2, 1) := dk_28 (dk_at dksX25_isNought_1 14 rfl rfl)
theorem dX25_isNought_39 : decode cX25_isNought 39 = .ok (.baload, 1) := dk_51 (dk_at dksX25_isNought_1 15 rfl rfl)
theorem dX25_isNought_40 : decode cX25_isNought 40 = .ok (.bipush 48, 2) := dk_16 48 (dk_at dksX25_isNought_1 16 rfl rfl)
theorem dX25_isNought_42 : decode cX25_isNought 42 = .ok (.if_icmp .ne 7, 3) := dk_160 0 7 (dk_at dksX25_isNought_1 18 rfl rfl)
theorem dX25_isNought_45 : decode cX25_isNought 45 = .ok (.iconst 1, 1) := dk_4 (dk_at dksX25_isNought_1 21 rfl rfl)
theorem dX25_isNought_46 : decode cX25_isNought 46 = .ok (.goto 4, 3) := dk_167 0 4 (dk_at dksX25_isNought_2 0 rfl rfl)
theorem dX25_isNought_49 : decode cX25_isNought 49 = .ok (.iconst 0, 1) := dk_3 (dk_at dksX25_isNought_2 3 rfl rfl)
theorem dX25_isNought_50 : decode cX25_isNought 50 = .ok (.iand, 1) := dk_126 (dk_at dksX25_isNought_2 4 rfl rfl)
theorem dX25_isNought_51 : decode cX25_isNought 51 = .ok (.istore_n 1, 1) := dk_60 (dk_at dksX25_isNought_2 5 rfl rfl)
theorem dX25_isNought_52 : decode cX25_isNought 52 = .ok (.iinc 2 1, 3) := dk_132 2 1 (dk_at dksX25_isNought_2 6 rfl rfl)
theorem dX25_isNought_55 : decode cX25_isNought 55 = .ok (.goto (-33), 3) := dk_167 255 223 (dk_at dksX25_isNought_2 9 rfl rfl)
theorem dX25_isNought_58 : decode cX25_isNought 58 = .ok (.iload_n 1, 1) := dk_27 (dk_at dksX25_isNought_2 12 rfl rfl)
theorem dX25_isNought_59 : decode cX25_isNought 59 = .ok (.ireturn, 1) := dk_172 (dk_at dksX25_isNought_2 13 rfl rfl)
abbrev cX25_init : ByteArray := prog_18_method_1_code
def yX25_init : MethodName := ⟨RX25, "<init>", "(LLitStrangers;)V"⟩
def dkwX25_init_2 : List UInt8 := [183, 0, 25, 42, 16, 12, 189, 0, 31, 181, 0, 33, 177]
abbrev dktX25_init_2 : List UInt8 := dkwX25_init_2 ++ []
def dkwX25_init_1 : List UInt8 := [18, 15, 83, 89, 6, 18, 17, 83, 89, 7, 18, 19, 83, 89, 8, 18, 21, 83, 89, 16, 6, 18, 23, 83]
abbrev dktX25_init_1 : List UInt8 := dkwX25_init_1 ++ dktX25_init_2
def dkwX25_init_0 : List UInt8 := [42, 43, 181, 0, 3, 42, 43, 16, 7, 189, 0, 9, 89, 3, 18, 11, 83, 89, 4, 18, 13, 83, 89, 5]
abbrev dktX25_init_0 : List UInt8 := dkwX25_init_0 ++ dktX25_init_1
theorem dksX25_init_0 : cX25_init.data.toList.drop 0 = dktX25_init_0 := by decide +kernel
theorem dksX25_init_1 : cX25_init.data.toList.drop 24 = dktX25_init_1 := dk_seg dksX25_init_0 24 rfl rfl
theorem dksX25_init_2 : cX25_init.data.toList.drop 48 = dktX25_init_2 := dk_seg dksX25_init_1 24 rfl rfl
theorem dX25_init_0 : decode cX25_init 0 = .ok (.aload_n 0, 1) := dk_42 (dk_at dksX25_init_0 0 rfl rfl)
theorem dX25_init_1 : decode cX25_init 1 = .ok (.aload_n 1, 1) := dk_43 (dk_at dksX25_init_0 1 rfl rfl)
theorem dX25_init_2 : decode cX25_init 2 = .ok (.putfield 3, 3) := dk_181 0 3 (dk_at dksX25_init_0 2 rfl rfl)
theorem dX25_init_5 : decode cX25_init 5 = .ok (.aload_n 0, 1) := dk_42 (dk_at dksX25_init_0 5 rfl rfl)
theorem dX25_init_6 : decode cX25_init 6 = .ok (.aload_n 1, 1) := dk_43 (dk_at dksX25_init_0 6 rfl rfl)
theorem dX25_init_7 : decode cX25_init 7 = .ok (.bipush 7, 2) := dk_16 7 (dk_at dksX25_init_0 7 rfl rfl)
theorem dX25_init_9 : decode cX25_init 9 = .ok (.anewarray 9, 3) := dk_189 0 9 (dk_at dksX25_init_0 9 rfl rfl)
theorem dX25_init_12 : decode cX25_init 12 = .ok (.dup, 1) := dk_89 (dk_at dksX25_init_0 12 rfl rfl)
theorem dX25_init_13 : decode cX25_init 13 = .ok (.iconst 0, 1) := dk_3 (dk_at dksX25_init_0 13 rfl rfl)
theorem dX25_init_14 : decode cX25_init 14 = .ok (.ldc 11, 2) := dk_18 11 (dk_at dksX25_init_0 14 rfl rfl)
theorem dX25_init_16 : decode cX25_init 16 = .ok (.aastore, 1) := dk_83 (dk_at dksX25_init_0 16 rfl rfl)
theorem dX25_init_17 : decode cX25_init 17 = .ok (.dup, 1) := dk_89 (dk_at dksX25_init_0 17 rfl rfl)
theorem dX25_init_18 : decode cX25_init 18 = .ok (.iconst 1, 1) := dk_4 (dk_at dksX25_init_0 18 rfl rfl)
theorem dX25_init_19 : decode cX25_init 19 = .ok (.ldc 13, 2) := dk_18 13 (dk_at dksX25_init_0 19 rfl rfl)
theorem dX25_init_21 : decode cX25_init 21 = .ok (.aastore, 1) := dk_83 (dk_at dksX25_init_0 21 rfl rfl)
theorem dX25_init_22 : decode cX25_init 22 = .ok (.dup, 1) := dk_89 (dk_at dksX25_init_0 22 rfl rfl)
theorem dX25_init_23 : decode cX25_init 23 = .ok (.iconst 2, 1) := dk_5 (dk_at dksX25_init_0 23 rfl rfl)
theorem dX25_init_24 : decode cX25_init 24 = .ok (.ldc 15, 2) := dk_18 15 (dk_at dksX25_init_1 0 rfl rfl)
theorem dX25_init_26 : decode cX25_init 26 = .ok (.aastore, 1) := dk_83 (dk_at dksX25_init_1 2 rfl rfl)
theorem dX25_init_27 : decode cX25_init 27 = .ok (.dup, 1) := dk_89 (dk_at dksX25_init_1 3 rfl rfl)
theorem dX25_init_28 : decode cX25_init 28 = .ok (.iconst 3, 1) := dk_6 (dk_at dksX25_init_1 4 rfl rfl)
theorem dX25_init_29 : decode cX25_init 29 = .ok (.ldc 17, 2) := dk_18 17 (dk_at dksX25_init_1 5 rfl rfl)
theorem dX25_init_31 : decode cX25_init 31 = .ok (.aastore, 1) := dk_83 (dk_at dksX25_init_1 7 rfl rfl)
theorem dX25_init_32 : decode cX25_init 32 = .ok (.dup, 1) := dk_89 (dk_at dksX25_init_1 8 rfl rfl)
theorem dX25_init_33 : decode cX25_init 33 = .ok (.iconst 4, 1) := dk_7 (dk_at dksX25_init_1 9 rfl rfl)
theorem dX25_init_34 : decode cX25_init 34 = .ok (.ldc 19, 2) := dk_18 19 (dk_at dksX25_init_1 10 rfl rfl)
theorem dX25_init_36 : decode cX25_init 36 = .ok (.aastore, 1) := dk_83 (dk_at dksX25_init_1 12 rfl rfl)
theorem dX25_init_37 : decode cX25_init 37 = .ok (.dup, 1) := dk_89 (dk_at dksX25_init_1 13 rfl rfl)
theorem dX25_init_38 : decode cX25_init 38 = .ok (.iconst 5, 1) := dk_8 (dk_at dksX25_init_1 14 rfl rfl)
theorem dX25_init_39 : decode cX25_init 39 = .ok (.ldc 21, 2) := dk_18 21 (dk_at dksX25_init_1 15 rfl rfl)
theorem dX25_init_41 : decode cX25_init 41 = .ok (.aastore, 1) := dk_83 (dk_at dksX25_init_1 17 rfl rfl)
theorem dX25_init_42 : decode cX25_init 42 = .ok (.dup, 1) := dk_89 (dk_at dksX25_init_1 18 rfl rfl)
theorem dX25_init_43 : decode cX25_init 43 = .ok (.bipush 6, 2) := dk_16 6 (dk_at dksX25_init_1 19 rfl rfl)
theorem dX25_init_45 : decode cX25_init 45 = .ok (.ldc 23, 2) := dk_18 23 (dk_at dksX25_init_1 21 rfl rfl)
theorem dX25_init_47 : decode cX25_init 47 = .ok (.aastore, 1) := dk_83 (dk_at dksX25_init_1 23 rfl rfl)
theorem dX25_init_48 : decode cX25_init 48 = .ok (.invokespecial 25, 3) := dk_183 0 25 (dk_at dksX25_init_2 0 rfl rfl)
theorem dX25_init_51 : decode cX25_init 51 = .ok (.aload_n 0, 1) := dk_42 (dk_at dksX25_init_2 3 rfl rfl)
theorem dX25_init_52 : decode cX25_init 52 = .ok (.bipush 12, 2) := dk_16 12 (dk_at dksX25_init_2 4 rfl rfl)
theorem dX25_init_54 : decode cX25_init 54 = .ok (.anewarray 31, 3) := dk_189 0 31 (dk_at dksX25_init_2 6 rfl rfl)
theorem dX25_init_57 : decode cX25_init 57 = .ok (.putfield 33, 3) := dk_181 0 33 (dk_at dksX25_init_2 9 rfl rfl)
theorem dX25_init_60 : decode cX25_init 60 = .ok (.return_, 1) := dk_177 (dk_at dksX25_init_2 12 rfl rfl)
abbrev cX25_read_2 : ByteArray := prog_18_method_2_code
def yX25_read_2 : MethodName := ⟨RX25, "read", "()[LLitStrangers$Order;"⟩
def dkwX25_read_2_0 : List UInt8 := [42, 182, 0, 37, 189, 0, 31, 76, 42, 180, 0, 33, 3, 43, 3, 43, 190, 184, 0, 41, 43, 176]
abbrev dktX25_read_2_0 : List UInt8 := dkwX25_read_2_0 ++ []
theorem dksX25_read_2_0 : cX25_read_2.data.toList.drop 0 = dktX25_read_2_0 := by decide +kernel
theorem dX25_read_2_0 : decode cX25_read_2 0 = .ok (.aload_n 0, 1) := dk_42 (dk_at dksX25_read_2_0 0 rfl rfl)
theorem dX25_read_2_1 : decode cX25_read_2 1 = .ok (.invokevirtual 37, 3) := dk_182 0 37 (dk_at dksX25_read_2_0 1 rfl rfl)
theorem dX25_read_2_4 : decode cX25_read_2 4 = .ok (.anewarray 31, 3) := dk_189 0 31 (dk_at dksX25_read_2_0 4 rfl rfl)
theorem dX25_read_2_7 : decode cX25_read_2 7 = .ok (.astore_n 1, 1) := dk_76 (dk_at dksX25_read_2_0 7 rfl rfl)
theorem dX25_read_2_8 : decode cX25_read_2 8 = .ok (.aload_n 0, 1) := dk_42 (dk_at dksX25_read_2_0 8 rfl rfl)
theorem dX25_read_2_9 : decode cX25_read_2 9 = .ok (.getfield 33, 3) := dk_180 0 33 (dk_at dksX25_read_2_0 9 rfl rfl)
theorem dX25_read_2_12 : decode cX25_read_2 12 = .ok (.iconst 0, 1) := dk_3 (dk_at dksX25_read_2_0 12 rfl rfl)
theorem dX25_read_2_13 : decode cX25_read_2 13 = .ok (.aload_n 1, 1) := dk_43 (dk_at dksX25_read_2_0 13 rfl rfl)
theorem dX25_read_2_14 : decode cX25_read_2 14 = .ok (.iconst 0, 1) := dk_3 (dk_at dksX25_read_2_0 14 rfl rfl)
theorem dX25_read_2_15 : decode cX25_read_2 15 = .ok (.aload_n 1, 1) := dk_43 (dk_at dksX25_read_2_0 15 rfl rfl)
theorem dX25_read_2_16 : decode cX25_read_2 16 = .ok (.arraylength, 1) := dk_190 (dk_at dksX25_read_2_0 16 rfl rfl)
theorem dX25_read_2_17 : decode cX25_read_2 17 = .ok (.invokestatic 41, 3) := dk_184 0 41 (dk_at dksX25_read_2_0 17 rfl rfl)
theorem dX25_read_2_20 : decode cX25_read_2 20 = .ok (.aload_n 1, 1) := dk_43 (dk_at dksX25_read_2_0 20 rfl rfl)
theorem dX25_read_2_21 : decode cX25_read_2 21 = .ok (.areturn, 1) := dk_176 (dk_at dksX25_read_2_0 21 rfl rfl)
theorem q161 : (Jvm.Cond.initialized "LitStrangers$OrderReader") ∈ lw_all := lw_g (lw_at lw_m1 43 rfl) rfl
theorem q392 : (Jvm.Cond.fieldLinkNest "LitStrangers$OrderReader" (54 : Nat) "LitStrangers" "tape" "[B" "LitStrangers") ∈ lw_tbl := lw_at lw_m2 34 rfl
theorem q532 : (Jvm.Cond.selects "LitStrangers$OrderReader" ({ cls := "java/lang/Object", name := "getClass", desc := "()Ljava/lang/Class;" } : Jvm.MethodName) ({ cls := "java/lang/Object", name := "getClass", desc := "()Ljava/lang/Class;" } : Jvm.MethodName)) ∈ lw_all := lw_g (lw_at lw_m2 174 rfl) rfl
theorem q756 : (Jvm.Cond.fieldLink "LitStrangers$OrderReader" (47 : Nat) "LitStrangers$OrderReader" "from" "I") ∈ lw_all := lw_g (lw_at lw_m3 158 rfl) rfl
theorem q757 : (Jvm.Cond.sameField "LitStrangers$OrderReader" "LitStrangers$Reader" "from" "I") ∈ lw_all := lw_g (lw_at lw_m3 159 rfl) rfl
theorem q758 : (Jvm.Cond.fieldLink "LitStrangers$OrderReader" (51 : Nat) "LitStrangers$OrderReader" "to" "I") ∈ lw_all := lw_g (lw_at lw_m3 160 rfl) rfl
theorem q759 : (Jvm.Cond.sameField "LitStrangers$OrderReader" "LitStrangers$Reader" "to" "I") ∈ lw_all := lw_g (lw_at lw_m3 161 rfl) rfl
theorem q804 : (Jvm.Cond.selects "LitStrangers$OrderReader" ({ cls := "LitStrangers$Reader", name := "next", desc := "()V" } : Jvm.MethodName) ({ cls := "LitStrangers$Reader", name := "next", desc := "()V" } : Jvm.MethodName)) ∈ lw_all := lw_g (lw_at lw_m3 206 rfl) rfl
theorem q816 : (Jvm.Cond.selects "LitStrangers$OrderReader" ({ cls := "LitStrangers$Reader", name := "must", desc := "(Z)V" } : Jvm.MethodName) ({ cls := "LitStrangers$Reader", name := "must", desc := "(Z)V" } : Jvm.MethodName)) ∈ lw_all := lw_g (lw_at lw_m3 218 rfl) rfl
theorem q858 : (Jvm.Cond.selects "LitStrangers$OrderReader" ({ cls := "LitStrangers$Reader", name := "isWord", desc := "(Ljava/lang/String;)Z" } : Jvm.MethodName) ({ cls := "LitStrangers$Reader", name := "isWord", desc := "(Ljava/lang/String;)Z" } : Jvm.MethodName)) ∈ lw_all := lw_g (lw_at lw_m4 20 rfl) rfl
theorem q943 : (Jvm.Cond.selects "LitStrangers$OrderReader" ({ cls := "LitStrangers$Reader", name := "accept", desc := "(Ljava/lang/String;)Z" } : Jvm.MethodName) ({ cls := "LitStrangers$Reader", name := "accept", desc := "(Ljava/lang/String;)Z" } : Jvm.MethodName)) ∈ lw_all := lw_g (lw_at lw_m4 105 rfl) rfl
theorem q956 : (Jvm.Cond.selects "LitStrangers$OrderReader" ({ cls := "LitStrangers$Reader", name := "number", desc := "(I)I" } : Jvm.MethodName) ({ cls := "LitStrangers$Reader", name := "number", desc := "(I)I" } : Jvm.MethodName)) ∈ lw_all := lw_g (lw_at lw_m4 118 rfl) rfl
theorem q973 : (Jvm.Cond.selects "LitStrangers$OrderReader" ({ cls := "LitStrangers$Reader", name := "behindWord", desc := "(I)LLitStrangers$Sum;" } : Jvm.MethodName) ({ cls := "LitStrangers$OrderReader", name := "behindWord", desc := "(I)LLitStrangers$Sum;" } : Jvm.MethodName)) ∈ lw_all := lw_g (lw_at lw_m4 135 rfl) rfl
theorem q974 : (Jvm.Cond.instanceMethod ({ cls := "LitStrangers$OrderReader", name := "behindWord", desc := "(I)LLitStrangers$Sum;" } : Jvm.MethodName)) ∈ lw_all := lw_g (lw_at lw_m4 136 rfl) rfl
theorem q975 : (Jvm.Cond.code ({ cls := "LitStrangers$OrderReader", name := "behindWord", desc := "(I)LLitStrangers$Sum;" } : Jvm.MethodName) prog_18_method_4_code (2 : Nat) (Option.some (Jvm.ClassFile.FieldType.object "LitStrangers$Sum"))) ∈ lw_all := lw_g (lw_at lw_m4 137 rfl) rfl
theorem q976 : (Jvm.Cond.classLink "LitStrangers$OrderReader" (60 : Nat) "LitStrangers$Part") ∈ lw_all := lw_g (lw_at lw_m4 138 rfl) rfl
theorem q978 : (Jvm.Cond.methodLink "LitStrangers$OrderReader" (62 : Nat) ({ cls := "LitStrangers$Part", name := "<init>", desc := "(I)V" } : Jvm.MethodName)) ∈ lw_all := lw_g (lw_at lw_m4 140 rfl) rfl
theorem q986 : (Jvm.Cond.classLink "LitStrangers$OrderReader" (65 : Nat) "LitStrangers$OfPerson") ∈ lw_all := lw_g (lw_at lw_m4 148 rfl) rfl
theorem q988 : (Jvm.Cond.methodLink "LitStrangers$OrderReader" (67 : Nat) ({ cls := "LitStrangers$OrderReader", name := "number", desc := "(I)I" } : Jvm.MethodName)) ∈ lw_all := lw_g (lw_at lw_m4 150 rfl) rfl
theorem q989 : (Jvm.Cond.sameMethod "LitStrangers$OrderReader" "LitStrangers$Reader" "number" "(I)I") ∈ lw_all := lw_g (lw_at lw_m4 151 rfl) rfl
theorem q991 : (Jvm.Cond.selects "LitStrangers$OrderReader" ({ cls := "LitStrangers$OrderReader", name := "number", desc := "(I)I" } : Jvm.MethodName) ({ cls := "LitStrangers$Reader", name := "number", desc := "(I)I" } : Jvm.MethodName)) ∈ lw_all := lw_g (lw_at lw_m4 153 rfl) rfl
theorem q992 : (Jvm.Cond.methodLink "LitStrangers$OrderReader" (71 : Nat) ({ cls := "LitStrangers$OfPerson", name := "<init>", desc := "(LLitStrangers;ZI)V" } : Jvm.MethodName)) ∈ lw_all := lw_g (lw_at lw_m4 154 rfl) rfl
theorem q1129 : (Jvm.Cond.selects "LitStrangers$OrderReader" ({ cls := "LitStrangers$Reader", name := "read", desc := "(I)V" } : Jvm.MethodName) ({ cls := "LitStrangers$OrderReader", name := "read", desc := "(I)V" } : Jvm.MethodName)) ∈ lw_all := lw_g (lw_at lw_m5 51 rfl) rfl
theorem q1130 : (Jvm.Cond.instanceMethod ({ cls := "LitStrangers$OrderReader", name := "read", desc := "(I)V" } : Jvm.MethodName)) ∈ lw_all := lw_g (lw_at lw_m5 52 rfl) rfl
theorem q1131 : (Jvm.Cond.code ({ cls := "LitStrangers$OrderReader", name := "read", desc := "(I)V" } : Jvm.MethodName) prog_18_method_6_code (3 : Nat) (Option.none : Option Jvm.ClassFile.FieldType)) ∈ lw_all := lw_g (lw_at lw_m5 53 rfl) rfl
theorem q1132 : (Jvm.Cond.methodLink "LitStrangers$OrderReader" (105 : Nat) ({ cls := "LitStrangers$OrderReader", name := "act", desc := "()LLitStrangers$Order;" } : Jvm.MethodName)) ∈ lw_all := lw_g (lw_at lw_m5 54 rfl) rfl
theorem q1133 : (Jvm.Cond.privateMethod ({ cls := "LitStrangers$OrderReader", name := "act", desc := "()LLitStrangers$Order;" } : Jvm.MethodName)) ∈ lw_tbl := lw_at lw_m5 55 rfl
theorem q1134 : (Jvm.Cond.instanceMethod ({ cls := "LitStrangers$OrderReader", name := "act", desc := "()LLitStrangers$Order;" } : Jvm.MethodName)) ∈ lw_all := lw_g (lw_at lw_m5 56 rfl) rfl
theorem q1135 : (Jvm.Cond.instantiable "LitStrangers$OrderReader" (10 : Nat)) ∈ lw_all := lw_g (lw_at lw_m5 57 rfl) rfl
theorem q1136 : (Jvm.Cond.code ({ cls := "LitStrangers$OrderReader", name := "act", desc := "()LLitStrangers$Order;" } : Jvm.MethodName) prog_18_method_5_code (1 : Nat) (Option.some (Jvm.ClassFile.FieldType.object "LitStrangers$Order"))) ∈ lw_all := lw_g (lw_at lw_m5 58 rfl) rfl
theorem q1137 : (Jvm.Cond.stringRef "LitStrangers$OrderReader" (74 : Nat) "dark") ∈ lw_tbl := lw_at lw_m5 59 rfl
theorem q1138 : (Jvm.Cond.methodLink "LitStrangers$OrderReader" (76 : Nat) ({ cls := "LitStrangers$OrderReader", name := "accept", desc := "(Ljava/lang/String;)Z" } : Jvm.MethodName)) ∈ lw_all := lw_g (lw_at lw_m5 60 rfl) rfl
theorem q1139 : (Jvm.Cond.sameMethod "LitStrangers$OrderReader" "LitStrangers$Reader" "accept" "(Ljava/lang/String;)Z") ∈ lw_all := lw_g (lw_at lw_m5 61 rfl) rfl
theorem q1140 : (Jvm.Cond.selects "LitStrangers$OrderReader" ({ cls := "LitStrangers$OrderReader", name := "accept", desc := "(Ljava/lang/String;)Z" } : Jvm.MethodName) ({ cls := "LitStrangers$Reader", name := "accept", desc := "(Ljava/lang/String;)Z" } : Jvm.MethodName)) ∈ lw_all := lw_g (lw_at lw_m5 62 rfl) rfl
theorem q1141 : (Jvm.Cond.classLink "LitStrangers$OrderReader" (80 : Nat) "LitStrangers$Dark") ∈ lw_all := lw_g (lw_at lw_m5 63 rfl) rfl
theorem q1143 : (Jvm.Cond.methodLinkNest "LitStrangers$OrderReader" (82 : Nat) ({ cls := "LitStrangers$Dark", name := "<init>", desc := "(LLitStrangers;)V" } : Jvm.MethodName) "LitStrangers") ∈ lw_tbl := lw_at lw_m5 65 rfl
theorem q1152 : (Jvm.Cond.fieldLink "LitStrangers$OrderReader" (123 : Nat) "LitStrangers$Order" "test" "LLitStrangers$Test;") ∈ lw_all := lw_g (lw_at lw_m5 74 rfl) rfl
theorem q1154 : (Jvm.Cond.fieldLink "LitStrangers$OrderReader" (115 : Nat) "LitStrangers$Order" "times" "I") ∈ lw_all := lw_g (lw_at lw_m5 76 rfl) rfl
theorem q1169 : (Jvm.Cond.stringRef "LitStrangers$OrderReader" (85 : Nat) "send") ∈ lw_tbl := lw_at lw_m5 91 rfl
theorem q1170 : (Jvm.Cond.classLink "LitStrangers$OrderReader" (87 : Nat) "LitStrangers$Send") ∈ lw_all := lw_g (lw_at lw_m5 92 rfl) rfl
theorem q1172 : (Jvm.Cond.methodLink "LitStrangers$OrderReader" (89 : Nat) ({ cls := "LitStrangers$OrderReader", name := "sum", desc := "()LLitStrangers$Sum;" } : Jvm.MethodName)) ∈ lw_all := lw_g (lw_at lw_m5 94 rfl) rfl
theorem q1173 : (Jvm.Cond.sameMethod "LitStrangers$OrderReader" "LitStrangers$Reader" "sum" "()LLitStrangers$Sum;") ∈ lw_all := lw_g (lw_at lw_m5 95 rfl) rfl
theorem q1174 : (Jvm.Cond.selects "LitStrangers$OrderReader" ({ cls := "LitStrangers$OrderReader", name := "sum", desc := "()LLitStrangers$Sum;" } : Jvm.MethodName) ({ cls := "LitStrangers$Reader", name := "sum", desc := "()LLitStrangers$Sum;" } : Jvm.MethodName)) ∈ lw_all := lw_g (lw_at lw_m5 96 rfl) rfl
theorem q1175 : (Jvm.Cond.methodLink "LitStrangers$OrderReader" (93 : Nat) ({ cls := "LitStrangers$Send", name := "<init>", desc := "(LLitStrangers;LLitStrangers$Sum;)V" } : Jvm.MethodName)) ∈ lw_all := lw_g (lw_at lw_m5 97 rfl) rfl
theorem q1190 : (Jvm.Cond.stringRef "LitStrangers$OrderReader" (96 : Nat) "light") ∈ lw_tbl := lw_at lw_m5 112 rfl
theorem q1191 : (Jvm.Cond.methodLink "LitStrangers$OrderReader" (98 : Nat) ({ cls := "LitStrangers$OrderReader", name := "must", desc := "(Z)V" } : Jvm.MethodName)) ∈ lw_all := lw_g (lw_at lw_m5 113 rfl) rfl
theorem q1192 : (Jvm.Cond.sameMethod "LitStrangers$OrderReader" "LitStrangers$Reader" "must" "(Z)V") ∈ lw_all := lw_g (lw_at lw_m5 114 rfl) rfl
theorem q1193 : (Jvm.Cond.selects "LitStrangers$OrderReader" ({ cls := "LitStrangers$OrderReader", name := "must", desc := "(Z)V" } : Jvm.MethodName) ({ cls := "LitStrangers$Reader", name := "must", desc := "(Z)V" } : Jvm.MethodName)) ∈ lw_all := lw_g (lw_at lw_m5 115 rfl) rfl
theorem q1194 : (Jvm.Cond.classLink "LitStrangers$OrderReader" (102 : Nat) "LitStrangers$Light") ∈ lw_all := lw_g (lw_at lw_m5 116 rfl) rfl
theorem q1196 : (Jvm.Cond.methodLink "LitStrangers$OrderReader" (104 : Nat) ({ cls := "LitStrangers$Light", name := "<init>", desc := "(LLitStrangers;LLitStrangers$Sum;)V" } : Jvm.MethodName)) ∈ lw_all := lw_g (lw_at lw_m5 118 rfl) rfl
theorem q1211 : (Jvm.Cond.stringRef "LitStrangers$OrderReader" (109 : Nat) "times") ∈ lw_tbl := lw_at lw_m5 133 rfl
theorem q1212 : (Jvm.Cond.methodLink "LitStrangers$OrderReader" (111 : Nat) ({ cls := "LitStrangers$OrderReader", name := "isNought", desc := "()Z" } : Jvm.MethodName)) ∈ lw_all := lw_g (lw_at lw_m5 134 rfl) rfl
theorem q1213 : (Jvm.Cond.privateMethod ({ cls := "LitStrangers$OrderReader", name := "isNought", desc := "()Z" } : Jvm.MethodName)) ∈ lw_tbl := lw_at lw_m5 135 rfl
theorem q1214 : (Jvm.Cond.instanceMethod ({ cls := "LitStrangers$OrderReader", name := "isNought", desc := "()Z" } : Jvm.MethodName)) ∈ lw_all := lw_g (lw_at lw_m5 136 rfl) rfl
theorem q1215 : (Jvm.Cond.code ({ cls := "LitStrangers$OrderReader", name := "isNought", desc := "()Z" } : Jvm.MethodName) prog_18_method_3_code (3 : Nat) (Option.some Jvm.ClassFile.FieldType.boolean)) ∈ lw_all := lw_g (lw_at lw_m5 137 rfl) rfl
theorem q1216 : (Jvm.Cond.stringRef "LitStrangers$OrderReader" (117 : Nat) "if") ∈ lw_tbl := lw_at lw_m5 138 rfl
theorem q1217 : (Jvm.Cond.methodLink "LitStrangers$OrderReader" (119 : Nat) ({ cls := "LitStrangers$OrderReader", name := "test", desc := "()LLitStrangers$Test;" } : Jvm.MethodName)) ∈ lw_all := lw_g (lw_at lw_m5 139 rfl) rfl
theorem q1218 : (Jvm.Cond.sameMethod "LitStrangers$OrderReader" "LitStrangers$Reader" "test" "()LLitStrangers$Test;") ∈ lw_all := lw_g (lw_at lw_m5 140 rfl) rfl
theorem q1219 : (Jvm.Cond.selects "LitStrangers$OrderReader" ({ cls := "LitStrangers$OrderReader", name := "test", desc := "()LLitStrangers$Test;" } : Jvm.MethodName) ({ cls := "LitStrangers$Reader", name := "test", desc := "()LLitStrangers$Test;" } : Jvm.MethodName)) ∈ lw_all := lw_g (lw_at lw_m5 141 rfl) rfl
theorem q1567 : (Jvm.Cond.instanceMethod ({ cls := "LitStrangers$OrderReader", name := "<init>", desc := "(LLitStrangers;)V" } : Jvm.MethodName)) ∈ lw_all := lw_g (lw_at lw_m7 9 rfl) rfl
theorem q1568 : (Jvm.Cond.code ({ cls := "LitStrangers$OrderReader", name := "<init>", desc := "(LLitStrangers;)V" } : Jvm.MethodName) prog_18_method_1_code (2 : Nat) (Option.none : Option Jvm.ClassFile.FieldType)) ∈ lw_all := lw_g (lw_at lw_m7 10 rfl) rfl
theorem q1569 : (Jvm.Cond.classLink "LitStrangers$OrderReader" (9 : Nat) "java/lang/String") ∈ lw_all := lw_g (lw_at lw_m7 11 rfl) rfl
theorem q1570 : (Jvm.Cond.stringRef "LitStrangers$OrderReader" (11 : Nat) "day") ∈ lw_tbl := lw_at lw_m7 12 rfl
theorem q1571 : (Jvm.Cond.stringRef "LitStrangers$OrderReader" (13 : Nat) "lit") ∈ lw_tbl := lw_at lw_m7 13 rfl
theorem q1572 : (Jvm.Cond.stringRef "LitStrangers$OrderReader" (15 : Nat) "nights") ∈ lw_tbl := lw_at lw_m7 14 rfl
theorem q1573 : (Jvm.Cond.stringRef "LitStrangers$OrderReader" (17 : Nat) "done") ∈ lw_tbl := lw_at lw_m7 15 rfl
theorem q1574 : (Jvm.Cond.stringRef "LitStrangers$OrderReader" (19 : Nat) "spent") ∈ lw_tbl := lw_at lw_m7 16 rfl
theorem q1575 : (Jvm.Cond.stringRef "LitStrangers$OrderReader" (21 : Nat) "worth") ∈ lw_tbl := lw_at lw_m7 17 rfl
theorem q1576 : (Jvm.Cond.stringRef "LitStrangers$OrderReader" (23 : Nat) "here") ∈ lw_tbl := lw_at lw_m7 18 rfl
theorem q1577 : (Jvm.Cond.methodLink "LitStrangers$OrderReader" (25 : Nat) ({ cls := "LitStrangers$Reader", name := "<init>", desc := "(LLitStrangers;[Ljava/lang/String;)V" } : Jvm.MethodName)) ∈ lw_all := lw_g (lw_at lw_m7 19 rfl) rfl
theorem q1578 : (Jvm.Cond.classLink "LitStrangers$OrderReader" (31 : Nat) "LitStrangers$Order") ∈ lw_all := lw_g (lw_at lw_m7 20 rfl) rfl
theorem q1580 : (Jvm.Cond.fieldLink "LitStrangers$OrderReader" (33 : Nat) "LitStrangers$OrderReader" "row" "[LLitStrangers$Order;") ∈ lw_all := lw_g (lw_at lw_m7 22 rfl) rfl
theorem q1581 : (Jvm.Cond.fieldLink "LitStrangers$OrderReader" (3 : Nat) "LitStrangers$OrderReader" "this$0" "LLitStrangers;") ∈ lw_all := lw_g (lw_at lw_m7 23 rfl) rfl
theorem q1582 : (Jvm.Cond.laysFinal "LitStrangers$OrderReader" "LitStrangers$OrderReader" "row" "[LLitStrangers$Order;") ∈ lw_all := lw_g (lw_at lw_m7 24 rfl) rfl
theorem q1583 : (Jvm.Cond.soleField "LitStrangers$OrderReader" "row") ∈ lw_all := lw_g (lw_at lw_m7 25 rfl) rfl
theorem q1584 : (Jvm.Cond.laysFinal "LitStrangers$OrderReader" "LitStrangers$OrderReader" "this$0" "LLitStrangers;") ∈ lw_all := lw_g (lw_at lw_m7 26 rfl) rfl
theorem q1585 : (Jvm.Cond.soleField "LitStrangers$OrderReader" "this$0") ∈ lw_all := lw_g (lw_at lw_m7 27 rfl) rfl
theorem q1586 : (Jvm.Cond.lays "LitStrangers$OrderReader" "LitStrangers$Reader" "from" "I") ∈ lw_all := lw_g (lw_at lw_m7 28 rfl) rfl
theorem q1587 : (Jvm.Cond.lays "LitStrangers$OrderReader" "LitStrangers$Reader" "to" "I") ∈ lw_all := lw_g (lw_at lw_m7 29 rfl) rfl
theorem q1588 : (Jvm.Cond.lays "LitStrangers$OrderReader" "LitStrangers$Reader" "leaves" "I") ∈ lw_all := lw_g (lw_at lw_m7 30 rfl) rfl
theorem q1589 : (Jvm.Cond.lays "LitStrangers$OrderReader" "LitStrangers$Reader" "deep" "I") ∈ lw_all := lw_g (lw_at lw_m7 31 rfl) rfl
theorem q1590 : (Jvm.Cond.lays "LitStrangers$OrderReader" "LitStrangers$Reader" "piled" "I") ∈ lw_all := lw_g (lw_at lw_m7 32 rfl) rfl
theorem q1591 : (Jvm.Cond.laysFinal "LitStrangers$OrderReader" "LitStrangers$Reader" "pile" "[LLitStrangers$Test;") ∈ lw_all := lw_g (lw_at lw_m7 33 rfl) rfl
theorem q1592 : (Jvm.Cond.laysFinal "LitStrangers$OrderReader" "LitStrangers$Reader" "words" "[Ljava/lang/String;") ∈ lw_all := lw_g (lw_at lw_m7 34 rfl) rfl
theorem q1593 : (Jvm.Cond.laysFinal "LitStrangers$OrderReader" "LitStrangers$Reader" "this$0" "LLitStrangers;") ∈ lw_all := lw_g (lw_at lw_m7 35 rfl) rfl
theorem q1594 : (Jvm.Cond.superclass "LitStrangers$OrderReader" "LitStrangers$Reader") ∈ lw_all := lw_g (lw_at lw_m7 36 rfl) rfl
theorem q1596 : (Jvm.Cond.instanceMethod ({ cls := "LitStrangers$OrderReader", name := "read", desc := "()[LLitStrangers$Order;" } : Jvm.MethodName)) ∈ lw_all := lw_g (lw_at lw_m7 38 rfl) rfl
theorem q1597 : (Jvm.Cond.selects "LitStrangers$OrderReader" ({ cls := "LitStrangers$OrderReader", name := "read", desc := "()[LLitStrangers$Order;" } : Jvm.MethodName) ({ cls := "LitStrangers$OrderReader", name := "read", desc := "()[LLitStrangers$Order;" } : Jvm.MethodName)) ∈ lw_all := lw_g (lw_at lw_m7 39 rfl) rfl
theorem q1598 : (Jvm.Cond.code ({ cls := "LitStrangers$OrderReader", name := "read", desc := "()[LLitStrangers$Order;" } : Jvm.MethodName) prog_18_method_2_code (2 : Nat) (Option.some (Jvm.ClassFile.FieldType.array (Jvm.ClassFile.FieldType.object "LitStrangers$Order")))) ∈ lw_all := lw_g (lw_at lw_m7 40 rfl) rfl
theorem q1599 : (Jvm.Cond.methodLink "LitStrangers$OrderReader" (37 : Nat) ({ cls := "LitStrangers$OrderReader", name := "readAll", desc := "()I" } : Jvm.MethodName)) ∈ lw_all := lw_g (lw_at lw_m7 41 rfl) rfl
theorem q1600 : (Jvm.Cond.sameMethod "LitStrangers$OrderReader" "LitStrangers$Reader" "readAll" "()I") ∈ lw_all := lw_g (lw_at lw_m7 42 rfl) rfl
theorem q1601 : (Jvm.Cond.selects "LitStrangers$OrderReader" ({ cls := "LitStrangers$OrderReader", name := "readAll", desc := "()I" } : Jvm.MethodName) ({ cls := "LitStrangers$Reader", name := "readAll", desc := "()I" } : Jvm.MethodName)) ∈ lw_all := lw_g (lw_at lw_m7 43 rfl) rfl
theorem q1602 : (Jvm.Cond.methodLink "LitStrangers$OrderReader" (41 : Nat) ({ cls := "java/lang/System", name := "arraycopy", desc := "(Ljava/lang/Object;ILjava/lang/Object;II)V" } : Jvm.MethodName)) ∈ lw_all := lw_g (lw_at lw_m7 44 rfl) rfl
theorem q2396 : (Jvm.Cond.selects "LitStrangers$OrderReader" ({ cls := "LitStrangers$Reader", name := "sum", desc := "()LLitStrangers$Sum;" } : Jvm.MethodName) ({ cls := "LitStrangers$Reader", name := "sum", desc := "()LLitStrangers$Sum;" } : Jvm.MethodName)) ∈ lw_all := lw_g (lw_at lw_m10 118 rfl) rfl
theorem q2400 : (Jvm.Cond.selects "LitStrangers$OrderReader" ({ cls := "LitStrangers$Reader", name := "which", desc := "([Ljava/lang/String;)I" } : Jvm.MethodName) ({ cls := "LitStrangers$Reader", name := "which", desc := "([Ljava/lang/String;)I" } : Jvm.MethodName)) ∈ lw_all := lw_g (lw_at lw_m10 122 rfl) rfl
theorem q2406 : (Jvm.Cond.selects "LitStrangers$OrderReader" ({ cls := "LitStrangers$Reader", name := "test", desc := "()LLitStrangers$Test;" } : Jvm.MethodName) ({ cls := "LitStrangers$Reader", name := "test", desc := "()LLitStrangers$Test;" } : Jvm.MethodName)) ∈ lw_all := lw_g (lw_at lw_m10 128 rfl) rfl
theorem q2433 : (Jvm.Cond.castable "LitStrangers$OrderReader" "java/lang/Object") ∈ lw_tbl := lw_at lw_m10 155 rfl
theorem in_X25 : ∀ w ∈ wsX250, w ∈ lw_all := lw_in wsX250 [1586, 1587, 1588, 1589, 1590, 1591, 1592, 1593, 1582, 1584] (by decide +kernel) (by decide +kernel)
