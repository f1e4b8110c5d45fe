/-! LitStrangersModel -/
set_option maxRecDepth 100000
def RX6 : String := "LitStrangersModel"
def TX6 : u_T := fun k => match k with
  | 0 => ("LitStrangersModel", "status", "I", false)
  | 1 => ("LitStrangersModel", "refused", "[I", true)
  | 2 => ("LitStrangersModel", "kept", "[I", true)
  | 3 => ("LitStrangersModel", "images", "[I", true)
  | 4 => ("LitStrangersModel", "hasImage", "[Z", true)
  | 5 => ("LitStrangersModel", "ahead", "[I", true)
  | 6 => ("LitStrangersModel", "salt0", "I", false)
  | 7 => ("LitStrangersModel", "words", "[B", true)
  | 8 => ("LitStrangersModel", "firstWord", "I", false)
  | 9 => ("LitStrangersModel", "lastWord", "I", false)
  | 10 => ("LitStrangersModel", "isOrders", "Z", false)
  | 11 => ("LitStrangersModel", "tape", "[B", true)
  | 12 => ("LitStrangersModel", "five", "[I", true)
  | 13 => ("LitStrangersModel", "taped", "I", false)
  | 14 => ("LitStrangersModel", "fault", "I", false)
  | 15 => ("LitStrangersModel", "code", "[I", true)
  | 16 => ("LitStrangersModel", "value", "[I", true)
  | 17 => ("LitStrangersModel", "placed", "[I", true)
  | 18 => ("LitStrangersModel", "tokens", "I", false)
  | 19 => ("LitStrangersModel", "token", "I", false)
  | 20 => ("LitStrangersModel", "leaves", "I", false)
  | 21 => ("LitStrangersModel", "bad", "I", false)
  | 22 => ("LitStrangersModel", "go", "I", false)
  | 23 => ("LitStrangersModel", "goEnd", "I", false)
  | 24 => ("LitStrangersModel", "broken", "Z", false)
  | 25 => ("LitStrangersModel", "asked", "[I", true)
  | 26 => ("LitStrangersModel", "left", "[I", true)
  | 27 => ("LitStrangersModel", "leftAhead", "[I", true)
  | 28 => ("LitStrangersModel", "undoMany", "I", false)
  | 29 => ("LitStrangersModel", "comes", "[I", true)
  | 30 => ("LitStrangersModel", "spoils", "[I", true)
  | 31 => ("LitStrangersModel", "barred", "[B", true)
  | 32 => ("LitStrangersModel", "worths", "[I", true)
  | 33 => ("LitStrangersModel", "longest", "[B", true)
  | 34 => ("LitStrangersModel", "away", "I", false)
  | 35 => ("LitStrangersModel", "hushed", "I", false)
  | 36 => ("LitStrangersModel", "cheapest", "[I", true)
  | 37 => ("LitStrangersModel", "rows", "[J", true)
  | 38 => ("LitStrangersModel", "prices", "[I", true)
  | 39 => ("LitStrangersModel", "come", "[Z", true)
  | 40 => ("LitStrangersModel", "turning", "[B", true)
  | 41 => ("LitStrangersModel", "stopped0", "I", false)
  | 42 => ("LitStrangersModel", "orderDone", "I", false)
  | 43 => ("LitStrangersModel", "orderAt", "I", false)
  | 44 => ("LitStrangersModel", "timesOf", "I", false)
  | 45 => ("LitStrangersModel", "head", "I", false)
  | 46 => ("LitStrangersModel", "sumIs", "Z", false)
  | 47 => ("LitStrangersModel", "testIs", "Z", false)
  | 48 => ("LitStrangersModel", "sum0", "J", false)
  | 49 => ("LitStrangersModel", "drawnCrew", "[I", true)
  | 50 => ("LitStrangersModel", "drawnMany", "I", false)
  | _ => ("LitStrangersModel", "latest", "I", false)
def tyX6 : Nat → FieldType := fun k => match k with
  | 0 => .int
  | 1 => .array .int
  | 2 => .array .int
  | 3 => .array .int
  | 4 => .array .boolean
  | 5 => .array .int
  | 6 => .int
  | 7 => .array .byte
  | 8 => .int
  | 9 => .int
  | 10 => .boolean
  | 11 => .array .byte
  | 12 => .array .int
  | 13 => .int
  | 14 => .int
  | 15 => .array .int
  | 16 => .array .int
  | 17 => .array .int
  | 18 => .int
  | 19 => .int
  | 20 => .int
  | 21 => .int
  | 22 => .int
  | 23 => .int
  | 24 => .boolean
  | 25 => .array .int
  | 26 => .array .int
  | 27 => .array .int
  | 28 => .int
  | 29 => .array .int
  | 30 => .array .int
  | 31 => .array .byte
  | 32 => .array .int
  | 33 => .array .byte
  | 34 => .int
  | 35 => .int
  | 36 => .array .int
  | 37 => .array .long
  | 38 => .array .int
  | 39 => .array .boolean
  | 40 => .array .byte
  | 41 => .int
  | 42 => .int
  | 43 => .int
  | 44 => .int
  | 45 => .int
  | 46 => .boolean
  | 47 => .boolean
  | 48 => .long
  | 49 => .array .int
  | 50 => .int
  | _ => .int
abbrev wsX60 : List Cond := u_ws RX6 TX6 52
set_option maxRecDepth 100000 in
theorem nmX6 : ∀ a, a < 52 → ∀ b, b < 52 → a ≠ b → (TX6 a).2.1 ≠ (TX6 b).2.1 := by decide +kernel
set_option maxRecDepth 100000 in
theorem tyX6_ok : ∀ k, k < 52 → parseFieldDescriptor (TX6 k).2.2.1 = some (tyX6 k) := by decide +kernel
abbrev cX6_init : ByteArray := prog_29_method_8_code
def yX6_init : MethodName := ⟨RX6, "<init>", "()V"⟩
def dkwX6_init_49 : List UInt8 := [42, 180, 0, 24, 17, 0, 254, 6, 79, 42, 180, 0, 24, 17, 1, 2, 2, 79, 177]
abbrev dktX6_init_49 : List UInt8 := dkwX6_init_49 ++ []
def dkwX6_init_48 : List UInt8 := [181, 0, 93, 42, 18, 96, 188, 8, 181, 0, 97, 42, 2, 181, 0, 100, 42, 16, 60, 188, 10, 181, 0, 103]
abbrev dktX6_init_48 : List UInt8 := dkwX6_init_48 ++ dktX6_init_49
def dkwX6_init_47 : List UInt8 := [17, 44, 0, 188, 11, 181, 0, 86, 42, 16, 10, 188, 10, 181, 0, 90, 42, 17, 44, 0, 188, 4]
abbrev dktX6_init_47 : List UInt8 := dkwX6_init_47 ++ dktX6_init_48
def dkwX6_init_46 : List UInt8 := [188, 10, 181, 0, 77, 42, 17, 44, 0, 188, 8, 181, 0, 80, 42, 17, 44, 0, 188, 10, 181, 0, 83, 42]
abbrev dktX6_init_46 : List UInt8 := dkwX6_init_46 ++ dktX6_init_47
def dkwX6_init_45 : List UInt8 := [181, 0, 68, 42, 16, 100, 188, 10, 181, 0, 71, 42, 17, 1, 74, 188, 8, 181, 0, 74, 42, 16, 10]
abbrev dktX6_init_45 : List UInt8 := dkwX6_init_45 ++ dktX6_init_46
def dkwX6_init_44 : List UInt8 := [17, 2, 48, 188, 10, 181, 0, 62, 42, 17, 2, 48, 188, 10, 181, 0, 65, 42, 16, 10, 188, 10]
abbrev dktX6_init_44 : List UInt8 := dkwX6_init_44 ++ dktX6_init_45
def dkwX6_init_43 : List UInt8 := [188, 10, 181, 0, 53, 42, 17, 1, 145, 188, 10, 181, 0, 56, 42, 16, 10, 188, 10, 181, 0, 59, 42]
abbrev dktX6_init_43 : List UInt8 := dkwX6_init_43 ++ dktX6_init_44
def dkwX6_init_42 : List UInt8 := [188, 10, 181, 0, 44, 42, 2, 181, 0, 47, 42, 17, 1, 145, 188, 10, 181, 0, 50, 42, 17, 1, 145]
abbrev dktX6_init_42 : List UInt8 := dkwX6_init_42 ++ dktX6_init_43
def dkwX6_init_41 : List UInt8 := [16, 115, 84, 89, 17, 0, 152, 16, 32, 84, 181, 0, 37, 42, 17, 1, 144, 188, 8, 181, 0, 41, 42, 8]
abbrev dktX6_init_41 : List UInt8 := dkwX6_init_41 ++ dktX6_init_42
def dkwX6_init_40 : List UInt8 := [17, 0, 148, 16, 105, 84, 89, 17, 0, 149, 16, 109, 84, 89, 17, 0, 150, 16, 101, 84, 89, 17, 0, 151]
abbrev dktX6_init_40 : List UInt8 := dkwX6_init_40 ++ dktX6_init_41
def dkwX6_init_39 : List UInt8 := [89, 17, 0, 145, 16, 107, 84, 89, 17, 0, 146, 16, 32, 84, 89, 17, 0, 147, 16, 116, 84, 89]
abbrev dktX6_init_39 : List UInt8 := dkwX6_init_39 ++ dktX6_init_40
def dkwX6_init_38 : List UInt8 := [16, 32, 84, 89, 17, 0, 142, 16, 100, 84, 89, 17, 0, 143, 16, 97, 84, 89, 17, 0, 144, 16, 114, 84]
abbrev dktX6_init_38 : List UInt8 := dkwX6_init_38 ++ dktX6_init_39
def dkwX6_init_37 : List UInt8 := [17, 0, 138, 16, 103, 84, 89, 17, 0, 139, 16, 104, 84, 89, 17, 0, 140, 16, 116, 84, 89, 17, 0, 141]
abbrev dktX6_init_37 : List UInt8 := dkwX6_init_37 ++ dktX6_init_38
def dkwX6_init_36 : List UInt8 := [89, 17, 0, 135, 16, 32, 84, 89, 17, 0, 136, 16, 108, 84, 89, 17, 0, 137, 16, 105, 84, 89]
abbrev dktX6_init_36 : List UInt8 := dkwX6_init_36 ++ dktX6_init_37
def dkwX6_init_35 : List UInt8 := [16, 115, 84, 89, 17, 0, 132, 16, 101, 84, 89, 17, 0, 133, 16, 110, 84, 89, 17, 0, 134, 16, 100, 84]
abbrev dktX6_init_35 : List UInt8 := dkwX6_init_35 ++ dktX6_init_36
def dkwX6_init_34 : List UInt8 := [17, 0, 128, 16, 114, 84, 89, 17, 0, 129, 16, 101, 84, 89, 17, 0, 130, 16, 32, 84, 89, 17, 0, 131]
abbrev dktX6_init_34 : List UInt8 := dkwX6_init_34 ++ dktX6_init_35
def dkwX6_init_33 : List UInt8 := [16, 124, 16, 104, 84, 89, 16, 125, 16, 32, 84, 89, 16, 126, 16, 104, 84, 89, 16, 127, 16, 101, 84, 89]
abbrev dktX6_init_33 : List UInt8 := dkwX6_init_33 ++ dktX6_init_34
def dkwX6_init_32 : List UInt8 := [16, 120, 16, 119, 84, 89, 16, 121, 16, 111, 84, 89, 16, 122, 16, 114, 84, 89, 16, 123, 16, 116, 84, 89]
abbrev dktX6_init_32 : List UInt8 := dkwX6_init_32 ++ dktX6_init_33
def dkwX6_init_31 : List UInt8 := [16, 116, 16, 101, 84, 89, 16, 117, 16, 110, 84, 89, 16, 118, 16, 116, 84, 89, 16, 119, 16, 32, 84, 89]
abbrev dktX6_init_31 : List UInt8 := dkwX6_init_31 ++ dktX6_init_32
def dkwX6_init_30 : List UInt8 := [16, 112, 16, 101, 84, 89, 16, 113, 16, 32, 84, 89, 16, 114, 16, 115, 84, 89, 16, 115, 16, 112, 84, 89]
abbrev dktX6_init_30 : List UInt8 := dkwX6_init_30 ++ dktX6_init_31
def dkwX6_init_29 : List UInt8 := [16, 108, 16, 32, 84, 89, 16, 109, 16, 100, 84, 89, 16, 110, 16, 111, 84, 89, 16, 111, 16, 110, 84, 89]
abbrev dktX6_init_29 : List UInt8 := dkwX6_init_29 ++ dktX6_init_30
def dkwX6_init_28 : List UInt8 := [16, 104, 16, 103, 84, 89, 16, 105, 16, 104, 84, 89, 16, 106, 16, 116, 84, 89, 16, 107, 16, 115, 84, 89]
abbrev dktX6_init_28 : List UInt8 := dkwX6_init_28 ++ dktX6_init_29
def dkwX6_init_27 : List UInt8 := [16, 100, 16, 116, 84, 89, 16, 101, 16, 32, 84, 89, 16, 102, 16, 110, 84, 89, 16, 103, 16, 105, 84, 89]
abbrev dktX6_init_27 : List UInt8 := dkwX6_init_27 ++ dktX6_init_28
def dkwX6_init_26 : List UInt8 := [16, 96, 16, 121, 84, 89, 16, 97, 16, 32, 84, 89, 16, 98, 16, 108, 84, 89, 16, 99, 16, 105, 84, 89]
abbrev dktX6_init_26 : List UInt8 := dkwX6_init_26 ++ dktX6_init_27
def dkwX6_init_25 : List UInt8 := [16, 92, 16, 100, 84, 89, 16, 93, 16, 32, 84, 89, 16, 94, 16, 100, 84, 89, 16, 95, 16, 97, 84, 89]
abbrev dktX6_init_25 : List UInt8 := dkwX6_init_25 ++ dktX6_init_26
def dkwX6_init_24 : List UInt8 := [16, 88, 16, 32, 84, 89, 16, 89, 16, 109, 84, 89, 16, 90, 16, 111, 84, 89, 16, 91, 16, 111, 84, 89]
abbrev dktX6_init_24 : List UInt8 := dkwX6_init_24 ++ dktX6_init_25
def dkwX6_init_23 : List UInt8 := [16, 84, 16, 32, 84, 89, 16, 85, 16, 102, 84, 89, 16, 86, 16, 111, 84, 89, 16, 87, 16, 103, 84, 89]
abbrev dktX6_init_23 : List UInt8 := dkwX6_init_23 ++ dktX6_init_24
def dkwX6_init_22 : List UInt8 := [16, 80, 16, 32, 84, 89, 16, 81, 16, 102, 84, 89, 16, 82, 16, 97, 84, 89, 16, 83, 16, 114, 84, 89]
abbrev dktX6_init_22 : List UInt8 := dkwX6_init_22 ++ dktX6_init_23
def dkwX6_init_21 : List UInt8 := [16, 76, 16, 101, 84, 89, 16, 77, 16, 105, 84, 89, 16, 78, 16, 114, 84, 89, 16, 79, 16, 115, 84, 89]
abbrev dktX6_init_21 : List UInt8 := dkwX6_init_21 ++ dktX6_init_22
def dkwX6_init_20 : List UInt8 := [16, 72, 16, 114, 84, 89, 16, 73, 16, 32, 84, 89, 16, 74, 16, 116, 84, 89, 16, 75, 16, 104, 84, 89]
abbrev dktX6_init_20 : List UInt8 := dkwX6_init_20 ++ dktX6_init_21
def dkwX6_init_19 : List UInt8 := [16, 68, 16, 111, 84, 89, 16, 69, 16, 116, 84, 89, 16, 70, 16, 104, 84, 89, 16, 71, 16, 101, 84, 89]
abbrev dktX6_init_19 : List UInt8 := dkwX6_init_19 ++ dktX6_init_20
def dkwX6_init_18 : List UInt8 := [16, 64, 16, 97, 84, 89, 16, 65, 16, 114, 84, 89, 16, 66, 16, 100, 84, 89, 16, 67, 16, 32, 84, 89]
abbrev dktX6_init_18 : List UInt8 := dkwX6_init_18 ++ dktX6_init_19
def dkwX6_init_17 : List UInt8 := [16, 60, 16, 100, 84, 89, 16, 61, 16, 32, 84, 89, 16, 62, 16, 104, 84, 89, 16, 63, 16, 101, 84, 89]
abbrev dktX6_init_17 : List UInt8 := dkwX6_init_17 ++ dktX6_init_18
def dkwX6_init_16 : List UInt8 := [16, 56, 16, 32, 84, 89, 16, 57, 16, 108, 84, 89, 16, 58, 16, 97, 84, 89, 16, 59, 16, 110, 84, 89]
abbrev dktX6_init_16 : List UInt8 := dkwX6_init_16 ++ dktX6_init_17
def dkwX6_init_15 : List UInt8 := [16, 52, 16, 114, 84, 89, 16, 53, 16, 111, 84, 89, 16, 54, 16, 97, 84, 89, 16, 55, 16, 100, 84, 89]
abbrev dktX6_init_15 : List UInt8 := dkwX6_init_15 ++ dktX6_init_16
def dkwX6_init_14 : List UInt8 := [16, 48, 16, 115, 84, 89, 16, 49, 16, 111, 84, 89, 16, 50, 16, 110, 84, 89, 16, 51, 16, 32, 84, 89]
abbrev dktX6_init_14 : List UInt8 := dkwX6_init_14 ++ dktX6_init_15
def dkwX6_init_13 : List UInt8 := [16, 44, 16, 32, 84, 89, 16, 45, 16, 112, 84, 89, 16, 46, 16, 101, 84, 89, 16, 47, 16, 114, 84, 89]
abbrev dktX6_init_13 : List UInt8 := dkwX6_init_13 ++ dktX6_init_14
def dkwX6_init_12 : List UInt8 := [16, 40, 16, 32, 84, 89, 16, 41, 16, 110, 84, 89, 16, 42, 16, 111, 84, 89, 16, 43, 16, 116, 84, 89]
abbrev dktX6_init_12 : List UInt8 := dkwX6_init_12 ++ dktX6_init_13
def dkwX6_init_11 : List UInt8 := [16, 36, 16, 32, 84, 89, 16, 37, 16, 97, 84, 89, 16, 38, 16, 110, 84, 89, 16, 39, 16, 100, 84, 89]
abbrev dktX6_init_11 : List UInt8 := dkwX6_init_11 ++ dktX6_init_12
def dkwX6_init_10 : List UInt8 := [16, 32, 16, 102, 84, 89, 16, 33, 16, 32, 84, 89, 16, 34, 16, 111, 84, 89, 16, 35, 16, 114, 84, 89]
abbrev dktX6_init_10 : List UInt8 := dkwX6_init_10 ++ dktX6_init_11
def dkwX6_init_9 : List UInt8 := [16, 28, 16, 114, 84, 89, 16, 29, 16, 115, 84, 89, 16, 30, 16, 32, 84, 89, 16, 31, 16, 105, 84, 89]
abbrev dktX6_init_9 : List UInt8 := dkwX6_init_9 ++ dktX6_init_10
def dkwX6_init_8 : List UInt8 := [16, 24, 16, 115, 84, 89, 16, 25, 16, 32, 84, 89, 16, 26, 16, 98, 84, 89, 16, 27, 16, 97, 84, 89]
abbrev dktX6_init_8 : List UInt8 := dkwX6_init_8 ++ dktX6_init_9
def dkwX6_init_7 : List UInt8 := [16, 20, 16, 112, 84, 89, 16, 21, 16, 111, 84, 89, 16, 22, 16, 105, 84, 89, 16, 23, 16, 108, 84, 89]
abbrev dktX6_init_7 : List UInt8 := dkwX6_init_7 ++ dktX6_init_8
def dkwX6_init_6 : List UInt8 := [16, 16, 16, 101, 84, 89, 16, 17, 16, 115, 84, 89, 16, 18, 16, 32, 84, 89, 16, 19, 16, 115, 84, 89]
abbrev dktX6_init_6 : List UInt8 := dkwX6_init_6 ++ dktX6_init_7
def dkwX6_init_5 : List UInt8 := [16, 12, 16, 108, 84, 89, 16, 13, 16, 111, 84, 89, 16, 14, 16, 100, 84, 89, 16, 15, 16, 103, 84, 89]
abbrev dktX6_init_5 : List UInt8 := dkwX6_init_5 ++ dktX6_init_6
def dkwX6_init_4 : List UInt8 := [16, 8, 16, 115, 84, 89, 16, 9, 16, 116, 84, 89, 16, 10, 16, 115, 84, 89, 16, 11, 16, 32, 84, 89]
abbrev dktX6_init_4 : List UInt8 := dkwX6_init_4 ++ dktX6_init_5
def dkwX6_init_3 : List UInt8 := [84, 89, 7, 16, 115, 84, 89, 8, 16, 32, 84, 89, 16, 6, 16, 99, 84, 89, 16, 7, 16, 111, 84, 89]
abbrev dktX6_init_3 : List UInt8 := dkwX6_init_3 ++ dktX6_init_4
def dkwX6_init_2 : List UInt8 := [17, 0, 153, 188, 8, 89, 3, 16, 116, 84, 89, 4, 16, 97, 84, 89, 5, 16, 107, 84, 89, 6, 16, 101]
abbrev dktX6_init_2 : List UInt8 := dkwX6_init_2 ++ dktX6_init_3
def dkwX6_init_1 : List UInt8 := [17, 45, 212, 188, 10, 181, 0, 27, 42, 5, 188, 4, 181, 0, 30, 42, 16, 34, 188, 10, 181, 0, 34, 42]
abbrev dktX6_init_1 : List UInt8 := dkwX6_init_1 ++ dktX6_init_2
def dkwX6_init_0 : List UInt8 := [42, 183, 0, 18, 42, 16, 7, 188, 10, 181, 0, 7, 42, 17, 22, 234, 188, 10, 181, 0, 24, 42]
abbrev dktX6_init_0 : List UInt8 := dkwX6_init_0 ++ dktX6_init_1
theorem dksX6_init_0 : cX6_init.data.toList.drop 0 = dktX6_init_0 := by decide +kernel
theorem dksX6_init_1 : cX6_init.data.toList.drop 22 = dktX6_init_1 := dk_seg dksX6_init_0 22 rfl rfl
theorem dksX6_init_2 : cX6_init.data.toList.drop 46 = dktX6_init_2 := dk_seg dksX6_init_1 24 rfl rfl
theorem dksX6_init_3 : cX6_init.data.toList.drop 70 = dktX6_init_3 := dk_seg dksX6_init_2 24 rfl rfl
theorem dksX6_init_4 : cX6_init.data.toList.drop 94 = dktX6_init_4 := dk_seg dksX6_init_3 24 rfl rfl
theorem dksX6_init_5 : cX6_init.data.toList.drop 118 = dktX6_init_5 := dk_seg dksX6_init_4 24 rfl rfl
theorem dksX6_init_6 : cX6_init.data.toList.drop 142 = dktX6_init_6 := dk_seg dksX6_init_5 24 rfl rfl
theorem dksX6_init_7 : cX6_init.data.toList.drop 166 = dktX6_init_7 := dk_seg dksX6_init_6 24 rfl rfl
theorem dksX6_init_8 : cX6_init.data.toList.drop 190 = dktX6_init_8 := dk_seg dksX6_init_7 24 rfl rfl
theorem dksX6_init_9 : cX6_init.data.toList.drop 214 = dktX6_init_9 := dk_seg dksX6_init_8 24 rfl rfl
theorem dksX6_init_10 : cX6_init.data.toList.drop 238 = dktX6_init_10 := dk_seg dksX6_init_9 24 rfl rfl
theorem dksX6_init_11 : cX6_init.data.toList.drop 262 = dktX6_init_11 := dk_seg dksX6_init_10 24 rfl rfl
theorem dksX6_init_12 : cX6_init.data.toList.drop 286 = dktX6_init_12 := dk_seg dksX6_init_11 24 rfl rfl
theorem dksX6_init_13 : cX6_init.data.toList.drop 310 = dktX6_init_13 := dk_seg dksX6_init_12 24 rfl rfl
theorem dksX6_init_14 : cX6_init.data.toList.drop 334 = dktX6_init_14 := dk_seg dksX6_init_13 24 rfl rfl
theorem dksX6_init_15 : cX6_init.data.toList.drop 358 = dktX6_init_15 := dk_seg dksX6_init_14 24 rfl rfl
theorem dksX6_init_16 : cX6_init.data.toList.drop 382 = dktX6_init_16 := dk_seg dksX6_init_15 24 rfl rfl
theorem dksX6_init_17 : cX6_init.data.toList.drop 406 = dktX6_init_17 := dk_seg dksX6_init_16 24 rfl rfl
theorem dksX6_init_18 : cX6_init.data.toList.drop 430 = dktX6_init_18 := dk_seg dksX6_init_17 24 rfl rfl
theorem dksX6_init_19 : cX6_init.data.toList.drop 454 = dktX6_init_19 := dk_seg dksX6_init_18 24 rfl rfl
theorem dksX6_init_20 : cX6_init.data.toList.drop 478 = dktX6_init_20 := dk_seg dksX6_init_19 24 rfl rfl
theorem dksX6_init_21 : cX6_init.data.toList.drop 502 = dktX6_init_21 := dk_seg dksX6_init_20 24 rfl rfl
theorem dksX6_init_22 : cX6_init.data.toList.drop 526 = dktX6_init_22 := dk_seg dksX6_init_21 24 rfl rfl
theorem dksX6_init_23 : cX6_init.data.toList.drop 550 = dktX6_init_23 := dk_seg dksX6_init_22 24 rfl rfl
theorem dksX6_init_24 : cX6_init.data.toList.drop 574 = dktX6_init_24 := dk_seg dksX6_init_23 24 rfl rfl
theorem dksX6_init_25 : cX6_init.data.toList.drop 598 = dktX6_init_25 := dk_seg dksX6_init_24 24 rfl rfl
theorem dksX6_init_26 : cX6_init.data.toList.drop 622 = dktX6_init_26 := dk_seg dksX6_init_25 24 rfl rfl
theorem dksX6_init_27 : cX6_init.data.toList.drop 646 = dktX6_init_27 := dk_seg dksX6_init_26 24 rfl rfl
theorem dksX6_init_28 : cX6_init.data.toList.drop 670 = dktX6_init_28 := dk_seg dksX6_init_27 24 rfl rfl
theorem dksX6_init_29 : cX6_init.data.toList.drop 694 = dktX6_init_29 := dk_seg dksX6_init_28 24 rfl rfl
theorem dksX6_init_30 : cX6_init.data.toList.drop 718 = dktX6_init_30 := dk_seg dksX6_init_29 24 rfl rfl
theorem dksX6_init_31 : cX6_init.data.toList.drop 742 = dktX6_init_31 := dk_seg dksX6_init_30 24 rfl rfl
theorem dksX6_init_32 : cX6_init.data.toList.drop 766 = dktX6_init_32 := dk_seg dksX6_init_31 24 rfl rfl
theorem dksX6_init_33 : cX6_init.data.toList.drop 790 = dktX6_init_33 := dk_seg dksX6_init_32 24 rfl rfl
theorem dksX6_init_34 : cX6_init.data.toList.drop 814 = dktX6_init_34 := dk_seg dksX6_init_33 24 rfl rfl
theorem dksX6_init_35 : cX6_init.data.toList.drop 838 = dktX6_init_35 := dk_seg dksX6_init_34 24 rfl rfl
theorem dksX6_init_36 : cX6_init.data.toList.drop 862 = dktX6_init_36 := dk_seg dksX6_init_35 24 rfl rfl
theorem dksX6_init_37 : cX6_init.data.toList.drop 884 = dktX6_init_37 := dk_seg dksX6_init_36 22 rfl rfl
theorem dksX6_init_38 : cX6_init.data.toList.drop 908 = dktX6_init_38 := dk_seg dksX6_init_37 24 rfl rfl
theorem dksX6_init_39 : cX6_init.data.toList.drop 932 = dktX6_init_39 := dk_seg dksX6_init_38 24 rfl rfl
theorem dksX6_init_40 : cX6_init.data.toList.drop 954 = dktX6_init_40 := dk_seg dksX6_init_39 22 rfl rfl
theorem dksX6_init_41 : cX6_init.data.toList.drop 978 = dktX6_init_41 := dk_seg dksX6_init_40 24 rfl rfl
theorem dksX6_init_42 : cX6_init.data.toList.drop 1002 = dktX6_init_42 := dk_seg dksX6_init_41 24 rfl rfl
theorem dksX6_init_43 : cX6_init.data.toList.drop 1025 = dktX6_init_43 := dk_seg dksX6_init_42 23 rfl rfl
theorem dksX6_init_44 : cX6_init.data.toList.drop 1048 = dktX6_init_44 := dk_seg dksX6_init_43 23 rfl rfl
theorem dksX6_init_45 : cX6_init.data.toList.drop 1070 = dktX6_init_45 := dk_seg dksX6_init_44 22 rfl rfl
theorem dksX6_init_46 : cX6_init.data.toList.drop 1093 = dktX6_init_46 := dk_seg dksX6_init_45 23 rfl rfl
theorem dksX6_init_47 : cX6_init.data.toList.drop 1117 = dktX6_init_47 := dk_seg dksX6_init_46 24 rfl rfl
theorem dksX6_init_48 : cX6_init.data.toList.drop 1139 = dktX6_init_48 := dk_seg dksX6_init_47 22 rfl rfl
theorem dksX6_init_49 : cX6_init.data.toList.drop 1163 = dktX6_init_49 := dk_seg dksX6_init_48 24 rfl rfl
theorem dX6_init_0 : decode cX6_init 0 = .ok (.aload_n 0, 1) := dk_42 (dk_at dksX6_init_0 0 rfl rfl)
theorem dX6_init_1 : decode cX6_init 1 = .ok (.invokespecial 18, 3) := dk_183 0 18 (dk_at dksX6_init_0 1 rfl rfl)
theorem dX6_init_4 : decode cX6_init 4 = .ok (.aload_n 0, 1) := dk_42 (dk_at dksX6_init_0 4 rfl rfl)
theorem dX6_init_5 : decode cX6_init 5 = .ok (.bipush 7, 2) := dk_16 7 (dk_at dksX6_init_0 5 rfl rfl)
theorem dX6_init_7 : decode cX6_init 7 = .ok (.newarray .int, 2) := dk_188_10 (dk_at dksX6_init_0 7 rfl rfl)
theorem dX6_init_9 : decode cX6_init 9 = .ok (.putfield 7, 3) := dk_181 0 7 (dk_at dksX6_init_0 9 rfl rfl)
theorem dX6_init_12 : decode cX6_init 12 = .ok (.aload_n 0, 1) := dk_42 (dk_at dksX6_init_0 12 rfl rfl)
theorem dX6_init_13 : decode cX6_init 13 = .ok (.sipush 5866, 3) := dk_17 22 234 (dk_at dksX6_init_0 13 rfl rfl)
theorem dX6_init_16 : decode cX6_init 16 = .ok (.newarray .int, 2) := dk_188_10 (dk_at dksX6_init_0 16 rfl rfl)
theorem dX6_init_18 : decode cX6_init 18 = .ok (.putfield 24, 3) := dk_181 0 24 (dk_at dksX6_init_0 18 rfl rfl)
theorem dX6_init_21 : decode cX6_init 21 = .ok (.aload_n 0, 1) := dk_42 (dk_at dksX6_init_0 21 rfl rfl)
theorem dX6_init_22 : decode cX6_init 22 = .ok (.sipush 11732, 3) := dk_17 45 212 (dk_at dksX6_init_1 0 rfl rfl)
theorem dX6_init_25 : decode cX6_init 25 = .ok (.newarray .int, 2) := dk_188_10 (dk_at dksX6_init_1 3 rfl rfl)
theorem dX6_init_27 : decode cX6_init 27 = .ok (.putfield 27, 3) := dk_181 0 27 (dk_at dksX6_init_1 5 rfl rfl)
theorem dX6_init_30 : decode cX6_init 30 = .ok (.aload_n 0, 1) := dk_42 (dk_at dksX6_init_1 8 rfl rfl)
theorem dX6_init_31 : decode cX6_init 31 = .ok (.iconst 2, 1) := dk_5 (dk_at dksX6_init_1 9 rfl rfl)
theorem dX6_init_32 : decode cX6_init 32 = .ok (.newarray .boolean, 2) := dk_188_4 (dk_at dksX6_init_1 10 rfl rfl)
theorem dX6_init_34 : decode cX6_init 34 = .ok (.putfield 30, 3) := dk_181 0 30 (dk_at dksX6_init_1 12 rfl rfl)
theorem dX6_init_37 : decode cX6_init 37 = .ok (.aload_n 0, 1) := dk_42 (dk_at dksX6_init_1 15 rfl rfl)
theorem dX6_init_38 : decode cX6_init 38 = .ok (.bipush 34, 2) := dk_16 34 (dk_at dksX6_init_1 16 rfl rfl)
theorem dX6_init_40 : decode cX6_init 40 = .ok (.newarray .int, 2) := dk_188_10 (dk_at dksX6_init_1 18 rfl rfl)
theorem dX6_init_42 : decode cX6_init 42 = .ok (.putfield 34, 3) := dk_181 0 34 (dk_at dksX6_init_1 20 rfl rfl)
theorem dX6_init_45 : decode cX6_init 45 = .ok (.aload_n 0, 1) := dk_42 (dk_at dksX6_init_1 23 rfl rfl)
theorem dX6_init_46 : decode cX6_init 46 = .ok (.sipush 153, 3) := dk_17 0 153 (dk_at dksX6_init_2 0 rfl rfl)
theorem dX6_init_49 : decode cX6_init 49 = .ok (.newarray .byte, 2) := dk_188_8 (dk_at dksX6_init_2 3 rfl rfl)
theorem dX6_init_51 : decode cX6_init 51 = .ok (.dup, 1) := dk_89 (dk_at dksX6_init_2 5 rfl rfl)
theorem dX6_init_52 : decode cX6_init 52 = .ok (.iconst 0, 1) := dk_3 (dk_at dksX6_init_2 6 rfl rfl)
theorem dX6_init_53 : decode cX6_init 53 = .ok (.bipush 116, 2) := dk_16 116 (dk_at dksX6_init_2 7 rfl rfl)
theorem dX6_init_55 : decode cX6_init 55 = .ok (.bastore, 1) := dk_84 (dk_at dksX6_init_2 9 rfl rfl)
theorem dX6_init_56 : decode cX6_init 56 = .ok (.dup, 1) := dk_89 (dk_at dksX6_init_2 10 rfl rfl)
theorem dX6_init_57 : decode cX6_init 57 = .ok (.iconst 1, 1) := dk_4 (dk_at dksX6_init_2 11 rfl rfl)
theorem dX6_init_58 : decode cX6_init 58 = .ok (.bipush 97, 2) := dk_16 97 (dk_at dksX6_init_2 12 rfl rfl)
theorem dX6_init_60 : decode cX6_init 60 = .ok (.bastore, 1) := dk_84 (dk_at dksX6_init_2 14 rfl rfl)
theorem dX6_init_61 : decode cX6_init 61 = .ok (.dup, 1) := dk_89 (dk_at dksX6_init_2 15 rfl rfl)
theorem dX6_init_62 : decode cX6_init 62 = .ok (.iconst 2, 1) := dk_5 (dk_at dksX6_init_2 16 rfl rfl)
theorem dX6_init_63 : decode cX6_init 63 = .ok (.bipush 107, 2) := dk_16 107 (dk_at dksX6_init_2 17 rfl rfl)
theorem dX6_init_65 : decode cX6_init 65 = .ok (.bastore, 1) := dk_84 (dk_at dksX6_init_2 19 rfl rfl)
theorem dX6_init_66 : decode cX6_init 66 = .ok (.dup, 1) := dk_89 (dk_at dksX6_init_2 20 rfl rfl)
theorem dX6_init_67 : decode cX6_init 67 = .ok (.iconst 3, 1) := dk_6 (dk_at dksX6_init_2 21 rfl rfl)
theorem dX6_init_68 : decode cX6_init 68 = .ok (.bipush 101, 2) := dk_16 101 (dk_at dksX6_init_2 22 rfl rfl)
theorem dX6_init_70 : decode cX6_init 70 = .ok (.bastore, 1) := dk_84 (dk_at dksX6_init_3 0 rfl rfl)
theorem dX6_init_71 : decode cX6_init 71 = .ok (.dup, 1) := dk_89 (dk_at dksX6_init_3 1 rfl rfl)
theorem dX6_init_72 : decode cX6_init 72 = .ok (.iconst 4, 1) := dk_7 (dk_at dksX6_init_3 2 rfl rfl)
theorem dX6_init_73 : decode cX6_init 73 = .ok (.bipush 115, 2) := dk_16 115 (dk_at dksX6_init_3 3 rfl rfl)
theorem dX6_init_75 : decode cX6_init 75 = .ok (.bastore, 1) := dk_84 (dk_at dksX6_init_3 5 rfl rfl)
theorem dX6_init_76 : decode cX6_init 76 = .ok (.dup, 1) := dk_89 (dk_at dksX6_init_3 6 rfl rfl)
theorem dX6_init_77 : decode cX6_init 77 = .ok (.iconst 5, 1) := dk_8 (dk_at dksX6_init_3 7 rfl rfl)
theorem dX6_init_78 : decode cX6_init 78 = .ok (.bipush 32, 2) := dk_16 32 (dk_at dksX6_init_3 8 rfl rfl)
theorem dX6_init_80 : decode cX6_init 80 = .ok (.bastore, 1) := dk_84 (dk_at dksX6_init_3 10 rfl rfl)
theorem dX6_init_81 : decode cX6_init 81 = .ok (.dup, 1) := dk_89 (dk_at dksX6_init_3 11 rfl rfl)
theorem dX6_init_82 : decode cX6_init 82 = .ok (.bipush 6, 2) := dk_16 6 (dk_at dksX6_init_3 12 rfl rfl)
theorem dX6_init_84 : decode cX6_init 84 = .ok (.bipush 99, 2) := dk_16 99 (dk_at dksX6_init_3 14 rfl rfl)
theorem dX6_init_86 : decode cX6_init 86 = .ok (.bastore, 1) := dk_84 (dk_at dksX6_init_3 16 rfl rfl)
theorem dX6_init_87 : decode cX6_init 87 = .ok (.dup, 1) := dk_89 (dk_at dksX6_init_3 17 rfl rfl)
theorem dX6_init_88 : decode cX6_init 88 = .ok (.bipush 7, 2) := dk_16 7 (dk_at dksX6_init_3 18 rfl rfl)
theorem dX6_init_90 : decode cX6_init 90 = .ok (.bipush 111, 2) := dk_16 111 (dk_at dksX6_init_3 20 rfl rfl)
theorem dX6_init_92 : decode cX6_init 92 = .ok (.bastore, 1) := dk_84 (dk_at dksX6_init_3 22 rfl rfl)
theorem dX6_init_93 : decode cX6_init 93 = .ok (.dup, 1) := dk_89 (dk_at dksX6_init_3 23 rfl rfl)
theorem dX6_init_94 : decode cX6_init 94 = .ok (.bipush 8, 2) := dk_16 8 (dk_at dksX6_init_4 0 rfl rfl)
theorem dX6_init_96 : decode cX6_init 96 = .ok (.bipush 115, 2) := dk_16 115 (dk_at dksX6_init_4 2 rfl rfl)
theorem dX6_init_98 : decode cX6_init 98 = .ok (.bastore, 1) := dk_84 (dk_at dksX6_init_4 4 rfl rfl)
theorem dX6_init_99 : decode cX6_init 99 = .ok (.dup, 1) := dk_89 (dk_at dksX6_init_4 5 rfl rfl)
theorem dX6_init_100 : decode cX6_init 100 = .ok (.bipush 9, 2) := dk_16 9 (dk_at dksX6_init_4 6 rfl rfl)
theorem dX6_init_102 : decode cX6_init 102 = .ok (.bipush 116, 2) := dk_16 116 (dk_at dksX6_init_4 8 rfl rfl)
theorem dX6_init_104 : decode cX6_init 104 = .ok (.bastore, 1) := dk_84 (dk_at dksX6_init_4 10 rfl rfl)
theorem dX6_init_105 : decode cX6_init 105 = .ok (.dup, 1) := dk_89 (dk_at dksX6_init_4 11 rfl rfl)
theorem dX6_init_106 : decode cX6_init 106 = .ok (.bipush 10, 2) := dk_16 10 (dk_at dksX6_init_4 12 rfl rfl)
theorem dX6_init_108 : decode cX6_init 108 = .ok (.bipush 115, 2) := dk_16 115 (dk_at dksX6_init_4 14 rfl rfl)
theorem dX6_init_110 : decode cX6_init 110 = .ok (.bastore, 1) := dk_84 (dk_at dksX6_init_4 16 rfl rfl)
theorem dX6_init_111 : decode cX6_init 111 = .ok (.dup, 1) := dk_89 (dk_at dksX6_init_4 17 rfl rfl)
theorem dX6_init_112 : decode cX6_init 112 = .ok (.bipush 11, 2) := dk_16 11 (dk_at dksX6_init_4 18 rfl rfl)
theorem dX6_init_114 : decode cX6_init 114 = .ok (.bipush 32, 2) := dk_16 32 (dk_at dksX6_init_4 20 rfl rfl)
theorem dX6_init_116 : decode cX6_init 116 = .ok (.bastore, 1) := dk_84 (dk_at dksX6_init_4 22 rfl rfl)
theorem dX6_init_117 : decode cX6_init 117 = .ok (.dup, 1) := dk_89 (dk_at dksX6_init_4 23 rfl rfl)
theorem dX6_init_118 : decode cX6_init 118 = .ok (.bipush 12, 2) := dk_16 12 (dk_at dksX6_init_5 0 rfl rfl)
theorem dX6_init_120 : decode cX6_init 120 = .ok (.bipush 108, 2) := dk_16 108 (dk_at dksX6_init_5 2 rfl rfl)
theorem dX6_init_122 : decode cX6_init 122 = .ok (.bastore, 1) := dk_84 (dk_at dksX6_init_5 4 rfl rfl)
theorem dX6_init_123 : decode cX6_init 123 = .ok (.dup, 1) := dk_89 (dk_at dksX6_init_5 5 rfl rfl)
theorem dX6_init_124 : decode cX6_init 124 = .ok (.bipush 13, 2) := dk_16 13 (dk_at dksX6_init_5 6 rfl rfl)
theorem dX6_init_126 : decode cX6_init 126 = .ok (.bipush 111, 2) := dk_16 111 (dk_at dksX6_init_5 8 rfl rfl)
theorem dX6_init_128 : decode cX6_init 128 = .ok (.bastore, 1) := dk_84 (dk_at dksX6_init_5 10 rfl rfl)
theorem dX6_init_129 : decode cX6_init 129 = .ok (.dup, 1) := dk_89 (dk_at dksX6_init_5 11 rfl rfl)
theorem dX6_init_130 : decode cX6_init 130 = .ok (.bipush 14, 2) := dk_16 14 (dk_at dksX6_init_5 12 rfl rfl)
theorem dX6_init_132 : decode cX6_init 132 = .ok (.bipush 100, 2) := dk_16 100 (dk_at dksX6_init_5 14 rfl rfl)
theorem dX6_init_134 : decode cX6_init 134 = .ok (.bastore, 1) := dk_84 (dk_at dksX6_init_5 16 rfl rfl)
theorem dX6_init_135 : decode cX6_init 135 = .ok (.dup, 1) := dk_89 (dk_at dksX6_init_5 17 rfl rfl)
theorem dX6_init_136 : decode cX6_init 136 = .ok (.bipush 15, 2) := dk_16 15 (dk_at dksX6_init_5 18 rfl rfl)
theorem dX6_init_138 : decode cX6_init 138 = .ok (.bipush 103, 2) := dk_16 103 (dk_at dksX6_init_5 20 rfl rfl)
theorem dX6_init_140 : decode cX6_init 140 = .ok (.bastore, 1) := dk_84 (dk_at dksX6_init_5 22 rfl rfl)
theorem dX6_init_141 : decode cX6_init 141 = .ok (.dup, 1) := dk_89 (dk_at dksX6_init_5 23 rfl rfl)
theorem dX6_init_142 : decode cX6_init 142 = .ok (.bipush 16, 2) := dk_16 16 (dk_at dksX6_init_6 0 rfl rfl)
theorem dX6_init_144 : decode cX6_init 144 = .ok (.bipush 101, 2) := dk_16 101 (dk_at dksX6_init_6 2 rfl rfl)
theorem dX6_init_146 : decode cX6_init 146 = .ok (.bastore, 1) := dk_84 (dk_at dksX6_init_6 4 rfl rfl)
theorem dX6_init_147 : decode cX6_init 147 = .ok (.dup, 1) := dk_89 (dk_at dksX6_init_6 5 rfl rfl)
theorem dX6_init_148 : decode cX6_init 148 = .ok (.bipush 17, 2) := dk_16 17 (dk_at dksX6_init_6 6 rfl rfl)
theorem dX6_init_150 : decode cX6_init 150 = .ok (.bipush 115, 2) := dk_16 115 (dk_at dksX6_init_6 8 rfl rfl)
theorem dX6_init_152 : decode cX6_init 152 = .ok (.bastore, 1) := dk_84 (dk_at dksX6_init_6 10 rfl rfl)
theorem dX6_init_153 : decode cX6_init 153 = .ok (.dup, 1) := dk_89 (dk_at dksX6_init_6 11 rfl rfl)
theorem dX6_init_154 : decode cX6_init 154 = .ok (.bipush 18, 2) := dk_16 18 (dk_at dksX6_init_6 12 rfl rfl)
theorem dX6_init_156 : decode cX6_init 156 = .ok (.bipush 32, 2) := dk_16 32 (dk_at dksX6_init_6 14 rfl rfl)
theorem dX6_init_158 : decode cX6_init 158 = .ok (.bastore, 1) := dk_84 (dk_at dksX6_init_6 16 rfl rfl)
theorem dX6_init_159 : decode cX6_init 159 = .ok (.dup, 1) := dk_89 (dk_at dksX6_init_6 17 rfl rfl)
theorem dX6_init_160 : decode cX6_init 160 = .ok (.bipush 19, 2) := dk_16 19 (dk_at dksX6_init_6 18 rfl rfl)
theorem dX6_init_162 : decode cX6_init 162 = .ok (.bipush 115, 2) := dk_16 115 (dk_at dksX6_init_6 20 rfl rfl)
theorem dX6_init_164 : decode cX6_init 164 = .ok (.bastore, 1) := dk_84 (dk_at dksX6_init_6 22 rfl rfl)
theorem dX6_init_165 : decode cX6_init 165 = .ok (.dup, 1) := dk_89 (dk_at dksX6_init_6 23 rfl rfl)
theorem dX6_init_166 : decode cX6_init 166 = .ok (.bipush 20, 2) := dk_16 20 (dk_at dksX6_init_7 0 rfl rfl)
theorem dX6_init_168 : decode cX6_init 168 = .ok (.bipush 112, 2) := dk_16 112 (dk_at dksX6_init_7 2 rfl rfl)
theorem dX6_init_170 : decode cX6_init 170 = .ok (.bastore, 1) := dk_84 (dk_at dksX6_init_7 4 rfl rfl)
theorem dX6_init_171 : decode cX6_init 171 = .ok (.dup, 1) := dk_89 (dk_at dksX6_init_7 5 rfl rfl)
theorem dX6_init_172 : decode cX6_init 172 = .ok (.bipush 21, 2) := dk_16 21 (dk_at dksX6_init_7 6 rfl rfl)
theorem dX6_init_174 : decode cX6_init 174 = .ok (.bipush 111, 2) := dk_16 111 (dk_at dksX6_init_7 8 rfl rfl)
theorem dX6_init_176 : decode cX6_init 176 = .ok (.bastore, 1) := dk_84 (dk_at dksX6_init_7 10 rfl rfl)
theorem dX6_init_177 : decode cX6_init 177 = .ok (.dup, 1) := dk_89 (dk_at dksX6_init_7 11 rfl rfl)
theorem dX6_init_178 : decode cX6_init 178 = .ok (.bipush 22, 2) := dk_16 22 (dk_at dksX6_init_7 12 rfl rfl)
theorem dX6_init_180 : decode cX6_init 180 = .ok (.bipush 105, 2) := dk_16 105 (dk_at dksX6_init_7 14 rfl rfl)
theorem dX6_init_182 : decode cX6_init 182 = .ok (.bastore, 1) := dk_84 (dk_at dksX6_init_7 16 rfl rfl)
theorem dX6_init_183 : decode cX6_init 183 = .ok (.dup, 1) := dk_89 (dk_at dksX6_init_7 17 rfl rfl)
theorem dX6_init_184 : decode cX6_init 184 = .ok (.bipush 23, 2) := dk_16 23 (dk_at dksX6_init_7 18 rfl rfl)
theorem dX6_init_186 : decode cX6_init 186 = .ok (.bipush 108, 2) := dk_16 108 (dk_at dksX6_init_7 20 rfl rfl)
theorem dX6_init_188 : decode cX6_init 188 = .ok (.bastore, 1) := dk_84 (dk_at dksX6_init_7 22 rfl rfl)
theorem dX6_init_189 : decode cX6_init 189 = .ok (.dup, 1) := dk_89 (dk_at dksX6_init_7 23 rfl rfl)
theorem dX6_init_190 : decode cX6_init 190 = .ok (.bipush 24, 2) := dk_16 24 (dk_at dksX6_init_8 0 rfl rfl)
theorem dX6_init_192 : decode cX6_init 192 = .ok (.bipush 115, 2) := dk_16 115 (dk_at dksX6_init_8 2 rfl rfl)
theorem dX6_init_194 : decode cX6_init 194 = .ok (.bastore, 1) := dk_84 (dk_at dksX6_init_8 4 rfl rfl)
theorem dX6_init_195 : decode cX6_init 195 = .ok (.dup, 1) := dk_89 (dk_at dksX6_init_8 5 rfl rfl)
theorem dX6_init_196 : decode cX6_init 196 = .ok (.bipush 25, 2) := dk_16 25 (dk_at dksX6_init_8 6 rfl rfl)
theorem dX6_init_198 : decode cX6_init 198 = .ok (.bipush 32, 2) := dk_16 32 (dk_at dksX6_init_8 8 rfl rfl)
theorem dX6_init_200 : decode cX6_init 200 = .ok (.bastore, 1) := dk_84 (dk_at dksX6_init_8 10 rfl rfl)
theorem dX6_init_201 : decode cX6_init 201 = .ok (.dup, 1) := dk_89 (dk_at dksX6_init_8 11 rfl rfl)
theorem dX6_init_202 : decode cX6_init 202 = .ok (.bipush 26, 2) := dk_16 26 (dk_at dksX6_init_8 12 rfl rfl)
theorem dX6_init_204 : decode cX6_init 204 = .ok (.bipush 98, 2) := dk_16 98 (dk_at dksX6_init_8 14 rfl rfl)
theorem dX6_init_206 : decode cX6_init 206 = .ok (.bastore, 1) := dk_84 (dk_at dksX6_init_8 16 rfl rfl)
theorem dX6_init_207 : decode cX6_init 207 = .ok (.dup, 1) := dk_89 (dk_at dksX6_init_8 17 rfl rfl)
theorem dX6_init_208 : decode cX6_init 208 = .ok (.bipush 27, 2) := dk_16 27 (dk_at dksX6_init_8 18 rfl rfl)
theorem dX6_init_210 : decode cX6_init 210 = .ok (.bipush 97, 2) := dk_16 97 (dk_at dksX6_init_8 20 rfl rfl)
theorem dX6_init_212 : decode cX6_init 212 = .ok (.bastore, 1) := dk_84 (dk_at dksX6_init_8 22 rfl rfl)
theorem dX6_init_213 : decode cX6_init 213 = .ok (.dup, 1) := dk_89 (dk_at dksX6_init_8 23 rfl rfl)
theorem dX6_init_214 : decode cX6_init 214 = .ok (.bipush 28, 2) := dk_16 28 (dk_at dksX6_init_9 0 rfl rfl)
theorem dX6_init_216 : decode cX6_init 216 = .ok (.bipush 114, 2) := dk_16 114 (dk_at dksX6_init_9 2 rfl rfl)
theorem dX6_init_218 : decode cX6_init 218 = .ok (.bastore, 1) := dk_84 (dk_at dksX6_init_9 4 rfl rfl)
theorem dX6_init_219 : decode cX6_init 219 = .ok (.dup, 1) := dk_89 (dk_at dksX6_init_9 5 rfl rfl)
theorem dX6_init_220 : decode cX6_init 220 = .ok (.bipush 29, 2) := dk_16 29 (dk_at dksX6_init_9 6 rfl rfl)
theorem dX6_init_222 : decode cX6_init 222 = .ok (.bipush 115, 2) := dk_16 115 (dk_at dksX6_init_9 8 rfl rfl)
theorem dX6_init_224 : decode cX6_init 224 = .ok (.bastore, 1) := dk_84 (dk_at dksX6_init_9 10 rfl rfl)
theorem dX6_init_225 : decode cX6_init 225 = .ok (.dup, 1) := dk_89 (dk_at dksX6_init_9 11 rfl rfl)
theorem dX6_init_226 : decode cX6_init 226 = .ok (.bipush 30, 2) := dk_16 30 (dk_at dksX6_init_9 12 rfl rfl)
theorem dX6_init_228 : decode cX6_init 228 = .ok (.bipush 32, 2) := dk_16 32 (dk_at dksX6_init_9 14 rfl rfl)
theorem dX6_init_230 : decode cX6_init 230 = .ok (.bastore, 1) := dk_84 (dk_at dksX6_init_9 16 rfl rfl)
theorem dX6_init_231 : decode cX6_init 231 = .ok (.dup, 1) := dk_89 (dk_at dksX6_init_9 17 rfl rfl)
theorem dX6_init_232 : decode cX6_init 232 = .ok (.bipush 31, 2) := dk_16 31 (dk_at dksX6_init_9 18 rfl rfl)
theorem dX6_init_234 : decode cX6_init 234 = .ok (.bipush 105, 2) := dk_16 105 (dk_at dksX6_init_9 20 rfl rfl)
theorem dX6_init_236 : decode cX6_init 236 = .ok (.bastore, 1) := dk_84 (dk_at dksX6_init_9 22 rfl rfl)
theorem dX6_init_237 : decode cX6_init 237 = .ok (.dup, 1) := dk_89 (dk_at dksX6_init_9 23 rfl rfl)
theorem dX6_init_238 : decode cX6_init 238 = .ok (.bipush 32, 2) := dk_16 32 (dk_at dksX6_init_10 0 rfl rfl)
theorem dX6_init_240 : decode cX6_init 240 = .ok (.bipush 102, 2) := dk_16 102 (dk_at dksX6_init_10 2 rfl rfl)
theorem dX6_init_242 : decode cX6_init 242 = .ok (.bastore, 1) := dk_84 (dk_at dksX6_init_10 4 rfl rfl)
theorem dX6_init_243 : decode cX6_init 243 = .ok (.dup, 1) := dk_89 (dk_at dksX6_init_10 5 rfl rfl)
theorem dX6_init_244 : decode cX6_init 244 = .ok (.bipush 33, 2) := dk_16 33 (dk_at dksX6_init_10 6 rfl rfl)
theorem dX6_init_246 : decode cX6_init 246 = .ok (.bipush 32, 2) := dk_16 32 (dk_at dksX6_init_10 8 rfl rfl)
theorem dX6_init_248 : decode cX6_init 248 = .ok (.bastore, 1) := dk_84 (dk_at dksX6_init_10 10 rfl rfl)
theorem dX6_init_249 : decode cX6_init 249 = .ok (.dup, 1) := dk_89 (dk_at dksX6_init_10 11 rfl rfl)
theorem dX6_init_250 : decode cX6_init 250 = .ok (.bipush 34, 2) := dk_16 34 (dk_at dksX6_init_10 12 rfl rfl)
theorem dX6_init_252 : decode cX6_init 252 = .ok (.bipush 111, 2) := dk_16 111 (dk_at dksX6_init_10 14 rfl rfl)
theorem dX6_init_254 : decode cX6_init 254 = .ok (.bastore, 1) := dk_84 (dk_at dksX6_init_10 16 rfl rfl)
theorem dX6_init_255 : decode cX6_init 255 = .ok (.dup, 1) := dk_89 (dk_at dksX6_init_10 17 rfl rfl)
theorem dX6_init_256 : decode cX6_init 256 = .ok (.bipush 35, 2) := dk_16 35 (dk_at dksX6_init_10 18 rfl rfl)
theorem dX6_init_258 : decode cX6_init 258 = .ok (.bipush 114, 2) := dk_16 114 (dk_at dksX6_init_10 20 rfl rfl)
theorem dX6_init_260 : decode cX6_init 260 = .ok (.bastore, 1) := dk_84 (dk_at dksX6_init_10 22 rfl rfl)
theorem dX6_init_261 : decode cX6_init 261 = .ok (.dup, 1) := dk_89 (dk_at dksX6_init_10 23 rfl rfl)
theorem dX6_init_262 : decode cX6_init 262 = .ok (.bipush 36, 2) := dk_16 36 (dk_at dksX6_init_11 0 rfl rfl)
theorem dX6_init_264 : decode cX6_init 264 = .ok (.bipush 32, 2) := dk_16 32 (dk_at dksX6_init_11 2 rfl rfl)
theorem dX6_init_266 : decode cX6_init 266 = .ok (.bastore, 1) := dk_84 (dk_at dksX6_init_11 4 rfl rfl)
theorem dX6_init_267 : decode cX6_init 267 = .ok (.dup, 1) := dk_89 (dk_at dksX6_init_11 5 rfl rfl)
theorem dX6_init_268 : decode cX6_init 268 = .ok (.bipush 37, 2) := dk_16 37 (dk_at dksX6_init_11 6 rfl rfl)
theorem dX6_init_270 : decode cX6_init 270 = .ok (.bipush 97, 2) := dk_16 97 (dk_at dksX6_init_11 8 rfl rfl)
theorem dX6_init_272 : decode cX6_init 272 = .ok (.bastore, 1) := dk_84 (dk_at dksX6_init_11 10 rfl rfl)
theorem dX6_init_273 : decode cX6_init 273 = .ok (.dup, 1) := dk_89 (dk_at dksX6_init_11 11 rfl rfl)
theorem dX6_init_274 : decode cX6_init 274 = .ok (.bipush 38, 2) := dk_16 38 (dk_at dksX6_init_11 12 rfl rfl)
theorem dX6_init_276 : decode cX6_init 276 = .ok (.bipush 110, 2) := dk_16 110 (dk_at dksX6_init_11 14 rfl rfl)
theorem dX6_init_278 : decode cX6_init 278 = .ok (.bastore, 1) := dk_84 (dk_at dksX6_init_11 16 rfl rfl)
theorem dX6_init_279 : decode cX6_init 279 = .ok (.dup, 1) := dk_89 (dk_at dksX6_init_11 17 rfl rfl)
theorem dX6_init_280 : decode cX6_init 280 = .ok (.bipush 39, 2) := dk_16 39 (dk_at dksX6_init_11 18 rfl rfl)
theorem dX6_init_282 : decode cX6_init 282 = .ok (.bipush 100, 2) := dk_16 100 (dk_at dksX6_init_11 20 rfl rfl)
theorem dX6_init_284 : decode cX6_init 284 = .ok (.bastore, 1) := dk_84 (dk_at dksX6_init_11 22 rfl rfl)
theorem dX6_init_285 : decode cX6_init 285 = .ok (.dup, 1) := dk_89 (dk_at dksX6_init_11 23 rfl rfl)
theorem dX6_init_286 : decode cX6_init 286 = .ok (.bipush 40, 2) := dk_16 40 (dk_at dksX6_init_12 0 rfl rfl)
theorem dX6_init_288 : decode cX6_init 288 = .ok (.bipush 32, 2) := dk_16 32 (dk_at dksX6_init_12 2 rfl rfl)
theorem dX6_init_290 : decode cX6_init 290 = .ok (.bastore, 1) := dk_84 (dk_at dksX6_init_12 4 rfl rfl)
theorem dX6_init_291 : decode cX6_init 291 = .ok (.dup, 1) := dk_89 (dk_at dksX6_init_12 5 rfl rfl)
theorem dX6_init_292 : decode cX6_init 292 = .ok (.bipush 41, 2) := dk_16 41 (dk_at dksX6_init_12 6 rfl rfl)
theorem dX6_init_294 : decode cX6_init 294 = .ok (.bipush 110, 2) := dk_16 110 (dk_at dksX6_init_12 8 rfl rfl)
theorem dX6_init_296 : decode cX6_init 296 = .ok (.bastore, 1) := dk_84 (dk_at dksX6_init_12 10 rfl rfl)
theorem dX6_init_297 : decode cX6_init 297 = .ok (.dup, 1) := dk_89 (dk_at dksX6_init_12 11 rfl rfl)
theorem dX6_init_298 : decode cX6_init 298 = .ok (.bipush 42, 2) := dk_16 42 (dk_at dksX6_init_12 12 rfl rfl)
theorem dX6_init_300 : decode cX6_init 300 = .ok (.bipush 111, 2) := dk_16 111 (dk_at dksX6_init_12 14 rfl rfl)
theorem dX6_init_302 : decode cX6_init 302 = .ok (.bastore, 1) := dk_84 (dk_at dksX6_init_12 16 rfl rfl)
theorem dX6_init_303 : decode cX6_init 303 = .ok (.dup, 1) := dk_89 (dk_at dksX6_init_12 17 rfl rfl)
theorem dX6_init_304 : decode cX6_init 304 = .ok (.bipush 43, 2) := dk_16 43 (dk_at dksX6_init_12 18 rfl rfl)
theorem dX6_init_306 : decode cX6_init 306 = .ok (.bipush 116, 2) := dk_16 116 (dk_at dksX6_init_12 20 rfl rfl)
theorem dX6_init_308 : decode cX6_init 308 = .ok (.bastore, 1) := dk_84 (dk_at dksX6_init_12 22 rfl rfl)
theorem dX6_init_309 : decode cX6_init 309 = .ok (.dup, 1) := dk_89 (dk_at dksX6_init_12 23 rfl rfl)
theorem dX6_init_310 : decode cX6_init 310 = .ok (.bipush 44, 2) := dk_16 44 (dk_at dksX6_init_13 0 rfl rfl)
theorem dX6_init_312 : decode cX6_init 312 = .ok (.bipush 32, 2) := dk_16 32 (dk_at dksX6_init_13 2 rfl rfl)
theorem dX6_init_314 : decode cX6_init 314 = .ok (.bastore, 1) := dk_84 (dk_at dksX6_init_13 4 rfl rfl)
theorem dX6_init_315 : decode cX6_init 315 = .ok (.dup, 1) := dk_89 (dk_at dksX6_init_13 5 rfl rfl)
theorem dX6_init_316 : decode cX6_init 316 = .ok (.bipush 45, 2) := dk_16 45 (dk_at dksX6_init_13 6 rfl rfl)
theorem dX6_init_318 : decode cX6_init 318 = .ok (.bipush 112, 2) := dk_16 112 (dk_at dksX6_init_13 8 rfl rfl)
theorem dX6_init_320 : decode cX6_init 320 = .ok (.bastore, 1) := dk_84 (dk_at dksX6_init_13 10 rfl rfl)
theorem dX6_init_321 : decode cX6_init 321 = .ok (.dup, 1) := dk_89 (dk_at dksX6_init_13 11 rfl rfl)
theorem dX6_init_322 : decode cX6_init 322 = .ok (.bipush 46, 2) := dk_16 46 (dk_at dksX6_init_13 12 rfl rfl)
theorem dX6_init_324 : decode cX6_init 324 = .ok (.bipush 101, 2) := dk_16 101 (dk_at dksX6_init_13 14 rfl rfl)
theorem dX6_init_326 : decode cX6_init 326 = .ok (.bastore, 1) := dk_84 (dk_at dksX6_init_13 16 rfl rfl)
theorem dX6_init_327 : decode cX6_init 327 = .ok (.dup, 1) := dk_89 (dk_at dksX6_init_13 17 rfl rfl)
theorem dX6_init_328 : decode cX6_init 328 = .ok (.bipush 47, 2) := dk_16 47 (dk_at dksX6_init_13 18 rfl rfl)
theorem dX6_init_330 : decode cX6_init 330 = .ok (.bipush 114, 2) := dk_16 114 (dk_at dksX6_init_13 20 rfl rfl)
theorem dX6_init_332 : decode cX6_init 332 = .ok (.bastore, 1) := dk_84 (dk_at dksX6_init_13 22 rfl rfl)
theorem dX6_init_333 : decode cX6_init 333 = .ok (.dup, 1) := dk_89 (dk_at dksX6_init_13 23 rfl rfl)
theorem dX6_init_334 : decode cX6_init 334 = .ok (.bipush 48, 2) := dk_16 48 (dk_at dksX6_init_14 0 rfl rfl)
theorem dX6_init_336 : decode cX6_init 336 = .ok (.bipush 115, 2) := dk_16 115 (dk_at dksX6_init_14 2 rfl rfl)
theorem dX6_init_338 : decode cX6_init 338 = .ok (.bastore, 1) := dk_84 (dk_at dksX6_init_14 4 rfl rfl)
theorem dX6_init_339 : decode cX6_init 339 = .ok (.dup, 1) := dk_89 (dk_at dksX6_init_14 5 rfl rfl)
theorem dX6_init_340 : decode cX6_init 340 = .ok (.bipush 49, 2) := dk_16 49 (dk_at dksX6_init_14 6 rfl rfl)
theorem dX6_init_342 : decode cX6_init 342 = .ok (.bipush 111, 2) := dk_16 111 (dk_at dksX6_init_14 8 rfl rfl)
theorem dX6_init_344 : decode cX6_init 344 = .ok (.bastore, 1) := dk_84 (dk_at dksX6_init_14 10 rfl rfl)
theorem dX6_init_345 : decode cX6_init 345 = .ok (.dup, 1) := dk_89 (dk_at dksX6_init_14 11 rfl rfl)
theorem dX6_init_346 : decode cX6_init 346 = .ok (.bipush 50, 2) := dk_16 50 (dk_at dksX6_init_14 12 rfl rfl)
theorem dX6_init_348 : decode cX6_init 348 = .ok (.bipush 110, 2) := dk_16 110 (dk_at dksX6_init_14 14 rfl rfl)
theorem dX6_init_350 : decode cX6_init 350 = .ok (.bastore, 1) := dk_84 (dk_at dksX6_init_14 16 rfl rfl)
theorem dX6_init_351 : decode cX6_init 351 = .ok (.dup, 1) := dk_89 (dk_at dksX6_init_14 17 rfl rfl)
theorem dX6_init_352 : decode cX6_init 352 = .ok (.bipush 51, 2) := dk_16 51 (dk_at dksX6_init_14 18 rfl rfl)
theorem dX6_init_354 : decode cX6_init 354 = .ok (.bipush 32, 2) := dk_16 32 (dk_at dksX6_init_14 20 rfl rfl)
theorem dX6_init_356 : decode cX6_init 356 = .ok (.bastore, 1) := dk_84 (dk_at dksX6_init_14 22 rfl rfl)
theorem dX6_init_357 : decode cX6_init 357 = .ok (.dup, 1) := dk_89 (dk_at dksX6_init_14 23 rfl rfl)
theorem dX6_init_358 : decode cX6_init 358 = .ok (.bipush 52, 2) := dk_16 52 (dk_at dksX6_init_15 0 rfl rfl)
theorem dX6_init_360 : decode cX6_init 360 = .ok (.bipush 114, 2) := dk_16 114 (dk_at dksX6_init_15 2 rfl rfl)
theorem dX6_init_362 : decode cX6_init 362 = .ok (.bastore, 1) := dk_84 (dk_at dksX6_init_15 4 rfl rfl)
theorem dX6_init_363 : decode cX6_init 363 = .ok (.dup, 1) := dk_89 (dk_at dksX6_init_15 5 rfl rfl)
theorem dX6_init_364 : decode cX6_init 364 = .ok (.bipush 53, 2) := dk_16 53 (dk_at dksX6_init_15 6 rfl rfl)
theorem dX6_init_366 : decode cX6_init 366 = .ok (.bipush 111, 2) := dk_16 111 (dk_at dksX6_init_15 8 rfl rfl)
theorem dX6_init_368 : decode cX6_init 368 = .ok (.bastore, 1) := dk_84 (dk_at dksX6_init_15 10 rfl rfl)
theorem dX6_init_369 : decode cX6_init 369 = .ok (.dup, 1) := dk_89 (dk_at dksX6_init_15 11 rfl rfl)
theorem dX6_init_370 : decode cX6_init 370 = .ok (.bipush 54, 2) := dk_16 54 (dk_at dksX6_init_15 12 rfl rfl)
theorem dX6_init_372 : decode cX6_init 372 = .ok (.bipush 97, 2) := dk_16 97 (dk_at dksX6_init_15 14 rfl rfl)
theorem dX6_init_374 : decode cX6_init 374 = .ok (.bastore, 1) := dk_84 (dk_at dksX6_init_15 16 rfl rfl)
theorem dX6_init_375 : decode cX6_init 375 = .ok (.dup, 1) := dk_89 (dk_at dksX6_init_15 17 rfl rfl)
theorem dX6_init_376 : decode cX6_init 376 = .ok (.bipush 55, 2) := dk_16 55 (dk_at dksX6_init_15 18 rfl rfl)
theorem dX6_init_378 : decode cX6_init 378 = .ok (.bipush 100, 2) := dk_16 100 (dk_at dksX6_init_15 20 rfl rfl)
theorem dX6_init_380 : decode cX6_init 380 = .ok (.bastore, 1) := dk_84 (dk_at dksX6_init_15 22 rfl rfl)
theorem dX6_init_381 : decode cX6_init 381 = .ok (.dup, 1) := dk_89 (dk_at dksX6_init_15 23 rfl rfl)
theorem dX6_init_382 : decode cX6_init 382 = .ok (.bipush 56, 2) := dk_16 56 (dk_at dksX6_init_16 0 rfl rfl)
theorem dX6_init_384 : decode cX6_init 384 = .ok (.bipush 32, 2) := dk_16 32 (dk_at dksX6_init_16 2 rfl rfl)
theorem dX6_init_386 : decode cX6_init 386 = .ok (.bastore, 1) := dk_84 (dk_at dksX6_init_16 4 rfl rfl)
theorem dX6_init_387 : decode cX6_init 387 = .ok (.dup, 1) := dk_89 (dk_at dksX6_init_16 5 rfl rfl)
theorem dX6_init_388 : decode cX6_init 388 = .ok (.bipush 57, 2) := dk_16 57 (dk_at dksX6_init_16 6 rfl rfl)
theorem dX6_init_390 : decode cX6_init 390 = .ok (.bipush 108, 2) := dk_16 108 (dk_at dksX6_init_16 8 rfl rfl)
theorem dX6_init_392 : decode cX6_init 392 = .ok (.bastore, 1) := dk_84 (dk_at dksX6_init_16 10 rfl rfl)
theorem dX6_init_393 : decode cX6_init 393 = .ok (.dup, 1) := dk_89 (dk_at dksX6_init_16 11 rfl rfl)
theorem dX6_init_394 : decode cX6_init 394 = .ok (.bipush 58, 2) := dk_16 58 (dk_at dksX6_init_16 12 rfl rfl)
theorem dX6_init_396 : decode cX6_init 396 = .ok (.bipush 97, 2) := dk_16 97 (dk_at dksX6_init_16 14 rfl rfl)
theorem dX6_init_398 : decode cX6_init 398 = .ok (.bastore, 1) := dk_84 (dk_at dksX6_init_16 16 rfl rfl)
theorem dX6_init_399 : decode cX6_init 399 = .ok (.dup, 1) := dk_89 (dk_at dksX6_init_16 17 rfl rfl)
theorem dX6_init_400 : decode cX6_init 400 = .ok (.bipush 59, 2) := dk_16 59 (dk_at dksX6_init_16 18 rfl rfl)
theorem dX6_init_402 : decode cX6_init 402 = .ok (.bipush 110, 2) := dk_16 110 (dk_at dksX6_init_16 20 rfl rfl)
theorem dX6_init_404 : decode cX6_init 404 = .ok (.bastore, 1) := dk_84 (dk_at dksX6_init_16 22 rfl rfl)
theorem dX6_init_405 : decode cX6_init 405 = .ok (.dup, 1) := dk_89 (dk_at dksX6_init_16 23 rfl rfl)
theorem dX6_init_406 : decode cX6_init 406 = .ok (.bipush 60, 2) := dk_16 60 (dk_at dksX6_init_17 0 rfl rfl)
theorem dX6_init_408 : decode cX6_init 408 = .ok (.bipush 100, 2) := dk_16 100 (dk_at dksX6_init_17 2 rfl rfl)
theorem dX6_init_410 : decode cX6_init 410 = .ok (.bastore, 1) := dk_84 (dk_at dksX6_init_17 4 rfl rfl)
theorem dX6_init_411 : decode cX6_init 411 = .ok (.dup, 1) := dk_89 (dk_at dksX6_init_17 5 rfl rfl)
theorem dX6_init_412 : decode cX6_init 412 = .ok (.bipush 61, 2) := dk_16 61 (dk_at dksX6_init_17 6 rfl rfl)
theorem dX6_init_414 : decode cX6_init 414 = .ok (.bipush 32, 2) := dk_16 32 (dk_at dksX6_init_17 8 rfl rfl)
theorem dX6_init_416 : decode cX6_init 416 = .ok (.bastore, 1) := dk_84 (dk_at dksX6_init_17 10 rfl rfl)
theorem dX6_init_417 : decode cX6_init 417 = .ok (.dup, 1) := dk_89 (dk_at dksX6_init_17 11 rfl rfl)
theorem dX6_init_418 : decode cX6_init 418 = .ok (.bipush 62, 2) := dk_16 62 (dk_at dksX6_init_17 12 rfl rfl)
theorem dX6_init_420 : decode cX6_init 420 = .ok (.bipush 104, 2) := dk_16 104 (dk_at dksX6_init_17 14 rfl rfl)
theorem dX6_init_422 : decode cX6_init 422 = .ok (.bastore, 1) := dk_84 (dk_at dksX6_init_17 16 rfl rfl)
theorem dX6_init_423 : decode cX6_init 423 = .ok (.dup, 1) := dk_89 (dk_at dksX6_init_17 17 rfl rfl)
theorem dX6_init_424 : decode cX6_init 424 = .ok (.bipush 63, 2) := dk_16 63 (dk_at dksX6_init_17 18 rfl rfl)
theorem dX6_init_426 : decode cX6_init 426 = .ok (.bipush 101, 2) := dk_16 101 (dk_at dksX6_init_17 20 rfl rfl)
theorem dX6_init_428 : decode cX6_init 428 = .ok (.bastore, 1) := dk_84 (dk_at dksX6_init_17 22 rfl rfl)
theorem dX6_init_429 : decode cX6_init 429 = .ok (.dup, 1) := dk_89 (dk_at dksX6_init_17 23 rfl rfl)
theorem dX6_init_430 : decode cX6_init 430 = .ok (.bipush 64, 2) := dk_16 64 (dk_at dksX6_init_18 0 rfl rfl)
theorem dX6_init_432 : decode cX6_init 432 = .ok (.bipush 97, 2) := dk_16 97 (dk_at dksX6_init_18 2 rfl rfl)
theorem dX6_init_434 : decode cX6_init 434 = .ok (.bastore, 1) := dk_84 (dk_at dksX6_init_18 4 rfl rfl)
theorem dX6_init_435 : decode cX6_init 435 = .ok (.dup, 1) := dk_89 (dk_at dksX6_init_18 5 rfl rfl)
theorem dX6_init_436 : decode cX6_init 436 = .ok (.bipush 65, 2) := dk_16 65 (dk_at dksX6_init_18 6 rfl rfl)
theorem dX6_init_438 : decode cX6_init 438 = .ok (.bipush 114, 2) := dk_16 114 (dk_at dksX6_init_18 8 rfl rfl)
theorem dX6_init_440 : decode cX6_init 440 = .ok (.bastore, 1) := dk_84 (dk_at dksX6_init_18 10 rfl rfl)
theorem dX6_init_441 : decode cX6_init 441 = .ok (.dup, 1) := dk_89 (dk_at dksX6_init_18 11 rfl rfl)
theorem dX6_init_442 : decode cX6_init 442 = .ok (.bipush 66, 2) := dk_16 66 (dk_at dksX6_init_18 12 rfl rfl)
theorem dX6_init_444 : decode cX6_init 444 = .ok (.bipush 100, 2) := dk_16 100 (dk_at dksX6_init_18 14 rfl rfl)
theorem dX6_init_446 : decode cX6_init 446 = .ok (.bastore, 1) := dk_84 (dk_at dksX6_init_18 16 rfl rfl)
theorem dX6_init_447 : decode cX6_init 447 = .ok (.dup, 1) := dk_89 (dk_at dksX6_init_18 17 rfl rfl)
theorem dX6_init_448 : decode cX6_init 448 = .ok (.bipush 67, 2) := dk_16 67 (dk_at dksX6_init_18 18 rfl rfl)
theorem dX6_init_450 : decode cX6_init 450 = .ok (.bipush 32, 2) := dk_16 32 (dk_at dksX6_init_18 20 rfl rfl)
theorem dX6_init_452 : decode cX6_init 452 = .ok (.bastore, 1) := dk_84 (dk_at dksX6_init_18 22 rfl rfl)
theorem dX6_init_453 : decode cX6_init 453 = .ok (.dup, 1) := dk_89 (dk_at dksX6_init_18 23 rfl rfl)
theorem dX6_init_454 : decode cX6_init 454 = .ok (.bipush 68, 2) := dk_16 68 (dk_at dksX6_init_19 0 rfl rfl)
theorem dX6_init_456 : decode cX6_init 456 = .ok (.bipush 111, 2) := dk_16 111 (dk_at dksX6_init_19 2 rfl rfl)
theorem dX6_init_458 : decode cX6_init 458 = .ok (.bastore, 1) := dk_84 (dk_at dksX6_init_19 4 rfl rfl)
theorem dX6_init_459 : decode cX6_init 459 = .ok (.dup, 1) := dk_89 (dk_at dksX6_init_19 5 rfl rfl)
theorem dX6_init_460 : decode cX6_init 460 = .ok (.bipush 69, 2) := dk_16 69 (dk_at dksX6_init_19 6 rfl rfl)
theorem dX6_init_462 : decode cX6_init 462 = .ok (.bipush 116, 2) := dk_16 116 (dk_at dksX6_init_19 8 rfl rfl)
theorem dX6_init_464 : decode cX6_init 464 = .ok (.bastore, 1) := dk_84 (dk_at dksX6_init_19 10 rfl rfl)
theorem dX6_init_465 : decode cX6_init 465 = .ok (.dup, 1) := dk_89 (dk_at dksX6_init_19 11 rfl rfl)
theorem dX6_init_466 : decode cX6_init 466 = .ok (.bipush 70, 2) := dk_16 70 (dk_at dksX6_init_19 12 rfl rfl)
theorem dX6_init_468 : decode cX6_init 468 = .ok (.bipush 104, 2) := dk_16 104 (dk_at dksX6_init_19 14 rfl rfl)
theorem dX6_init_470 : decode cX6_init 470 = .ok (.bastore, 1) := dk_84 (dk_at dksX6_init_19 16 rfl rfl)
theorem dX6_init_471 : decode cX6_init 471 = .ok (.dup, 1) := dk_89 (dk_at dksX6_init_19 17 rfl rfl)
theorem dX6_init_472 : decode cX6_init 472 = .ok (.bipush 71, 2) := dk_16 71 (dk_at dksX6_init_19 18 rfl rfl)
theorem dX6_init_474 : decode cX6_init 474 = .ok (.bipush 101, 2) := dk_16 101 (dk_at dksX6_init_19 20 rfl rfl)
theorem dX6_init_476 : decode cX6_init 476 = .ok (.bastore, 1) := dk_84 (dk_at dksX6_init_19 22 rfl rfl)
theorem dX6_init_477 : decode cX6_init 477 = .ok (.dup, 1) := dk_89 (dk_at dksX6_init_19 23 rfl rfl)
theorem dX6_init_478 : decode cX6_init 478 = .ok (.bipush 72, 2) := dk_16 72 (dk_at dksX6_init_20 0 rfl rfl)
theorem dX6_init_480 : decode cX6_init 480 = .ok (.bipush 114, 2) := dk_16 114 (dk_at dksX6_init_20 2 rfl rfl)
theorem dX6_init_482 : decode cX6_init 482 = .ok (.bastore, 1) := dk_84 (dk_at dksX6_init_20 4 rfl rfl)
theorem dX6_init_483 : decode cX6_init 483 = .ok (.dup, 1) := dk_89 (dk_at dksX6_init_20 5 rfl rfl)
theorem dX6_init_484 : decode cX6_init 484 = .ok (.bipush 73, 2) := dk_16 73 (dk_at dksX6_init_20 6 rfl rfl)
theorem dX6_init_486 : decode cX6_init 486 = .ok (.bipush 32, 2) := dk_16 32 (dk_at dksX6_init_20 8 rfl rfl)
theorem dX6_init_488 : decode cX6_init 488 = .ok (.bastore, 1) := dk_84 (dk_at dksX6_init_20 10 rfl rfl)
theorem dX6_init_489 : decode cX6_init 489 = .ok (.dup, 1) := dk_89 (dk_at dksX6_init_20 11 rfl rfl)
theorem dX6_init_490 : decode cX6_init 490 = .ok (.bipush 74, 2) := dk_16 74 (dk_at dksX6_init_20 12 rfl rfl)
theorem dX6_init_492 : decode cX6_init 492 = .ok (.bipush 116, 2) := dk_16 116 (dk_at dksX6_init_20 14 rfl rfl)
theorem dX6_init_494 : decode cX6_init 494 = .ok (.bastore, 1) := dk_84 (dk_at dksX6_init_20 16 rfl rfl)
theorem dX6_init_495 : decode cX6_init 495 = .ok (.dup, 1) := dk_89 (dk_at dksX6_init_20 17 rfl rfl)
theorem dX6_init_496 : decode cX6_init 496 = .ok (.bipush 75, 2) := dk_16 75 (dk_at dksX6_init_20 18 rfl rfl)
theorem dX6_init_498 : decode cX6_init 498 = .ok (.bipush 104, 2) := dk_16 104 (dk_at dksX6_init_20 20 rfl rfl)
theorem dX6_init_500 : decode cX6_init 500 = .ok (.bastore, 1) := dk_84 (dk_at dksX6_init_20 22 rfl rfl)
theorem dX6_init_501 : decode cX6_init 501 = .ok (.dup, 1) := dk_89 (dk_at dksX6_init_20 23 rfl rfl)
theorem dX6_init_502 : decode cX6_init 502 = .ok (.bipush 76, 2) := dk_16 76 (dk_at dksX6_init_21 0 rfl rfl)
theorem dX6_init_504 : decode cX6_init 504 = .ok (.bipush 101, 2) := dk_16 101 (dk_at dksX6_init_21 2 rfl rfl)
theorem dX6_init_506 : decode cX6_init 506 = .ok (.bastore, 1) := dk_84 (dk_at dksX6_init_21 4 rfl rfl)
theorem dX6_init_507 : decode cX6_init 507 = .ok (.dup, 1) := dk_89 (dk_at dksX6_init_21 5 rfl rfl)
theorem dX6_init_508 : decode cX6_init 508 = .ok (.bipush 77, 2) := dk_16 77 (dk_at dksX6_init_21 6 rfl rfl)
theorem dX6_init_510 : decode cX6_init 510 = .ok (.bipush 105, 2) := dk_16 105 (dk_at dksX6_init_21 8 rfl rfl)
theorem dX6_init_512 : decode cX6_init 512 = .ok (.bastore, 1) := dk_84 (dk_at dksX6_init_21 10 rfl rfl)
theorem dX6_init_513 : decode cX6_init 513 = .ok (.dup, 1) := dk_89 (dk_at dksX6_init_21 11 rfl rfl)
theorem dX6_init_514 : decode cX6_init 514 = .ok (.bipush 78, 2) := dk_16 78 (dk_at dksX6_init_21 12 rfl rfl)
theorem dX6_init_516 : decode cX6_init 516 = .ok (.bipush 114, 2) := dk_16 114 (dk_at dksX6_init_21 14 rfl rfl)
theorem dX6_init_518 : decode cX6_init 518 = .ok (.bastore, 1) := dk_84 (dk_at dksX6_init_21 16 rfl rfl)
theorem dX6_init_519 : decode cX6_init 519 = .ok (.dup, 1) := dk_89 (dk_at dksX6_init_21 17 rfl rfl)
theorem dX6_init_520 : decode cX6_init 520 = .ok (.bipush 79, 2) := dk_16 79 (dk_at dksX6_init_21 18 rfl rfl)
theorem dX6_init_522 : decode cX6_init 522 = .ok (.bipush 115, 2) := dk_16 115 (dk_at dksX6_init_21 20 rfl rfl)
theorem dX6_init_524 : decode cX6_init 524 = .ok (.bastore, 1) := dk_84 (dk_at dksX6_init_21 22 rfl rfl)
theorem dX6_init_525 : decode cX6_init 525 = .ok (.dup, 1) := dk_89 (dk_at dksX6_init_21 23 rfl rfl)
theorem dX6_init_526 : decode cX6_init 526 = .ok (.bipush 80, 2) := dk_16 80 (dk_at dksX6_init_22 0 rfl rfl)
theorem dX6_init_528 : decode cX6_init 528 = .ok (.bipush 32, 2) := dk_16 32 (dk_at dksX6_init_22 2 rfl rfl)
theorem dX6_init_530 : decode cX6_init 530 = .ok (.bastore, 1) := dk_84 (dk_at dksX6_init_22 4 rfl rfl)
theorem dX6_init_531 : decode cX6_init 531 = .ok (.dup, 1) := dk_89 (dk_at dksX6_init_22 5 rfl rfl)
theorem dX6_init_532 : decode cX6_init 532 = .ok (.bipush 81, 2) := dk_16 81 (dk_at dksX6_init_22 6 rfl rfl)
theorem dX6_init_534 : decode cX6_init 534 = .ok (.bipush 102, 2) := dk_16 102 (dk_at dksX6_init_22 8 rfl rfl)
theorem dX6_init_536 : decode cX6_init 536 = .ok (.bastore, 1) := dk_84 (dk_at dksX6_init_22 10 rfl rfl)
theorem dX6_init_537 : decode cX6_init 537 = .ok (.dup, 1) := dk_89 (dk_at dksX6_init_22 11 rfl rfl)
theorem dX6_init_538 : decode cX6_init 538 = .ok (.bipush 82, 2) := dk_16 82 (dk_at dksX6_init_22 12 rfl rfl)
theorem dX6_init_540 : decode cX6_init 540 = .ok (.bipush 97, 2) := dk_16 97 (dk_at dksX6_init_22 14 rfl rfl)
theorem dX6_init_542 : decode cX6_init 542 = .ok (.bastore, 1) := dk_84 (dk_at dksX6_init_22 16 rfl rfl)
theorem dX6_init_543 : decode cX6_init 543 = .ok (.dup, 1) := dk_89 (dk_at dksX6_init_22 17 rfl rfl)
theorem dX6_init_544 : decode cX6_init 544 = .ok (.bipush 83, 2) := dk_16 83 (dk_at dksX6_init_22 18 rfl rfl)
theorem dX6_init_546 : decode cX6_init 546 = .ok (.bipush 114, 2) := dk_16 114 (dk_at dksX6_init_22 20 rfl rfl)
theorem dX6_init_548 : decode cX6_init 548 = .ok (.bastore, 1) := dk_84 (dk_at dksX6_init_22 22 rfl rfl)
theorem dX6_init_549 : decode cX6_init 549 = .ok (.dup, 1) := dk_89 (dk_at dksX6_init_22 23 rfl rfl)
theorem dX6_init_550 : decode cX6_init 550 = .ok (.bipush 84, 2) := dk_16 84 (dk_at dksX6_init_23 0 rfl rfl)
theorem dX6_init_552 : decode cX6_init 552 = .ok (.bipush 32, 2) := dk_16 32 (dk_at dksX6_init_23 2 rfl rfl)
theorem dX6_init_554 : decode cX6_init 554 = .ok (.bastore, 1) := dk_84 (dk_at dksX6_init_23 4 rfl rfl)
theorem dX6_init_555 : decode cX6_init 555 = .ok (.dup, 1) := dk_89 (dk_at dksX6_init_23 5 rfl rfl)
theorem dX6_init_556 : decode cX6_init 556 = .ok (.bipush 85, 2) := dk_16 85 (dk_at dksX6_init_23 6 rfl rfl)
theorem dX6_init_558 : decode cX6_init 558 = .ok (.bipush 102, 2) := dk_16 102 (dk_at dksX6_init_23 8 rfl rfl)
theorem dX6_init_560 : decode cX6_init 560 = .ok (.bastore, 1) := dk_84 (dk_at dksX6_init_23 10 rfl rfl)
theorem dX6_init_561 : decode cX6_init 561 = .ok (.dup, 1) := dk_89 (dk_at dksX6_init_23 11 rfl rfl)
theorem dX6_init_562 : decode cX6_init 562 = .ok (.bipush 86, 2) := dk_16 86 (dk_at dksX6_init_23 12 rfl rfl)
theorem dX6_init_564 : decode cX6_init 564 = .ok (.bipush 111, 2) := dk_16 111 (dk_at dksX6_init_23 14 rfl rfl)
theorem dX6_init_566 : decode cX6_init 566 = .ok (.bastore, 1) := dk_84 (dk_at dksX6_init_23 16 rfl rfl)
theorem dX6_init_567 : decode cX6_init 567 = .ok (.dup, 1) := dk_89 (dk_at dksX6_init_23 17 rfl rfl)
theorem dX6_init_568 : decode cX6_init 568 = .ok (.bipush 87, 2) := dk_16 87 (dk_at dksX6_init_23 18 rfl rfl)
theorem dX6_init_570 : decode cX6_init 570 = .ok (.bipush 103, 2) := dk_16 103 (dk_at dksX6_init_23 20 rfl rfl)
theorem dX6_init_572 : decode cX6_init 572 = .ok (.bastore, 1) := dk_84 (dk_at dksX6_init_23 22 rfl rfl)
theorem dX6_init_573 : decode cX6_init 573 = .ok (.dup, 1) := dk_89 (dk_at dksX6_init_23 23 rfl rfl)
theorem dX6_init_574 : decode cX6_init 574 = .ok (.bipush 88, 2) := dk_16 88 (dk_at dksX6_init_24 0 rfl rfl)
theorem dX6_init_576 : decode cX6_init 576 = .ok (.bipush 32, 2) := dk_16 32 (dk_at dksX6_init_24 2 rfl rfl)
theorem dX6_init_578 : decode cX6_init 578 = .ok (.bastore, 1) := dk_84 (dk_at dksX6_init_24 4 rfl rfl)
theorem dX6_init_579 : decode cX6_init 579 = .ok (.dup, 1) := dk_89 (dk_at dksX6_init_24 5 rfl rfl)
theorem dX6_init_580 : decode cX6_init 580 = .ok (.bipush 89, 2) := dk_16 89 (dk_at dksX6_init_24 6 rfl rfl)
theorem dX6_init_582 : decode cX6_init 582 = .ok (.bipush 109, 2) := dk_16 109 (dk_at dksX6_init_24 8 rfl rfl)
theorem dX6_init_584 : decode cX6_init 584 = .ok (.bastore, 1) := dk_84 (dk_at dksX6_init_24 10 rfl rfl)
theorem dX6_init_585 : decode cX6_init 585 = .ok (.dup, 1) := dk_89 (dk_at dksX6_init_24 11 rfl rfl)
theorem dX6_init_586 : decode cX6_init 586 = .ok (.bipush 90, 2) := dk_16 90 (dk_at dksX6_init_24 12 rfl rfl)
theorem dX6_init_588 : decode cX6_init 588 = .ok (.bipush 111, 2) := dk_16 111 (dk_at dksX6_init_24 14 rfl rfl)
theorem dX6_init_590 : decode cX6_init 590 = .ok (.bastore, 1) := dk_84 (dk_at dksX6_init_24 16 rfl rfl)
theorem dX6_init_591 : decode cX6_init 591 = .ok (.dup, 1) := dk_89 (dk_at dksX6_init_24 17 rfl rfl)
theorem dX6_init_592 : decode cX6_init 592 = .ok (.bipush 91, 2) := dk_16 91 (dk_at dksX6_init_24 18 rfl rfl)
theorem dX6_init_594 : decode cX6_init 594 = .ok (.bipush 111, 2) := dk_16 111 (dk_at dksX6_init_24 20 rfl rfl)
theorem dX6_init_596 : decode cX6_init 596 = .ok (.bastore, 1) := dk_84 (dk_at dksX6_init_24 22 rfl rfl)
theorem dX6_init_597 : decode cX6_init 597 = .ok (.dup, 1) := dk_89 (dk_at dksX6_init_24 23 rfl rfl)
theorem dX6_init_598 : decode cX6_init 598 = .ok (.bipush 92, 2) := dk_16 92 (dk_at dksX6_init_25 0 rfl rfl)
theorem dX6_init_600 : decode cX6_init 600 = .ok (.bipush 100, 2) := dk_16 100 (dk_at dksX6_init_25 2 rfl rfl)
theorem dX6_init_602 : decode cX6_init 602 = .ok (.bastore, 1) := dk_84 (dk_at dksX6_init_25 4 rfl rfl)
theorem dX6_init_603 : decode cX6_init 603 = .ok (.dup, 1) := dk_89 (dk_at dksX6_init_25 5 rfl rfl)
theorem dX6_init_604 : decode cX6_init 604 = .ok (.bipush 93, 2) := dk_16 93 (dk_at dksX6_init_25 6 rfl rfl)
theorem dX6_init_606 : decode cX6_init 606 = .ok (.bipush 32, 2) := dk_16 32 (dk_at dksX6_init_25 8 rfl rfl)
theorem dX6_init_608 : decode cX6_init 608 = .ok (.bastore, 1) := dk_84 (dk_at dksX6_init_25 10 rfl rfl)
theorem dX6_init_609 : decode cX6_init 609 = .ok (.dup, 1) := dk_89 (dk_at dksX6_init_25 11 rfl rfl)
theorem dX6_init_610 : decode cX6_init 610 = .ok (.bipush 94, 2) := dk_16 94 (dk_at dksX6_init_25 12 rfl rfl)
theorem dX6_init_612 : decode cX6_init 612 = .ok (.bipush 100, 2) := dk_16 100 (dk_at dksX6_init_25 14 rfl rfl)
theorem dX6_init_614 : decode cX6_init 614 = .ok (.bastore, 1) := dk_84 (dk_at dksX6_init_25 16 rfl rfl)
theorem dX6_init_615 : decode cX6_init 615 = .ok (.dup, 1) := dk_89 (dk_at dksX6_init_25 17 rfl rfl)
theorem dX6_init_616 : decode cX6_init 616 = .ok (.bipush 95, 2) := dk_16 95 (dk_at dksX6_init_25 18 rfl rfl)
theorem dX6_init_618 : decode cX6_init 618 = .ok (.bipush 97, 2) := dk_16 97 (dk_at dksX6_init_25 20 rfl rfl)
theorem dX6_init_620 : decode cX6_init 620 = .ok (.bastore, 1) := dk_84 (dk_at dksX6_init_25 22 rfl rfl)
theorem dX6_init_621 : decode cX6_init 621 = .ok (.dup, 1) := dk_89 (dk_at dksX6_init_25 23 rfl rfl)
theorem dX6_init_622 : decode cX6_init 622 = .ok (.bipush 96, 2) := dk_16 96 (dk_at dksX6_init_26 0 rfl rfl)
theorem dX6_init_624 : decode cX6_init 624 = .ok (.bipush 121, 2) := dk_16 121 (dk_at dksX6_init_26 2 rfl rfl)
theorem dX6_init_626 : decode cX6_init 626 = .ok (.bastore, 1) := dk_84 (dk_at dksX6_init_26 4 rfl rfl)
theorem dX6_init_627 : decode cX6_init 627 = .ok (.dup, 1) := dk_89 (dk_at dksX6_init_26 5 rfl rfl)
theorem dX6_init_628 : decode cX6_init 628 = .ok (.bipush 97, 2) := dk_16 97 (dk_at dksX6_init_26 6 rfl rfl)
theorem dX6_init_630 : decode cX6_init 630 = .ok (.bipush 32, 2) := dk_16 32 (dk_at dksX6_init_26 8 rfl rfl)
theorem dX6_init_632 : decode cX6_init 632 = .ok (.bastore, 1) := dk_84 (dk_at dksX6_init_26 10 rfl rfl)
theorem dX6_init_633 : decode cX6_init 633 = .ok (.dup, 1) := dk_89 (dk_at dksX6_init_26 11 rfl rfl)
theorem dX6_init_634 : decode cX6_init 634 = .ok (.bipush 98, 2) := dk_16 98 (dk_at dksX6_init_26 12 rfl rfl)
theorem dX6_init_636 : decode cX6_init 636 = .ok (.bipush 108, 2) := dk_16 108 (dk_at dksX6_init_26 14 rfl rfl)
theorem dX6_init_638 : decode cX6_init 638 = .ok (.bastore, 1) := dk_84 (dk_at dksX6_init_26 16 rfl rfl)
theorem dX6_init_639 : decode cX6_init 639 = .ok (.dup, 1) := dk_89 (dk_at dksX6_init_26 17 rfl rfl)
theorem dX6_init_640 : decode cX6_init 640 = .ok (.bipush 99, 2) := dk_16 99 (dk_at dksX6_init_26 18 rfl rfl)
theorem dX6_init_642 : decode cX6_init 642 = .ok (.bipush 105, 2) := dk_16 105 (dk_at dksX6_init_26 20 rfl rfl)
theorem dX6_init_644 : decode cX6_init 644 = .ok (.bastore, 1) := dk_84 (dk_at dksX6_init_26 22 rfl rfl)
theorem dX6_init_645 : decode cX6_init 645 = .ok (.dup, 1) := dk_89 (dk_at dksX6_init_26 23 rfl rfl)
theorem dX6_init_646 : decode cX6_init 646 = .ok (.bipush 100, 2) := dk_16 100 (dk_at dksX6_init_27 0 rfl rfl)
theorem dX6_init_648 : decode cX6_init 648 = .ok (.bipush 116, 2) := dk_16 116 (dk_at dksX6_init_27 2 rfl rfl)
theorem dX6_init_650 : decode cX6_init 650 = .ok (.bastore, 1) := dk_84 (dk_at dksX6_init_27 4 rfl rfl)
theorem dX6_init_651 : decode cX6_init 651 = .ok (.dup, 1) := dk_89 (dk_at dksX6_init_27 5 rfl rfl)
theorem dX6_init_652 : decode cX6_init 652 = .ok (.bipush 101, 2) := dk_16 101 (dk_at dksX6_init_27 6 rfl rfl)
theorem dX6_init_654 : decode cX6_init 654 = .ok (.bipush 32, 2) := dk_16 32 (dk_at dksX6_init_27 8 rfl rfl)
theorem dX6_init_656 : decode cX6_init 656 = .ok (.bastore, 1) := dk_84 (dk_at dksX6_init_27 10 rfl rfl)
theorem dX6_init_657 : decode cX6_init 657 = .ok (.dup, 1) := dk_89 (dk_at dksX6_init_27 11 rfl rfl)
theorem dX6_init_658 : decode cX6_init 658 = .ok (.bipush 102, 2) := dk_16 102 (dk_at dksX6_init_27 12 rfl rfl)
theorem dX6_init_660 : decode cX6_init 660 = .ok (.bipush 110, 2) := dk_16 110 (dk_at dksX6_init_27 14 rfl rfl)
theorem dX6_init_662 : decode cX6_init 662 = .ok (.bastore, 1) := dk_84 (dk_at dksX6_init_27 16 rfl rfl)
theorem dX6_init_663 : decode cX6_init 663 = .ok (.dup, 1) := dk_89 (dk_at dksX6_init_27 17 rfl rfl)
theorem dX6_init_664 : decode cX6_init 664 = .ok (.bipush 103, 2) := dk_16 103 (dk_at dksX6_init_27 18 rfl rfl)
theorem dX6_init_666 : decode cX6_init 666 = .ok (.bipush 105, 2) := dk_16 105 (dk_at dksX6_init_27 20 rfl rfl)
theorem dX6_init_668 : decode cX6_init 668 = .ok (.bastore, 1) := dk_84 (dk_at dksX6_init_27 22 rfl rfl)
theorem dX6_init_669 : decode cX6_init 669 = .ok (.dup, 1) := dk_89 (dk_at dksX6_init_27 23 rfl rfl)
theorem dX6_init_670 : decode cX6_init 670 = .ok (.bipush 104, 2) := dk_16 104 (dk_at dksX6_init_28 0 rfl rfl)
theorem dX6_init_672 : decode cX6_init 672 = .ok (.bipush 103, 2) := dk_16 103 (dk_at dksX6_init_28 2 rfl rfl)
theorem dX6_init_674 : decode cX6_init 674 = .ok (.bastore, 1) := dk_84 (dk_at dksX6_init_28 4 rfl rfl)
theorem dX6_init_675 : decode cX6_init 675 = .ok (.dup, 1) := dk_89 (dk_at dksX6_init_28 5 rfl rfl)
theorem dX6_init_676 : decode cX6_init 676 = .ok (.bipush 105, 2) := dk_16 105 (dk_at dksX6_init_28 6 rfl rfl)
theorem dX6_init_678 : decode cX6_init 678 = .ok (.bipush 104, 2) := dk_16 104 (dk_at dksX6_init_28 8 rfl rfl)
theorem dX6_init_680 : decode cX6_init 680 = .ok (.bastore, 1) := dk_84 (dk_at dksX6_init_28 10 rfl rfl)
theorem dX6_init_681 : decode cX6_init 681 = .ok (.dup, 1) := dk_89 (dk_at dksX6_init_28 11 rfl rfl)
theorem dX6_init_682 : decode cX6_init 682 = .ok (.bipush 106, 2) := dk_16 106 (dk_at dksX6_init_28 12 rfl rfl)
theorem dX6_init_684 : decode cX6_init 684 = .ok (.bipush 116, 2) := dk_16 116 (dk_at dksX6_init_28 14 rfl rfl)
theorem dX6_init_686 : decode cX6_init 686 = .ok (.bastore, 1) := dk_84 (dk_at dksX6_init_28 16 rfl rfl)
theorem dX6_init_687 : decode cX6_init 687 = .ok (.dup, 1) := dk_89 (dk_at dksX6_init_28 17 rfl rfl)
theorem dX6_init_688 : decode cX6_init 688 = .ok (.bipush 107, 2) := dk_16 107 (dk_at dksX6_init_28 18 rfl rfl)
theorem dX6_init_690 : decode cX6_init 690 = .ok (.bipush 115, 2) := dk_16 115 (dk_at dksX6_init_28 20 rfl rfl)
theorem dX6_init_692 : decode cX6_init 692 = .ok (.bastore, 1) := dk_84 (dk_at dksX6_init_28 22 rfl rfl)
theorem dX6_init_693 : decode cX6_init 693 = .ok (.dup, 1) := dk_89 (dk_at dksX6_init_28 23 rfl rfl)
theorem dX6_init_694 : decode cX6_init 694 = .ok (.bipush 108, 2) := dk_16 108 (dk_at dksX6_init_29 0 rfl rfl)
theorem dX6_init_696 : decode cX6_init 696 = .ok (.bipush 32, 2) := dk_16 32 (dk_at dksX6_init_29 2 rfl rfl)
theorem dX6_init_698 : decode cX6_init 698 = .ok (.bastore, 1) := dk_84 (dk_at dksX6_init_29 4 rfl rfl)
theorem dX6_init_699 : decode cX6_init 699 = .ok (.dup, 1) := dk_89 (dk_at dksX6_init_29 5 rfl rfl)
theorem dX6_init_700 : decode cX6_init 700 = .ok (.bipush 109, 2) := dk_16 109 (dk_at dksX6_init_29 6 rfl rfl)
theorem dX6_init_702 : decode cX6_init 702 = .ok (.bipush 100, 2) := dk_16 100 (dk_at dksX6_init_29 8 rfl rfl)
theorem dX6_init_704 : decode cX6_init 704 = .ok (.bastore, 1) := dk_84 (dk_at dksX6_init_29 10 rfl rfl)
theorem dX6_init_705 : decode cX6_init 705 = .ok (.dup, 1) := dk_89 (dk_at dksX6_init_29 11 rfl rfl)
theorem dX6_init_706 : decode cX6_init 706 = .ok (.bipush 110, 2) := dk_16 110 (dk_at dksX6_init_29 12 rfl rfl)
theorem dX6_init_708 : decode cX6_init 708 = .ok (.bipush 111, 2) := dk_16 111 (dk_at dksX6_init_29 14 rfl rfl)
theorem dX6_init_710 : decode cX6_init 710 = .ok (.bastore, 1) := dk_84 (dk_at dksX6_init_29 16 rfl rfl)
theorem dX6_init_711 : decode cX6_init 711 = .ok (.dup, 1) := dk_89 (dk_at dksX6_init_29 17 rfl rfl)
theorem dX6_init_712 : decode cX6_init 712 = .ok (.bipush 111, 2) := dk_16 111 (dk_at dksX6_init_29 18 rfl rfl)
theorem dX6_init_714 : decode cX6_init 714 = .ok (.bipush 110, 2) := dk_16 110 (dk_at dksX6_init_29 20 rfl rfl)
theorem dX6_init_716 : decode cX6_init 716 = .ok (.bastore, 1) := dk_84 (dk_at dksX6_init_29 22 rfl rfl)
theorem dX6_init_717 : decode cX6_init 717 = .ok (.dup, 1) := dk_89 (dk_at dksX6_init_29 23 rfl rfl)
theorem dX6_init_718 : decode cX6_init 718 = .ok (.bipush 112, 2) := dk_16 112 (dk_at dksX6_init_30 0 rfl rfl)
theorem dX6_init_720 : decode cX6_init 720 = .ok (.bipush 101, 2) := dk_16 101 (dk_at dksX6_init_30 2 rfl rfl)
theorem dX6_init_722 : decode cX6_init 722 = .ok (.bastore, 1) := dk_84 (dk_at dksX6_init_30 4 rfl rfl)
theorem dX6_init_723 : decode cX6_init 723 = .ok (.dup, 1) := dk_89 (dk_at dksX6_init_30 5 rfl rfl)
theorem dX6_init_724 : decode cX6_init 724 = .ok (.bipush 113, 2) := dk_16 113 (dk_at dksX6_init_30 6 rfl rfl)
theorem dX6_init_726 : decode cX6_init 726 = .ok (.bipush 32, 2) := dk_16 32 (dk_at dksX6_init_30 8 rfl rfl)
theorem dX6_init_728 : decode cX6_init 728 = .ok (.bastore, 1) := dk_84 (dk_at dksX6_init_30 10 rfl rfl)
theorem dX6_init_729 : decode cX6_init 729 = .ok (.dup, 1) := dk_89 (dk_at dksX6_init_30 11 rfl rfl)
theorem dX6_init_730 : decode cX6_init 730 = .ok (.bipush 114, 2) := dk_16 114 (dk_at dksX6_init_30 12 rfl rfl)
theorem dX6_init_732 : decode cX6_init 732 = .ok (.bipush 115, 2) := dk_16 115 (dk_at dksX6_init_30 14 rfl rfl)
theorem dX6_init_734 : decode cX6_init 734 = .ok (.bastore, 1) := dk_84 (dk_at dksX6_init_30 16 rfl rfl)
theorem dX6_init_735 : decode cX6_init 735 = .ok (.dup, 1) := dk_89 (dk_at dksX6_init_30 17 rfl rfl)
theorem dX6_init_736 : decode cX6_init 736 = .ok (.bipush 115, 2) := dk_16 115 (dk_at dksX6_init_30 18 rfl rfl)
theorem dX6_init_738 : decode cX6_init 738 = .ok (.bipush 112, 2) := dk_16 112 (dk_at dksX6_init_30 20 rfl rfl)
theorem dX6_init_740 : decode cX6_init 740 = .ok (.bastore, 1) := dk_84 (dk_at dksX6_init_30 22 rfl rfl)
theorem dX6_init_741 : decode cX6_init 741 = .ok (.dup, 1) := dk_89 (dk_at dksX6_init_30 23 rfl rfl)
theorem dX6_init_742 : decode cX6_init 742 = .ok (.bipush 116, 2) := dk_16 116 (dk_at dksX6_init_31 0 rfl rfl)
theorem dX6_init_744 : decode cX6_init 744 = .ok (.bipush 101, 2) := dk_16 101 (dk_at dksX6_init_31 2 rfl rfl)
theorem dX6_init_746 : decode cX6_init 746 = .ok (.bastore, 1) := dk_84 (dk_at dksX6_init_31 4 rfl rfl)
theorem dX6_init_747 : decode cX6_init 747 = .ok (.dup, 1) := dk_89 (dk_at dksX6_init_31 5 rfl rfl)
theorem dX6_init_748 : decode cX6_init 748 = .ok (.bipush 117, 2) := dk_16 117 (dk_at dksX6_init_31 6 rfl rfl)
theorem dX6_init_750 : decode cX6_init 750 = .ok (.bipush 110, 2) := dk_16 110 (dk_at dksX6_init_31 8 rfl rfl)
theorem dX6_init_752 : decode cX6_init 752 = .ok (.bastore, 1) := dk_84 (dk_at dksX6_init_31 10 rfl rfl)
theorem dX6_init_753 : decode cX6_init 753 = .ok (.dup, 1) := dk_89 (dk_at dksX6_init_31 11 rfl rfl)
theorem dX6_init_754 : decode cX6_init 754 = .ok (.bipush 118, 2) := dk_16 118 (dk_at dksX6_init_31 12 rfl rfl)
theorem dX6_init_756 : decode cX6_init 756 = .ok (.bipush 116, 2) := dk_16 116 (dk_at dksX6_init_31 14 rfl rfl)
theorem dX6_init_758 : decode cX6_init 758 = .ok (.bastore, 1) := dk_84 (dk_at dksX6_init_31 16 rfl rfl)
theorem dX6_init_759 : decode cX6_init 759 = .ok (.dup, 1) := dk_89 (dk_at dksX6_init_31 17 rfl rfl)
theorem dX6_init_760 : decode cX6_init 760 = .ok (.bipush 119, 2) := dk_16 119 (dk_at dksX6_init_31 18 rfl rfl)
theorem dX6_init_762 : decode cX6_init 762 = .ok (.bipush 32, 2) := dk_16 32 (dk_at dksX6_init_31 20 rfl rfl)
theorem dX6_init_764 : decode cX6_init 764 = .ok (.bastore, 1) := dk_84 (dk_at dksX6_init_31 22 rfl rfl)
theorem dX6_init_765 : decode cX6_init 765 = .ok (.dup, 1) := dk_89 (dk_at dksX6_init_31 23 rfl rfl)
theorem dX6_init_766 : decode cX6_init 766 = .ok (.bipush 120, 2) := dk_16 120 (dk_at dksX6_init_32 0 rfl rfl)
theorem dX6_init_768 : decode cX6_init 768 = .ok (.bipush 119, 2) := dk_16 119 (dk_at dksX6_init_32 2 rfl rfl)
theorem dX6_init_770 : decode cX6_init 770 = .ok (.bastore, 1) := dk_84 (dk_at dksX6_init_32 4 rfl rfl)
theorem dX6_init_771 : decode cX6_init 771 = .ok (.dup, 1) := dk_89 (dk_at dksX6_init_32 5 rfl rfl)
theorem dX6_init_772 : decode cX6_init 772 = .ok (.bipush 121, 2) := dk_16 121 (dk_at dksX6_init_32 6 rfl rfl)
theorem dX6_init_774 : decode cX6_init 774 = .ok (.bipush 111, 2) := dk_16 111 (dk_at dksX6_init_32 8 rfl rfl)
theorem dX6_init_776 : decode cX6_init 776 = .ok (.bastore, 1) := dk_84 (dk_at dksX6_init_32 10 rfl rfl)
theorem dX6_init_777 : decode cX6_init 777 = .ok (.dup, 1) := dk_89 (dk_at dksX6_init_32 11 rfl rfl)
theorem dX6_init_778 : decode cX6_init 778 = .ok (.bipush 122, 2) := dk_16 122 (dk_at dksX6_init_32 12 rfl rfl)
theorem dX6_init_780 : decode cX6_init 780 = .ok (.bipush 114, 2) := dk_16 114 (dk_at dksX6_init_32 14 rfl rfl)
theorem dX6_init_782 : decode cX6_init 782 = .ok (.bastore, 1) := dk_84 (dk_at dksX6_init_32 16 rfl rfl)
theorem dX6_init_783 : decode cX6_init 783 = .ok (.dup, 1) := dk_89 (dk_at dksX6_init_32 17 rfl rfl)
theorem dX6_init_784 : decode cX6_init 784 = .ok (.bipush 123, 2) := dk_16 123 (dk_at dksX6_init_32 18 rfl rfl)
theorem dX6_init_786 : decode cX6_init 786 = .ok (.bipush 116, 2) := dk_16 116 (dk_at dksX6_init_32 20 rfl rfl)
theorem dX6_init_788 : decode cX6_init 788 = .ok (.bastore, 1) := dk_84 (dk_at dksX6_init_32 22 rfl rfl)
theorem dX6_init_789 : decode cX6_init 789 = .ok (.dup, 1) := dk_89 (dk_at dksX6_init_32 23 rfl rfl)
theorem dX6_init_790 : decode cX6_init 790 = .ok (.bipush 124, 2) := dk_16 124 (dk_at dksX6_init_33 0 rfl rfl)
theorem dX6_init_792 : decode cX6_init 792 = .ok (.bipush 104, 2) := dk_16 104 (dk_at dksX6_init_33 2 rfl rfl)
theorem dX6_init_794 : decode cX6_init 794 = .ok (.bastore, 1) := dk_84 (dk_at dksX6_init_33 4 rfl rfl)
theorem dX6_init_795 : decode cX6_init 795 = .ok (.dup, 1) := dk_89 (dk_at dksX6_init_33 5 rfl rfl)
theorem dX6_init_796 : decode cX6_init 796 = .ok (.bipush 125, 2) := dk_16 125 (dk_at dksX6_init_33 6 rfl rfl)
theorem dX6_init_798 : decode cX6_init 798 = .ok (.bipush 32, 2) := dk_16 32 (dk_at dksX6_init_33 8 rfl rfl)
theorem dX6_init_800 : decode cX6_init 800 = .ok (.bastore, 1) := dk_84 (dk_at dksX6_init_33 10 rfl rfl)
theorem dX6_init_801 : decode cX6_init 801 = .ok (.dup, 1) := dk_89 (dk_at dksX6_init_33 11 rfl rfl)
theorem dX6_init_802 : decode cX6_init 802 = .ok (.bipush 126, 2) := dk_16 126 (dk_at dksX6_init_33 12 rfl rfl)
theorem dX6_init_804 : decode cX6_init 804 = .ok (.bipush 104, 2) := dk_16 104 (dk_at dksX6_init_33 14 rfl rfl)
theorem dX6_init_806 : decode cX6_init 806 = .ok (.bastore, 1) := dk_84 (dk_at dksX6_init_33 16 rfl rfl)
theorem dX6_init_807 : decode cX6_init 807 = .ok (.dup, 1) := dk_89 (dk_at dksX6_init_33 17 rfl rfl)
theorem dX6_init_808 : decode cX6_init 808 = .ok (.bipush 127, 2) := dk_16 127 (dk_at dksX6_init_33 18 rfl rfl)
theorem dX6_init_810 : decode cX6_init 810 = .ok (.bipush 101, 2) := dk_16 101 (dk_at dksX6_init_33 20 rfl rfl)
theorem dX6_init_812 : decode cX6_init 812 = .ok (.bastore, 1) := dk_84 (dk_at dksX6_init_33 22 rfl rfl)
theorem dX6_init_813 : decode cX6_init 813 = .ok (.dup, 1) := dk_89 (dk_at dksX6_init_33 23 rfl rfl)
theorem dX6_init_814 : decode cX6_init 814 = .ok (.sipush 128, 3) := dk_17 0 128 (dk_at dksX6_init_34 0 rfl rfl)
theorem dX6_init_817 : decode cX6_init 817 = .ok (.bipush 114, 2) := dk_16 114 (dk_at dksX6_init_34 3 rfl rfl)
theorem dX6_init_819 : decode cX6_init 819 = .ok (.bastore, 1) := dk_84 (dk_at dksX6_init_34 5 rfl rfl)
theorem dX6_init_820 : decode cX6_init 820 = .ok (.dup, 1) := dk_89 (dk_at dksX6_init_34 6 rfl rfl)
theorem dX6_init_821 : decode cX6_init 821 = .ok (.sipush 129, 3) := dk_17 0 129 (dk_at dksX6_init_34 7 rfl rfl)
theorem dX6_init_824 : decode cX6_init 824 = .ok (.bipush 101, 2) := dk_16 101 (dk_at dksX6_init_34 10 rfl rfl)
theorem dX6_init_826 : decode cX6_init 826 = .ok (.bastore, 1) := dk_84 (dk_at dksX6_init_34 12 rfl rfl)
theorem dX6_init_827 : decode cX6_init 827 = .ok (.dup, 1) := dk_89 (dk_at dksX6_init_34 13 rfl rfl)
theorem dX6_init_828 : decode cX6_init 828 = .ok (.sipush 130, 3) := dk_17 0 130 (dk_at dksX6_init_34 14 rfl rfl)
theorem dX6_init_831 : decode cX6_init 831 = .ok (.bipush 32, 2) := dk_16 32 (dk_at dksX6_init_34 17 rfl rfl)
theorem dX6_init_833 : decode cX6_init 833 = .ok (.bastore, 1) := dk_84 (dk_at dksX6_init_34 19 rfl rfl)
theorem dX6_init_834 : decode cX6_init 834 = .ok (.dup, 1) := dk_89 (dk_at dksX6_init_34 20 rfl rfl)
theorem dX6_init_835 : decode cX6_init 835 = .ok (.sipush 131, 3) := dk_17 0 131 (dk_at dksX6_init_34 21 rfl rfl)
theorem dX6_init_838 : decode cX6_init 838 = .ok (.bipush 115, 2) := dk_16 115 (dk_at dksX6_init_35 0 rfl rfl)
theorem dX6_init_840 : decode cX6_init 840 = .ok (.bastore, 1) := dk_84 (dk_at dksX6_init_35 2 rfl rfl)
theorem dX6_init_841 : decode cX6_init 841 = .ok (.dup, 1) := dk_89 (dk_at dksX6_init_35 3 rfl rfl)
theorem dX6_init_842 : decode cX6_init 842 = .ok (.sipush 132, 3) := dk_17 0 132 (dk_at dksX6_init_35 4 rfl rfl)
theorem dX6_init_845 : decode cX6_init 845 = .ok (.bipush 101, 2) := dk_16 101 (dk_at dksX6_init_35 7 rfl rfl)
theorem dX6_init_847 : decode cX6_init 847 = .ok (.bastore, 1) := dk_84 (dk_at dksX6_init_35 9 rfl rfl)
theorem dX6_init_848 : decode cX6_init 848 = .ok (.dup, 1) := dk_89 (dk_at dksX6_init_35 10 rfl rfl)
theorem dX6_init_849 : decode cX6_init 849 = .ok (.sipush 133, 3) := dk_17 0 133 (dk_at dksX6_init_35 11 rfl rfl)
theorem dX6_init_852 : decode cX6_init 852 = .ok (.bipush 110, 2) := dk_16 110 (dk_at dksX6_init_35 14 rfl rfl)
theorem dX6_init_854 : decode cX6_init 854 = .ok (.bastore, 1) := dk_84 (dk_at dksX6_init_35 16 rfl rfl)
theorem dX6_init_855 : decode cX6_init 855 = .ok (.dup, 1) := dk_89 (dk_at dksX6_init_35 17 rfl rfl)
theorem dX6_init_856 : decode cX6_init 856 = .ok (.sipush 134, 3) := dk_17 0 134 (dk_at dksX6_init_35 18 rfl rfl)
theorem dX6_init_859 : decode cX6_init 859 = .ok (.bipush 100, 2) := dk_16 100 (dk_at dksX6_init_35 21 rfl rfl)
theorem dX6_init_861 : decode cX6_init 861 = .ok (.bastore, 1) := dk_84 (dk_at dksX6_init_35 23 rfl rfl)
theorem dX6_init_862 : decode cX6_init 862 = .ok (.dup, 1) := dk_89 (dk_at dksX6_init_36 0 rfl rfl)
theorem dX6_init_863 : decode cX6_init 863 = .ok (.sipush 135, 3) := dk_17 0 135 (dk_at dksX6_init_36 1 rfl rfl)
theorem dX6_init_866 : decode cX6_init 866 = .ok (.bipush 32, 2) := dk_16 32 (dk_at dksX6_init_36 4 rfl rfl)
theorem dX6_init_868 : decode cX6_init 868 = .ok (.bastore, 1) := dk_84 (dk_at dksX6_init_36 6 rfl rfl)
theorem dX6_init_869 : decode cX6_init 869 = .ok (.dup, 1) := dk_89 (dk_at dksX6_init_36 7 rfl rfl)
theorem dX6_init_870 : decode cX6_init 870 = .ok (.sipush 136, 3) := dk_17 0 136 (dk_at dksX6_init_36 8 rfl rfl)
theorem dX6_init_873 : decode cX6_init 873 = .ok (.bipush 108, 2) := dk_16 108 (dk_at dksX6_init_36 11 rfl rfl)
theorem dX6_init_875 : decode cX6_init 875 = .ok (.bastore, 1) := dk_84 (dk_at dksX6_init_36 13 rfl rfl)
theorem dX6_init_876 : decode cX6_init 876 = .ok (.dup, 1) := dk_89 (dk_at dksX6_init_36 14 rfl rfl)
theorem dX6_init_877 : decode cX6_init 877 = .ok (.sipush 137, 3) := dk_17 0 137 (dk_at dksX6_init_36 15 rfl rfl)
theorem dX6_init_880 : decode cX6_init 880 = .ok (.bipush 105, 2) := dk_16 105 (dk_at dksX6_init_36 18 rfl rfl)
theorem dX6_init_882 : decode cX6_init 882 = .ok (.bastore, 1) := dk_84 (dk_at dksX6_init_36 20 rfl rfl)
theorem dX6_init_883 : decode cX6_init 883 = .ok (.dup, 1) := dk_89 (dk_at dksX6_init_36 21 rfl rfl)
theorem dX6_init_884 : decode cX6_init 884 = .ok (.sipush 138, 3) := dk_17 0 138 (dk_at dksX6_init_37 0 rfl rfl)
theorem dX6_init_887 : decode cX6_init 887 = .ok (.bipush 103, 2) := dk_16 103 (dk_at dksX6_init_37 3 rfl rfl)
theorem dX6_init_889 : decode cX6_init 889 = .ok (.bastore, 1) := dk_84 (dk_at dksX6_init_37 5 rfl rfl)
theorem dX6_init_890 : decode cX6_init 890 = .ok (.dup, 1) := dk_89 (dk_at dksX6_init_37 6 rfl rfl)
theorem dX6_init_891 : decode cX6_init 891 = .ok (.sipush 139, 3) := dk_17 0 139 (dk_at dksX6_init_37 7 rfl rfl)
theorem dX6_init_894 : decode cX6_init 894 = .ok (.bipush 104, 2) := dk_16 104 (dk_at dksX6_init_37 10 rfl rfl)
theorem dX6_init_896 : decode cX6_init 896 = .ok (.bastore, 1) := dk_84 (dk_at dksX6_init_37 12 rfl rfl)
theorem dX6_init_897 : decode cX6_init 897 = .ok (.dup, 1) := dk_89 (dk_at dksX6_init_37 13 rfl rfl)
theorem dX6_init_898 : decode cX6_init 898 = .ok (.sipush 140, 3) := dk_17 0 140 (dk_at dksX6_init_37 14 rfl rfl)
theorem dX6_init_901 : decode cX6_init 901 = .ok (.bipush 116, 2) := dk_16 116 (dk_at dksX6_init_37 17 rfl rfl)
theorem dX6_init_903 : decode cX6_init 903 = .ok (.bastore, 1) := dk_84 (dk_at dksX6_init_37 19 rfl rfl)
theorem dX6_init_904 : decode cX6_init 904 = .ok (.dup, 1) := dk_89 (dk_at dksX6_init_37 20 rfl rfl)
theorem dX6_init_905 : decode cX6_init 905 = .ok (.sipush 141, 3) := dk_17 0 141 (dk_at dksX6_init_37 21 rfl rfl)
theorem dX6_init_908 : decode cX6_init 908 = .ok (.bipush 32, 2) := dk_16 32 (dk_at dksX6_init_38 0 rfl rfl)
theorem dX6_init_910 : decode cX6_init 910 = .ok (.bastore, 1) := dk_84 (dk_at dksX6_init_38 2 rfl rfl)
theorem dX6_init_911 : decode cX6_init 911 = .ok (.dup, 1) := dk_89 (dk_at dksX6_init_38 3 rfl rfl)
theorem dX6_init_912 : decode cX6_init 912 = .ok (.sipush 142, 3) := dk_17 0 142 (dk_at dksX6_init_38 4 rfl rfl)
theorem dX6_init_915 : decode cX6_init 915 = .ok (.bipush 100, 2) := dk_16 100 (dk_at dksX6_init_38 7 rfl rfl)
theorem dX6_init_917 : decode cX6_init 917 = .ok (.bastore, 1) := dk_84 (dk_at dksX6_init_38 9 rfl rfl)
theorem dX6_init_918 : decode cX6_init 918 = .ok (.dup, 1) := dk_89 (dk_at dksX6_init_38 10 rfl rfl)
theorem dX6_init_919 : decode cX6_init 919 = .ok (.sipush 143, 3) := dk_17 0 143 (dk_at dksX6_init_38 11 rfl rfl)
theorem dX6_init_922 : decode cX6_init 922 = .ok (.bipush 97, 2) := dk_16 97 (dk_at dksX6_init_38 14 rfl rfl)
theorem dX6_init_924 : decode cX6_init 924 = .ok (.bastore, 1) := dk_84 (dk_at dksX6_init_38 16 rfl rfl)
theorem dX6_init_925 : decode cX6_init 925 = .ok (.dup, 1) := dk_89 (dk_at dksX6_init_38 17 rfl rfl)
theorem dX6_init_926 : decode cX6_init 926 = .ok (.sipush 144, 3) := dk_17 0 144 (dk_at dksX6_init_38 18 rfl rfl)
theorem dX6_init_929 : decode cX6_init 929 = .ok (.bipush 114, 2) := dk_16 114 (dk_at dksX6_init_38 21 rfl rfl)
theorem dX6_init_931 : decode cX6_init 931 = .ok (.bastore, 1) := dk_84 (dk_at dksX6_init_38 23 rfl rfl)
theorem dX6_init_932 : decode cX6_init 932 = .ok (.dup, 1) := dk_89 (dk_at dksX6_init_39 0 rfl rfl)
theorem dX6_init_933 : decode cX6_init 933 = .ok (.sipush 145, 3) := dk_17 0 145 (dk_at dksX6_init_39 1 rfl rfl)
theorem dX6_init_936 : decode cX6_init 936 = .ok (.bipush 107, 2) := dk_16 107 (dk_at dksX6_init_39 4 rfl rfl)
theorem dX6_init_938 : decode cX6_init 938 = .ok (.bastore, 1) := dk_84 (dk_at dksX6_init_39 6 rfl rfl)
theorem dX6_init_939 : decode cX6_init 939 = .ok (.dup, 1) := dk_89 (dk_at dksX6_init_39 7 rfl rfl)
theorem dX6_init_940 : decode cX6_init 940 = .ok (.sipush 146, 3) := dk_17 0 146 (dk_at dksX6_init_39 8 rfl rfl)
theorem dX6_init_943 : decode cX6_init 943 = .ok (.bipush 32, 2) := dk_16 32 (dk_at dksX6_init_39 11 rfl rfl)
theorem dX6_init_945 : decode cX6_init 945 = .ok (.bastore, 1) := dk_84 (dk_at dksX6_init_39 13 rfl rfl)
theorem dX6_init_946 : decode cX6_init 946 = .ok (.dup, 1) := dk_89 (dk_at dksX6_init_39 14 rfl rfl)
theorem dX6_init_947 : decode cX6_init 947 = .ok (.sipush 147, 3) := dk_17 0 147 (dk_at dksX6_init_39 15 rfl rfl)
theorem dX6_init_950 : decode cX6_init 950 = .ok (.bipush 116, 2) := dk_16 116 (dk_at dksX6_init_39 18 rfl rfl)
theorem dX6_init_952 : decode cX6_init 952 = .ok (.bastore, 1) := dk_84 (dk_at dksX6_init_39 20 rfl rfl)
theorem dX6_init_953 : decode cX6_init 953 = .ok (.dup, 1) := dk_89 (dk_at dksX6_init_39 21 rfl rfl)
theorem dX6_init_954 : decode cX6_init 954 = .ok (.sipush 148, 3) := dk_17 0 148 (dk_at dksX6_init_40 0 rfl rfl)
theorem dX6_init_957 : decode cX6_init 957 = .ok (.bipush 105, 2) := dk_16 105 (dk_at dksX6_init_40 3 rfl rfl)
theorem dX6_init_959 : decode cX6_init 959 = .ok (.bastore, 1) := dk_84 (dk_at dksX6_init_40 5 rfl rfl)
theorem dX6_init_960 : decode cX6_init 960 = .ok (.dup, 1) := dk_89 (dk_at dksX6_init_40 6 rfl rfl)
theorem dX6_init_961 : decode cX6_init 961 = .ok (.sipush 149, 3) := dk_17 0 149 (dk_at dksX6_init_40 7 rfl rfl)
theorem dX6_init_964 : decode cX6_init 964 = .ok (.bipush 109, 2) := dk_16 109 (dk_at dksX6_init_40 10 rfl rfl)
theorem dX6_init_966 : decode cX6_init 966 = .ok (.bastore, 1) := dk_84 (dk_at dksX6_init_40 12 rfl rfl)
theorem dX6_init_967 : decode cX6_init 967 = .ok (.dup, 1) := dk_89 (dk_at dksX6_init_40 13 rfl rfl)
theorem dX6_init_968 : decode cX6_init 968 = .ok (.sipush 150, 3) := dk_17 0 150 (dk_at dksX6_init_40 14 rfl rfl)
theorem dX6_init_971 : decode cX6_init 971 = .ok (.bipush 101, 2) := dk_16 101 (dk_at dksX6_init_40 17 rfl rfl)
theorem dX6_init_973 : decode cX6_init 973 = .ok (.bastore, 1) := dk_84 (dk_at dksX6_init_40 19 rfl rfl)
theorem dX6_init_974 : decode cX6_init 974 = .ok (.dup, 1) := dk_89 (dk_at dksX6_init_40 20 rfl rfl)
theorem dX6_init_975 : decode cX6_init 975 = .ok (.sipush 151, 3) := dk_17 0 151 (dk_at dksX6_init_40 21 rfl rfl)
theorem dX6_init_978 : decode cX6_init 978 = .ok (.bipush 115, 2) := dk_16 115 (dk_at dksX6_init_41 0 rfl rfl)
theorem dX6_init_980 : decode cX6_init 980 = .ok (.bastore, 1) := dk_84 (dk_at dksX6_init_41 2 rfl rfl)
theorem dX6_init_981 : decode cX6_init 981 = .ok (.dup, 1) := dk_89 (dk_at dksX6_init_41 3 rfl rfl)
theorem dX6_init_982 : decode cX6_init 982 = .ok (.sipush 152, 3) := dk_17 0 152 (dk_at dksX6_init_41 4 rfl rfl)
theorem dX6_init_985 : decode cX6_init 985 = .ok (.bipush 32, 2) := dk_16 32 (dk_at dksX6_init_41 7 rfl rfl)
theorem dX6_init_987 : decode cX6_init 987 = .ok (.bastore, 1) := dk_84 (dk_at dksX6_init_41 9 rfl rfl)
theorem dX6_init_988 : decode cX6_init 988 = .ok (.putfield 37, 3) := dk_181 0 37 (dk_at dksX6_init_41 10 rfl rfl)
theorem dX6_init_991 : decode cX6_init 991 = .ok (.aload_n 0, 1) := dk_42 (dk_at dksX6_init_41 13 rfl rfl)
theorem dX6_init_992 : decode cX6_init 992 = .ok (.sipush 400, 3) := dk_17 1 144 (dk_at dksX6_init_41 14 rfl rfl)
theorem dX6_init_995 : decode cX6_init 995 = .ok (.newarray .byte, 2) := dk_188_8 (dk_at dksX6_init_41 17 rfl rfl)
theorem dX6_init_997 : decode cX6_init 997 = .ok (.putfield 41, 3) := dk_181 0 41 (dk_at dksX6_init_41 19 rfl rfl)
theorem dX6_init_1000 : decode cX6_init 1000 = .ok (.aload_n 0, 1) := dk_42 (dk_at dksX6_init_41 22 rfl rfl)
theorem dX6_init_1001 : decode cX6_init 1001 = .ok (.iconst 5, 1) := dk_8 (dk_at dksX6_init_41 23 rfl rfl)
theorem dX6_init_1002 : decode cX6_init 1002 = .ok (.newarray .int, 2) := dk_188_10 (dk_at dksX6_init_42 0 rfl rfl)
theorem dX6_init_1004 : decode cX6_init 1004 = .ok (.putfield 44, 3) := dk_181 0 44 (dk_at dksX6_init_42 2 rfl rfl)
theorem dX6_init_1007 : decode cX6_init 1007 = .ok (.aload_n 0, 1) := dk_42 (dk_at dksX6_init_42 5 rfl rfl)
theorem dX6_init_1008 : decode cX6_init 1008 = .ok (.iconst (-1), 1) := dk_2 (dk_at dksX6_init_42 6 rfl rfl)
theorem dX6_init_1009 : decode cX6_init 1009 = .ok (.putfield 47, 3) := dk_181 0 47 (dk_at dksX6_init_42 7 rfl rfl)
theorem dX6_init_1012 : decode cX6_init 1012 = .ok (.aload_n 0, 1) := dk_42 (dk_at dksX6_init_42 10 rfl rfl)
theorem dX6_init_1013 : decode cX6_init 1013 = .ok (.sipush 401, 3) := dk_17 1 145 (dk_at dksX6_init_42 11 rfl rfl)
theorem dX6_init_1016 : decode cX6_init 1016 = .ok (.newarray .int, 2) := dk_188_10 (dk_at dksX6_init_42 14 rfl rfl)
theorem dX6_init_1018 : decode cX6_init 1018 = .ok (.putfield 50, 3) := dk_181 0 50 (dk_at dksX6_init_42 16 rfl rfl)
theorem dX6_init_1021 : decode cX6_init 1021 = .ok (.aload_n 0, 1) := dk_42 (dk_at dksX6_init_42 19 rfl rfl)
theorem dX6_init_1022 : decode cX6_init 1022 = .ok (.sipush 401, 3) := dk_17 1 145 (dk_at dksX6_init_42 20 rfl rfl)
theorem dX6_init_1025 : decode cX6_init 1025 = .ok (.newarray .int, 2) := dk_188_10 (dk_at dksX6_init_43 0 rfl rfl)
theorem dX6_init_1027 : decode cX6_init 1027 = .ok (.putfield 53, 3) := dk_181 0 53 (dk_at dksX6_init_43 2 rfl rfl)
theorem dX6_init_1030 : decode cX6_init 1030 = .ok (.aload_n 0, 1) := dk_42 (dk_at dksX6_init_43 5 rfl rfl)
theorem dX6_init_1031 : decode cX6_init 1031 = .ok (.sipush 401, 3) := dk_17 1 145 (dk_at dksX6_init_43 6 rfl rfl)
theorem dX6_init_1034 : decode cX6_init 1034 = .ok (.newarray .int, 2) := dk_188_10 (dk_at dksX6_init_43 9 rfl rfl)
theorem dX6_init_1036 : decode cX6_init 1036 = .ok (.putfield 56, 3) := dk_181 0 56 (dk_at dksX6_init_43 11 rfl rfl)
theorem dX6_init_1039 : decode cX6_init 1039 = .ok (.aload_n 0, 1) := dk_42 (dk_at dksX6_init_43 14 rfl rfl)
theorem dX6_init_1040 : decode cX6_init 1040 = .ok (.bipush 10, 2) := dk_16 10 (dk_at dksX6_init_43 15 rfl rfl)
theorem dX6_init_1042 : decode cX6_init 1042 = .ok (.newarray .int, 2) := dk_188_10 (dk_at dksX6_init_43 17 rfl rfl)
theorem dX6_init_1044 : decode cX6_init 1044 = .ok (.putfield 59, 3) := dk_181 0 59 (dk_at dksX6_init_43 19 rfl rfl)
theorem dX6_init_1047 : decode cX6_init 1047 = .ok (.aload_n 0, 1) := dk_42 (dk_at dksX6_init_43 22 rfl rfl)
theorem dX6_init_1048 : decode cX6_init 1048 = .ok (.sipush 560, 3) := dk_17 2 48 (dk_at dksX6_init_44 0 rfl rfl)
theorem dX6_init_1051 : decode cX6_init 1051 = .ok (.newarray .int, 2) := dk_188_10 (dk_at dksX6_init_44 3 rfl rfl)
theorem dX6_init_1053 : decode cX6_init 1053 = .ok (.putfield 62, 3) := dk_181 0 62 (dk_at dksX6_init_44 5 rfl rfl)
theorem dX6_init_1056 : decode cX6_init 1056 = .ok (.aload_n 0, 1) := dk_42 (dk_at dksX6_init_44 8 rfl rfl)
theorem dX6_init_1057 : decode cX6_init 1057 = .ok (.sipush 560, 3) := dk_17 2 48 (dk_at dksX6_init_44 9 rfl rfl)
theorem dX6_init_1060 : decode cX6_init 1060 = .ok (.newarray .int, 2) := dk_188_10 (dk_at dksX6_init_44 12 rfl rfl)
theorem dX6_init_1062 : decode cX6_init 1062 = .ok (.putfield 65, 3) := dk_181 0 65 (dk_at dksX6_init_44 14 rfl rfl)
theorem dX6_init_1065 : decode cX6_init 1065 = .ok (.aload_n 0, 1) := dk_42 (dk_at dksX6_init_44 17 rfl rfl)
theorem dX6_init_1066 : decode cX6_init 1066 = .ok (.bipush 10, 2) := dk_16 10 (dk_at dksX6_init_44 18 rfl rfl)
theorem dX6_init_1068 : decode cX6_init 1068 = .ok (.newarray .int, 2) := dk_188_10 (dk_at dksX6_init_44 20 rfl rfl)
theorem dX6_init_1070 : decode cX6_init 1070 = .ok (.putfield 68, 3) := dk_181 0 68 (dk_at dksX6_init_45 0 rfl rfl)
theorem dX6_init_1073 : decode cX6_init 1073 = .ok (.aload_n 0, 1) := dk_42 (dk_at dksX6_init_45 3 rfl rfl)
theorem dX6_init_1074 : decode cX6_init 1074 = .ok (.bipush 100, 2) := dk_16 100 (dk_at dksX6_init_45 4 rfl rfl)
theorem dX6_init_1076 : decode cX6_init 1076 = .ok (.newarray .int, 2) := dk_188_10 (dk_at dksX6_init_45 6 rfl rfl)
theorem dX6_init_1078 : decode cX6_init 1078 = .ok (.putfield 71, 3) := dk_181 0 71 (dk_at dksX6_init_45 8 rfl rfl)
theorem dX6_init_1081 : decode cX6_init 1081 = .ok (.aload_n 0, 1) := dk_42 (dk_at dksX6_init_45 11 rfl rfl)
theorem dX6_init_1082 : decode cX6_init 1082 = .ok (.sipush 330, 3) := dk_17 1 74 (dk_at dksX6_init_45 12 rfl rfl)
theorem dX6_init_1085 : decode cX6_init 1085 = .ok (.newarray .byte, 2) := dk_188_8 (dk_at dksX6_init_45 15 rfl rfl)
theorem dX6_init_1087 : decode cX6_init 1087 = .ok (.putfield 74, 3) := dk_181 0 74 (dk_at dksX6_init_45 17 rfl rfl)
theorem dX6_init_1090 : decode cX6_init 1090 = .ok (.aload_n 0, 1) := dk_42 (dk_at dksX6_init_45 20 rfl rfl)
theorem dX6_init_1091 : decode cX6_init 1091 = .ok (.bipush 10, 2) := dk_16 10 (dk_at dksX6_init_45 21 rfl rfl)
theorem dX6_init_1093 : decode cX6_init 1093 = .ok (.newarray .int, 2) := dk_188_10 (dk_at dksX6_init_46 0 rfl rfl)
theorem dX6_init_1095 : decode cX6_init 1095 = .ok (.putfield 77, 3) := dk_181 0 77 (dk_at dksX6_init_46 2 rfl rfl)
theorem dX6_init_1098 : decode cX6_init 1098 = .ok (.aload_n 0, 1) := dk_42 (dk_at dksX6_init_46 5 rfl rfl)
theorem dX6_init_1099 : decode cX6_init 1099 = .ok (.sipush 11264, 3) := dk_17 44 0 (dk_at dksX6_init_46 6 rfl rfl)
theorem dX6_init_1102 : decode cX6_init 1102 = .ok (.newarray .byte, 2) := dk_188_8 (dk_at dksX6_init_46 9 rfl rfl)
theorem dX6_init_1104 : decode cX6_init 1104 = .ok (.putfield 80, 3) := dk_181 0 80 (dk_at dksX6_init_46 11 rfl rfl)
theorem dX6_init_1107 : decode cX6_init 1107 = .ok (.aload_n 0, 1) := dk_42 (dk_at dksX6_init_46 14 rfl rfl)
theorem dX6_init_1108 : decode cX6_init 1108 = .ok (.sipush 11264, 3) := dk_17 44 0 (dk_at dksX6_init_46 15 rfl rfl)
theorem dX6_init_1111 : decode cX6_init 1111 = .ok (.newarray .int, 2) := dk_188_10 (dk_at dksX6_init_46 18 rfl rfl)
theorem dX6_init_1113 : decode cX6_init 1113 = .ok (.putfield 83, 3) := dk_181 0 83 (dk_at dksX6_init_46 20 rfl rfl)
theorem dX6_init_1116 : decode cX6_init 1116 = .ok (.aload_n 0, 1) := dk_42 (dk_at dksX6_init_46 23 rfl rfl)
theorem dX6_init_1117 : decode cX6_init 1117 = .ok (.sipush 11264, 3) := dk_17 44 0 (dk_at dksX6_init_47 0 rfl rfl)
theorem dX6_init_1120 : decode cX6_init 1120 = .ok (.newarray .long, 2) := dk_188_11 (dk_at dksX6_init_47 3 rfl rfl)
theorem dX6_init_1122 : decode cX6_init 1122 = .ok (.putfield 86, 3) := dk_181 0 86 (dk_at dksX6_init_47 5 rfl rfl)
theorem dX6_init_1125 : decode cX6_init 1125 = .ok (.aload_n 0, 1) := dk_42 (dk_at dksX6_init_47 8 rfl rfl)
theorem dX6_init_1126 : decode cX6_init 1126 = .ok (.bipush 10, 2) := dk_16 10 (dk_at dksX6_init_47 9 rfl rfl)
theorem dX6_init_1128 : decode cX6_init 1128 = .ok (.newarray .int, 2) := dk_188_10 (dk_at dksX6_init_47 11 rfl rfl)
theorem dX6_init_1130 : decode cX6_init 1130 = .ok (.putfield 90, 3) := dk_181 0 90 (dk_at dksX6_init_47 13 rfl rfl)
theorem dX6_init_1133 : decode cX6_init 1133 = .ok (.aload_n 0, 1) := dk_42 (dk_at dksX6_init_47 16 rfl rfl)
theorem dX6_init_1134 : decode cX6_init 1134 = .ok (.sipush 11264, 3) := dk_17 44 0 (dk_at dksX6_init_47 17 rfl rfl)
theorem dX6_init_1137 : decode cX6_init 1137 = .ok (.newarray .boolean, 2) := dk_188_4 (dk_at dksX6_init_47 20 rfl rfl)
theorem dX6_init_1139 : decode cX6_init 1139 = .ok (.putfield 93, 3) := dk_181 0 93 (dk_at dksX6_init_48 0 rfl rfl)
theorem dX6_init_1142 : decode cX6_init 1142 = .ok (.aload_n 0, 1) := dk_42 (dk_at dksX6_init_48 3 rfl rfl)
theorem dX6_init_1143 : decode cX6_init 1143 = .ok (.ldc 96, 2) := dk_18 96 (dk_at dksX6_init_48 4 rfl rfl)
theorem dX6_init_1145 : decode cX6_init 1145 = .ok (.newarray .byte, 2) := dk_188_8 (dk_at dksX6_init_48 6 rfl rfl)
theorem dX6_init_1147 : decode cX6_init 1147 = .ok (.putfield 97, 3) := dk_181 0 97 (dk_at dksX6_init_48 8 rfl rfl)
theorem dX6_init_1150 : decode cX6_init 1150 = .ok (.aload_n 0, 1) := dk_42 (dk_at dksX6_init_48 11 rfl rfl)
theorem dX6_init_1151 : decode cX6_init 1151 = .ok (.iconst (-1), 1) := dk_2 (dk_at dksX6_init_48 12 rfl rfl)
theorem dX6_init_1152 : decode cX6_init 1152 = .ok (.putfield 100, 3) := dk_181 0 100 (dk_at dksX6_init_48 13 rfl rfl)
theorem dX6_init_1155 : decode cX6_init 1155 = .ok (.aload_n 0, 1) := dk_42 (dk_at dksX6_init_48 16 rfl rfl)
theorem dX6_init_1156 : decode cX6_init 1156 = .ok (.bipush 60, 2) := dk_16 60 (dk_at dksX6_init_48 17 rfl rfl)
theorem dX6_init_1158 : decode cX6_init 1158 = .ok (.newarray .int, 2) := dk_188_10 (dk_at dksX6_init_48 19 rfl rfl)
theorem dX6_init_1160 : decode cX6_init 1160 = .ok (.putfield 103, 3) := dk_181 0 103 (dk_at dksX6_init_48 21 rfl rfl)
theorem dX6_init_1163 : decode cX6_init 1163 = .ok (.aload_n 0, 1) := dk_42 (dk_at dksX6_init_49 0 rfl rfl)
theorem dX6_init_1164 : decode cX6_init 1164 = .ok (.getfield 24, 3) := dk_180 0 24 (dk_at dksX6_init_49 1 rfl rfl)
theorem dX6_init_1167 : decode cX6_init 1167 = .ok (.sipush 254, 3) := dk_17 0 254 (dk_at dksX6_init_49 4 rfl rfl)
theorem dX6_init_1170 : decode cX6_init 1170 = .ok (.iconst 3, 1) := dk_6 (dk_at dksX6_init_49 7 rfl rfl)
theorem dX6_init_1171 : decode cX6_init 1171 = .ok (.iastore, 1) := dk_79 (dk_at dksX6_init_49 8 rfl rfl)
theorem dX6_init_1172 : decode cX6_init 1172 = .ok (.aload_n 0, 1) := dk_42 (dk_at dksX6_init_49 9 rfl rfl)
theorem dX6_init_1173 : decode cX6_init 1173 = .ok (.getfield 24, 3) := dk_180 0 24 (dk_at dksX6_init_49 10 rfl rfl)
theorem dX6_init_1176 : decode cX6_init 1176 = .ok (.sipush 258, 3) := dk_17 1 2 (dk_at dksX6_init_49 13 rfl rfl)
theorem dX6_init_1179 : decode cX6_init 1179 = .ok (.iconst (-1), 1) := dk_2 (dk_at dksX6_init_49 16 rfl rfl)
theorem dX6_init_1180 : decode cX6_init 1180 = .ok (.iastore, 1) := dk_79 (dk_at dksX6_init_49 17 rfl rfl)
theorem dX6_init_1181 : decode cX6_init 1181 = .ok (.return_, 1) := dk_177 (dk_at dksX6_init_49 18 rfl rfl)
abbrev cX6_image : ByteArray := prog_29_method_9_code
def yX6_image : MethodName := ⟨RX6, "image", "(I)I"⟩
def dkwX6_image_2 : List UInt8 := [42, 180, 0, 30, 27, 4, 84, 42, 3, 182, 0, 14, 172]
abbrev dktX6_image_2 : List UInt8 := dkwX6_image_2 ++ []
def dkwX6_image_1 : List UInt8 := [42, 180, 0, 27, 17, 22, 234, 27, 104, 28, 96, 42, 180, 0, 24, 28, 46, 79, 132, 2, 1, 167, 255, 228]
abbrev dktX6_image_1 : List UInt8 := dkwX6_image_1 ++ dktX6_image_2
def dkwX6_image_0 : List UInt8 := [27, 3, 4, 184, 0, 106, 154, 0, 9, 42, 2, 182, 0, 110, 172, 3, 61, 28, 17, 22, 234, 162, 0, 27]
abbrev dktX6_image_0 : List UInt8 := dkwX6_image_0 ++ dktX6_image_1
theorem dksX6_image_0 : cX6_image.data.toList.drop 0 = dktX6_image_0 := by decide +kernel
theorem dksX6_image_1 : cX6_image.data.toList.drop 24 = dktX6_image_1 := dk_seg dksX6_image_0 24 rfl rfl
theorem dksX6_image_2 : cX6_image.data.toList.drop 48 = dktX6_image_2 := dk_seg dksX6_image_1 24 rfl rfl
theorem dX6_image_0 : decode cX6_image 0 = .ok (.iload_n 1, 1) := dk_27 (dk_at dksX6_image_0 0 rfl rfl)
theorem dX6_image_1 : decode cX6_image 1 = .ok (.iconst 0, 1) := dk_3 (dk_at dksX6_image_0 1 rfl rfl)
theorem dX6_image_2 : decode cX6_image 2 = .ok (.iconst 1, 1) := dk_4 (dk_at dksX6_image_0 2 rfl rfl)
theorem dX6_image_3 : decode cX6_image 3 = .ok (.invokestatic 106, 3) := dk_184 0 106 (dk_at dksX6_image_0 3 rfl rfl)
theorem dX6_image_6 : decode cX6_image 6 = .ok (.ifCond .ne 9, 3) := dk_154 0 9 (dk_at dksX6_image_0 6 rfl rfl)
theorem dX6_image_9 : decode cX6_image 9 = .ok (.aload_n 0, 1) := dk_42 (dk_at dksX6_image_0 9 rfl rfl)
theorem dX6_image_10 : decode cX6_image 10 = .ok (.iconst (-1), 1) := dk_2 (dk_at dksX6_image_0 10 rfl rfl)
theorem dX6_image_11 : decode cX6_image 11 = .ok (.invokevirtual 110, 3) := dk_182 0 110 (dk_at dksX6_image_0 11 rfl rfl)
theorem dX6_image_14 : decode cX6_image 14 = .ok (.ireturn, 1) := dk_172 (dk_at dksX6_image_0 14 rfl rfl)
theorem dX6_image_15 : decode cX6_image 15 = .ok (.iconst 0, 1) := dk_3 (dk_at dksX6_image_0 15 rfl rfl)
theorem dX6_image_16 : decode cX6_image 16 = .ok (.istore_n 2, 1) := dk_61 (dk_at dksX6_image_0 16 rfl rfl)
theorem dX6_image_17 : decode cX6_image 17 = .ok (.iload_n 2, 1) := dk_28 (dk_at dksX6_image_0 17 rfl rfl)
theorem dX6_image_18 : decode cX6_image 18 = .ok (.sipush 5866, 3) := dk_17 22 234 (dk_at dksX6_image_0 18 rfl rfl)
theorem dX6_image_21 : decode cX6_image 21 = .ok (.if_icmp .ge 27, 3) := dk_162 0 27 (dk_at dksX6_image_0 21 rfl rfl)
theorem dX6_image_24 : decode cX6_image 24 = .ok (.aload_n 0, 1) := dk_42 (dk_at dksX6_image_1 0 rfl rfl)
theorem dX6_image_25 : decode cX6_image 25 = .ok (.getfield 27, 3) := dk_180 0 27 (dk_at dksX6_image_1 1 rfl rfl)
theorem dX6_image_28 : decode cX6_image 28 = .ok (.sipush 5866, 3) := dk_17 22 234 (dk_at dksX6_image_1 4 rfl rfl)
theorem dX6_image_31 : decode cX6_image 31 = .ok (.iload_n 1, 1) := dk_27 (dk_at dksX6_image_1 7 rfl rfl)
theorem dX6_image_32 : decode cX6_image 32 = .ok (.imul, 1) := dk_104 (dk_at dksX6_image_1 8 rfl rfl)
theorem dX6_image_33 : decode cX6_image 33 = .ok (.iload_n 2, 1) := dk_28 (dk_at dksX6_image_1 9 rfl rfl)
theorem dX6_image_34 : decode cX6_image 34 = .ok (.iadd, 1) := dk_96 (dk_at dksX6_image_1 10 rfl rfl)
theorem dX6_image_35 : decode cX6_image 35 = .ok (.aload_n 0, 1) := dk_42 (dk_at dksX6_image_1 11 rfl rfl)
theorem dX6_image_36 : decode cX6_image 36 = .ok (.getfield 24, 3) := dk_180 0 24 (dk_at dksX6_image_1 12 rfl rfl)
theorem dX6_image_39 : decode cX6_image 39 = .ok (.iload_n 2, 1) := dk_28 (dk_at dksX6_image_1 15 rfl rfl)
theorem dX6_image_40 : decode cX6_image 40 = .ok (.iaload, 1) := dk_46 (dk_at dksX6_image_1 16 rfl rfl)
theorem dX6_image_41 : decode cX6_image 41 = .ok (.iastore, 1) := dk_79 (dk_at dksX6_image_1 17 rfl rfl)
theorem dX6_image_42 : decode cX6_image 42 = .ok (.iinc 2 1, 3) := dk_132 2 1 (dk_at dksX6_image_1 18 rfl rfl)
theorem dX6_image_45 : decode cX6_image 45 = .ok (.goto (-28), 3) := dk_167 255 228 (dk_at dksX6_image_1 21 rfl rfl)
theorem dX6_image_48 : decode cX6_image 48 = .ok (.aload_n 0, 1) := dk_42 (dk_at dksX6_image_2 0 rfl rfl)
theorem dX6_image_49 : decode cX6_image 49 = .ok (.getfield 30, 3) := dk_180 0 30 (dk_at dksX6_image_2 1 rfl rfl)
theorem dX6_image_52 : decode cX6_image 52 = .ok (.iload_n 1, 1) := dk_27 (dk_at dksX6_image_2 4 rfl rfl)
theorem dX6_image_53 : decode cX6_image 53 = .ok (.iconst 1, 1) := dk_4 (dk_at dksX6_image_2 5 rfl rfl)
theorem dX6_image_54 : decode cX6_image 54 = .ok (.bastore, 1) := dk_84 (dk_at dksX6_image_2 6 rfl rfl)
theorem dX6_image_55 : decode cX6_image 55 = .ok (.aload_n 0, 1) := dk_42 (dk_at dksX6_image_2 7 rfl rfl)
theorem dX6_image_56 : decode cX6_image 56 = .ok (.iconst 0, 1) := dk_3 (dk_at dksX6_image_2 8 rfl rfl)
theorem dX6_image_57 : decode cX6_image 57 = .ok (.invokevirtual 14, 3) := dk_182 0 14 (dk_at dksX6_image_2 9 rfl rfl)
theorem dX6_image_60 : decode cX6_image 60 = .ok (.ireturn, 1) := dk_172 (dk_at dksX6_image_2 12 rfl rfl)
abbrev cX6_lies : ByteArray := prog_29_method_1_code
def yX6_lies : MethodName := ⟨RX6, "lies", "(III)Z"⟩
def dkwX6_lies_0 : List UInt8 := [26, 27, 161, 0, 12, 26, 28, 163, 0, 7, 4, 167, 0, 4, 3, 172]
abbrev dktX6_lies_0 : List UInt8 := dkwX6_lies_0 ++ []
theorem dksX6_lies_0 : cX6_lies.data.toList.drop 0 = dktX6_lies_0 := by decide +kernel
theorem dX6_lies_0 : decode cX6_lies 0 = .ok (.iload_n 0, 1) := dk_26 (dk_at dksX6_lies_0 0 rfl rfl)
theorem dX6_lies_1 : decode cX6_lies 1 = .ok (.iload_n 1, 1) := dk_27 (dk_at dksX6_lies_0 1 rfl rfl)
theorem dX6_lies_2 : decode cX6_lies 2 = .ok (.if_icmp .lt 12, 3) := dk_161 0 12 (dk_at dksX6_lies_0 2 rfl rfl)
theorem dX6_lies_5 : decode cX6_lies 5 = .ok (.iload_n 0, 1) := dk_26 (dk_at dksX6_lies_0 5 rfl rfl)
theorem dX6_lies_6 : decode cX6_lies 6 = .ok (.iload_n 2, 1) := dk_28 (dk_at dksX6_lies_0 6 rfl rfl)
theorem dX6_lies_7 : decode cX6_lies 7 = .ok (.if_icmp .gt 7, 3) := dk_163 0 7 (dk_at dksX6_lies_0 7 rfl rfl)
theorem dX6_lies_10 : decode cX6_lies 10 = .ok (.iconst 1, 1) := dk_4 (dk_at dksX6_lies_0 10 rfl rfl)
theorem dX6_lies_11 : decode cX6_lies 11 = .ok (.goto 4, 3) := dk_167 0 4 (dk_at dksX6_lies_0 11 rfl rfl)
theorem dX6_lies_14 : decode cX6_lies 14 = .ok (.iconst 0, 1) := dk_3 (dk_at dksX6_lies_0 14 rfl rfl)
theorem dX6_lies_15 : decode cX6_lies 15 = .ok (.ireturn, 1) := dk_172 (dk_at dksX6_lies_0 15 rfl rfl)
abbrev cX6_refuses : ByteArray := prog_29_method_2_code
def yX6_refuses : MethodName := ⟨RX6, "refuses", "(I)I"⟩
def dkwX6_refuses_0 : List UInt8 := [42, 27, 181, 0, 3, 42, 180, 0, 7, 27, 116, 92, 46, 4, 96, 79, 27, 172]
abbrev dktX6_refuses_0 : List UInt8 := dkwX6_refuses_0 ++ []
theorem dksX6_refuses_0 : cX6_refuses.data.toList.drop 0 = dktX6_refuses_0 := by decide +kernel
theorem dX6_refuses_0 : decode cX6_refuses 0 = .ok (.aload_n 0, 1) := dk_42 (dk_at dksX6_refuses_0 0 rfl rfl)
theorem dX6_refuses_1 : decode cX6_refuses 1 = .ok (.iload_n 1, 1) := dk_27 (dk_at dksX6_refuses_0 1 rfl rfl)
theorem dX6_refuses_2 : decode cX6_refuses 2 = .ok (.putfield 3, 3) := dk_181 0 3 (dk_at dksX6_refuses_0 2 rfl rfl)
theorem dX6_refuses_5 : decode cX6_refuses 5 = .ok (.aload_n 0, 1) := dk_42 (dk_at dksX6_refuses_0 5 rfl rfl)
theorem dX6_refuses_6 : decode cX6_refuses 6 = .ok (.getfield 7, 3) := dk_180 0 7 (dk_at dksX6_refuses_0 6 rfl rfl)
theorem dX6_refuses_9 : decode cX6_refuses 9 = .ok (.iload_n 1, 1) := dk_27 (dk_at dksX6_refuses_0 9 rfl rfl)
theorem dX6_refuses_10 : decode cX6_refuses 10 = .ok (.ineg, 1) := dk_116 (dk_at dksX6_refuses_0 10 rfl rfl)
theorem dX6_refuses_11 : decode cX6_refuses 11 = .ok (.dup2, 1) := dk_92 (dk_at dksX6_refuses_0 11 rfl rfl)
theorem dX6_refuses_12 : decode cX6_refuses 12 = .ok (.iaload, 1) := dk_46 (dk_at dksX6_refuses_0 12 rfl rfl)
theorem dX6_refuses_13 : decode cX6_refuses 13 = .ok (.iconst 1, 1) := dk_4 (dk_at dksX6_refuses_0 13 rfl rfl)
theorem dX6_refuses_14 : decode cX6_refuses 14 = .ok (.iadd, 1) := dk_96 (dk_at dksX6_refuses_0 14 rfl rfl)
theorem dX6_refuses_15 : decode cX6_refuses 15 = .ok (.iastore, 1) := dk_79 (dk_at dksX6_refuses_0 15 rfl rfl)
theorem dX6_refuses_16 : decode cX6_refuses 16 = .ok (.iload_n 1, 1) := dk_27 (dk_at dksX6_refuses_0 16 rfl rfl)
theorem dX6_refuses_17 : decode cX6_refuses 17 = .ok (.ireturn, 1) := dk_172 (dk_at dksX6_refuses_0 17 rfl rfl)
abbrev cX6_good : ByteArray := prog_29_method_3_code
def yX6_good : MethodName := ⟨RX6, "good", "(I)I"⟩
def dkwX6_good_0 : List UInt8 := [42, 3, 181, 0, 3, 27, 172]
abbrev dktX6_good_0 : List UInt8 := dkwX6_good_0 ++ []
theorem dksX6_good_0 : cX6_good.data.toList.drop 0 = dktX6_good_0 := by decide +kernel
theorem dX6_good_0 : decode cX6_good 0 = .ok (.aload_n 0, 1) := dk_42 (dk_at dksX6_good_0 0 rfl rfl)
theorem dX6_good_1 : decode cX6_good 1 = .ok (.iconst 0, 1) := dk_3 (dk_at dksX6_good_0 1 rfl rfl)
theorem dX6_good_2 : decode cX6_good 2 = .ok (.putfield 3, 3) := dk_181 0 3 (dk_at dksX6_good_0 2 rfl rfl)
theorem dX6_good_5 : decode cX6_good 5 = .ok (.iload_n 1, 1) := dk_27 (dk_at dksX6_good_0 5 rfl rfl)
theorem dX6_good_6 : decode cX6_good 6 = .ok (.ireturn, 1) := dk_172 (dk_at dksX6_good_0 6 rfl rfl)
abbrev cX6_back : ByteArray := prog_29_method_10_code
def yX6_back : MethodName := ⟨RX6, "back", "(I)I"⟩
def dkwX6_back_2 : List UInt8 := [180, 0, 27, 17, 22, 234, 27, 104, 28, 96, 46, 79, 132, 2, 1, 167, 255, 228, 42, 3, 182, 0, 113, 172]
abbrev dktX6_back_2 : List UInt8 := dkwX6_back_2 ++ []
def dkwX6_back_1 : List UInt8 := [42, 16, 254, 182, 0, 110, 172, 3, 61, 28, 17, 22, 234, 162, 0, 27, 42, 180, 0, 24, 28, 42]
abbrev dktX6_back_1 : List UInt8 := dkwX6_back_1 ++ dktX6_back_2
def dkwX6_back_0 : List UInt8 := [27, 3, 4, 184, 0, 106, 154, 0, 9, 42, 2, 182, 0, 110, 172, 42, 180, 0, 30, 27, 51, 154, 0, 10]
abbrev dktX6_back_0 : List UInt8 := dkwX6_back_0 ++ dktX6_back_1
theorem dksX6_back_0 : cX6_back.data.toList.drop 0 = dktX6_back_0 := by decide +kernel
theorem dksX6_back_1 : cX6_back.data.toList.drop 24 = dktX6_back_1 := dk_seg dksX6_back_0 24 rfl rfl
theorem dksX6_back_2 : cX6_back.data.toList.drop 46 = dktX6_back_2 := dk_seg dksX6_back_1 22 rfl rfl
theorem dX6_back_0 : decode cX6_back 0 = .ok (.iload_n 1, 1) := dk_27 (dk_at dksX6_back_0 0 rfl rfl)
theorem dX6_back_1 : decode cX6_back 1 = .ok (.iconst 0, 1) := dk_3 (dk_at dksX6_back_0 1 rfl rfl)
theorem dX6_back_2 : decode cX6_back 2 = .ok (.iconst 1, 1) := dk_4 (dk_at dksX6_back_0 2 rfl rfl)
theorem dX6_back_3 : decode cX6_back 3 = .ok (.invokestatic 106, 3) := dk_184 0 106 (dk_at dksX6_back_0 3 rfl rfl)
theorem dX6_back_6 : decode cX6_back 6 = .ok (.ifCond .ne 9, 3) := dk_154 0 9 (dk_at dksX6_back_0 6 rfl rfl)
theorem dX6_back_9 : decode cX6_back 9 = .ok (.aload_n 0, 1) := dk_42 (dk_at dksX6_back_0 9 rfl rfl)
theorem dX6_back_10 : decode cX6_back 10 = .ok (.iconst (-1), 1) := dk_2 (dk_at dksX6_back_0 10 rfl rfl)
theorem dX6_back_11 : decode cX6_back 11 = .ok (.invokevirtual 110, 3) := dk_182 0 110 (dk_at dksX6_back_0 11 rfl rfl)
theorem dX6_back_14 : decode cX6_back 14 = .ok (.ireturn, 1) := dk_172 (dk_at dksX6_back_0 14 rfl rfl)
theorem dX6_back_15 : decode cX6_back 15 = .ok (.aload_n 0, 1) := dk_42 (dk_at dksX6_back_0 15 rfl rfl)
theorem dX6_back_16 : decode cX6_back 16 = .ok (.getfield 30, 3) := dk_180 0 30 (dk_at dksX6_back_0 16 rfl rfl)
theorem dX6_back_19 : decode cX6_back 19 = .ok (.iload_n 1, 1) := dk_27 (dk_at dksX6_back_0 19 rfl rfl)
theorem dX6_back_20 : decode cX6_back 20 = .ok (.baload, 1) := dk_51 (dk_at dksX6_back_0 20 rfl rfl)
theorem dX6_back_21 : decode cX6_back 21 = .ok (.ifCond .ne 10, 3) := dk_154 0 10 (dk_at dksX6_back_0 21 rfl rfl)
theorem dX6_back_24 : decode cX6_back 24 = .ok (.aload_n 0, 1) := dk_42 (dk_at dksX6_back_1 0 rfl rfl)
theorem dX6_back_25 : decode cX6_back 25 = .ok (.bipush (-2), 2) := dk_16 254 (dk_at dksX6_back_1 1 rfl rfl)
theorem dX6_back_27 : decode cX6_back 27 = .ok (.invokevirtual 110, 3) := dk_182 0 110 (dk_at dksX6_back_1 3 rfl rfl)
theorem dX6_back_30 : decode cX6_back 30 = .ok (.ireturn, 1) := dk_172 (dk_at dksX6_back_1 6 rfl rfl)
theorem dX6_back_31 : decode cX6_back 31 = .ok (.iconst 0, 1) := dk_3 (dk_at dksX6_back_1 7 rfl rfl)
theorem dX6_back_32 : decode cX6_back 32 = .ok (.istore_n 2, 1) := dk_61 (dk_at dksX6_back_1 8 rfl rfl)
theorem dX6_back_33 : decode cX6_back 33 = .ok (.iload_n 2, 1) := dk_28 (dk_at dksX6_back_1 9 rfl rfl)
theorem dX6_back_34 : decode cX6_back 34 = .ok (.sipush 5866, 3) := dk_17 22 234 (dk_at dksX6_back_1 10 rfl rfl)
theorem dX6_back_37 : decode cX6_back 37 = .ok (.if_icmp .ge 27, 3) := dk_162 0 27 (dk_at dksX6_back_1 13 rfl rfl)
theorem dX6_back_40 : decode cX6_back 40 = .ok (.aload_n 0, 1) := dk_42 (dk_at dksX6_back_1 16 rfl rfl)
theorem dX6_back_41 : decode cX6_back 41 = .ok (.getfield 24, 3) := dk_180 0 24 (dk_at dksX6_back_1 17 rfl rfl)
theorem dX6_back_44 : decode cX6_back 44 = .ok (.iload_n 2, 1) := dk_28 (dk_at dksX6_back_1 20 rfl rfl)
theorem dX6_back_45 : decode cX6_back 45 = .ok (.aload_n 0, 1) := dk_42 (dk_at dksX6_back_1 21 rfl rfl)
theorem dX6_back_46 : decode cX6_back 46 = .ok (.getfield 27, 3) := dk_180 0 27 (dk_at dksX6_back_2 0 rfl rfl)
theorem dX6_back_49 : decode cX6_back 49 = .ok (.sipush 5866, 3) := dk_17 22 234 (dk_at dksX6_back_2 3 rfl rfl)
theorem dX6_back_52 : decode cX6_back 52 = .ok (.iload_n 1, 1) := dk_27 (dk_at dksX6_back_2 6 rfl rfl)
theorem dX6_back_53 : decode cX6_back 53 = .ok (.imul, 1) := dk_104 (dk_at dksX6_back_2 7 rfl rfl)
theorem dX6_back_54 : decode cX6_back 54 = .ok (.iload_n 2, 1) := dk_28 (dk_at dksX6_back_2 8 rfl rfl)
theorem dX6_back_55 : decode cX6_back 55 = .ok (.iadd, 1) := dk_96 (dk_at dksX6_back_2 9 rfl rfl)
theorem dX6_back_56 : decode cX6_back 56 = .ok (.iaload, 1) := dk_46 (dk_at dksX6_back_2 10 rfl rfl)
theorem dX6_back_57 : decode cX6_back 57 = .ok (.iastore, 1) := dk_79 (dk_at dksX6_back_2 11 rfl rfl)
theorem dX6_back_58 : decode cX6_back 58 = .ok (.iinc 2 1, 3) := dk_132 2 1 (dk_at dksX6_back_2 12 rfl rfl)
theorem dX6_back_61 : decode cX6_back 61 = .ok (.goto (-28), 3) := dk_167 255 228 (dk_at dksX6_back_2 15 rfl rfl)
theorem dX6_back_64 : decode cX6_back 64 = .ok (.aload_n 0, 1) := dk_42 (dk_at dksX6_back_2 18 rfl rfl)
theorem dX6_back_65 : decode cX6_back 65 = .ok (.iconst 0, 1) := dk_3 (dk_at dksX6_back_2 19 rfl rfl)
theorem dX6_back_66 : decode cX6_back 66 = .ok (.invokevirtual 113, 3) := dk_182 0 113 (dk_at dksX6_back_2 20 rfl rfl)
theorem dX6_back_69 : decode cX6_back 69 = .ok (.ireturn, 1) := dk_172 (dk_at dksX6_back_2 23 rfl rfl)
abbrev cX6_settled : ByteArray := prog_29_method_4_code
def yX6_settled : MethodName := ⟨RX6, "settled", "(I)I"⟩
def dkwX6_settled_0 : List UInt8 := [42, 3, 181, 0, 11, 42, 27, 182, 0, 14, 172]
abbrev dktX6_settled_0 : List UInt8 := dkwX6_settled_0 ++ []
theorem dksX6_settled_0 : cX6_settled.data.toList.drop 0 = dktX6_settled_0 := by decide +kernel
theorem dX6_settled_0 : decode cX6_settled 0 = .ok (.aload_n 0, 1) := dk_42 (dk_at dksX6_settled_0 0 rfl rfl)
theorem dX6_settled_1 : decode cX6_settled 1 = .ok (.iconst 0, 1) := dk_3 (dk_at dksX6_settled_0 1 rfl rfl)
theorem dX6_settled_2 : decode cX6_settled 2 = .ok (.putfield 11, 3) := dk_181 0 11 (dk_at dksX6_settled_0 2 rfl rfl)
theorem dX6_settled_5 : decode cX6_settled 5 = .ok (.aload_n 0, 1) := dk_42 (dk_at dksX6_settled_0 5 rfl rfl)
theorem dX6_settled_6 : decode cX6_settled 6 = .ok (.iload_n 1, 1) := dk_27 (dk_at dksX6_settled_0 6 rfl rfl)
theorem dX6_settled_7 : decode cX6_settled 7 = .ok (.invokevirtual 14, 3) := dk_182 0 14 (dk_at dksX6_settled_0 7 rfl rfl)
theorem dX6_settled_10 : decode cX6_settled 10 = .ok (.ireturn, 1) := dk_172 (dk_at dksX6_settled_0 10 rfl rfl)
abbrev cX6_person : ByteArray := prog_29_method_17_code
def yX6_person : MethodName := ⟨RX6, "person", "(II)I"⟩
def dkwX6_person_1 : List UInt8 := [16, 251, 182, 0, 110, 172, 42, 27, 28, 3, 182, 0, 124, 42, 42, 182, 0, 116, 4, 100, 182, 0, 113, 172]
abbrev dktX6_person_1 : List UInt8 := dkwX6_person_1 ++ []
def dkwX6_person_0 : List UInt8 := [27, 28, 184, 0, 120, 154, 0, 9, 42, 2, 182, 0, 110, 172, 42, 182, 0, 116, 16, 10, 160, 0, 10, 42]
abbrev dktX6_person_0 : List UInt8 := dkwX6_person_0 ++ dktX6_person_1
theorem dksX6_person_0 : cX6_person.data.toList.drop 0 = dktX6_person_0 := by decide +kernel
theorem dksX6_person_1 : cX6_person.data.toList.drop 24 = dktX6_person_1 := dk_seg dksX6_person_0 24 rfl rfl
theorem dX6_person_0 : decode cX6_person 0 = .ok (.iload_n 1, 1) := dk_27 (dk_at dksX6_person_0 0 rfl rfl)
theorem dX6_person_1 : decode cX6_person 1 = .ok (.iload_n 2, 1) := dk_28 (dk_at dksX6_person_0 1 rfl rfl)
theorem dX6_person_2 : decode cX6_person 2 = .ok (.invokestatic 120, 3) := dk_184 0 120 (dk_at dksX6_person_0 2 rfl rfl)
theorem dX6_person_5 : decode cX6_person 5 = .ok (.ifCond .ne 9, 3) := dk_154 0 9 (dk_at dksX6_person_0 5 rfl rfl)
theorem dX6_person_8 : decode cX6_person 8 = .ok (.aload_n 0, 1) := dk_42 (dk_at dksX6_person_0 8 rfl rfl)
theorem dX6_person_9 : decode cX6_person 9 = .ok (.iconst (-1), 1) := dk_2 (dk_at dksX6_person_0 9 rfl rfl)
theorem dX6_person_10 : decode cX6_person 10 = .ok (.invokevirtual 110, 3) := dk_182 0 110 (dk_at dksX6_person_0 10 rfl rfl)
theorem dX6_person_13 : decode cX6_person 13 = .ok (.ireturn, 1) := dk_172 (dk_at dksX6_person_0 13 rfl rfl)
theorem dX6_person_14 : decode cX6_person 14 = .ok (.aload_n 0, 1) := dk_42 (dk_at dksX6_person_0 14 rfl rfl)
theorem dX6_person_15 : decode cX6_person 15 = .ok (.invokevirtual 116, 3) := dk_182 0 116 (dk_at dksX6_person_0 15 rfl rfl)
theorem dX6_person_18 : decode cX6_person 18 = .ok (.bipush 10, 2) := dk_16 10 (dk_at dksX6_person_0 18 rfl rfl)
theorem dX6_person_20 : decode cX6_person 20 = .ok (.if_icmp .ne 10, 3) := dk_160 0 10 (dk_at dksX6_person_0 20 rfl rfl)
theorem dX6_person_23 : decode cX6_person 23 = .ok (.aload_n 0, 1) := dk_42 (dk_at dksX6_person_0 23 rfl rfl)
theorem dX6_person_24 : decode cX6_person 24 = .ok (.bipush (-5), 2) := dk_16 251 (dk_at dksX6_person_1 0 rfl rfl)
theorem dX6_person_26 : decode cX6_person 26 = .ok (.invokevirtual 110, 3) := dk_182 0 110 (dk_at dksX6_person_1 2 rfl rfl)
theorem dX6_person_29 : decode cX6_person 29 = .ok (.ireturn, 1) := dk_172 (dk_at dksX6_person_1 5 rfl rfl)
theorem dX6_person_30 : decode cX6_person 30 = .ok (.aload_n 0, 1) := dk_42 (dk_at dksX6_person_1 6 rfl rfl)
theorem dX6_person_31 : decode cX6_person 31 = .ok (.iload_n 1, 1) := dk_27 (dk_at dksX6_person_1 7 rfl rfl)
theorem dX6_person_32 : decode cX6_person 32 = .ok (.iload_n 2, 1) := dk_28 (dk_at dksX6_person_1 8 rfl rfl)
theorem dX6_person_33 : decode cX6_person 33 = .ok (.iconst 0, 1) := dk_3 (dk_at dksX6_person_1 9 rfl rfl)
theorem dX6_person_34 : decode cX6_person 34 = .ok (.invokevirtual 124, 3) := dk_182 0 124 (dk_at dksX6_person_1 10 rfl rfl)
theorem dX6_person_37 : decode cX6_person 37 = .ok (.aload_n 0, 1) := dk_42 (dk_at dksX6_person_1 13 rfl rfl)
theorem dX6_person_38 : decode cX6_person 38 = .ok (.aload_n 0, 1) := dk_42 (dk_at dksX6_person_1 14 rfl rfl)
theorem dX6_person_39 : decode cX6_person 39 = .ok (.invokevirtual 116, 3) := dk_182 0 116 (dk_at dksX6_person_1 15 rfl rfl)
theorem dX6_person_42 : decode cX6_person 42 = .ok (.iconst 1, 1) := dk_4 (dk_at dksX6_person_1 18 rfl rfl)
theorem dX6_person_43 : decode cX6_person 43 = .ok (.isub, 1) := dk_100 (dk_at dksX6_person_1 19 rfl rfl)
theorem dX6_person_44 : decode cX6_person 44 = .ok (.invokevirtual 113, 3) := dk_182 0 113 (dk_at dksX6_person_1 20 rfl rfl)
theorem dX6_person_47 : decode cX6_person 47 = .ok (.ireturn, 1) := dk_172 (dk_at dksX6_person_1 23 rfl rfl)
abbrev cX6_canBe : ByteArray := prog_29_method_13_code
def yX6_canBe : MethodName := ⟨RX6, "canBe", "(II)Z"⟩
def dkwX6_canBe_1 : List UInt8 := [172]
abbrev dktX6_canBe_1 : List UInt8 := dkwX6_canBe_1 ++ []
def dkwX6_canBe_0 : List UInt8 := [26, 3, 16, 30, 184, 0, 106, 153, 0, 16, 27, 3, 6, 184, 0, 106, 153, 0, 7, 4, 167, 0, 4, 3]
abbrev dktX6_canBe_0 : List UInt8 := dkwX6_canBe_0 ++ dktX6_canBe_1
theorem dksX6_canBe_0 : cX6_canBe.data.toList.drop 0 = dktX6_canBe_0 := by decide +kernel
theorem dksX6_canBe_1 : cX6_canBe.data.toList.drop 24 = dktX6_canBe_1 := dk_seg dksX6_canBe_0 24 rfl rfl
theorem dX6_canBe_0 : decode cX6_canBe 0 = .ok (.iload_n 0, 1) := dk_26 (dk_at dksX6_canBe_0 0 rfl rfl)
theorem dX6_canBe_1 : decode cX6_canBe 1 = .ok (.iconst 0, 1) := dk_3 (dk_at dksX6_canBe_0 1 rfl rfl)
theorem dX6_canBe_2 : decode cX6_canBe 2 = .ok (.bipush 30, 2) := dk_16 30 (dk_at dksX6_canBe_0 2 rfl rfl)
theorem dX6_canBe_4 : decode cX6_canBe 4 = .ok (.invokestatic 106, 3) := dk_184 0 106 (dk_at dksX6_canBe_0 4 rfl rfl)
theorem dX6_canBe_7 : decode cX6_canBe 7 = .ok (.ifCond .eq 16, 3) := dk_153 0 16 (dk_at dksX6_canBe_0 7 rfl rfl)
theorem dX6_canBe_10 : decode cX6_canBe 10 = .ok (.iload_n 1, 1) := dk_27 (dk_at dksX6_canBe_0 10 rfl rfl)
theorem dX6_canBe_11 : decode cX6_canBe 11 = .ok (.iconst 0, 1) := dk_3 (dk_at dksX6_canBe_0 11 rfl rfl)
theorem dX6_canBe_12 : decode cX6_canBe 12 = .ok (.iconst 3, 1) := dk_6 (dk_at dksX6_canBe_0 12 rfl rfl)
theorem dX6_canBe_13 : decode cX6_canBe 13 = .ok (.invokestatic 106, 3) := dk_184 0 106 (dk_at dksX6_canBe_0 13 rfl rfl)
theorem dX6_canBe_16 : decode cX6_canBe 16 = .ok (.ifCond .eq 7, 3) := dk_153 0 7 (dk_at dksX6_canBe_0 16 rfl rfl)
theorem dX6_canBe_19 : decode cX6_canBe 19 = .ok (.iconst 1, 1) := dk_4 (dk_at dksX6_canBe_0 19 rfl rfl)
theorem dX6_canBe_20 : decode cX6_canBe 20 = .ok (.goto 4, 3) := dk_167 0 4 (dk_at dksX6_canBe_0 20 rfl rfl)
theorem dX6_canBe_23 : decode cX6_canBe 23 = .ok (.iconst 0, 1) := dk_3 (dk_at dksX6_canBe_0 23 rfl rfl)
theorem dX6_canBe_24 : decode cX6_canBe 24 = .ok (.ireturn, 1) := dk_172 (dk_at dksX6_canBe_1 0 rfl rfl)
abbrev cX6_people : ByteArray := prog_29_method_11_code
def yX6_people : MethodName := ⟨RX6, "people", "()I"⟩
def dkwX6_people_0 : List UInt8 := [42, 180, 0, 24, 17, 1, 0, 46, 172]
abbrev dktX6_people_0 : List UInt8 := dkwX6_people_0 ++ []
theorem dksX6_people_0 : cX6_people.data.toList.drop 0 = dktX6_people_0 := by decide +kernel
theorem dX6_people_0 : decode cX6_people 0 = .ok (.aload_n 0, 1) := dk_42 (dk_at dksX6_people_0 0 rfl rfl)
theorem dX6_people_1 : decode cX6_people 1 = .ok (.getfield 24, 3) := dk_180 0 24 (dk_at dksX6_people_0 1 rfl rfl)
theorem dX6_people_4 : decode cX6_people 4 = .ok (.sipush 256, 3) := dk_17 1 0 (dk_at dksX6_people_0 4 rfl rfl)
theorem dX6_people_7 : decode cX6_people 7 = .ok (.iaload, 1) := dk_46 (dk_at dksX6_people_0 7 rfl rfl)
theorem dX6_people_8 : decode cX6_people 8 = .ok (.ireturn, 1) := dk_172 (dk_at dksX6_people_0 8 rfl rfl)
abbrev cX6_adds : ByteArray := prog_29_method_16_code
def yX6_adds : MethodName := ⟨RX6, "adds", "(III)V"⟩
def dkwX6_adds_3 : List UInt8 := [180, 0, 24, 17, 1, 0, 92, 46, 4, 96, 79, 177]
abbrev dktX6_adds_3 : List UInt8 := dkwX6_adds_3 ++ []
def dkwX6_adds_2 : List UInt8 := [180, 0, 24, 16, 10, 21, 4, 96, 2, 79, 42, 180, 0, 24, 16, 20, 21, 4, 96, 29, 79, 42]
abbrev dktX6_adds_2 : List UInt8 := dkwX6_adds_2 ++ dktX6_adds_3
def dkwX6_adds_1 : List UInt8 := [16, 34, 5, 21, 4, 104, 96, 4, 96, 28, 79, 42, 180, 0, 24, 3, 21, 4, 96, 3, 79, 42]
abbrev dktX6_adds_1 : List UInt8 := dkwX6_adds_1 ++ dktX6_adds_2
def dkwX6_adds_0 : List UInt8 := [42, 182, 0, 116, 54, 4, 42, 180, 0, 24, 16, 34, 5, 21, 4, 104, 96, 27, 79, 42, 180, 0, 24]
abbrev dktX6_adds_0 : List UInt8 := dkwX6_adds_0 ++ dktX6_adds_1
theorem dksX6_adds_0 : cX6_adds.data.toList.drop 0 = dktX6_adds_0 := by decide +kernel
theorem dksX6_adds_1 : cX6_adds.data.toList.drop 23 = dktX6_adds_1 := dk_seg dksX6_adds_0 23 rfl rfl
theorem dksX6_adds_2 : cX6_adds.data.toList.drop 45 = dktX6_adds_2 := dk_seg dksX6_adds_1 22 rfl rfl
theorem dksX6_adds_3 : cX6_adds.data.toList.drop 67 = dktX6_adds_3 := dk_seg dksX6_adds_2 22 rfl rfl
theorem dX6_adds_0 : decode cX6_adds 0 = .ok (.aload_n 0, 1) := dk_42 (dk_at dksX6_adds_0 0 rfl rfl)
theorem dX6_adds_1 : decode cX6_adds 1 = .ok (.invokevirtual 116, 3) := dk_182 0 116 (dk_at dksX6_adds_0 1 rfl rfl)
theorem dX6_adds_4 : decode cX6_adds 4 = .ok (.istore 4, 2) := dk_54 4 (dk_at dksX6_adds_0 4 rfl rfl)
theorem dX6_adds_6 : decode cX6_adds 6 = .ok (.aload_n 0, 1) := dk_42 (dk_at dksX6_adds_0 6 rfl rfl)
theorem dX6_adds_7 : decode cX6_adds 7 = .ok (.getfield 24, 3) := dk_180 0 24 (dk_at dksX6_adds_0 7 rfl rfl)
theorem dX6_adds_10 : decode cX6_adds 10 = .ok (.bipush 34, 2) := dk_16 34 (dk_at dksX6_adds_0 10 rfl rfl)
theorem dX6_adds_12 : decode cX6_adds 12 = .ok (.iconst 2, 1) := dk_5 (dk_at dksX6_adds_0 12 rfl rfl)
theorem dX6_adds_13 : decode cX6_adds 13 = .ok (.iload 4, 2) := dk_21 4 (dk_at dksX6_adds_0 13 rfl rfl)
theorem dX6_adds_15 : decode cX6_adds 15 = .ok (.imul, 1) := dk_104 (dk_at dksX6_adds_0 15 rfl rfl)
theorem dX6_adds_16 : decode cX6_adds 16 = .ok (.iadd, 1) := dk_96 (dk_at dksX6_adds_0 16 rfl rfl)
theorem dX6_adds_17 : decode cX6_adds 17 = .ok (.iload_n 1, 1) := dk_27 (dk_at dksX6_adds_0 17 rfl rfl)
theorem dX6_adds_18 : decode cX6_adds 18 = .ok (.iastore, 1) := dk_79 (dk_at dksX6_adds_0 18 rfl rfl)
theorem dX6_adds_19 : decode cX6_adds 19 = .ok (.aload_n 0, 1) := dk_42 (dk_at dksX6_adds_0 19 rfl rfl)
theorem dX6_adds_20 : decode cX6_adds 20 = .ok (.getfield 24, 3) := dk_180 0 24 (dk_at dksX6_adds_0 20 rfl rfl)
theorem dX6_adds_23 : decode cX6_adds 23 = .ok (.bipush 34, 2) := dk_16 34 (dk_at dksX6_adds_1 0 rfl rfl)
theorem dX6_adds_25 : decode cX6_adds 25 = .ok (.iconst 2, 1) := dk_5 (dk_at dksX6_adds_1 2 rfl rfl)
theorem dX6_adds_26 : decode cX6_adds 26 = .ok (.iload 4, 2) := dk_21 4 (dk_at dksX6_adds_1 3 rfl rfl)
theorem dX6_adds_28 : decode cX6_adds 28 = .ok (.imul, 1) := dk_104 (dk_at dksX6_adds_1 5 rfl rfl)
theorem dX6_adds_29 : decode cX6_adds 29 = .ok (.iadd, 1) := dk_96 (dk_at dksX6_adds_1 6 rfl rfl)
theorem dX6_adds_30 : decode cX6_adds 30 = .ok (.iconst 1, 1) := dk_4 (dk_at dksX6_adds_1 7 rfl rfl)
theorem dX6_adds_31 : decode cX6_adds 31 = .ok (.iadd, 1) := dk_96 (dk_at dksX6_adds_1 8 rfl rfl)
theorem dX6_adds_32 : decode cX6_adds 32 = .ok (.iload_n 2, 1) := dk_28 (dk_at dksX6_adds_1 9 rfl rfl)
theorem dX6_adds_33 : decode cX6_adds 33 = .ok (.iastore, 1) := dk_79 (dk_at dksX6_adds_1 10 rfl rfl)
theorem dX6_adds_34 : decode cX6_adds 34 = .ok (.aload_n 0, 1) := dk_42 (dk_at dksX6_adds_1 11 rfl rfl)
theorem dX6_adds_35 : decode cX6_adds 35 = .ok (.getfield 24, 3) := dk_180 0 24 (dk_at dksX6_adds_1 12 rfl rfl)
theorem dX6_adds_38 : decode cX6_adds 38 = .ok (.iconst 0, 1) := dk_3 (dk_at dksX6_adds_1 15 rfl rfl)
theorem dX6_adds_39 : decode cX6_adds 39 = .ok (.iload 4, 2) := dk_21 4 (dk_at dksX6_adds_1 16 rfl rfl)
theorem dX6_adds_41 : decode cX6_adds 41 = .ok (.iadd, 1) := dk_96 (dk_at dksX6_adds_1 18 rfl rfl)
theorem dX6_adds_42 : decode cX6_adds 42 = .ok (.iconst 0, 1) := dk_3 (dk_at dksX6_adds_1 19 rfl rfl)
theorem dX6_adds_43 : decode cX6_adds 43 = .ok (.iastore, 1) := dk_79 (dk_at dksX6_adds_1 20 rfl rfl)
theorem dX6_adds_44 : decode cX6_adds 44 = .ok (.aload_n 0, 1) := dk_42 (dk_at dksX6_adds_1 21 rfl rfl)
theorem dX6_adds_45 : decode cX6_adds 45 = .ok (.getfield 24, 3) := dk_180 0 24 (dk_at dksX6_adds_2 0 rfl rfl)
theorem dX6_adds_48 : decode cX6_adds 48 = .ok (.bipush 10, 2) := dk_16 10 (dk_at dksX6_adds_2 3 rfl rfl)
theorem dX6_adds_50 : decode cX6_adds 50 = .ok (.iload 4, 2) := dk_21 4 (dk_at dksX6_adds_2 5 rfl rfl)
theorem dX6_adds_52 : decode cX6_adds 52 = .ok (.iadd, 1) := dk_96 (dk_at dksX6_adds_2 7 rfl rfl)
theorem dX6_adds_53 : decode cX6_adds 53 = .ok (.iconst (-1), 1) := dk_2 (dk_at dksX6_adds_2 8 rfl rfl)
theorem dX6_adds_54 : decode cX6_adds 54 = .ok (.iastore, 1) := dk_79 (dk_at dksX6_adds_2 9 rfl rfl)
theorem dX6_adds_55 : decode cX6_adds 55 = .ok (.aload_n 0, 1) := dk_42 (dk_at dksX6_adds_2 10 rfl rfl)
theorem dX6_adds_56 : decode cX6_adds 56 = .ok (.getfield 24, 3) := dk_180 0 24 (dk_at dksX6_adds_2 11 rfl rfl)
theorem dX6_adds_59 : decode cX6_adds 59 = .ok (.bipush 20, 2) := dk_16 20 (dk_at dksX6_adds_2 14 rfl rfl)
theorem dX6_adds_61 : decode cX6_adds 61 = .ok (.iload 4, 2) := dk_21 4 (dk_at dksX6_adds_2 16 rfl rfl)
theorem dX6_adds_63 : decode cX6_adds 63 = .ok (.iadd, 1) := dk_96 (dk_at dksX6_adds_2 18 rfl rfl)
theorem dX6_adds_64 : decode cX6_adds 64 = .ok (.iload_n 3, 1) := dk_29 (dk_at dksX6_adds_2 19 rfl rfl)
theorem dX6_adds_65 : decode cX6_adds 65 = .ok (.iastore, 1) := dk_79 (dk_at dksX6_adds_2 20 rfl rfl)
theorem dX6_adds_66 : decode cX6_adds 66 = .ok (.aload_n 0, 1) := dk_42 (dk_at dksX6_adds_2 21 rfl rfl)
theorem dX6_adds_67 : decode cX6_adds 67 = .ok (.getfield 24, 3) := dk_180 0 24 (dk_at dksX6_adds_3 0 rfl rfl)
theorem dX6_adds_70 : decode cX6_adds 70 = .ok (.sipush 256, 3) := dk_17 1 0 (dk_at dksX6_adds_3 3 rfl rfl)
theorem dX6_adds_73 : decode cX6_adds 73 = .ok (.dup2, 1) := dk_92 (dk_at dksX6_adds_3 6 rfl rfl)
theorem dX6_adds_74 : decode cX6_adds 74 = .ok (.iaload, 1) := dk_46 (dk_at dksX6_adds_3 7 rfl rfl)
theorem dX6_adds_75 : decode cX6_adds 75 = .ok (.iconst 1, 1) := dk_4 (dk_at dksX6_adds_3 8 rfl rfl)
theorem dX6_adds_76 : decode cX6_adds 76 = .ok (.iadd, 1) := dk_96 (dk_at dksX6_adds_3 9 rfl rfl)
theorem dX6_adds_77 : decode cX6_adds 77 = .ok (.iastore, 1) := dk_79 (dk_at dksX6_adds_3 10 rfl rfl)
theorem dX6_adds_78 : decode cX6_adds 78 = .ok (.return_, 1) := dk_177 (dk_at dksX6_adds_3 11 rfl rfl)
abbrev cX6_hear : ByteArray := prog_29_method_18_code
def yX6_hear : MethodName := ⟨RX6, "hear", "(II)I"⟩
def dkwX6_hear_3 : List UInt8 := [182, 0, 113, 172]
abbrev dktX6_hear_3 : List UInt8 := dkwX6_hear_3 ++ []
def dkwX6_hear_2 : List UInt8 := [172, 42, 180, 0, 24, 16, 20, 27, 96, 46, 62, 42, 180, 0, 24, 16, 20, 27, 96, 28, 79, 42, 29]
abbrev dktX6_hear_2 : List UInt8 := dkwX6_hear_2 ++ dktX6_hear_3
def dkwX6_hear_1 : List UInt8 := [16, 254, 182, 0, 110, 172, 42, 180, 0, 24, 3, 27, 96, 46, 6, 160, 0, 10, 42, 16, 253, 182, 0, 110]
abbrev dktX6_hear_1 : List UInt8 := dkwX6_hear_1 ++ dktX6_hear_2
def dkwX6_hear_0 : List UInt8 := [28, 3, 5, 184, 0, 106, 154, 0, 9, 42, 2, 182, 0, 110, 172, 42, 27, 182, 0, 128, 154, 0, 10, 42]
abbrev dktX6_hear_0 : List UInt8 := dkwX6_hear_0 ++ dktX6_hear_1
theorem dksX6_hear_0 : cX6_hear.data.toList.drop 0 = dktX6_hear_0 := by decide +kernel
theorem dksX6_hear_1 : cX6_hear.data.toList.drop 24 = dktX6_hear_1 := dk_seg dksX6_hear_0 24 rfl rfl
theorem dksX6_hear_2 : cX6_hear.data.toList.drop 48 = dktX6_hear_2 := dk_seg dksX6_hear_1 24 rfl rfl
theorem dksX6_hear_3 : cX6_hear.data.toList.drop 71 = dktX6_hear_3 := dk_seg dksX6_hear_2 23 rfl rfl
theorem dX6_hear_0 : decode cX6_hear 0 = .ok (.iload_n 2, 1) := dk_28 (dk_at dksX6_hear_0 0 rfl rfl)
theorem dX6_hear_1 : decode cX6_hear 1 = .ok (.iconst 0, 1) := dk_3 (dk_at dksX6_hear_0 1 rfl rfl)
theorem dX6_hear_2 : decode cX6_hear 2 = .ok (.iconst 2, 1) := dk_5 (dk_at dksX6_hear_0 2 rfl rfl)
theorem dX6_hear_3 : decode cX6_hear 3 = .ok (.invokestatic 106, 3) := dk_184 0 106 (dk_at dksX6_hear_0 3 rfl rfl)
theorem dX6_hear_6 : decode cX6_hear 6 = .ok (.ifCond .ne 9, 3) := dk_154 0 9 (dk_at dksX6_hear_0 6 rfl rfl)
theorem dX6_hear_9 : decode cX6_hear 9 = .ok (.aload_n 0, 1) := dk_42 (dk_at dksX6_hear_0 9 rfl rfl)
theorem dX6_hear_10 : decode cX6_hear 10 = .ok (.iconst (-1), 1) := dk_2 (dk_at dksX6_hear_0 10 rfl rfl)
theorem dX6_hear_11 : decode cX6_hear 11 = .ok (.invokevirtual 110, 3) := dk_182 0 110 (dk_at dksX6_hear_0 11 rfl rfl)
theorem dX6_hear_14 : decode cX6_hear 14 = .ok (.ireturn, 1) := dk_172 (dk_at dksX6_hear_0 14 rfl rfl)
theorem dX6_hear_15 : decode cX6_hear 15 = .ok (.aload_n 0, 1) := dk_42 (dk_at dksX6_hear_0 15 rfl rfl)
theorem dX6_hear_16 : decode cX6_hear 16 = .ok (.iload_n 1, 1) := dk_27 (dk_at dksX6_hear_0 16 rfl rfl)
theorem dX6_hear_17 : decode cX6_hear 17 = .ok (.invokevirtual 128, 3) := dk_182 0 128 (dk_at dksX6_hear_0 17 rfl rfl)
theorem dX6_hear_20 : decode cX6_hear 20 = .ok (.ifCond .ne 10, 3) := dk_154 0 10 (dk_at dksX6_hear_0 20 rfl rfl)
theorem dX6_hear_23 : decode cX6_hear 23 = .ok (.aload_n 0, 1) := dk_42 (dk_at dksX6_hear_0 23 rfl rfl)
theorem dX6_hear_24 : decode cX6_hear 24 = .ok (.bipush (-2), 2) := dk_16 254 (dk_at dksX6_hear_1 0 rfl rfl)
theorem dX6_hear_26 : decode cX6_hear 26 = .ok (.invokevirtual 110, 3) := dk_182 0 110 (dk_at dksX6_hear_1 2 rfl rfl)
theorem dX6_hear_29 : decode cX6_hear 29 = .ok (.ireturn, 1) := dk_172 (dk_at dksX6_hear_1 5 rfl rfl)
theorem dX6_hear_30 : decode cX6_hear 30 = .ok (.aload_n 0, 1) := dk_42 (dk_at dksX6_hear_1 6 rfl rfl)
theorem dX6_hear_31 : decode cX6_hear 31 = .ok (.getfield 24, 3) := dk_180 0 24 (dk_at dksX6_hear_1 7 rfl rfl)
theorem dX6_hear_34 : decode cX6_hear 34 = .ok (.iconst 0, 1) := dk_3 (dk_at dksX6_hear_1 10 rfl rfl)
theorem dX6_hear_35 : decode cX6_hear 35 = .ok (.iload_n 1, 1) := dk_27 (dk_at dksX6_hear_1 11 rfl rfl)
theorem dX6_hear_36 : decode cX6_hear 36 = .ok (.iadd, 1) := dk_96 (dk_at dksX6_hear_1 12 rfl rfl)
theorem dX6_hear_37 : decode cX6_hear 37 = .ok (.iaload, 1) := dk_46 (dk_at dksX6_hear_1 13 rfl rfl)
theorem dX6_hear_38 : decode cX6_hear 38 = .ok (.iconst 3, 1) := dk_6 (dk_at dksX6_hear_1 14 rfl rfl)
theorem dX6_hear_39 : decode cX6_hear 39 = .ok (.if_icmp .ne 10, 3) := dk_160 0 10 (dk_at dksX6_hear_1 15 rfl rfl)
theorem dX6_hear_42 : decode cX6_hear 42 = .ok (.aload_n 0, 1) := dk_42 (dk_at dksX6_hear_1 18 rfl rfl)
theorem dX6_hear_43 : decode cX6_hear 43 = .ok (.bipush (-3), 2) := dk_16 253 (dk_at dksX6_hear_1 19 rfl rfl)
theorem dX6_hear_45 : decode cX6_hear 45 = .ok (.invokevirtual 110, 3) := dk_182 0 110 (dk_at dksX6_hear_1 21 rfl rfl)
theorem dX6_hear_48 : decode cX6_hear 48 = .ok (.ireturn, 1) := dk_172 (dk_at dksX6_hear_2 0 rfl rfl)
theorem dX6_hear_49 : decode cX6_hear 49 = .ok (.aload_n 0, 1) := dk_42 (dk_at dksX6_hear_2 1 rfl rfl)
theorem dX6_hear_50 : decode cX6_hear 50 = .ok (.getfield 24, 3) := dk_180 0 24 (dk_at dksX6_hear_2 2 rfl rfl)
theorem dX6_hear_53 : decode cX6_hear 53 = .ok (.bipush 20, 2) := dk_16 20 (dk_at dksX6_hear_2 5 rfl rfl)
theorem dX6_hear_55 : decode cX6_hear 55 = .ok (.iload_n 1, 1) := dk_27 (dk_at dksX6_hear_2 7 rfl rfl)
theorem dX6_hear_56 : decode cX6_hear 56 = .ok (.iadd, 1) := dk_96 (dk_at dksX6_hear_2 8 rfl rfl)
theorem dX6_hear_57 : decode cX6_hear 57 = .ok (.iaload, 1) := dk_46 (dk_at dksX6_hear_2 9 rfl rfl)
theorem dX6_hear_58 : decode cX6_hear 58 = .ok (.istore_n 3, 1) := dk_62 (dk_at dksX6_hear_2 10 rfl rfl)
theorem dX6_hear_59 : decode cX6_hear 59 = .ok (.aload_n 0, 1) := dk_42 (dk_at dksX6_hear_2 11 rfl rfl)
theorem dX6_hear_60 : decode cX6_hear 60 = .ok (.getfield 24, 3) := dk_180 0 24 (dk_at dksX6_hear_2 12 rfl rfl)
theorem dX6_hear_63 : decode cX6_hear 63 = .ok (.bipush 20, 2) := dk_16 20 (dk_at dksX6_hear_2 15 rfl rfl)
theorem dX6_hear_65 : decode cX6_hear 65 = .ok (.iload_n 1, 1) := dk_27 (dk_at dksX6_hear_2 17 rfl rfl)
theorem dX6_hear_66 : decode cX6_hear 66 = .ok (.iadd, 1) := dk_96 (dk_at dksX6_hear_2 18 rfl rfl)
theorem dX6_hear_67 : decode cX6_hear 67 = .ok (.iload_n 2, 1) := dk_28 (dk_at dksX6_hear_2 19 rfl rfl)
theorem dX6_hear_68 : decode cX6_hear 68 = .ok (.iastore, 1) := dk_79 (dk_at dksX6_hear_2 20 rfl rfl)
theorem dX6_hear_69 : decode cX6_hear 69 = .ok (.aload_n 0, 1) := dk_42 (dk_at dksX6_hear_2 21 rfl rfl)
theorem dX6_hear_70 : decode cX6_hear 70 = .ok (.iload_n 3, 1) := dk_29 (dk_at dksX6_hear_2 22 rfl rfl)
theorem dX6_hear_71 : decode cX6_hear 71 = .ok (.invokevirtual 113, 3) := dk_182 0 113 (dk_at dksX6_hear_3 0 rfl rfl)
theorem dX6_hear_74 : decode cX6_hear 74 = .ok (.ireturn, 1) := dk_172 (dk_at dksX6_hear_3 3 rfl rfl)
abbrev cX6_isPerson : ByteArray := prog_29_method_12_code
def yX6_isPerson : MethodName := ⟨RX6, "isPerson", "(I)Z"⟩
def dkwX6_isPerson_0 : List UInt8 := [27, 3, 42, 182, 0, 116, 4, 100, 184, 0, 106, 172]
abbrev dktX6_isPerson_0 : List UInt8 := dkwX6_isPerson_0 ++ []
theorem dksX6_isPerson_0 : cX6_isPerson.data.toList.drop 0 = dktX6_isPerson_0 := by decide +kernel
theorem dX6_isPerson_0 : decode cX6_isPerson 0 = .ok (.iload_n 1, 1) := dk_27 (dk_at dksX6_isPerson_0 0 rfl rfl)
theorem dX6_isPerson_1 : decode cX6_isPerson 1 = .ok (.iconst 0, 1) := dk_3 (dk_at dksX6_isPerson_0 1 rfl rfl)
theorem dX6_isPerson_2 : decode cX6_isPerson 2 = .ok (.aload_n 0, 1) := dk_42 (dk_at dksX6_isPerson_0 2 rfl rfl)
theorem dX6_isPerson_3 : decode cX6_isPerson 3 = .ok (.invokevirtual 116, 3) := dk_182 0 116 (dk_at dksX6_isPerson_0 3 rfl rfl)
theorem dX6_isPerson_6 : decode cX6_isPerson 6 = .ok (.iconst 1, 1) := dk_4 (dk_at dksX6_isPerson_0 6 rfl rfl)
theorem dX6_isPerson_7 : decode cX6_isPerson 7 = .ok (.isub, 1) := dk_100 (dk_at dksX6_isPerson_0 7 rfl rfl)
theorem dX6_isPerson_8 : decode cX6_isPerson 8 = .ok (.invokestatic 106, 3) := dk_184 0 106 (dk_at dksX6_isPerson_0 8 rfl rfl)
theorem dX6_isPerson_11 : decode cX6_isPerson 11 = .ok (.ireturn, 1) := dk_172 (dk_at dksX6_isPerson_0 11 rfl rfl)
abbrev cX6_of : ByteArray := prog_29_method_20_code
def yX6_of : MethodName := ⟨RX6, "of", "(II)I"⟩
def dkwX6_of_4 : List UInt8 := [16, 10, 27, 96, 46, 167, 0, 4, 2, 172, 42, 27, 182, 0, 138, 172, 2, 172]
abbrev dktX6_of_4 : List UInt8 := dkwX6_of_4 ++ []
def dkwX6_of_3 : List UInt8 := [180, 0, 24, 3, 27, 96, 46, 172, 42, 180, 0, 24, 3, 27, 96, 46, 4, 160, 0, 15, 42, 180, 0, 24]
abbrev dktX6_of_3 : List UInt8 := dkwX6_of_3 ++ dktX6_of_4
def dkwX6_of_2 : List UInt8 := [42, 27, 182, 0, 132, 172, 42, 27, 182, 0, 135, 172, 42, 180, 0, 24, 16, 20, 27, 96, 46, 172, 42]
abbrev dktX6_of_2 : List UInt8 := dkwX6_of_2 ++ dktX6_of_3
def dkwX6_of_1 : List UInt8 := [170, 0, 0, 0, 100, 0, 0, 0, 0, 0, 0, 0, 5, 0, 0, 0, 37, 0, 0, 0, 43, 0, 0, 0, 49, 0, 0, 0, 59, 0, 0, 0, 68, 0, 0, 0, 94]
abbrev dktX6_of_1 : List UInt8 := dkwX6_of_1 ++ dktX6_of_2
def dkwX6_of_0 : List UInt8 := [42, 27, 182, 0, 128, 154, 0, 5, 2, 172, 28]
abbrev dktX6_of_0 : List UInt8 := dkwX6_of_0 ++ dktX6_of_1
theorem dksX6_of_0 : cX6_of.data.toList.drop 0 = dktX6_of_0 := by decide +kernel
theorem dksX6_of_1 : cX6_of.data.toList.drop 11 = dktX6_of_1 := dk_seg dksX6_of_0 11 rfl rfl
theorem dksX6_of_2 : cX6_of.data.toList.drop 48 = dktX6_of_2 := dk_seg dksX6_of_1 37 rfl rfl
theorem dksX6_of_3 : cX6_of.data.toList.drop 71 = dktX6_of_3 := dk_seg dksX6_of_2 23 rfl rfl
theorem dksX6_of_4 : cX6_of.data.toList.drop 95 = dktX6_of_4 := dk_seg dksX6_of_3 24 rfl rfl
theorem dX6_of_0 : decode cX6_of 0 = .ok (.aload_n 0, 1) := dk_42 (dk_at dksX6_of_0 0 rfl rfl)
theorem dX6_of_1 : decode cX6_of 1 = .ok (.iload_n 1, 1) := dk_27 (dk_at dksX6_of_0 1 rfl rfl)
theorem dX6_of_2 : decode cX6_of 2 = .ok (.invokevirtual 128, 3) := dk_182 0 128 (dk_at dksX6_of_0 2 rfl rfl)
theorem dX6_of_5 : decode cX6_of 5 = .ok (.ifCond .ne 5, 3) := dk_154 0 5 (dk_at dksX6_of_0 5 rfl rfl)
theorem dX6_of_8 : decode cX6_of 8 = .ok (.iconst (-1), 1) := dk_2 (dk_at dksX6_of_0 8 rfl rfl)
theorem dX6_of_9 : decode cX6_of 9 = .ok (.ireturn, 1) := dk_172 (dk_at dksX6_of_0 9 rfl rfl)
theorem dX6_of_10 : decode cX6_of 10 = .ok (.iload_n 2, 1) := dk_28 (dk_at dksX6_of_0 10 rfl rfl)
theorem dX6_of_11 : decode cX6_of 11 = .ok (.tableswitch 100 0 5 #[37, 43, 49, 59, 68, 94], 37) := by decide +kernel
theorem dX6_of_48 : decode cX6_of 48 = .ok (.aload_n 0, 1) := dk_42 (dk_at dksX6_of_2 0 rfl rfl)
theorem dX6_of_49 : decode cX6_of 49 = .ok (.iload_n 1, 1) := dk_27 (dk_at dksX6_of_2 1 rfl rfl)
theorem dX6_of_50 : decode cX6_of 50 = .ok (.invokevirtual 132, 3) := dk_182 0 132 (dk_at dksX6_of_2 2 rfl rfl)
theorem dX6_of_53 : decode cX6_of 53 = .ok (.ireturn, 1) := dk_172 (dk_at dksX6_of_2 5 rfl rfl)
theorem dX6_of_54 : decode cX6_of 54 = .ok (.aload_n 0, 1) := dk_42 (dk_at dksX6_of_2 6 rfl rfl)
theorem dX6_of_55 : decode cX6_of 55 = .ok (.iload_n 1, 1) := dk_27 (dk_at dksX6_of_2 7 rfl rfl)
theorem dX6_of_56 : decode cX6_of 56 = .ok (.invokevirtual 135, 3) := dk_182 0 135 (dk_at dksX6_of_2 8 rfl rfl)
theorem dX6_of_59 : decode cX6_of 59 = .ok (.ireturn, 1) := dk_172 (dk_at dksX6_of_2 11 rfl rfl)
theorem dX6_of_60 : decode cX6_of 60 = .ok (.aload_n 0, 1) := dk_42 (dk_at dksX6_of_2 12 rfl rfl)
theorem dX6_of_61 : decode cX6_of 61 = .ok (.getfield 24, 3) := dk_180 0 24 (dk_at dksX6_of_2 13 rfl rfl)
theorem dX6_of_64 : decode cX6_of 64 = .ok (.bipush 20, 2) := dk_16 20 (dk_at dksX6_of_2 16 rfl rfl)
theorem dX6_of_66 : decode cX6_of 66 = .ok (.iload_n 1, 1) := dk_27 (dk_at dksX6_of_2 18 rfl rfl)
theorem dX6_of_67 : decode cX6_of 67 = .ok (.iadd, 1) := dk_96 (dk_at dksX6_of_2 19 rfl rfl)
theorem dX6_of_68 : decode cX6_of 68 = .ok (.iaload, 1) := dk_46 (dk_at dksX6_of_2 20 rfl rfl)
theorem dX6_of_69 : decode cX6_of 69 = .ok (.ireturn, 1) := dk_172 (dk_at dksX6_of_2 21 rfl rfl)
theorem dX6_of_70 : decode cX6_of 70 = .ok (.aload_n 0, 1) := dk_42 (dk_at dksX6_of_2 22 rfl rfl)
theorem dX6_of_71 : decode cX6_of 71 = .ok (.getfield 24, 3) := dk_180 0 24 (dk_at dksX6_of_3 0 rfl rfl)
theorem dX6_of_74 : decode cX6_of 74 = .ok (.iconst 0, 1) := dk_3 (dk_at dksX6_of_3 3 rfl rfl)
theorem dX6_of_75 : decode cX6_of 75 = .ok (.iload_n 1, 1) := dk_27 (dk_at dksX6_of_3 4 rfl rfl)
theorem dX6_of_76 : decode cX6_of 76 = .ok (.iadd, 1) := dk_96 (dk_at dksX6_of_3 5 rfl rfl)
theorem dX6_of_77 : decode cX6_of 77 = .ok (.iaload, 1) := dk_46 (dk_at dksX6_of_3 6 rfl rfl)
theorem dX6_of_78 : decode cX6_of 78 = .ok (.ireturn, 1) := dk_172 (dk_at dksX6_of_3 7 rfl rfl)
theorem dX6_of_79 : decode cX6_of 79 = .ok (.aload_n 0, 1) := dk_42 (dk_at dksX6_of_3 8 rfl rfl)
theorem dX6_of_80 : decode cX6_of 80 = .ok (.getfield 24, 3) := dk_180 0 24 (dk_at dksX6_of_3 9 rfl rfl)
theorem dX6_of_83 : decode cX6_of 83 = .ok (.iconst 0, 1) := dk_3 (dk_at dksX6_of_3 12 rfl rfl)
theorem dX6_of_84 : decode cX6_of 84 = .ok (.iload_n 1, 1) := dk_27 (dk_at dksX6_of_3 13 rfl rfl)
theorem dX6_of_85 : decode cX6_of 85 = .ok (.iadd, 1) := dk_96 (dk_at dksX6_of_3 14 rfl rfl)
theorem dX6_of_86 : decode cX6_of 86 = .ok (.iaload, 1) := dk_46 (dk_at dksX6_of_3 15 rfl rfl)
theorem dX6_of_87 : decode cX6_of 87 = .ok (.iconst 1, 1) := dk_4 (dk_at dksX6_of_3 16 rfl rfl)
theorem dX6_of_88 : decode cX6_of 88 = .ok (.if_icmp .ne 15, 3) := dk_160 0 15 (dk_at dksX6_of_3 17 rfl rfl)
theorem dX6_of_91 : decode cX6_of 91 = .ok (.aload_n 0, 1) := dk_42 (dk_at dksX6_of_3 20 rfl rfl)
theorem dX6_of_92 : decode cX6_of 92 = .ok (.getfield 24, 3) := dk_180 0 24 (dk_at dksX6_of_3 21 rfl rfl)
theorem dX6_of_95 : decode cX6_of 95 = .ok (.bipush 10, 2) := dk_16 10 (dk_at dksX6_of_4 0 rfl rfl)
theorem dX6_of_97 : decode cX6_of 97 = .ok (.iload_n 1, 1) := dk_27 (dk_at dksX6_of_4 2 rfl rfl)
theorem dX6_of_98 : decode cX6_of 98 = .ok (.iadd, 1) := dk_96 (dk_at dksX6_of_4 3 rfl rfl)
theorem dX6_of_99 : decode cX6_of 99 = .ok (.iaload, 1) := dk_46 (dk_at dksX6_of_4 4 rfl rfl)
theorem dX6_of_100 : decode cX6_of 100 = .ok (.goto 4, 3) := dk_167 0 4 (dk_at dksX6_of_4 5 rfl rfl)
theorem dX6_of_103 : decode cX6_of 103 = .ok (.iconst (-1), 1) := dk_2 (dk_at dksX6_of_4 8 rfl rfl)
theorem dX6_of_104 : decode cX6_of 104 = .ok (.ireturn, 1) := dk_172 (dk_at dksX6_of_4 9 rfl rfl)
theorem dX6_of_105 : decode cX6_of 105 = .ok (.aload_n 0, 1) := dk_42 (dk_at dksX6_of_4 10 rfl rfl)
theorem dX6_of_106 : decode cX6_of 106 = .ok (.iload_n 1, 1) := dk_27 (dk_at dksX6_of_4 11 rfl rfl)
theorem dX6_of_107 : decode cX6_of 107 = .ok (.invokevirtual 138, 3) := dk_182 0 138 (dk_at dksX6_of_4 12 rfl rfl)
theorem dX6_of_110 : decode cX6_of 110 = .ok (.ireturn, 1) := dk_172 (dk_at dksX6_of_4 15 rfl rfl)
theorem dX6_of_111 : decode cX6_of 111 = .ok (.iconst (-1), 1) := dk_2 (dk_at dksX6_of_4 16 rfl rfl)
theorem dX6_of_112 : decode cX6_of 112 = .ok (.ireturn, 1) := dk_172 (dk_at dksX6_of_4 17 rfl rfl)
abbrev cX6_roadOf : ByteArray := prog_29_method_14_code
def yX6_roadOf : MethodName := ⟨RX6, "roadOf", "(I)I"⟩
def dkwX6_roadOf_0 : List UInt8 := [42, 180, 0, 24, 16, 34, 5, 27, 104, 96, 46, 172]
abbrev dktX6_roadOf_0 : List UInt8 := dkwX6_roadOf_0 ++ []
theorem dksX6_roadOf_0 : cX6_roadOf.data.toList.drop 0 = dktX6_roadOf_0 := by decide +kernel
theorem dX6_roadOf_0 : decode cX6_roadOf 0 = .ok (.aload_n 0, 1) := dk_42 (dk_at dksX6_roadOf_0 0 rfl rfl)
theorem dX6_roadOf_1 : decode cX6_roadOf 1 = .ok (.getfield 24, 3) := dk_180 0 24 (dk_at dksX6_roadOf_0 1 rfl rfl)
theorem dX6_roadOf_4 : decode cX6_roadOf 4 = .ok (.bipush 34, 2) := dk_16 34 (dk_at dksX6_roadOf_0 4 rfl rfl)
theorem dX6_roadOf_6 : decode cX6_roadOf 6 = .ok (.iconst 2, 1) := dk_5 (dk_at dksX6_roadOf_0 6 rfl rfl)
theorem dX6_roadOf_7 : decode cX6_roadOf 7 = .ok (.iload_n 1, 1) := dk_27 (dk_at dksX6_roadOf_0 7 rfl rfl)
theorem dX6_roadOf_8 : decode cX6_roadOf 8 = .ok (.imul, 1) := dk_104 (dk_at dksX6_roadOf_0 8 rfl rfl)
theorem dX6_roadOf_9 : decode cX6_roadOf 9 = .ok (.iadd, 1) := dk_96 (dk_at dksX6_roadOf_0 9 rfl rfl)
theorem dX6_roadOf_10 : decode cX6_roadOf 10 = .ok (.iaload, 1) := dk_46 (dk_at dksX6_roadOf_0 10 rfl rfl)
theorem dX6_roadOf_11 : decode cX6_roadOf 11 = .ok (.ireturn, 1) := dk_172 (dk_at dksX6_roadOf_0 11 rfl rfl)
abbrev cX6_landOf : ByteArray := prog_29_method_15_code
def yX6_landOf : MethodName := ⟨RX6, "landOf", "(I)I"⟩
def dkwX6_landOf_0 : List UInt8 := [42, 180, 0, 24, 16, 34, 5, 27, 104, 96, 4, 96, 46, 172]
abbrev dktX6_landOf_0 : List UInt8 := dkwX6_landOf_0 ++ []
theorem dksX6_landOf_0 : cX6_landOf.data.toList.drop 0 = dktX6_landOf_0 := by decide +kernel
theorem dX6_landOf_0 : decode cX6_landOf 0 = .ok (.aload_n 0, 1) := dk_42 (dk_at dksX6_landOf_0 0 rfl rfl)
theorem dX6_landOf_1 : decode cX6_landOf 1 = .ok (.getfield 24, 3) := dk_180 0 24 (dk_at dksX6_landOf_0 1 rfl rfl)
theorem dX6_landOf_4 : decode cX6_landOf 4 = .ok (.bipush 34, 2) := dk_16 34 (dk_at dksX6_landOf_0 4 rfl rfl)
theorem dX6_landOf_6 : decode cX6_landOf 6 = .ok (.iconst 2, 1) := dk_5 (dk_at dksX6_landOf_0 6 rfl rfl)
theorem dX6_landOf_7 : decode cX6_landOf 7 = .ok (.iload_n 1, 1) := dk_27 (dk_at dksX6_landOf_0 7 rfl rfl)
theorem dX6_landOf_8 : decode cX6_landOf 8 = .ok (.imul, 1) := dk_104 (dk_at dksX6_landOf_0 8 rfl rfl)
theorem dX6_landOf_9 : decode cX6_landOf 9 = .ok (.iadd, 1) := dk_96 (dk_at dksX6_landOf_0 9 rfl rfl)
theorem dX6_landOf_10 : decode cX6_landOf 10 = .ok (.iconst 1, 1) := dk_4 (dk_at dksX6_landOf_0 10 rfl rfl)
theorem dX6_landOf_11 : decode cX6_landOf 11 = .ok (.iadd, 1) := dk_96 (dk_at dksX6_landOf_0 11 rfl rfl)
theorem dX6_landOf_12 : decode cX6_landOf 12 = .ok (.iaload, 1) := dk_46 (dk_at dksX6_landOf_0 12 rfl rfl)
theorem dX6_landOf_13 : decode cX6_landOf 13 = .ok (.ireturn, 1) := dk_172 (dk_at dksX6_landOf_0 13 rfl rfl)
abbrev cX6_worthOf : ByteArray := prog_29_method_19_code
def yX6_worthOf : MethodName := ⟨RX6, "worthOf", "(I)I"⟩
def dkwX6_worthOf_1 : List UInt8 := [96, 46, 100, 172]
abbrev dktX6_worthOf_1 : List UInt8 := dkwX6_worthOf_1 ++ []
def dkwX6_worthOf_0 : List UInt8 := [42, 180, 0, 24, 3, 27, 96, 46, 6, 160, 0, 7, 3, 167, 0, 14, 5, 42, 180, 0, 24, 16, 20, 27]
abbrev dktX6_worthOf_0 : List UInt8 := dkwX6_worthOf_0 ++ dktX6_worthOf_1
theorem dksX6_worthOf_0 : cX6_worthOf.data.toList.drop 0 = dktX6_worthOf_0 := by decide +kernel
theorem dksX6_worthOf_1 : cX6_worthOf.data.toList.drop 24 = dktX6_worthOf_1 := dk_seg dksX6_worthOf_0 24 rfl rfl
theorem dX6_worthOf_0 : decode cX6_worthOf 0 = .ok (.aload_n 0, 1) := dk_42 (dk_at dksX6_worthOf_0 0 rfl rfl)
theorem dX6_worthOf_1 : decode cX6_worthOf 1 = .ok (.getfield 24, 3) := dk_180 0 24 (dk_at dksX6_worthOf_0 1 rfl rfl)
theorem dX6_worthOf_4 : decode cX6_worthOf 4 = .ok (.iconst 0, 1) := dk_3 (dk_at dksX6_worthOf_0 4 rfl rfl)
theorem dX6_worthOf_5 : decode cX6_worthOf 5 = .ok (.iload_n 1, 1) := dk_27 (dk_at dksX6_worthOf_0 5 rfl rfl)
theorem dX6_worthOf_6 : decode cX6_worthOf 6 = .ok (.iadd, 1) := dk_96 (dk_at dksX6_worthOf_0 6 rfl rfl)
theorem dX6_worthOf_7 : decode cX6_worthOf 7 = .ok (.iaload, 1) := dk_46 (dk_at dksX6_worthOf_0 7 rfl rfl)
theorem dX6_worthOf_8 : decode cX6_worthOf 8 = .ok (.iconst 3, 1) := dk_6 (dk_at dksX6_worthOf_0 8 rfl rfl)
theorem dX6_worthOf_9 : decode cX6_worthOf 9 = .ok (.if_icmp .ne 7, 3) := dk_160 0 7 (dk_at dksX6_worthOf_0 9 rfl rfl)
theorem dX6_worthOf_12 : decode cX6_worthOf 12 = .ok (.iconst 0, 1) := dk_3 (dk_at dksX6_worthOf_0 12 rfl rfl)
theorem dX6_worthOf_13 : decode cX6_worthOf 13 = .ok (.goto 14, 3) := dk_167 0 14 (dk_at dksX6_worthOf_0 13 rfl rfl)
theorem dX6_worthOf_16 : decode cX6_worthOf 16 = .ok (.iconst 2, 1) := dk_5 (dk_at dksX6_worthOf_0 16 rfl rfl)
theorem dX6_worthOf_17 : decode cX6_worthOf 17 = .ok (.aload_n 0, 1) := dk_42 (dk_at dksX6_worthOf_0 17 rfl rfl)
theorem dX6_worthOf_18 : decode cX6_worthOf 18 = .ok (.getfield 24, 3) := dk_180 0 24 (dk_at dksX6_worthOf_0 18 rfl rfl)
theorem dX6_worthOf_21 : decode cX6_worthOf 21 = .ok (.bipush 20, 2) := dk_16 20 (dk_at dksX6_worthOf_0 21 rfl rfl)
theorem dX6_worthOf_23 : decode cX6_worthOf 23 = .ok (.iload_n 1, 1) := dk_27 (dk_at dksX6_worthOf_0 23 rfl rfl)
theorem dX6_worthOf_24 : decode cX6_worthOf 24 = .ok (.iadd, 1) := dk_96 (dk_at dksX6_worthOf_1 0 rfl rfl)
theorem dX6_worthOf_25 : decode cX6_worthOf 25 = .ok (.iaload, 1) := dk_46 (dk_at dksX6_worthOf_1 1 rfl rfl)
theorem dX6_worthOf_26 : decode cX6_worthOf 26 = .ok (.isub, 1) := dk_100 (dk_at dksX6_worthOf_1 2 rfl rfl)
theorem dX6_worthOf_27 : decode cX6_worthOf 27 = .ok (.ireturn, 1) := dk_172 (dk_at dksX6_worthOf_1 3 rfl rfl)
abbrev cX6_talk : ByteArray := prog_29_method_21_code
def yX6_talk : MethodName := ⟨RX6, "talk", "(III)I"⟩
def dkwX6_talk_4 : List UInt8 := [182, 0, 14, 172]
abbrev dktX6_talk_4 : List UInt8 := dkwX6_talk_4 ++ []
def dkwX6_talk_3 : List UInt8 := [104, 96, 28, 96, 29, 79, 42, 180, 0, 24, 16, 54, 16, 10, 28, 104, 96, 27, 96, 29, 79, 42, 21, 4]
abbrev dktX6_talk_3 : List UInt8 := dkwX6_talk_3 ++ dktX6_talk_4
def dkwX6_talk_2 : List UInt8 := [180, 0, 24, 16, 54, 16, 10, 27, 104, 96, 28, 96, 46, 54, 4, 42, 180, 0, 24, 16, 54, 16, 10, 27]
abbrev dktX6_talk_2 : List UInt8 := dkwX6_talk_2 ++ dktX6_talk_3
def dkwX6_talk_1 : List UInt8 := [182, 0, 128, 153, 0, 11, 42, 28, 182, 0, 128, 154, 0, 10, 42, 16, 254, 182, 0, 110, 172, 42]
abbrev dktX6_talk_1 : List UInt8 := dkwX6_talk_1 ++ dktX6_talk_2
def dkwX6_talk_0 : List UInt8 := [27, 28, 159, 0, 12, 29, 3, 4, 184, 0, 106, 154, 0, 9, 42, 2, 182, 0, 110, 172, 42, 27]
abbrev dktX6_talk_0 : List UInt8 := dkwX6_talk_0 ++ dktX6_talk_1
theorem dksX6_talk_0 : cX6_talk.data.toList.drop 0 = dktX6_talk_0 := by decide +kernel
theorem dksX6_talk_1 : cX6_talk.data.toList.drop 22 = dktX6_talk_1 := dk_seg dksX6_talk_0 22 rfl rfl
theorem dksX6_talk_2 : cX6_talk.data.toList.drop 44 = dktX6_talk_2 := dk_seg dksX6_talk_1 22 rfl rfl
theorem dksX6_talk_3 : cX6_talk.data.toList.drop 68 = dktX6_talk_3 := dk_seg dksX6_talk_2 24 rfl rfl
theorem dksX6_talk_4 : cX6_talk.data.toList.drop 92 = dktX6_talk_4 := dk_seg dksX6_talk_3 24 rfl rfl
theorem dX6_talk_0 : decode cX6_talk 0 = .ok (.iload_n 1, 1) := dk_27 (dk_at dksX6_talk_0 0 rfl rfl)
theorem dX6_talk_1 : decode cX6_talk 1 = .ok (.iload_n 2, 1) := dk_28 (dk_at dksX6_talk_0 1 rfl rfl)
theorem dX6_talk_2 : decode cX6_talk 2 = .ok (.if_icmp .eq 12, 3) := dk_159 0 12 (dk_at dksX6_talk_0 2 rfl rfl)
theorem dX6_talk_5 : decode cX6_talk 5 = .ok (.iload_n 3, 1) := dk_29 (dk_at dksX6_talk_0 5 rfl rfl)
theorem dX6_talk_6 : decode cX6_talk 6 = .ok (.iconst 0, 1) := dk_3 (dk_at dksX6_talk_0 6 rfl rfl)
theorem dX6_talk_7 : decode cX6_talk 7 = .ok (.iconst 1, 1) := dk_4 (dk_at dksX6_talk_0 7 rfl rfl)
theorem dX6_talk_8 : decode cX6_talk 8 = .ok (.invokestatic 106, 3) := dk_184 0 106 (dk_at dksX6_talk_0 8 rfl rfl)
theorem dX6_talk_11 : decode cX6_talk 11 = .ok (.ifCond .ne 9, 3) := dk_154 0 9 (dk_at dksX6_talk_0 11 rfl rfl)
theorem dX6_talk_14 : decode cX6_talk 14 = .ok (.aload_n 0, 1) := dk_42 (dk_at dksX6_talk_0 14 rfl rfl)
theorem dX6_talk_15 : decode cX6_talk 15 = .ok (.iconst (-1), 1) := dk_2 (dk_at dksX6_talk_0 15 rfl rfl)
theorem dX6_talk_16 : decode cX6_talk 16 = .ok (.invokevirtual 110, 3) := dk_182 0 110 (dk_at dksX6_talk_0 16 rfl rfl)
theorem dX6_talk_19 : decode cX6_talk 19 = .ok (.ireturn, 1) := dk_172 (dk_at dksX6_talk_0 19 rfl rfl)
theorem dX6_talk_20 : decode cX6_talk 20 = .ok (.aload_n 0, 1) := dk_42 (dk_at dksX6_talk_0 20 rfl rfl)
theorem dX6_talk_21 : decode cX6_talk 21 = .ok (.iload_n 1, 1) := dk_27 (dk_at dksX6_talk_0 21 rfl rfl)
theorem dX6_talk_22 : decode cX6_talk 22 = .ok (.invokevirtual 128, 3) := dk_182 0 128 (dk_at dksX6_talk_1 0 rfl rfl)
theorem dX6_talk_25 : decode cX6_talk 25 = .ok (.ifCond .eq 11, 3) := dk_153 0 11 (dk_at dksX6_talk_1 3 rfl rfl)
theorem dX6_talk_28 : decode cX6_talk 28 = .ok (.aload_n 0, 1) := dk_42 (dk_at dksX6_talk_1 6 rfl rfl)
theorem dX6_talk_29 : decode cX6_talk 29 = .ok (.iload_n 2, 1) := dk_28 (dk_at dksX6_talk_1 7 rfl rfl)
theorem dX6_talk_30 : decode cX6_talk 30 = .ok (.invokevirtual 128, 3) := dk_182 0 128 (dk_at dksX6_talk_1 8 rfl rfl)
theorem dX6_talk_33 : decode cX6_talk 33 = .ok (.ifCond .ne 10, 3) := dk_154 0 10 (dk_at dksX6_talk_1 11 rfl rfl)
theorem dX6_talk_36 : decode cX6_talk 36 = .ok (.aload_n 0, 1) := dk_42 (dk_at dksX6_talk_1 14 rfl rfl)
theorem dX6_talk_37 : decode cX6_talk 37 = .ok (.bipush (-2), 2) := dk_16 254 (dk_at dksX6_talk_1 15 rfl rfl)
theorem dX6_talk_39 : decode cX6_talk 39 = .ok (.invokevirtual 110, 3) := dk_182 0 110 (dk_at dksX6_talk_1 17 rfl rfl)
theorem dX6_talk_42 : decode cX6_talk 42 = .ok (.ireturn, 1) := dk_172 (dk_at dksX6_talk_1 20 rfl rfl)
theorem dX6_talk_43 : decode cX6_talk 43 = .ok (.aload_n 0, 1) := dk_42 (dk_at dksX6_talk_1 21 rfl rfl)
theorem dX6_talk_44 : decode cX6_talk 44 = .ok (.getfield 24, 3) := dk_180 0 24 (dk_at dksX6_talk_2 0 rfl rfl)
theorem dX6_talk_47 : decode cX6_talk 47 = .ok (.bipush 54, 2) := dk_16 54 (dk_at dksX6_talk_2 3 rfl rfl)
theorem dX6_talk_49 : decode cX6_talk 49 = .ok (.bipush 10, 2) := dk_16 10 (dk_at dksX6_talk_2 5 rfl rfl)
theorem dX6_talk_51 : decode cX6_talk 51 = .ok (.iload_n 1, 1) := dk_27 (dk_at dksX6_talk_2 7 rfl rfl)
theorem dX6_talk_52 : decode cX6_talk 52 = .ok (.imul, 1) := dk_104 (dk_at dksX6_talk_2 8 rfl rfl)
theorem dX6_talk_53 : decode cX6_talk 53 = .ok (.iadd, 1) := dk_96 (dk_at dksX6_talk_2 9 rfl rfl)
theorem dX6_talk_54 : decode cX6_talk 54 = .ok (.iload_n 2, 1) := dk_28 (dk_at dksX6_talk_2 10 rfl rfl)
theorem dX6_talk_55 : decode cX6_talk 55 = .ok (.iadd, 1) := dk_96 (dk_at dksX6_talk_2 11 rfl rfl)
theorem dX6_talk_56 : decode cX6_talk 56 = .ok (.iaload, 1) := dk_46 (dk_at dksX6_talk_2 12 rfl rfl)
theorem dX6_talk_57 : decode cX6_talk 57 = .ok (.istore 4, 2) := dk_54 4 (dk_at dksX6_talk_2 13 rfl rfl)
theorem dX6_talk_59 : decode cX6_talk 59 = .ok (.aload_n 0, 1) := dk_42 (dk_at dksX6_talk_2 15 rfl rfl)
theorem dX6_talk_60 : decode cX6_talk 60 = .ok (.getfield 24, 3) := dk_180 0 24 (dk_at dksX6_talk_2 16 rfl rfl)
theorem dX6_talk_63 : decode cX6_talk 63 = .ok (.bipush 54, 2) := dk_16 54 (dk_at dksX6_talk_2 19 rfl rfl)
theorem dX6_talk_65 : decode cX6_talk 65 = .ok (.bipush 10, 2) := dk_16 10 (dk_at dksX6_talk_2 21 rfl rfl)
theorem dX6_talk_67 : decode cX6_talk 67 = .ok (.iload_n 1, 1) := dk_27 (dk_at dksX6_talk_2 23 rfl rfl)
theorem dX6_talk_68 : decode cX6_talk 68 = .ok (.imul, 1) := dk_104 (dk_at dksX6_talk_3 0 rfl rfl)
theorem dX6_talk_69 : decode cX6_talk 69 = .ok (.iadd, 1) := dk_96 (dk_at dksX6_talk_3 1 rfl rfl)
theorem dX6_talk_70 : decode cX6_talk 70 = .ok (.iload_n 2, 1) := dk_28 (dk_at dksX6_talk_3 2 rfl rfl)
theorem dX6_talk_71 : decode cX6_talk 71 = .ok (.iadd, 1) := dk_96 (dk_at dksX6_talk_3 3 rfl rfl)
theorem dX6_talk_72 : decode cX6_talk 72 = .ok (.iload_n 3, 1) := dk_29 (dk_at dksX6_talk_3 4 rfl rfl)
theorem dX6_talk_73 : decode cX6_talk 73 = .ok (.iastore, 1) := dk_79 (dk_at dksX6_talk_3 5 rfl rfl)
theorem dX6_talk_74 : decode cX6_talk 74 = .ok (.aload_n 0, 1) := dk_42 (dk_at dksX6_talk_3 6 rfl rfl)
theorem dX6_talk_75 : decode cX6_talk 75 = .ok (.getfield 24, 3) := dk_180 0 24 (dk_at dksX6_talk_3 7 rfl rfl)
theorem dX6_talk_78 : decode cX6_talk 78 = .ok (.bipush 54, 2) := dk_16 54 (dk_at dksX6_talk_3 10 rfl rfl)
theorem dX6_talk_80 : decode cX6_talk 80 = .ok (.bipush 10, 2) := dk_16 10 (dk_at dksX6_talk_3 12 rfl rfl)
theorem dX6_talk_82 : decode cX6_talk 82 = .ok (.iload_n 2, 1) := dk_28 (dk_at dksX6_talk_3 14 rfl rfl)
theorem dX6_talk_83 : decode cX6_talk 83 = .ok (.imul, 1) := dk_104 (dk_at dksX6_talk_3 15 rfl rfl)
theorem dX6_talk_84 : decode cX6_talk 84 = .ok (.iadd, 1) := dk_96 (dk_at dksX6_talk_3 16 rfl rfl)
theorem dX6_talk_85 : decode cX6_talk 85 = .ok (.iload_n 1, 1) := dk_27 (dk_at dksX6_talk_3 17 rfl rfl)
theorem dX6_talk_86 : decode cX6_talk 86 = .ok (.iadd, 1) := dk_96 (dk_at dksX6_talk_3 18 rfl rfl)
theorem dX6_talk_87 : decode cX6_talk 87 = .ok (.iload_n 3, 1) := dk_29 (dk_at dksX6_talk_3 19 rfl rfl)
theorem dX6_talk_88 : decode cX6_talk 88 = .ok (.iastore, 1) := dk_79 (dk_at dksX6_talk_3 20 rfl rfl)
theorem dX6_talk_89 : decode cX6_talk 89 = .ok (.aload_n 0, 1) := dk_42 (dk_at dksX6_talk_3 21 rfl rfl)
theorem dX6_talk_90 : decode cX6_talk 90 = .ok (.iload 4, 2) := dk_21 4 (dk_at dksX6_talk_3 22 rfl rfl)
theorem dX6_talk_92 : decode cX6_talk 92 = .ok (.invokevirtual 14, 3) := dk_182 0 14 (dk_at dksX6_talk_4 0 rfl rfl)
theorem dX6_talk_95 : decode cX6_talk 95 = .ok (.ireturn, 1) := dk_172 (dk_at dksX6_talk_4 3 rfl rfl)
abbrev cX6_fog : ByteArray := prog_29_method_23_code
def yX6_fog : MethodName := ⟨RX6, "fog", "(II)I"⟩
def dkwX6_fog_2 : List UInt8 := [29, 182, 0, 14, 172]
abbrev dktX6_fog_2 : List UInt8 := dkwX6_fog_2 ++ []
def dkwX6_fog_1 : List UInt8 := [172, 42, 180, 0, 24, 17, 0, 154, 27, 96, 46, 62, 42, 180, 0, 24, 17, 0, 154, 27, 96, 28, 79, 42]
abbrev dktX6_fog_1 : List UInt8 := dkwX6_fog_1 ++ dktX6_fog_2
def dkwX6_fog_0 : List UInt8 := [27, 3, 16, 99, 184, 0, 106, 153, 0, 12, 28, 3, 4, 184, 0, 106, 154, 0, 9, 42, 2, 182, 0, 110]
abbrev dktX6_fog_0 : List UInt8 := dkwX6_fog_0 ++ dktX6_fog_1
theorem dksX6_fog_0 : cX6_fog.data.toList.drop 0 = dktX6_fog_0 := by decide +kernel
theorem dksX6_fog_1 : cX6_fog.data.toList.drop 24 = dktX6_fog_1 := dk_seg dksX6_fog_0 24 rfl rfl
theorem dksX6_fog_2 : cX6_fog.data.toList.drop 48 = dktX6_fog_2 := dk_seg dksX6_fog_1 24 rfl rfl
theorem dX6_fog_0 : decode cX6_fog 0 = .ok (.iload_n 1, 1) := dk_27 (dk_at dksX6_fog_0 0 rfl rfl)
theorem dX6_fog_1 : decode cX6_fog 1 = .ok (.iconst 0, 1) := dk_3 (dk_at dksX6_fog_0 1 rfl rfl)
theorem dX6_fog_2 : decode cX6_fog 2 = .ok (.bipush 99, 2) := dk_16 99 (dk_at dksX6_fog_0 2 rfl rfl)
theorem dX6_fog_4 : decode cX6_fog 4 = .ok (.invokestatic 106, 3) := dk_184 0 106 (dk_at dksX6_fog_0 4 rfl rfl)
theorem dX6_fog_7 : decode cX6_fog 7 = .ok (.ifCond .eq 12, 3) := dk_153 0 12 (dk_at dksX6_fog_0 7 rfl rfl)
theorem dX6_fog_10 : decode cX6_fog 10 = .ok (.iload_n 2, 1) := dk_28 (dk_at dksX6_fog_0 10 rfl rfl)
theorem dX6_fog_11 : decode cX6_fog 11 = .ok (.iconst 0, 1) := dk_3 (dk_at dksX6_fog_0 11 rfl rfl)
theorem dX6_fog_12 : decode cX6_fog 12 = .ok (.iconst 1, 1) := dk_4 (dk_at dksX6_fog_0 12 rfl rfl)
theorem dX6_fog_13 : decode cX6_fog 13 = .ok (.invokestatic 106, 3) := dk_184 0 106 (dk_at dksX6_fog_0 13 rfl rfl)
theorem dX6_fog_16 : decode cX6_fog 16 = .ok (.ifCond .ne 9, 3) := dk_154 0 9 (dk_at dksX6_fog_0 16 rfl rfl)
theorem dX6_fog_19 : decode cX6_fog 19 = .ok (.aload_n 0, 1) := dk_42 (dk_at dksX6_fog_0 19 rfl rfl)
theorem dX6_fog_20 : decode cX6_fog 20 = .ok (.iconst (-1), 1) := dk_2 (dk_at dksX6_fog_0 20 rfl rfl)
theorem dX6_fog_21 : decode cX6_fog 21 = .ok (.invokevirtual 110, 3) := dk_182 0 110 (dk_at dksX6_fog_0 21 rfl rfl)
theorem dX6_fog_24 : decode cX6_fog 24 = .ok (.ireturn, 1) := dk_172 (dk_at dksX6_fog_1 0 rfl rfl)
theorem dX6_fog_25 : decode cX6_fog 25 = .ok (.aload_n 0, 1) := dk_42 (dk_at dksX6_fog_1 1 rfl rfl)
theorem dX6_fog_26 : decode cX6_fog 26 = .ok (.getfield 24, 3) := dk_180 0 24 (dk_at dksX6_fog_1 2 rfl rfl)
theorem dX6_fog_29 : decode cX6_fog 29 = .ok (.sipush 154, 3) := dk_17 0 154 (dk_at dksX6_fog_1 5 rfl rfl)
theorem dX6_fog_32 : decode cX6_fog 32 = .ok (.iload_n 1, 1) := dk_27 (dk_at dksX6_fog_1 8 rfl rfl)
theorem dX6_fog_33 : decode cX6_fog 33 = .ok (.iadd, 1) := dk_96 (dk_at dksX6_fog_1 9 rfl rfl)
theorem dX6_fog_34 : decode cX6_fog 34 = .ok (.iaload, 1) := dk_46 (dk_at dksX6_fog_1 10 rfl rfl)
theorem dX6_fog_35 : decode cX6_fog 35 = .ok (.istore_n 3, 1) := dk_62 (dk_at dksX6_fog_1 11 rfl rfl)
theorem dX6_fog_36 : decode cX6_fog 36 = .ok (.aload_n 0, 1) := dk_42 (dk_at dksX6_fog_1 12 rfl rfl)
theorem dX6_fog_37 : decode cX6_fog 37 = .ok (.getfield 24, 3) := dk_180 0 24 (dk_at dksX6_fog_1 13 rfl rfl)
theorem dX6_fog_40 : decode cX6_fog 40 = .ok (.sipush 154, 3) := dk_17 0 154 (dk_at dksX6_fog_1 16 rfl rfl)
theorem dX6_fog_43 : decode cX6_fog 43 = .ok (.iload_n 1, 1) := dk_27 (dk_at dksX6_fog_1 19 rfl rfl)
theorem dX6_fog_44 : decode cX6_fog 44 = .ok (.iadd, 1) := dk_96 (dk_at dksX6_fog_1 20 rfl rfl)
theorem dX6_fog_45 : decode cX6_fog 45 = .ok (.iload_n 2, 1) := dk_28 (dk_at dksX6_fog_1 21 rfl rfl)
theorem dX6_fog_46 : decode cX6_fog 46 = .ok (.iastore, 1) := dk_79 (dk_at dksX6_fog_1 22 rfl rfl)
theorem dX6_fog_47 : decode cX6_fog 47 = .ok (.aload_n 0, 1) := dk_42 (dk_at dksX6_fog_1 23 rfl rfl)
theorem dX6_fog_48 : decode cX6_fog 48 = .ok (.iload_n 3, 1) := dk_29 (dk_at dksX6_fog_2 0 rfl rfl)
theorem dX6_fog_49 : decode cX6_fog 49 = .ok (.invokevirtual 14, 3) := dk_182 0 14 (dk_at dksX6_fog_2 1 rfl rfl)
theorem dX6_fog_52 : decode cX6_fog 52 = .ok (.ireturn, 1) := dk_172 (dk_at dksX6_fog_2 4 rfl rfl)
abbrev cX6_terms : ByteArray := prog_29_method_25_code
def yX6_terms : MethodName := ⟨RX6, "terms", "(II)I"⟩
def dkwX6_terms_5 : List UInt8 := [21, 4, 182, 0, 113, 172]
abbrev dktX6_terms_5 : List UInt8 := dkwX6_terms_5 ++ []
def dkwX6_terms_4 : List UInt8 := [17, 0, 254, 27, 96, 4, 100, 62, 42, 180, 0, 24, 29, 46, 54, 4, 42, 180, 0, 24, 29, 28, 79, 42]
abbrev dktX6_terms_4 : List UInt8 := dkwX6_terms_4 ++ dktX6_terms_5
def dkwX6_terms_3 : List UInt8 := [42, 16, 253, 182, 0, 110, 172, 132, 3, 1, 167, 255, 222, 27, 154, 0, 8, 16, 33, 167, 0, 10]
abbrev dktX6_terms_3 : List UInt8 := dkwX6_terms_3 ++ dktX6_terms_4
def dkwX6_terms_2 : List UInt8 := [29, 42, 182, 0, 116, 162, 0, 32, 27, 154, 0, 28, 42, 180, 0, 24, 3, 29, 96, 46, 4, 160, 0, 10]
abbrev dktX6_terms_2 : List UInt8 := dkwX6_terms_2 ++ dktX6_terms_3
def dkwX6_terms_1 : List UInt8 := [160, 0, 8, 16, 10, 167, 0, 5, 16, 9, 184, 0, 106, 154, 0, 9, 42, 2, 182, 0, 110, 172, 3, 62]
abbrev dktX6_terms_1 : List UInt8 := dkwX6_terms_1 ++ dktX6_terms_2
def dkwX6_terms_0 : List UInt8 := [27, 3, 5, 184, 0, 106, 153, 0, 33, 28, 3, 27, 154, 0, 9, 17, 3, 231, 167, 0, 15, 27, 4]
abbrev dktX6_terms_0 : List UInt8 := dkwX6_terms_0 ++ dktX6_terms_1
theorem dksX6_terms_0 : cX6_terms.data.toList.drop 0 = dktX6_terms_0 := by decide +kernel
theorem dksX6_terms_1 : cX6_terms.data.toList.drop 23 = dktX6_terms_1 := dk_seg dksX6_terms_0 23 rfl rfl
theorem dksX6_terms_2 : cX6_terms.data.toList.drop 47 = dktX6_terms_2 := dk_seg dksX6_terms_1 24 rfl rfl
theorem dksX6_terms_3 : cX6_terms.data.toList.drop 71 = dktX6_terms_3 := dk_seg dksX6_terms_2 24 rfl rfl
theorem dksX6_terms_4 : cX6_terms.data.toList.drop 93 = dktX6_terms_4 := dk_seg dksX6_terms_3 22 rfl rfl
theorem dksX6_terms_5 : cX6_terms.data.toList.drop 117 = dktX6_terms_5 := dk_seg dksX6_terms_4 24 rfl rfl
theorem dX6_terms_0 : decode cX6_terms 0 = .ok (.iload_n 1, 1) := dk_27 (dk_at dksX6_terms_0 0 rfl rfl)
theorem dX6_terms_1 : decode cX6_terms 1 = .ok (.iconst 0, 1) := dk_3 (dk_at dksX6_terms_0 1 rfl rfl)
theorem dX6_terms_2 : decode cX6_terms 2 = .ok (.iconst 2, 1) := dk_5 (dk_at dksX6_terms_0 2 rfl rfl)
theorem dX6_terms_3 : decode cX6_terms 3 = .ok (.invokestatic 106, 3) := dk_184 0 106 (dk_at dksX6_terms_0 3 rfl rfl)
theorem dX6_terms_6 : decode cX6_terms 6 = .ok (.ifCond .eq 33, 3) := dk_153 0 33 (dk_at dksX6_terms_0 6 rfl rfl)
theorem dX6_terms_9 : decode cX6_terms 9 = .ok (.iload_n 2, 1) := dk_28 (dk_at dksX6_terms_0 9 rfl rfl)
theorem dX6_terms_10 : decode cX6_terms 10 = .ok (.iconst 0, 1) := dk_3 (dk_at dksX6_terms_0 10 rfl rfl)
theorem dX6_terms_11 : decode cX6_terms 11 = .ok (.iload_n 1, 1) := dk_27 (dk_at dksX6_terms_0 11 rfl rfl)
theorem dX6_terms_12 : decode cX6_terms 12 = .ok (.ifCond .ne 9, 3) := dk_154 0 9 (dk_at dksX6_terms_0 12 rfl rfl)
theorem dX6_terms_15 : decode cX6_terms 15 = .ok (.sipush 999, 3) := dk_17 3 231 (dk_at dksX6_terms_0 15 rfl rfl)
theorem dX6_terms_18 : decode cX6_terms 18 = .ok (.goto 15, 3) := dk_167 0 15 (dk_at dksX6_terms_0 18 rfl rfl)
theorem dX6_terms_21 : decode cX6_terms 21 = .ok (.iload_n 1, 1) := dk_27 (dk_at dksX6_terms_0 21 rfl rfl)
theorem dX6_terms_22 : decode cX6_terms 22 = .ok (.iconst 1, 1) := dk_4 (dk_at dksX6_terms_0 22 rfl rfl)
theorem dX6_terms_23 : decode cX6_terms 23 = .ok (.if_icmp .ne 8, 3) := dk_160 0 8 (dk_at dksX6_terms_1 0 rfl rfl)
theorem dX6_terms_26 : decode cX6_terms 26 = .ok (.bipush 10, 2) := dk_16 10 (dk_at dksX6_terms_1 3 rfl rfl)
theorem dX6_terms_28 : decode cX6_terms 28 = .ok (.goto 5, 3) := dk_167 0 5 (dk_at dksX6_terms_1 5 rfl rfl)
theorem dX6_terms_31 : decode cX6_terms 31 = .ok (.bipush 9, 2) := dk_16 9 (dk_at dksX6_terms_1 8 rfl rfl)
theorem dX6_terms_33 : decode cX6_terms 33 = .ok (.invokestatic 106, 3) := dk_184 0 106 (dk_at dksX6_terms_1 10 rfl rfl)
theorem dX6_terms_36 : decode cX6_terms 36 = .ok (.ifCond .ne 9, 3) := dk_154 0 9 (dk_at dksX6_terms_1 13 rfl rfl)
theorem dX6_terms_39 : decode cX6_terms 39 = .ok (.aload_n 0, 1) := dk_42 (dk_at dksX6_terms_1 16 rfl rfl)
theorem dX6_terms_40 : decode cX6_terms 40 = .ok (.iconst (-1), 1) := dk_2 (dk_at dksX6_terms_1 17 rfl rfl)
theorem dX6_terms_41 : decode cX6_terms 41 = .ok (.invokevirtual 110, 3) := dk_182 0 110 (dk_at dksX6_terms_1 18 rfl rfl)
theorem dX6_terms_44 : decode cX6_terms 44 = .ok (.ireturn, 1) := dk_172 (dk_at dksX6_terms_1 21 rfl rfl)
theorem dX6_terms_45 : decode cX6_terms 45 = .ok (.iconst 0, 1) := dk_3 (dk_at dksX6_terms_1 22 rfl rfl)
theorem dX6_terms_46 : decode cX6_terms 46 = .ok (.istore_n 3, 1) := dk_62 (dk_at dksX6_terms_1 23 rfl rfl)
theorem dX6_terms_47 : decode cX6_terms 47 = .ok (.iload_n 3, 1) := dk_29 (dk_at dksX6_terms_2 0 rfl rfl)
theorem dX6_terms_48 : decode cX6_terms 48 = .ok (.aload_n 0, 1) := dk_42 (dk_at dksX6_terms_2 1 rfl rfl)
theorem dX6_terms_49 : decode cX6_terms 49 = .ok (.invokevirtual 116, 3) := dk_182 0 116 (dk_at dksX6_terms_2 2 rfl rfl)
theorem dX6_terms_52 : decode cX6_terms 52 = .ok (.if_icmp .ge 32, 3) := dk_162 0 32 (dk_at dksX6_terms_2 5 rfl rfl)
theorem dX6_terms_55 : decode cX6_terms 55 = .ok (.iload_n 1, 1) := dk_27 (dk_at dksX6_terms_2 8 rfl rfl)
theorem dX6_terms_56 : decode cX6_terms 56 = .ok (.ifCond .ne 28, 3) := dk_154 0 28 (dk_at dksX6_terms_2 9 rfl rfl)
theorem dX6_terms_59 : decode cX6_terms 59 = .ok (.aload_n 0, 1) := dk_42 (dk_at dksX6_terms_2 12 rfl rfl)
theorem dX6_terms_60 : decode cX6_terms 60 = .ok (.getfield 24, 3) := dk_180 0 24 (dk_at dksX6_terms_2 13 rfl rfl)
theorem dX6_terms_63 : decode cX6_terms 63 = .ok (.iconst 0, 1) := dk_3 (dk_at dksX6_terms_2 16 rfl rfl)
theorem dX6_terms_64 : decode cX6_terms 64 = .ok (.iload_n 3, 1) := dk_29 (dk_at dksX6_terms_2 17 rfl rfl)
theorem dX6_terms_65 : decode cX6_terms 65 = .ok (.iadd, 1) := dk_96 (dk_at dksX6_terms_2 18 rfl rfl)
theorem dX6_terms_66 : decode cX6_terms 66 = .ok (.iaload, 1) := dk_46 (dk_at dksX6_terms_2 19 rfl rfl)
theorem dX6_terms_67 : decode cX6_terms 67 = .ok (.iconst 1, 1) := dk_4 (dk_at dksX6_terms_2 20 rfl rfl)
theorem dX6_terms_68 : decode cX6_terms 68 = .ok (.if_icmp .ne 10, 3) := dk_160 0 10 (dk_at dksX6_terms_2 21 rfl rfl)
theorem dX6_terms_71 : decode cX6_terms 71 = .ok (.aload_n 0, 1) := dk_42 (dk_at dksX6_terms_3 0 rfl rfl)
theorem dX6_terms_72 : decode cX6_terms 72 = .ok (.bipush (-3), 2) := dk_16 253 (dk_at dksX6_terms_3 1 rfl rfl)
theorem dX6_terms_74 : decode cX6_terms 74 = .ok (.invokevirtual 110, 3) := dk_182 0 110 (dk_at dksX6_terms_3 3 rfl rfl)
theorem dX6_terms_77 : decode cX6_terms 77 = .ok (.ireturn, 1) := dk_172 (dk_at dksX6_terms_3 6 rfl rfl)
theorem dX6_terms_78 : decode cX6_terms 78 = .ok (.iinc 3 1, 3) := dk_132 3 1 (dk_at dksX6_terms_3 7 rfl rfl)
theorem dX6_terms_81 : decode cX6_terms 81 = .ok (.goto (-34), 3) := dk_167 255 222 (dk_at dksX6_terms_3 10 rfl rfl)
theorem dX6_terms_84 : decode cX6_terms 84 = .ok (.iload_n 1, 1) := dk_27 (dk_at dksX6_terms_3 13 rfl rfl)
theorem dX6_terms_85 : decode cX6_terms 85 = .ok (.ifCond .ne 8, 3) := dk_154 0 8 (dk_at dksX6_terms_3 14 rfl rfl)
theorem dX6_terms_88 : decode cX6_terms 88 = .ok (.bipush 33, 2) := dk_16 33 (dk_at dksX6_terms_3 17 rfl rfl)
theorem dX6_terms_90 : decode cX6_terms 90 = .ok (.goto 10, 3) := dk_167 0 10 (dk_at dksX6_terms_3 19 rfl rfl)
theorem dX6_terms_93 : decode cX6_terms 93 = .ok (.sipush 254, 3) := dk_17 0 254 (dk_at dksX6_terms_4 0 rfl rfl)
theorem dX6_terms_96 : decode cX6_terms 96 = .ok (.iload_n 1, 1) := dk_27 (dk_at dksX6_terms_4 3 rfl rfl)
theorem dX6_terms_97 : decode cX6_terms 97 = .ok (.iadd, 1) := dk_96 (dk_at dksX6_terms_4 4 rfl rfl)
theorem dX6_terms_98 : decode cX6_terms 98 = .ok (.iconst 1, 1) := dk_4 (dk_at dksX6_terms_4 5 rfl rfl)
theorem dX6_terms_99 : decode cX6_terms 99 = .ok (.isub, 1) := dk_100 (dk_at dksX6_terms_4 6 rfl rfl)
theorem dX6_terms_100 : decode cX6_terms 100 = .ok (.istore_n 3, 1) := dk_62 (dk_at dksX6_terms_4 7 rfl rfl)
theorem dX6_terms_101 : decode cX6_terms 101 = .ok (.aload_n 0, 1) := dk_42 (dk_at dksX6_terms_4 8 rfl rfl)
theorem dX6_terms_102 : decode cX6_terms 102 = .ok (.getfield 24, 3) := dk_180 0 24 (dk_at dksX6_terms_4 9 rfl rfl)
theorem dX6_terms_105 : decode cX6_terms 105 = .ok (.iload_n 3, 1) := dk_29 (dk_at dksX6_terms_4 12 rfl rfl)
theorem dX6_terms_106 : decode cX6_terms 106 = .ok (.iaload, 1) := dk_46 (dk_at dksX6_terms_4 13 rfl rfl)
theorem dX6_terms_107 : decode cX6_terms 107 = .ok (.istore 4, 2) := dk_54 4 (dk_at dksX6_terms_4 14 rfl rfl)
theorem dX6_terms_109 : decode cX6_terms 109 = .ok (.aload_n 0, 1) := dk_42 (dk_at dksX6_terms_4 16 rfl rfl)
theorem dX6_terms_110 : decode cX6_terms 110 = .ok (.getfield 24, 3) := dk_180 0 24 (dk_at dksX6_terms_4 17 rfl rfl)
theorem dX6_terms_113 : decode cX6_terms 113 = .ok (.iload_n 3, 1) := dk_29 (dk_at dksX6_terms_4 20 rfl rfl)
theorem dX6_terms_114 : decode cX6_terms 114 = .ok (.iload_n 2, 1) := dk_28 (dk_at dksX6_terms_4 21 rfl rfl)
theorem dX6_terms_115 : decode cX6_terms 115 = .ok (.iastore, 1) := dk_79 (dk_at dksX6_terms_4 22 rfl rfl)
theorem dX6_terms_116 : decode cX6_terms 116 = .ok (.aload_n 0, 1) := dk_42 (dk_at dksX6_terms_4 23 rfl rfl)
theorem dX6_terms_117 : decode cX6_terms 117 = .ok (.iload 4, 2) := dk_21 4 (dk_at dksX6_terms_5 0 rfl rfl)
theorem dX6_terms_119 : decode cX6_terms 119 = .ok (.invokevirtual 113, 3) := dk_182 0 113 (dk_at dksX6_terms_5 2 rfl rfl)
theorem dX6_terms_122 : decode cX6_terms 122 = .ok (.ireturn, 1) := dk_172 (dk_at dksX6_terms_5 5 rfl rfl)
abbrev cX6_row : ByteArray := prog_29_method_26_code
def yX6_row : MethodName := ⟨RX6, "row", "()I"⟩
def dkwX6_row_7 : List UInt8 := [42, 28, 182, 0, 113, 172]
abbrev dktX6_row_7 : List UInt8 := dkwX6_row_7 ++ []
def dkwX6_row_6 : List UInt8 := [89, 180, 0, 144, 21, 4, 153, 0, 7, 3, 167, 0, 4, 4, 96, 181, 0, 144, 132, 3, 3, 167, 255, 131]
abbrev dktX6_row_6 : List UInt8 := dkwX6_row_6 ++ dktX6_row_7
def dkwX6_row_5 : List UInt8 := [180, 0, 41, 29, 5, 96, 51, 182, 0, 124, 28, 21, 4, 153, 0, 7, 4, 167, 0, 4, 3, 96, 61, 42]
abbrev dktX6_row_5 : List UInt8 := dkwX6_row_5 ++ dktX6_row_6
def dkwX6_row_4 : List UInt8 := [3, 54, 4, 21, 4, 153, 0, 29, 42, 42, 180, 0, 41, 29, 51, 42, 180, 0, 41, 29, 4, 96, 51, 42]
abbrev dktX6_row_4 : List UInt8 := dkwX6_row_4 ++ dktX6_row_5
def dkwX6_row_3 : List UInt8 := [5, 96, 51, 3, 5, 184, 0, 106, 153, 0, 16, 42, 182, 0, 116, 16, 10, 162, 0, 7, 4, 167, 0, 4]
abbrev dktX6_row_3 : List UInt8 := dkwX6_row_3 ++ dktX6_row_4
def dkwX6_row_2 : List UInt8 := [180, 0, 41, 29, 51, 42, 180, 0, 41, 29, 4, 96, 51, 184, 0, 120, 153, 0, 32, 42, 180, 0, 41, 29]
abbrev dktX6_row_2 : List UInt8 := dkwX6_row_2 ++ dktX6_row_3
def dkwX6_row_1 : List UInt8 := [27, 6, 112, 154, 0, 7, 3, 167, 0, 4, 4, 181, 0, 144, 3, 62, 29, 6, 96, 27, 163, 0, 124, 42]
abbrev dktX6_row_1 : List UInt8 := dkwX6_row_1 ++ dktX6_row_2
def dkwX6_row_0 : List UInt8 := [42, 180, 0, 141, 60, 42, 3, 181, 0, 141, 27, 154, 0, 10, 42, 16, 250, 182, 0, 110, 172, 3, 61, 42]
abbrev dktX6_row_0 : List UInt8 := dkwX6_row_0 ++ dktX6_row_1
theorem dksX6_row_0 : cX6_row.data.toList.drop 0 = dktX6_row_0 := by decide +kernel
theorem dksX6_row_1 : cX6_row.data.toList.drop 24 = dktX6_row_1 := dk_seg dksX6_row_0 24 rfl rfl
theorem dksX6_row_2 : cX6_row.data.toList.drop 48 = dktX6_row_2 := dk_seg dksX6_row_1 24 rfl rfl
theorem dksX6_row_3 : cX6_row.data.toList.drop 72 = dktX6_row_3 := dk_seg dksX6_row_2 24 rfl rfl
theorem dksX6_row_4 : cX6_row.data.toList.drop 96 = dktX6_row_4 := dk_seg dksX6_row_3 24 rfl rfl
theorem dksX6_row_5 : cX6_row.data.toList.drop 120 = dktX6_row_5 := dk_seg dksX6_row_4 24 rfl rfl
theorem dksX6_row_6 : cX6_row.data.toList.drop 144 = dktX6_row_6 := dk_seg dksX6_row_5 24 rfl rfl
theorem dksX6_row_7 : cX6_row.data.toList.drop 168 = dktX6_row_7 := dk_seg dksX6_row_6 24 rfl rfl
theorem dX6_row_0 : decode cX6_row 0 = .ok (.aload_n 0, 1) := dk_42 (dk_at dksX6_row_0 0 rfl rfl)
theorem dX6_row_1 : decode cX6_row 1 = .ok (.getfield 141, 3) := dk_180 0 141 (dk_at dksX6_row_0 1 rfl rfl)
theorem dX6_row_4 : decode cX6_row 4 = .ok (.istore_n 1, 1) := dk_60 (dk_at dksX6_row_0 4 rfl rfl)
theorem dX6_row_5 : decode cX6_row 5 = .ok (.aload_n 0, 1) := dk_42 (dk_at dksX6_row_0 5 rfl rfl)
theorem dX6_row_6 : decode cX6_row 6 = .ok (.iconst 0, 1) := dk_3 (dk_at dksX6_row_0 6 rfl rfl)
theorem dX6_row_7 : decode cX6_row 7 = .ok (.putfield 141, 3) := dk_181 0 141 (dk_at dksX6_row_0 7 rfl rfl)
theorem dX6_row_10 : decode cX6_row 10 = .ok (.iload_n 1, 1) := dk_27 (dk_at dksX6_row_0 10 rfl rfl)
theorem dX6_row_11 : decode cX6_row 11 = .ok (.ifCond .ne 10, 3) := dk_154 0 10 (dk_at dksX6_row_0 11 rfl rfl)
theorem dX6_row_14 : decode cX6_row 14 = .ok (.aload_n 0, 1) := dk_42 (dk_at dksX6_row_0 14 rfl rfl)
theorem dX6_row_15 : decode cX6_row 15 = .ok (.bipush (-6), 2) := dk_16 250 (dk_at dksX6_row_0 15 rfl rfl)
theorem dX6_row_17 : decode cX6_row 17 = .ok (.invokevirtual 110, 3) := dk_182 0 110 (dk_at dksX6_row_0 17 rfl rfl)
theorem dX6_row_20 : decode cX6_row 20 = .ok (.ireturn, 1) := dk_172 (dk_at dksX6_row_0 20 rfl rfl)
theorem dX6_row_21 : decode cX6_row 21 = .ok (.iconst 0, 1) := dk_3 (dk_at dksX6_row_0 21 rfl rfl)
theorem dX6_row_22 : decode cX6_row 22 = .ok (.istore_n 2, 1) := dk_61 (dk_at dksX6_row_0 22 rfl rfl)
theorem dX6_row_23 : decode cX6_row 23 = .ok (.aload_n 0, 1) := dk_42 (dk_at dksX6_row_0 23 rfl rfl)
theorem dX6_row_24 : decode cX6_row 24 = .ok (.iload_n 1, 1) := dk_27 (dk_at dksX6_row_1 0 rfl rfl)
theorem dX6_row_25 : decode cX6_row 25 = .ok (.iconst 3, 1) := dk_6 (dk_at dksX6_row_1 1 rfl rfl)
theorem dX6_row_26 : decode cX6_row 26 = .ok (.irem, 1) := dk_112 (dk_at dksX6_row_1 2 rfl rfl)
theorem dX6_row_27 : decode cX6_row 27 = .ok (.ifCond .ne 7, 3) := dk_154 0 7 (dk_at dksX6_row_1 3 rfl rfl)
theorem dX6_row_30 : decode cX6_row 30 = .ok (.iconst 0, 1) := dk_3 (dk_at dksX6_row_1 6 rfl rfl)
theorem dX6_row_31 : decode cX6_row 31 = .ok (.goto 4, 3) := dk_167 0 4 (dk_at dksX6_row_1 7 rfl rfl)
theorem dX6_row_34 : decode cX6_row 34 = .ok (.iconst 1, 1) := dk_4 (dk_at dksX6_row_1 10 rfl rfl)
theorem dX6_row_35 : decode cX6_row 35 = .ok (.putfield 144, 3) := dk_181 0 144 (dk_at dksX6_row_1 11 rfl rfl)
theorem dX6_row_38 : decode cX6_row 38 = .ok (.iconst 0, 1) := dk_3 (dk_at dksX6_row_1 14 rfl rfl)
theorem dX6_row_39 : decode cX6_row 39 = .ok (.istore_n 3, 1) := dk_62 (dk_at dksX6_row_1 15 rfl rfl)
theorem dX6_row_40 : decode cX6_row 40 = .ok (.iload_n 3, 1) := dk_29 (dk_at dksX6_row_1 16 rfl rfl)
theorem dX6_row_41 : decode cX6_row 41 = .ok (.iconst 3, 1) := dk_6 (dk_at dksX6_row_1 17 rfl rfl)
theorem dX6_row_42 : decode cX6_row 42 = .ok (.iadd, 1) := dk_96 (dk_at dksX6_row_1 18 rfl rfl)
theorem dX6_row_43 : decode cX6_row 43 = .ok (.iload_n 1, 1) := dk_27 (dk_at dksX6_row_1 19 rfl rfl)
theorem dX6_row_44 : decode cX6_row 44 = .ok (.if_icmp .gt 124, 3) := dk_163 0 124 (dk_at dksX6_row_1 20 rfl rfl)
theorem dX6_row_47 : decode cX6_row 47 = .ok (.aload_n 0, 1) := dk_42 (dk_at dksX6_row_1 23 rfl rfl)
theorem dX6_row_48 : decode cX6_row 48 = .ok (.getfield 41, 3) := dk_180 0 41 (dk_at dksX6_row_2 0 rfl rfl)
theorem dX6_row_51 : decode cX6_row 51 = .ok (.iload_n 3, 1) := dk_29 (dk_at dksX6_row_2 3 rfl rfl)
theorem dX6_row_52 : decode cX6_row 52 = .ok (.baload, 1) := dk_51 (dk_at dksX6_row_2 4 rfl rfl)
theorem dX6_row_53 : decode cX6_row 53 = .ok (.aload_n 0, 1) := dk_42 (dk_at dksX6_row_2 5 rfl rfl)
theorem dX6_row_54 : decode cX6_row 54 = .ok (.getfield 41, 3) := dk_180 0 41 (dk_at dksX6_row_2 6 rfl rfl)
theorem dX6_row_57 : decode cX6_row 57 = .ok (.iload_n 3, 1) := dk_29 (dk_at dksX6_row_2 9 rfl rfl)
theorem dX6_row_58 : decode cX6_row 58 = .ok (.iconst 1, 1) := dk_4 (dk_at dksX6_row_2 10 rfl rfl)
theorem dX6_row_59 : decode cX6_row 59 = .ok (.iadd, 1) := dk_96 (dk_at dksX6_row_2 11 rfl rfl)
theorem dX6_row_60 : decode cX6_row 60 = .ok (.baload, 1) := dk_51 (dk_at dksX6_row_2 12 rfl rfl)
theorem dX6_row_61 : decode cX6_row 61 = .ok (.invokestatic 120, 3) := dk_184 0 120 (dk_at dksX6_row_2 13 rfl rfl)
theorem dX6_row_64 : decode cX6_row 64 = .ok (.ifCond .eq 32, 3) := dk_153 0 32 (dk_at dksX6_row_2 16 rfl rfl)
theorem dX6_row_67 : decode cX6_row 67 = .ok (.aload_n 0, 1) := dk_42 (dk_at dksX6_row_2 19 rfl rfl)
theorem dX6_row_68 : decode cX6_row 68 = .ok (.getfield 41, 3) := dk_180 0 41 (dk_at dksX6_row_2 20 rfl rfl)
theorem dX6_row_71 : decode cX6_row 71 = .ok (.iload_n 3, 1) := dk_29 (dk_at dksX6_row_2 23 rfl rfl)
theorem dX6_row_72 : decode cX6_row 72 = .ok (.iconst 2, 1) := dk_5 (dk_at dksX6_row_3 0 rfl rfl)
theorem dX6_row_73 : decode cX6_row 73 = .ok (.iadd, 1) := dk_96 (dk_at dksX6_row_3 1 rfl rfl)
theorem dX6_row_74 : decode cX6_row 74 = .ok (.baload, 1) := dk_51 (dk_at dksX6_row_3 2 rfl rfl)
theorem dX6_row_75 : decode cX6_row 75 = .ok (.iconst 0, 1) := dk_3 (dk_at dksX6_row_3 3 rfl rfl)
theorem dX6_row_76 : decode cX6_row 76 = .ok (.iconst 2, 1) := dk_5 (dk_at dksX6_row_3 4 rfl rfl)
theorem dX6_row_77 : decode cX6_row 77 = .ok (.invokestatic 106, 3) := dk_184 0 106 (dk_at dksX6_row_3 5 rfl rfl)
theorem dX6_row_80 : decode cX6_row 80 = .ok (.ifCond .eq 16, 3) := dk_153 0 16 (dk_at dksX6_row_3 8 rfl rfl)
theorem dX6_row_83 : decode cX6_row 83 = .ok (.aload_n 0, 1) := dk_42 (dk_at dksX6_row_3 11 rfl rfl)
theorem dX6_row_84 : decode cX6_row 84 = .ok (.invokevirtual 116, 3) := dk_182 0 116 (dk_at dksX6_row_3 12 rfl rfl)
theorem dX6_row_87 : decode cX6_row 87 = .ok (.bipush 10, 2) := dk_16 10 (dk_at dksX6_row_3 15 rfl rfl)
theorem dX6_row_89 : decode cX6_row 89 = .ok (.if_icmp .ge 7, 3) := dk_162 0 7 (dk_at dksX6_row_3 17 rfl rfl)
theorem dX6_row_92 : decode cX6_row 92 = .ok (.iconst 1, 1) := dk_4 (dk_at dksX6_row_3 20 rfl rfl)
theorem dX6_row_93 : decode cX6_row 93 = .ok (.goto 4, 3) := dk_167 0 4 (dk_at dksX6_row_3 21 rfl rfl)
theorem dX6_row_96 : decode cX6_row 96 = .ok (.iconst 0, 1) := dk_3 (dk_at dksX6_row_4 0 rfl rfl)
theorem dX6_row_97 : decode cX6_row 97 = .ok (.istore 4, 2) := dk_54 4 (dk_at dksX6_row_4 1 rfl rfl)
theorem dX6_row_99 : decode cX6_row 99 = .ok (.iload 4, 2) := dk_21 4 (dk_at dksX6_row_4 3 rfl rfl)
theorem dX6_row_101 : decode cX6_row 101 = .ok (.ifCond .eq 29, 3) := dk_153 0 29 (dk_at dksX6_row_4 5 rfl rfl)
theorem dX6_row_104 : decode cX6_row 104 = .ok (.aload_n 0, 1) := dk_42 (dk_at dksX6_row_4 8 rfl rfl)
theorem dX6_row_105 : decode cX6_row 105 = .ok (.aload_n 0, 1) := dk_42 (dk_at dksX6_row_4 9 rfl rfl)
theorem dX6_row_106 : decode cX6_row 106 = .ok (.getfield 41, 3) := dk_180 0 41 (dk_at dksX6_row_4 10 rfl rfl)
theorem dX6_row_109 : decode cX6_row 109 = .ok (.iload_n 3, 1) := dk_29 (dk_at dksX6_row_4 13 rfl rfl)
theorem dX6_row_110 : decode cX6_row 110 = .ok (.baload, 1) := dk_51 (dk_at dksX6_row_4 14 rfl rfl)
theorem dX6_row_111 : decode cX6_row 111 = .ok (.aload_n 0, 1) := dk_42 (dk_at dksX6_row_4 15 rfl rfl)
theorem dX6_row_112 : decode cX6_row 112 = .ok (.getfield 41, 3) := dk_180 0 41 (dk_at dksX6_row_4 16 rfl rfl)
theorem dX6_row_115 : decode cX6_row 115 = .ok (.iload_n 3, 1) := dk_29 (dk_at dksX6_row_4 19 rfl rfl)
theorem dX6_row_116 : decode cX6_row 116 = .ok (.iconst 1, 1) := dk_4 (dk_at dksX6_row_4 20 rfl rfl)
theorem dX6_row_117 : decode cX6_row 117 = .ok (.iadd, 1) := dk_96 (dk_at dksX6_row_4 21 rfl rfl)
theorem dX6_row_118 : decode cX6_row 118 = .ok (.baload, 1) := dk_51 (dk_at dksX6_row_4 22 rfl rfl)
theorem dX6_row_119 : decode cX6_row 119 = .ok (.aload_n 0, 1) := dk_42 (dk_at dksX6_row_4 23 rfl rfl)
theorem dX6_row_120 : decode cX6_row 120 = .ok (.getfield 41, 3) := dk_180 0 41 (dk_at dksX6_row_5 0 rfl rfl)
theorem dX6_row_123 : decode cX6_row 123 = .ok (.iload_n 3, 1) := dk_29 (dk_at dksX6_row_5 3 rfl rfl)
theorem dX6_row_124 : decode cX6_row 124 = .ok (.iconst 2, 1) := dk_5 (dk_at dksX6_row_5 4 rfl rfl)
theorem dX6_row_125 : decode cX6_row 125 = .ok (.iadd, 1) := dk_96 (dk_at dksX6_row_5 5 rfl rfl)
theorem dX6_row_126 : decode cX6_row 126 = .ok (.baload, 1) := dk_51 (dk_at dksX6_row_5 6 rfl rfl)
theorem dX6_row_127 : decode cX6_row 127 = .ok (.invokevirtual 124, 3) := dk_182 0 124 (dk_at dksX6_row_5 7 rfl rfl)
theorem dX6_row_130 : decode cX6_row 130 = .ok (.iload_n 2, 1) := dk_28 (dk_at dksX6_row_5 10 rfl rfl)
theorem dX6_row_131 : decode cX6_row 131 = .ok (.iload 4, 2) := dk_21 4 (dk_at dksX6_row_5 11 rfl rfl)
theorem dX6_row_133 : decode cX6_row 133 = .ok (.ifCond .eq 7, 3) := dk_153 0 7 (dk_at dksX6_row_5 13 rfl rfl)
theorem dX6_row_136 : decode cX6_row 136 = .ok (.iconst 1, 1) := dk_4 (dk_at dksX6_row_5 16 rfl rfl)
theorem dX6_row_137 : decode cX6_row 137 = .ok (.goto 4, 3) := dk_167 0 4 (dk_at dksX6_row_5 17 rfl rfl)
theorem dX6_row_140 : decode cX6_row 140 = .ok (.iconst 0, 1) := dk_3 (dk_at dksX6_row_5 20 rfl rfl)
theorem dX6_row_141 : decode cX6_row 141 = .ok (.iadd, 1) := dk_96 (dk_at dksX6_row_5 21 rfl rfl)
theorem dX6_row_142 : decode cX6_row 142 = .ok (.istore_n 2, 1) := dk_61 (dk_at dksX6_row_5 22 rfl rfl)
theorem dX6_row_143 : decode cX6_row 143 = .ok (.aload_n 0, 1) := dk_42 (dk_at dksX6_row_5 23 rfl rfl)
theorem dX6_row_144 : decode cX6_row 144 = .ok (.dup, 1) := dk_89 (dk_at dksX6_row_6 0 rfl rfl)
theorem dX6_row_145 : decode cX6_row 145 = .ok (.getfield 144, 3) := dk_180 0 144 (dk_at dksX6_row_6 1 rfl rfl)
theorem dX6_row_148 : decode cX6_row 148 = .ok (.iload 4, 2) := dk_21 4 (dk_at dksX6_row_6 4 rfl rfl)
theorem dX6_row_150 : decode cX6_row 150 = .ok (.ifCond .eq 7, 3) := dk_153 0 7 (dk_at dksX6_row_6 6 rfl rfl)
theorem dX6_row_153 : decode cX6_row 153 = .ok (.iconst 0, 1) := dk_3 (dk_at dksX6_row_6 9 rfl rfl)
theorem dX6_row_154 : decode cX6_row 154 = .ok (.goto 4, 3) := dk_167 0 4 (dk_at dksX6_row_6 10 rfl rfl)
theorem dX6_row_157 : decode cX6_row 157 = .ok (.iconst 1, 1) := dk_4 (dk_at dksX6_row_6 13 rfl rfl)
theorem dX6_row_158 : decode cX6_row 158 = .ok (.iadd, 1) := dk_96 (dk_at dksX6_row_6 14 rfl rfl)
theorem dX6_row_159 : decode cX6_row 159 = .ok (.putfield 144, 3) := dk_181 0 144 (dk_at dksX6_row_6 15 rfl rfl)
theorem dX6_row_162 : decode cX6_row 162 = .ok (.iinc 3 3, 3) := dk_132 3 3 (dk_at dksX6_row_6 18 rfl rfl)
theorem dX6_row_165 : decode cX6_row 165 = .ok (.goto (-125), 3) := dk_167 255 131 (dk_at dksX6_row_6 21 rfl rfl)
theorem dX6_row_168 : decode cX6_row 168 = .ok (.aload_n 0, 1) := dk_42 (dk_at dksX6_row_7 0 rfl rfl)
theorem dX6_row_169 : decode cX6_row 169 = .ok (.iload_n 2, 1) := dk_28 (dk_at dksX6_row_7 1 rfl rfl)
theorem dX6_row_170 : decode cX6_row 170 = .ok (.invokevirtual 113, 3) := dk_182 0 113 (dk_at dksX6_row_7 2 rfl rfl)
theorem dX6_row_173 : decode cX6_row 173 = .ok (.ireturn, 1) := dk_172 (dk_at dksX6_row_7 5 rfl rfl)
abbrev cX6_salt : ByteArray := prog_29_method_27_code
def yX6_salt : MethodName := ⟨RX6, "salt", "()I"⟩
theorem dX6_salt_0 : decode cX6_salt 0 = .ok (.aload_n 0, 1) := by decide +kernel
theorem dX6_salt_1 : decode cX6_salt 1 = .ok (.getfield 144, 3) := by decide +kernel
theorem dX6_salt_4 : decode cX6_salt 4 = .ok (.ireturn, 1) := by decide +kernel
abbrev cX6_feed : ByteArray := prog_29_method_28_code
def yX6_feed : MethodName := ⟨RX6, "feed", "(IIIII)I"⟩
def dkwX6_feed_5 : List UInt8 := [180, 0, 141, 172]
abbrev dktX6_feed_5 : List UInt8 := dkwX6_feed_5 ++ []
def dkwX6_feed_4 : List UInt8 := [100, 122, 145, 84, 132, 6, 1, 167, 255, 213, 42, 89, 180, 0, 141, 16, 20, 96, 181, 0, 141, 42]
abbrev dktX6_feed_4 : List UInt8 := dkwX6_feed_4 ++ dktX6_feed_5
def dkwX6_feed_3 : List UInt8 := [180, 0, 141, 21, 6, 96, 42, 180, 0, 44, 21, 6, 7, 108, 46, 16, 24, 16, 8, 21, 6, 7, 112, 104]
abbrev dktX6_feed_3 : List UInt8 := dkwX6_feed_3 ++ dktX6_feed_4
def dkwX6_feed_2 : List UInt8 := [180, 0, 44, 7, 21, 5, 79, 3, 54, 6, 21, 6, 16, 20, 162, 0, 42, 42, 180, 0, 41, 42]
abbrev dktX6_feed_2 : List UInt8 := dkwX6_feed_2 ++ dktX6_feed_3
def dkwX6_feed_1 : List UInt8 := [180, 0, 44, 4, 28, 79, 42, 180, 0, 44, 5, 29, 79, 42, 180, 0, 44, 6, 21, 4, 79, 42]
abbrev dktX6_feed_1 : List UInt8 := dkwX6_feed_1 ++ dktX6_feed_2
def dkwX6_feed_0 : List UInt8 := [42, 180, 0, 141, 16, 20, 96, 17, 1, 144, 164, 0, 5, 2, 172, 42, 180, 0, 44, 3, 27, 79, 42]
abbrev dktX6_feed_0 : List UInt8 := dkwX6_feed_0 ++ dktX6_feed_1
theorem dksX6_feed_0 : cX6_feed.data.toList.drop 0 = dktX6_feed_0 := by decide +kernel
theorem dksX6_feed_1 : cX6_feed.data.toList.drop 23 = dktX6_feed_1 := dk_seg dksX6_feed_0 23 rfl rfl
theorem dksX6_feed_2 : cX6_feed.data.toList.drop 45 = dktX6_feed_2 := dk_seg dksX6_feed_1 22 rfl rfl
theorem dksX6_feed_3 : cX6_feed.data.toList.drop 67 = dktX6_feed_3 := dk_seg dksX6_feed_2 22 rfl rfl
theorem dksX6_feed_4 : cX6_feed.data.toList.drop 91 = dktX6_feed_4 := dk_seg dksX6_feed_3 24 rfl rfl
theorem dksX6_feed_5 : cX6_feed.data.toList.drop 113 = dktX6_feed_5 := dk_seg dksX6_feed_4 22 rfl rfl
theorem dX6_feed_0 : decode cX6_feed 0 = .ok (.aload_n 0, 1) := dk_42 (dk_at dksX6_feed_0 0 rfl rfl)
theorem dX6_feed_1 : decode cX6_feed 1 = .ok (.getfield 141, 3) := dk_180 0 141 (dk_at dksX6_feed_0 1 rfl rfl)
theorem dX6_feed_4 : decode cX6_feed 4 = .ok (.bipush 20, 2) := dk_16 20 (dk_at dksX6_feed_0 4 rfl rfl)
theorem dX6_feed_6 : decode cX6_feed 6 = .ok (.iadd, 1) := dk_96 (dk_at dksX6_feed_0 6 rfl rfl)
theorem dX6_feed_7 : decode cX6_feed 7 = .ok (.sipush 400, 3) := dk_17 1 144 (dk_at dksX6_feed_0 7 rfl rfl)
theorem dX6_feed_10 : decode cX6_feed 10 = .ok (.if_icmp .le 5, 3) := dk_164 0 5 (dk_at dksX6_feed_0 10 rfl rfl)
theorem dX6_feed_13 : decode cX6_feed 13 = .ok (.iconst (-1), 1) := dk_2 (dk_at dksX6_feed_0 13 rfl rfl)
theorem dX6_feed_14 : decode cX6_feed 14 = .ok (.ireturn, 1) := dk_172 (dk_at dksX6_feed_0 14 rfl rfl)
theorem dX6_feed_15 : decode cX6_feed 15 = .ok (.aload_n 0, 1) := dk_42 (dk_at dksX6_feed_0 15 rfl rfl)
theorem dX6_feed_16 : decode cX6_feed 16 = .ok (.getfield 44, 3) := dk_180 0 44 (dk_at dksX6_feed_0 16 rfl rfl)
theorem dX6_feed_19 : decode cX6_feed 19 = .ok (.iconst 0, 1) := dk_3 (dk_at dksX6_feed_0 19 rfl rfl)
theorem dX6_feed_20 : decode cX6_feed 20 = .ok (.iload_n 1, 1) := dk_27 (dk_at dksX6_feed_0 20 rfl rfl)
theorem dX6_feed_21 : decode cX6_feed 21 = .ok (.iastore, 1) := dk_79 (dk_at dksX6_feed_0 21 rfl rfl)
theorem dX6_feed_22 : decode cX6_feed 22 = .ok (.aload_n 0, 1) := dk_42 (dk_at dksX6_feed_0 22 rfl rfl)
theorem dX6_feed_23 : decode cX6_feed 23 = .ok (.getfield 44, 3) := dk_180 0 44 (dk_at dksX6_feed_1 0 rfl rfl)
theorem dX6_feed_26 : decode cX6_feed 26 = .ok (.iconst 1, 1) := dk_4 (dk_at dksX6_feed_1 3 rfl rfl)
theorem dX6_feed_27 : decode cX6_feed 27 = .ok (.iload_n 2, 1) := dk_28 (dk_at dksX6_feed_1 4 rfl rfl)
theorem dX6_feed_28 : decode cX6_feed 28 = .ok (.iastore, 1) := dk_79 (dk_at dksX6_feed_1 5 rfl rfl)
theorem dX6_feed_29 : decode cX6_feed 29 = .ok (.aload_n 0, 1) := dk_42 (dk_at dksX6_feed_1 6 rfl rfl)
theorem dX6_feed_30 : decode cX6_feed 30 = .ok (.getfield 44, 3) := dk_180 0 44 (dk_at dksX6_feed_1 7 rfl rfl)
theorem dX6_feed_33 : decode cX6_feed 33 = .ok (.iconst 2, 1) := dk_5 (dk_at dksX6_feed_1 10 rfl rfl)
theorem dX6_feed_34 : decode cX6_feed 34 = .ok (.iload_n 3, 1) := dk_29 (dk_at dksX6_feed_1 11 rfl rfl)
theorem dX6_feed_35 : decode cX6_feed 35 = .ok (.iastore, 1) := dk_79 (dk_at dksX6_feed_1 12 rfl rfl)
theorem dX6_feed_36 : decode cX6_feed 36 = .ok (.aload_n 0, 1) := dk_42 (dk_at dksX6_feed_1 13 rfl rfl)
theorem dX6_feed_37 : decode cX6_feed 37 = .ok (.getfield 44, 3) := dk_180 0 44 (dk_at dksX6_feed_1 14 rfl rfl)
theorem dX6_feed_40 : decode cX6_feed 40 = .ok (.iconst 3, 1) := dk_6 (dk_at dksX6_feed_1 17 rfl rfl)
theorem dX6_feed_41 : decode cX6_feed 41 = .ok (.iload 4, 2) := dk_21 4 (dk_at dksX6_feed_1 18 rfl rfl)
theorem dX6_feed_43 : decode cX6_feed 43 = .ok (.iastore, 1) := dk_79 (dk_at dksX6_feed_1 20 rfl rfl)
theorem dX6_feed_44 : decode cX6_feed 44 = .ok (.aload_n 0, 1) := dk_42 (dk_at dksX6_feed_1 21 rfl rfl)
theorem dX6_feed_45 : decode cX6_feed 45 = .ok (.getfield 44, 3) := dk_180 0 44 (dk_at dksX6_feed_2 0 rfl rfl)
theorem dX6_feed_48 : decode cX6_feed 48 = .ok (.iconst 4, 1) := dk_7 (dk_at dksX6_feed_2 3 rfl rfl)
theorem dX6_feed_49 : decode cX6_feed 49 = .ok (.iload 5, 2) := dk_21 5 (dk_at dksX6_feed_2 4 rfl rfl)
theorem dX6_feed_51 : decode cX6_feed 51 = .ok (.iastore, 1) := dk_79 (dk_at dksX6_feed_2 6 rfl rfl)
theorem dX6_feed_52 : decode cX6_feed 52 = .ok (.iconst 0, 1) := dk_3 (dk_at dksX6_feed_2 7 rfl rfl)
theorem dX6_feed_53 : decode cX6_feed 53 = .ok (.istore 6, 2) := dk_54 6 (dk_at dksX6_feed_2 8 rfl rfl)
theorem dX6_feed_55 : decode cX6_feed 55 = .ok (.iload 6, 2) := dk_21 6 (dk_at dksX6_feed_2 10 rfl rfl)
theorem dX6_feed_57 : decode cX6_feed 57 = .ok (.bipush 20, 2) := dk_16 20 (dk_at dksX6_feed_2 12 rfl rfl)
theorem dX6_feed_59 : decode cX6_feed 59 = .ok (.if_icmp .ge 42, 3) := dk_162 0 42 (dk_at dksX6_feed_2 14 rfl rfl)
theorem dX6_feed_62 : decode cX6_feed 62 = .ok (.aload_n 0, 1) := dk_42 (dk_at dksX6_feed_2 17 rfl rfl)
theorem dX6_feed_63 : decode cX6_feed 63 = .ok (.getfield 41, 3) := dk_180 0 41 (dk_at dksX6_feed_2 18 rfl rfl)
theorem dX6_feed_66 : decode cX6_feed 66 = .ok (.aload_n 0, 1) := dk_42 (dk_at dksX6_feed_2 21 rfl rfl)
theorem dX6_feed_67 : decode cX6_feed 67 = .ok (.getfield 141, 3) := dk_180 0 141 (dk_at dksX6_feed_3 0 rfl rfl)
theorem dX6_feed_70 : decode cX6_feed 70 = .ok (.iload 6, 2) := dk_21 6 (dk_at dksX6_feed_3 3 rfl rfl)
theorem dX6_feed_72 : decode cX6_feed 72 = .ok (.iadd, 1) := dk_96 (dk_at dksX6_feed_3 5 rfl rfl)
theorem dX6_feed_73 : decode cX6_feed 73 = .ok (.aload_n 0, 1) := dk_42 (dk_at dksX6_feed_3 6 rfl rfl)
theorem dX6_feed_74 : decode cX6_feed 74 = .ok (.getfield 44, 3) := dk_180 0 44 (dk_at dksX6_feed_3 7 rfl rfl)
theorem dX6_feed_77 : decode cX6_feed 77 = .ok (.iload 6, 2) := dk_21 6 (dk_at dksX6_feed_3 10 rfl rfl)
theorem dX6_feed_79 : decode cX6_feed 79 = .ok (.iconst 4, 1) := dk_7 (dk_at dksX6_feed_3 12 rfl rfl)
theorem dX6_feed_80 : decode cX6_feed 80 = .ok (.idiv, 1) := dk_108 (dk_at dksX6_feed_3 13 rfl rfl)
theorem dX6_feed_81 : decode cX6_feed 81 = .ok (.iaload, 1) := dk_46 (dk_at dksX6_feed_3 14 rfl rfl)
theorem dX6_feed_82 : decode cX6_feed 82 = .ok (.bipush 24, 2) := dk_16 24 (dk_at dksX6_feed_3 15 rfl rfl)
theorem dX6_feed_84 : decode cX6_feed 84 = .ok (.bipush 8, 2) := dk_16 8 (dk_at dksX6_feed_3 17 rfl rfl)
theorem dX6_feed_86 : decode cX6_feed 86 = .ok (.iload 6, 2) := dk_21 6 (dk_at dksX6_feed_3 19 rfl rfl)
theorem dX6_feed_88 : decode cX6_feed 88 = .ok (.iconst 4, 1) := dk_7 (dk_at dksX6_feed_3 21 rfl rfl)
theorem dX6_feed_89 : decode cX6_feed 89 = .ok (.irem, 1) := dk_112 (dk_at dksX6_feed_3 22 rfl rfl)
theorem dX6_feed_90 : decode cX6_feed 90 = .ok (.imul, 1) := dk_104 (dk_at dksX6_feed_3 23 rfl rfl)
theorem dX6_feed_91 : decode cX6_feed 91 = .ok (.isub, 1) := dk_100 (dk_at dksX6_feed_4 0 rfl rfl)
theorem dX6_feed_92 : decode cX6_feed 92 = .ok (.ishr, 1) := dk_122 (dk_at dksX6_feed_4 1 rfl rfl)
theorem dX6_feed_93 : decode cX6_feed 93 = .ok (.i2b, 1) := dk_145 (dk_at dksX6_feed_4 2 rfl rfl)
theorem dX6_feed_94 : decode cX6_feed 94 = .ok (.bastore, 1) := dk_84 (dk_at dksX6_feed_4 3 rfl rfl)
theorem dX6_feed_95 : decode cX6_feed 95 = .ok (.iinc 6 1, 3) := dk_132 6 1 (dk_at dksX6_feed_4 4 rfl rfl)
theorem dX6_feed_98 : decode cX6_feed 98 = .ok (.goto (-43), 3) := dk_167 255 213 (dk_at dksX6_feed_4 7 rfl rfl)
theorem dX6_feed_101 : decode cX6_feed 101 = .ok (.aload_n 0, 1) := dk_42 (dk_at dksX6_feed_4 10 rfl rfl)
theorem dX6_feed_102 : decode cX6_feed 102 = .ok (.dup, 1) := dk_89 (dk_at dksX6_feed_4 11 rfl rfl)
theorem dX6_feed_103 : decode cX6_feed 103 = .ok (.getfield 141, 3) := dk_180 0 141 (dk_at dksX6_feed_4 12 rfl rfl)
theorem dX6_feed_106 : decode cX6_feed 106 = .ok (.bipush 20, 2) := dk_16 20 (dk_at dksX6_feed_4 15 rfl rfl)
theorem dX6_feed_108 : decode cX6_feed 108 = .ok (.iadd, 1) := dk_96 (dk_at dksX6_feed_4 17 rfl rfl)
theorem dX6_feed_109 : decode cX6_feed 109 = .ok (.putfield 141, 3) := dk_181 0 141 (dk_at dksX6_feed_4 18 rfl rfl)
theorem dX6_feed_112 : decode cX6_feed 112 = .ok (.aload_n 0, 1) := dk_42 (dk_at dksX6_feed_4 21 rfl rfl)
theorem dX6_feed_113 : decode cX6_feed 113 = .ok (.getfield 141, 3) := dk_180 0 141 (dk_at dksX6_feed_5 0 rfl rfl)
theorem dX6_feed_116 : decode cX6_feed 116 = .ok (.ireturn, 1) := dk_172 (dk_at dksX6_feed_5 3 rfl rfl)
abbrev cX6_end : ByteArray := prog_29_method_29_code
def yX6_end : MethodName := ⟨RX6, "end", "(I)I"⟩
def dkwX6_end_0 : List UInt8 := [27, 3, 42, 180, 0, 141, 184, 0, 106, 154, 0, 5, 2, 172, 42, 27, 181, 0, 141, 27, 172]
abbrev dktX6_end_0 : List UInt8 := dkwX6_end_0 ++ []
theorem dksX6_end_0 : cX6_end.data.toList.drop 0 = dktX6_end_0 := by decide +kernel
theorem dX6_end_0 : decode cX6_end 0 = .ok (.iload_n 1, 1) := dk_27 (dk_at dksX6_end_0 0 rfl rfl)
theorem dX6_end_1 : decode cX6_end 1 = .ok (.iconst 0, 1) := dk_3 (dk_at dksX6_end_0 1 rfl rfl)
theorem dX6_end_2 : decode cX6_end 2 = .ok (.aload_n 0, 1) := dk_42 (dk_at dksX6_end_0 2 rfl rfl)
theorem dX6_end_3 : decode cX6_end 3 = .ok (.getfield 141, 3) := dk_180 0 141 (dk_at dksX6_end_0 3 rfl rfl)
theorem dX6_end_6 : decode cX6_end 6 = .ok (.invokestatic 106, 3) := dk_184 0 106 (dk_at dksX6_end_0 6 rfl rfl)
theorem dX6_end_9 : decode cX6_end 9 = .ok (.ifCond .ne 5, 3) := dk_154 0 5 (dk_at dksX6_end_0 9 rfl rfl)
theorem dX6_end_12 : decode cX6_end 12 = .ok (.iconst (-1), 1) := dk_2 (dk_at dksX6_end_0 12 rfl rfl)
theorem dX6_end_13 : decode cX6_end 13 = .ok (.ireturn, 1) := dk_172 (dk_at dksX6_end_0 13 rfl rfl)
theorem dX6_end_14 : decode cX6_end 14 = .ok (.aload_n 0, 1) := dk_42 (dk_at dksX6_end_0 14 rfl rfl)
theorem dX6_end_15 : decode cX6_end 15 = .ok (.iload_n 1, 1) := dk_27 (dk_at dksX6_end_0 15 rfl rfl)
theorem dX6_end_16 : decode cX6_end 16 = .ok (.putfield 141, 3) := dk_181 0 141 (dk_at dksX6_end_0 16 rfl rfl)
theorem dX6_end_19 : decode cX6_end 19 = .ok (.iload_n 1, 1) := dk_27 (dk_at dksX6_end_0 19 rfl rfl)
theorem dX6_end_20 : decode cX6_end 20 = .ok (.ireturn, 1) := dk_172 (dk_at dksX6_end_0 20 rfl rfl)
abbrev cX6_law : ByteArray := prog_29_method_53_code
def yX6_law : MethodName := ⟨RX6, "law", "()I"⟩
def dkwX6_law_3 : List UInt8 := [46, 4, 100, 182, 0, 14, 172]
abbrev dktX6_law_3 : List UInt8 := dkwX6_law_3 ++ []
def dkwX6_law_2 : List UInt8 := [46, 182, 0, 242, 42, 180, 0, 24, 17, 1, 1, 92, 46, 4, 96, 79, 42, 42, 180, 0, 24, 17, 1, 1]
abbrev dktX6_law_2 : List UInt8 := dkwX6_law_2 ++ dktX6_law_3
def dkwX6_law_1 : List UInt8 := [172, 42, 3, 182, 0, 238, 154, 0, 10, 42, 16, 250, 182, 0, 110, 172, 42, 42, 180, 0, 24, 17, 1, 1]
abbrev dktX6_law_1 : List UInt8 := dkwX6_law_1 ++ dktX6_law_2
def dkwX6_law_0 : List UInt8 := [42, 180, 0, 24, 17, 1, 1, 46, 16, 6, 160, 0, 15, 42, 3, 181, 0, 141, 42, 16, 251, 182, 0, 110]
abbrev dktX6_law_0 : List UInt8 := dkwX6_law_0 ++ dktX6_law_1
theorem dksX6_law_0 : cX6_law.data.toList.drop 0 = dktX6_law_0 := by decide +kernel
theorem dksX6_law_1 : cX6_law.data.toList.drop 24 = dktX6_law_1 := dk_seg dksX6_law_0 24 rfl rfl
theorem dksX6_law_2 : cX6_law.data.toList.drop 48 = dktX6_law_2 := dk_seg dksX6_law_1 24 rfl rfl
theorem dksX6_law_3 : cX6_law.data.toList.drop 72 = dktX6_law_3 := dk_seg dksX6_law_2 24 rfl rfl
theorem dX6_law_0 : decode cX6_law 0 = .ok (.aload_n 0, 1) := dk_42 (dk_at dksX6_law_0 0 rfl rfl)
theorem dX6_law_1 : decode cX6_law 1 = .ok (.getfield 24, 3) := dk_180 0 24 (dk_at dksX6_law_0 1 rfl rfl)
theorem dX6_law_4 : decode cX6_law 4 = .ok (.sipush 257, 3) := dk_17 1 1 (dk_at dksX6_law_0 4 rfl rfl)
theorem dX6_law_7 : decode cX6_law 7 = .ok (.iaload, 1) := dk_46 (dk_at dksX6_law_0 7 rfl rfl)
theorem dX6_law_8 : decode cX6_law 8 = .ok (.bipush 6, 2) := dk_16 6 (dk_at dksX6_law_0 8 rfl rfl)
theorem dX6_law_10 : decode cX6_law 10 = .ok (.if_icmp .ne 15, 3) := dk_160 0 15 (dk_at dksX6_law_0 10 rfl rfl)
theorem dX6_law_13 : decode cX6_law 13 = .ok (.aload_n 0, 1) := dk_42 (dk_at dksX6_law_0 13 rfl rfl)
theorem dX6_law_14 : decode cX6_law 14 = .ok (.iconst 0, 1) := dk_3 (dk_at dksX6_law_0 14 rfl rfl)
theorem dX6_law_15 : decode cX6_law 15 = .ok (.putfield 141, 3) := dk_181 0 141 (dk_at dksX6_law_0 15 rfl rfl)
theorem dX6_law_18 : decode cX6_law 18 = .ok (.aload_n 0, 1) := dk_42 (dk_at dksX6_law_0 18 rfl rfl)
theorem dX6_law_19 : decode cX6_law 19 = .ok (.bipush (-5), 2) := dk_16 251 (dk_at dksX6_law_0 19 rfl rfl)
theorem dX6_law_21 : decode cX6_law 21 = .ok (.invokevirtual 110, 3) := dk_182 0 110 (dk_at dksX6_law_0 21 rfl rfl)
theorem dX6_law_24 : decode cX6_law 24 = .ok (.ireturn, 1) := dk_172 (dk_at dksX6_law_1 0 rfl rfl)
theorem dX6_law_25 : decode cX6_law 25 = .ok (.aload_n 0, 1) := dk_42 (dk_at dksX6_law_1 1 rfl rfl)
theorem dX6_law_26 : decode cX6_law 26 = .ok (.iconst 0, 1) := dk_3 (dk_at dksX6_law_1 2 rfl rfl)
theorem dX6_law_27 : decode cX6_law 27 = .ok (.invokevirtual 238, 3) := dk_182 0 238 (dk_at dksX6_law_1 3 rfl rfl)
theorem dX6_law_30 : decode cX6_law 30 = .ok (.ifCond .ne 10, 3) := dk_154 0 10 (dk_at dksX6_law_1 6 rfl rfl)
theorem dX6_law_33 : decode cX6_law 33 = .ok (.aload_n 0, 1) := dk_42 (dk_at dksX6_law_1 9 rfl rfl)
theorem dX6_law_34 : decode cX6_law 34 = .ok (.bipush (-6), 2) := dk_16 250 (dk_at dksX6_law_1 10 rfl rfl)
theorem dX6_law_36 : decode cX6_law 36 = .ok (.invokevirtual 110, 3) := dk_182 0 110 (dk_at dksX6_law_1 12 rfl rfl)
theorem dX6_law_39 : decode cX6_law 39 = .ok (.ireturn, 1) := dk_172 (dk_at dksX6_law_1 15 rfl rfl)
theorem dX6_law_40 : decode cX6_law 40 = .ok (.aload_n 0, 1) := dk_42 (dk_at dksX6_law_1 16 rfl rfl)
theorem dX6_law_41 : decode cX6_law 41 = .ok (.aload_n 0, 1) := dk_42 (dk_at dksX6_law_1 17 rfl rfl)
theorem dX6_law_42 : decode cX6_law 42 = .ok (.getfield 24, 3) := dk_180 0 24 (dk_at dksX6_law_1 18 rfl rfl)
theorem dX6_law_45 : decode cX6_law 45 = .ok (.sipush 257, 3) := dk_17 1 1 (dk_at dksX6_law_1 21 rfl rfl)
theorem dX6_law_48 : decode cX6_law 48 = .ok (.iaload, 1) := dk_46 (dk_at dksX6_law_2 0 rfl rfl)
theorem dX6_law_49 : decode cX6_law 49 = .ok (.invokevirtual 242, 3) := dk_182 0 242 (dk_at dksX6_law_2 1 rfl rfl)
theorem dX6_law_52 : decode cX6_law 52 = .ok (.aload_n 0, 1) := dk_42 (dk_at dksX6_law_2 4 rfl rfl)
theorem dX6_law_53 : decode cX6_law 53 = .ok (.getfield 24, 3) := dk_180 0 24 (dk_at dksX6_law_2 5 rfl rfl)
theorem dX6_law_56 : decode cX6_law 56 = .ok (.sipush 257, 3) := dk_17 1 1 (dk_at dksX6_law_2 8 rfl rfl)
theorem dX6_law_59 : decode cX6_law 59 = .ok (.dup2, 1) := dk_92 (dk_at dksX6_law_2 11 rfl rfl)
theorem dX6_law_60 : decode cX6_law 60 = .ok (.iaload, 1) := dk_46 (dk_at dksX6_law_2 12 rfl rfl)
theorem dX6_law_61 : decode cX6_law 61 = .ok (.iconst 1, 1) := dk_4 (dk_at dksX6_law_2 13 rfl rfl)
theorem dX6_law_62 : decode cX6_law 62 = .ok (.iadd, 1) := dk_96 (dk_at dksX6_law_2 14 rfl rfl)
theorem dX6_law_63 : decode cX6_law 63 = .ok (.iastore, 1) := dk_79 (dk_at dksX6_law_2 15 rfl rfl)
theorem dX6_law_64 : decode cX6_law 64 = .ok (.aload_n 0, 1) := dk_42 (dk_at dksX6_law_2 16 rfl rfl)
theorem dX6_law_65 : decode cX6_law 65 = .ok (.aload_n 0, 1) := dk_42 (dk_at dksX6_law_2 17 rfl rfl)
theorem dX6_law_66 : decode cX6_law 66 = .ok (.getfield 24, 3) := dk_180 0 24 (dk_at dksX6_law_2 18 rfl rfl)
theorem dX6_law_69 : decode cX6_law 69 = .ok (.sipush 257, 3) := dk_17 1 1 (dk_at dksX6_law_2 21 rfl rfl)
theorem dX6_law_72 : decode cX6_law 72 = .ok (.iaload, 1) := dk_46 (dk_at dksX6_law_3 0 rfl rfl)
theorem dX6_law_73 : decode cX6_law 73 = .ok (.iconst 1, 1) := dk_4 (dk_at dksX6_law_3 1 rfl rfl)
theorem dX6_law_74 : decode cX6_law 74 = .ok (.isub, 1) := dk_100 (dk_at dksX6_law_3 2 rfl rfl)
theorem dX6_law_75 : decode cX6_law 75 = .ok (.invokevirtual 14, 3) := dk_182 0 14 (dk_at dksX6_law_3 3 rfl rfl)
theorem dX6_law_78 : decode cX6_law 78 = .ok (.ireturn, 1) := dk_172 (dk_at dksX6_law_3 6 rfl rfl)
abbrev cX6_readsAs : ByteArray := prog_29_method_51_code
def yX6_readsAs : MethodName := ⟨RX6, "readsAs", "(Z)Z"⟩
def dkwX6_readsAs_1 : List UInt8 := [153, 0, 8, 16, 25, 167, 0, 5, 16, 19, 181, 0, 223, 42, 182, 0, 235, 172]
abbrev dktX6_readsAs_1 : List UInt8 := dkwX6_readsAs_1 ++ []
def dkwX6_readsAs_0 : List UInt8 := [42, 27, 181, 0, 194, 42, 27, 153, 0, 8, 16, 19, 167, 0, 5, 16, 10, 181, 0, 220, 42, 27]
abbrev dktX6_readsAs_0 : List UInt8 := dkwX6_readsAs_0 ++ dktX6_readsAs_1
theorem dksX6_readsAs_0 : cX6_readsAs.data.toList.drop 0 = dktX6_readsAs_0 := by decide +kernel
theorem dksX6_readsAs_1 : cX6_readsAs.data.toList.drop 22 = dktX6_readsAs_1 := dk_seg dksX6_readsAs_0 22 rfl rfl
theorem dX6_readsAs_0 : decode cX6_readsAs 0 = .ok (.aload_n 0, 1) := dk_42 (dk_at dksX6_readsAs_0 0 rfl rfl)
theorem dX6_readsAs_1 : decode cX6_readsAs 1 = .ok (.iload_n 1, 1) := dk_27 (dk_at dksX6_readsAs_0 1 rfl rfl)
theorem dX6_readsAs_2 : decode cX6_readsAs 2 = .ok (.putfield 194, 3) := dk_181 0 194 (dk_at dksX6_readsAs_0 2 rfl rfl)
theorem dX6_readsAs_5 : decode cX6_readsAs 5 = .ok (.aload_n 0, 1) := dk_42 (dk_at dksX6_readsAs_0 5 rfl rfl)
theorem dX6_readsAs_6 : decode cX6_readsAs 6 = .ok (.iload_n 1, 1) := dk_27 (dk_at dksX6_readsAs_0 6 rfl rfl)
theorem dX6_readsAs_7 : decode cX6_readsAs 7 = .ok (.ifCond .eq 8, 3) := dk_153 0 8 (dk_at dksX6_readsAs_0 7 rfl rfl)
theorem dX6_readsAs_10 : decode cX6_readsAs 10 = .ok (.bipush 19, 2) := dk_16 19 (dk_at dksX6_readsAs_0 10 rfl rfl)
theorem dX6_readsAs_12 : decode cX6_readsAs 12 = .ok (.goto 5, 3) := dk_167 0 5 (dk_at dksX6_readsAs_0 12 rfl rfl)
theorem dX6_readsAs_15 : decode cX6_readsAs 15 = .ok (.bipush 10, 2) := dk_16 10 (dk_at dksX6_readsAs_0 15 rfl rfl)
theorem dX6_readsAs_17 : decode cX6_readsAs 17 = .ok (.putfield 220, 3) := dk_181 0 220 (dk_at dksX6_readsAs_0 17 rfl rfl)
theorem dX6_readsAs_20 : decode cX6_readsAs 20 = .ok (.aload_n 0, 1) := dk_42 (dk_at dksX6_readsAs_0 20 rfl rfl)
theorem dX6_readsAs_21 : decode cX6_readsAs 21 = .ok (.iload_n 1, 1) := dk_27 (dk_at dksX6_readsAs_0 21 rfl rfl)
theorem dX6_readsAs_22 : decode cX6_readsAs 22 = .ok (.ifCond .eq 8, 3) := dk_153 0 8 (dk_at dksX6_readsAs_1 0 rfl rfl)
theorem dX6_readsAs_25 : decode cX6_readsAs 25 = .ok (.bipush 25, 2) := dk_16 25 (dk_at dksX6_readsAs_1 3 rfl rfl)
theorem dX6_readsAs_27 : decode cX6_readsAs 27 = .ok (.goto 5, 3) := dk_167 0 5 (dk_at dksX6_readsAs_1 5 rfl rfl)
theorem dX6_readsAs_30 : decode cX6_readsAs 30 = .ok (.bipush 19, 2) := dk_16 19 (dk_at dksX6_readsAs_1 8 rfl rfl)
theorem dX6_readsAs_32 : decode cX6_readsAs 32 = .ok (.putfield 223, 3) := dk_181 0 223 (dk_at dksX6_readsAs_1 10 rfl rfl)
theorem dX6_readsAs_35 : decode cX6_readsAs 35 = .ok (.aload_n 0, 1) := dk_42 (dk_at dksX6_readsAs_1 13 rfl rfl)
theorem dX6_readsAs_36 : decode cX6_readsAs 36 = .ok (.invokevirtual 235, 3) := dk_182 0 235 (dk_at dksX6_readsAs_1 14 rfl rfl)
theorem dX6_readsAs_39 : decode cX6_readsAs 39 = .ok (.ireturn, 1) := dk_172 (dk_at dksX6_readsAs_1 17 rfl rfl)
abbrev cX6_reads : ByteArray := prog_29_method_50_code
def yX6_reads : MethodName := ⟨RX6, "reads", "()Z"⟩
def dkwX6_reads_4 : List UInt8 := [182, 0, 174, 42, 42, 180, 0, 161, 181, 0, 47, 42, 182, 0, 164, 172]
abbrev dktX6_reads_4 : List UInt8 := dkwX6_reads_4 ++ []
def dkwX6_reads_3 : List UInt8 := [167, 255, 220, 42, 182, 0, 164, 153, 0, 18, 42, 180, 0, 168, 42, 180, 0, 147, 162, 0, 7, 42]
abbrev dktX6_reads_3 : List UInt8 := dkwX6_reads_3 ++ dktX6_reads_4
def dkwX6_reads_2 : List UInt8 := [16, 12, 160, 0, 7, 42, 182, 0, 174, 42, 182, 0, 164, 153, 0, 7, 42, 182, 0, 232, 132, 1, 1]
abbrev dktX6_reads_2 : List UInt8 := dkwX6_reads_2 ++ dktX6_reads_3
def dkwX6_reads_1 : List UInt8 := [2, 181, 0, 161, 42, 182, 0, 232, 4, 60, 42, 16, 59, 184, 0, 210, 182, 0, 171, 153, 0, 30, 27]
abbrev dktX6_reads_1 : List UInt8 := dkwX6_reads_1 ++ dktX6_reads_2
def dkwX6_reads_0 : List UInt8 := [42, 42, 180, 0, 141, 182, 0, 229, 42, 3, 181, 0, 141, 42, 3, 181, 0, 168, 42, 3, 181, 0, 177, 42]
abbrev dktX6_reads_0 : List UInt8 := dkwX6_reads_0 ++ dktX6_reads_1
theorem dksX6_reads_0 : cX6_reads.data.toList.drop 0 = dktX6_reads_0 := by decide +kernel
theorem dksX6_reads_1 : cX6_reads.data.toList.drop 24 = dktX6_reads_1 := dk_seg dksX6_reads_0 24 rfl rfl
theorem dksX6_reads_2 : cX6_reads.data.toList.drop 47 = dktX6_reads_2 := dk_seg dksX6_reads_1 23 rfl rfl
theorem dksX6_reads_3 : cX6_reads.data.toList.drop 70 = dktX6_reads_3 := dk_seg dksX6_reads_2 23 rfl rfl
theorem dksX6_reads_4 : cX6_reads.data.toList.drop 92 = dktX6_reads_4 := dk_seg dksX6_reads_3 22 rfl rfl
theorem dX6_reads_0 : decode cX6_reads 0 = .ok (.aload_n 0, 1) := dk_42 (dk_at dksX6_reads_0 0 rfl rfl)
theorem dX6_reads_1 : decode cX6_reads 1 = .ok (.aload_n 0, 1) := dk_42 (dk_at dksX6_reads_0 1 rfl rfl)
theorem dX6_reads_2 : decode cX6_reads 2 = .ok (.getfield 141, 3) := dk_180 0 141 (dk_at dksX6_reads_0 2 rfl rfl)
theorem dX6_reads_5 : decode cX6_reads 5 = .ok (.invokevirtual 229, 3) := dk_182 0 229 (dk_at dksX6_reads_0 5 rfl rfl)
theorem dX6_reads_8 : decode cX6_reads 8 = .ok (.aload_n 0, 1) := dk_42 (dk_at dksX6_reads_0 8 rfl rfl)
theorem dX6_reads_9 : decode cX6_reads 9 = .ok (.iconst 0, 1) := dk_3 (dk_at dksX6_reads_0 9 rfl rfl)
theorem dX6_reads_10 : decode cX6_reads 10 = .ok (.putfield 141, 3) := dk_181 0 141 (dk_at dksX6_reads_0 10 rfl rfl)
theorem dX6_reads_13 : decode cX6_reads 13 = .ok (.aload_n 0, 1) := dk_42 (dk_at dksX6_reads_0 13 rfl rfl)
theorem dX6_reads_14 : decode cX6_reads 14 = .ok (.iconst 0, 1) := dk_3 (dk_at dksX6_reads_0 14 rfl rfl)
theorem dX6_reads_15 : decode cX6_reads 15 = .ok (.putfield 168, 3) := dk_181 0 168 (dk_at dksX6_reads_0 15 rfl rfl)
theorem dX6_reads_18 : decode cX6_reads 18 = .ok (.aload_n 0, 1) := dk_42 (dk_at dksX6_reads_0 18 rfl rfl)
theorem dX6_reads_19 : decode cX6_reads 19 = .ok (.iconst 0, 1) := dk_3 (dk_at dksX6_reads_0 19 rfl rfl)
theorem dX6_reads_20 : decode cX6_reads 20 = .ok (.putfield 177, 3) := dk_181 0 177 (dk_at dksX6_reads_0 20 rfl rfl)
theorem dX6_reads_23 : decode cX6_reads 23 = .ok (.aload_n 0, 1) := dk_42 (dk_at dksX6_reads_0 23 rfl rfl)
theorem dX6_reads_24 : decode cX6_reads 24 = .ok (.iconst (-1), 1) := dk_2 (dk_at dksX6_reads_1 0 rfl rfl)
theorem dX6_reads_25 : decode cX6_reads 25 = .ok (.putfield 161, 3) := dk_181 0 161 (dk_at dksX6_reads_1 1 rfl rfl)
theorem dX6_reads_28 : decode cX6_reads 28 = .ok (.aload_n 0, 1) := dk_42 (dk_at dksX6_reads_1 4 rfl rfl)
theorem dX6_reads_29 : decode cX6_reads 29 = .ok (.invokevirtual 232, 3) := dk_182 0 232 (dk_at dksX6_reads_1 5 rfl rfl)
theorem dX6_reads_32 : decode cX6_reads 32 = .ok (.iconst 1, 1) := dk_4 (dk_at dksX6_reads_1 8 rfl rfl)
theorem dX6_reads_33 : decode cX6_reads 33 = .ok (.istore_n 1, 1) := dk_60 (dk_at dksX6_reads_1 9 rfl rfl)
theorem dX6_reads_34 : decode cX6_reads 34 = .ok (.aload_n 0, 1) := dk_42 (dk_at dksX6_reads_1 10 rfl rfl)
theorem dX6_reads_35 : decode cX6_reads 35 = .ok (.bipush 59, 2) := dk_16 59 (dk_at dksX6_reads_1 11 rfl rfl)
theorem dX6_reads_37 : decode cX6_reads 37 = .ok (.invokestatic 210, 3) := dk_184 0 210 (dk_at dksX6_reads_1 13 rfl rfl)
theorem dX6_reads_40 : decode cX6_reads 40 = .ok (.invokevirtual 171, 3) := dk_182 0 171 (dk_at dksX6_reads_1 16 rfl rfl)
theorem dX6_reads_43 : decode cX6_reads 43 = .ok (.ifCond .eq 30, 3) := dk_153 0 30 (dk_at dksX6_reads_1 19 rfl rfl)
theorem dX6_reads_46 : decode cX6_reads 46 = .ok (.iload_n 1, 1) := dk_27 (dk_at dksX6_reads_1 22 rfl rfl)
theorem dX6_reads_47 : decode cX6_reads 47 = .ok (.bipush 12, 2) := dk_16 12 (dk_at dksX6_reads_2 0 rfl rfl)
theorem dX6_reads_49 : decode cX6_reads 49 = .ok (.if_icmp .ne 7, 3) := dk_160 0 7 (dk_at dksX6_reads_2 2 rfl rfl)
theorem dX6_reads_52 : decode cX6_reads 52 = .ok (.aload_n 0, 1) := dk_42 (dk_at dksX6_reads_2 5 rfl rfl)
theorem dX6_reads_53 : decode cX6_reads 53 = .ok (.invokevirtual 174, 3) := dk_182 0 174 (dk_at dksX6_reads_2 6 rfl rfl)
theorem dX6_reads_56 : decode cX6_reads 56 = .ok (.aload_n 0, 1) := dk_42 (dk_at dksX6_reads_2 9 rfl rfl)
theorem dX6_reads_57 : decode cX6_reads 57 = .ok (.invokevirtual 164, 3) := dk_182 0 164 (dk_at dksX6_reads_2 10 rfl rfl)
theorem dX6_reads_60 : decode cX6_reads 60 = .ok (.ifCond .eq 7, 3) := dk_153 0 7 (dk_at dksX6_reads_2 13 rfl rfl)
theorem dX6_reads_63 : decode cX6_reads 63 = .ok (.aload_n 0, 1) := dk_42 (dk_at dksX6_reads_2 16 rfl rfl)
theorem dX6_reads_64 : decode cX6_reads 64 = .ok (.invokevirtual 232, 3) := dk_182 0 232 (dk_at dksX6_reads_2 17 rfl rfl)
theorem dX6_reads_67 : decode cX6_reads 67 = .ok (.iinc 1 1, 3) := dk_132 1 1 (dk_at dksX6_reads_2 20 rfl rfl)
theorem dX6_reads_70 : decode cX6_reads 70 = .ok (.goto (-36), 3) := dk_167 255 220 (dk_at dksX6_reads_3 0 rfl rfl)
theorem dX6_reads_73 : decode cX6_reads 73 = .ok (.aload_n 0, 1) := dk_42 (dk_at dksX6_reads_3 3 rfl rfl)
theorem dX6_reads_74 : decode cX6_reads 74 = .ok (.invokevirtual 164, 3) := dk_182 0 164 (dk_at dksX6_reads_3 4 rfl rfl)
theorem dX6_reads_77 : decode cX6_reads 77 = .ok (.ifCond .eq 18, 3) := dk_153 0 18 (dk_at dksX6_reads_3 7 rfl rfl)
theorem dX6_reads_80 : decode cX6_reads 80 = .ok (.aload_n 0, 1) := dk_42 (dk_at dksX6_reads_3 10 rfl rfl)
theorem dX6_reads_81 : decode cX6_reads 81 = .ok (.getfield 168, 3) := dk_180 0 168 (dk_at dksX6_reads_3 11 rfl rfl)
theorem dX6_reads_84 : decode cX6_reads 84 = .ok (.aload_n 0, 1) := dk_42 (dk_at dksX6_reads_3 14 rfl rfl)
theorem dX6_reads_85 : decode cX6_reads 85 = .ok (.getfield 147, 3) := dk_180 0 147 (dk_at dksX6_reads_3 15 rfl rfl)
theorem dX6_reads_88 : decode cX6_reads 88 = .ok (.if_icmp .ge 7, 3) := dk_162 0 7 (dk_at dksX6_reads_3 18 rfl rfl)
theorem dX6_reads_91 : decode cX6_reads 91 = .ok (.aload_n 0, 1) := dk_42 (dk_at dksX6_reads_3 21 rfl rfl)
theorem dX6_reads_92 : decode cX6_reads 92 = .ok (.invokevirtual 174, 3) := dk_182 0 174 (dk_at dksX6_reads_4 0 rfl rfl)
theorem dX6_reads_95 : decode cX6_reads 95 = .ok (.aload_n 0, 1) := dk_42 (dk_at dksX6_reads_4 3 rfl rfl)
theorem dX6_reads_96 : decode cX6_reads 96 = .ok (.aload_n 0, 1) := dk_42 (dk_at dksX6_reads_4 4 rfl rfl)
theorem dX6_reads_97 : decode cX6_reads 97 = .ok (.getfield 161, 3) := dk_180 0 161 (dk_at dksX6_reads_4 5 rfl rfl)
theorem dX6_reads_100 : decode cX6_reads 100 = .ok (.putfield 47, 3) := dk_181 0 47 (dk_at dksX6_reads_4 8 rfl rfl)
theorem dX6_reads_103 : decode cX6_reads 103 = .ok (.aload_n 0, 1) := dk_42 (dk_at dksX6_reads_4 11 rfl rfl)
theorem dX6_reads_104 : decode cX6_reads 104 = .ok (.invokevirtual 164, 3) := dk_182 0 164 (dk_at dksX6_reads_4 12 rfl rfl)
theorem dX6_reads_107 : decode cX6_reads 107 = .ok (.ireturn, 1) := dk_172 (dk_at dksX6_reads_4 15 rfl rfl)
abbrev cX6_splits : ByteArray := prog_29_method_33_code
def yX6_splits : MethodName := ⟨RX6, "splits", "(I)V"⟩
def dkwX6_splits_12 : List UInt8 := [3, 79, 42, 180, 0, 53, 42, 180, 0, 147, 3, 79, 177]
abbrev dktX6_splits_12 : List UInt8 := dkwX6_splits_12 ++ []
def dkwX6_splits_11 : List UInt8 := [21, 4, 61, 167, 255, 3, 42, 180, 0, 56, 42, 180, 0, 147, 27, 79, 42, 180, 0, 50, 42, 180, 0, 147]
abbrev dktX6_splits_11 : List UInt8 := dkwX6_splits_11 ++ dktX6_splits_12
def dkwX6_splits_10 : List UInt8 := [21, 5, 51, 96, 16, 48, 100, 79, 132, 5, 1, 167, 255, 181, 42, 89, 180, 0, 147, 4, 96, 181, 0, 147]
abbrev dktX6_splits_10 : List UInt8 := dkwX6_splits_10 ++ dktX6_splits_11
def dkwX6_splits_9 : List UInt8 := [180, 0, 147, 46, 167, 0, 26, 16, 10, 42, 180, 0, 53, 42, 180, 0, 147, 46, 104, 42, 180, 0, 41]
abbrev dktX6_splits_9 : List UInt8 := dkwX6_splits_9 ++ dktX6_splits_10
def dkwX6_splits_8 : List UInt8 := [42, 180, 0, 147, 42, 180, 0, 53, 42, 180, 0, 147, 46, 18, 160, 164, 0, 15, 42, 180, 0, 53, 42]
abbrev dktX6_splits_8 : List UInt8 := dkwX6_splits_8 ++ dktX6_splits_9
def dkwX6_splits_7 : List UInt8 := [126, 96, 79, 28, 54, 5, 21, 5, 21, 4, 162, 0, 74, 29, 184, 0, 153, 153, 0, 67, 42, 180, 0, 53]
abbrev dktX6_splits_7 : List UInt8 := dkwX6_splits_7 ++ dktX6_splits_8
def dkwX6_splits_6 : List UInt8 := [182, 0, 156, 167, 0, 23, 29, 184, 0, 153, 153, 0, 8, 16, 50, 167, 0, 11, 16, 100, 29, 17, 0, 255]
abbrev dktX6_splits_6 : List UInt8 := dkwX6_splits_6 ++ dktX6_splits_7
def dkwX6_splits_5 : List UInt8 := [180, 0, 147, 3, 79, 42, 180, 0, 50, 42, 180, 0, 147, 29, 184, 0, 150, 153, 0, 13, 42, 28, 21, 4]
abbrev dktX6_splits_5 : List UInt8 := dkwX6_splits_5 ++ dktX6_splits_6
def dkwX6_splits_4 : List UInt8 := [153, 0, 9, 132, 4, 1, 167, 255, 234, 42, 180, 0, 56, 42, 180, 0, 147, 28, 79, 42, 180, 0, 53, 42]
abbrev dktX6_splits_4 : List UInt8 := dkwX6_splits_4 ++ dktX6_splits_5
def dkwX6_splits_3 : List UInt8 := [184, 0, 153, 153, 0, 28, 21, 4, 27, 162, 0, 22, 42, 180, 0, 41, 21, 4, 51, 184, 0, 153]
abbrev dktX6_splits_3 : List UInt8 := dkwX6_splits_3 ++ dktX6_splits_4
def dkwX6_splits_2 : List UInt8 := [162, 0, 22, 42, 180, 0, 41, 21, 4, 51, 184, 0, 150, 153, 0, 9, 132, 4, 1, 167, 255, 234, 29]
abbrev dktX6_splits_2 : List UInt8 := dkwX6_splits_2 ++ dktX6_splits_3
def dkwX6_splits_1 : List UInt8 := [160, 0, 9, 132, 2, 1, 167, 255, 235, 28, 4, 96, 54, 4, 29, 184, 0, 150, 153, 0, 28, 21, 4, 27]
abbrev dktX6_splits_1 : List UInt8 := dkwX6_splits_1 ++ dktX6_splits_2
def dkwX6_splits_0 : List UInt8 := [42, 3, 181, 0, 147, 3, 61, 28, 27, 162, 0, 254, 42, 180, 0, 41, 28, 51, 62, 29, 16, 32]
abbrev dktX6_splits_0 : List UInt8 := dkwX6_splits_0 ++ dktX6_splits_1
theorem dksX6_splits_0 : cX6_splits.data.toList.drop 0 = dktX6_splits_0 := by decide +kernel
theorem dksX6_splits_1 : cX6_splits.data.toList.drop 22 = dktX6_splits_1 := dk_seg dksX6_splits_0 22 rfl rfl
theorem dksX6_splits_2 : cX6_splits.data.toList.drop 46 = dktX6_splits_2 := dk_seg dksX6_splits_1 24 rfl rfl
theorem dksX6_splits_3 : cX6_splits.data.toList.drop 69 = dktX6_splits_3 := dk_seg dksX6_splits_2 23 rfl rfl
theorem dksX6_splits_4 : cX6_splits.data.toList.drop 91 = dktX6_splits_4 := dk_seg dksX6_splits_3 22 rfl rfl
theorem dksX6_splits_5 : cX6_splits.data.toList.drop 115 = dktX6_splits_5 := dk_seg dksX6_splits_4 24 rfl rfl
theorem dksX6_splits_6 : cX6_splits.data.toList.drop 139 = dktX6_splits_6 := dk_seg dksX6_splits_5 24 rfl rfl
theorem dksX6_splits_7 : cX6_splits.data.toList.drop 163 = dktX6_splits_7 := dk_seg dksX6_splits_6 24 rfl rfl
theorem dksX6_splits_8 : cX6_splits.data.toList.drop 187 = dktX6_splits_8 := dk_seg dksX6_splits_7 24 rfl rfl
theorem dksX6_splits_9 : cX6_splits.data.toList.drop 210 = dktX6_splits_9 := dk_seg dksX6_splits_8 23 rfl rfl
theorem dksX6_splits_10 : cX6_splits.data.toList.drop 233 = dktX6_splits_10 := dk_seg dksX6_splits_9 23 rfl rfl
theorem dksX6_splits_11 : cX6_splits.data.toList.drop 257 = dktX6_splits_11 := dk_seg dksX6_splits_10 24 rfl rfl
theorem dksX6_splits_12 : cX6_splits.data.toList.drop 281 = dktX6_splits_12 := dk_seg dksX6_splits_11 24 rfl rfl
theorem dX6_splits_0 : decode cX6_splits 0 = .ok (.aload_n 0, 1) := dk_42 (dk_at dksX6_splits_0 0 rfl rfl)
theorem dX6_splits_1 : decode cX6_splits 1 = .ok (.iconst 0, 1) := dk_3 (dk_at dksX6_splits_0 1 rfl rfl)
theorem dX6_splits_2 : decode cX6_splits 2 = .ok (.putfield 147, 3) := dk_181 0 147 (dk_at dksX6_splits_0 2 rfl rfl)
theorem dX6_splits_5 : decode cX6_splits 5 = .ok (.iconst 0, 1) := dk_3 (dk_at dksX6_splits_0 5 rfl rfl)
theorem dX6_splits_6 : decode cX6_splits 6 = .ok (.istore_n 2, 1) := dk_61 (dk_at dksX6_splits_0 6 rfl rfl)
theorem dX6_splits_7 : decode cX6_splits 7 = .ok (.iload_n 2, 1) := dk_28 (dk_at dksX6_splits_0 7 rfl rfl)
theorem dX6_splits_8 : decode cX6_splits 8 = .ok (.iload_n 1, 1) := dk_27 (dk_at dksX6_splits_0 8 rfl rfl)
theorem dX6_splits_9 : decode cX6_splits 9 = .ok (.if_icmp .ge 254, 3) := dk_162 0 254 (dk_at dksX6_splits_0 9 rfl rfl)
theorem dX6_splits_12 : decode cX6_splits 12 = .ok (.aload_n 0, 1) := dk_42 (dk_at dksX6_splits_0 12 rfl rfl)
theorem dX6_splits_13 : decode cX6_splits 13 = .ok (.getfield 41, 3) := dk_180 0 41 (dk_at dksX6_splits_0 13 rfl rfl)
theorem dX6_splits_16 : decode cX6_splits 16 = .ok (.iload_n 2, 1) := dk_28 (dk_at dksX6_splits_0 16 rfl rfl)
theorem dX6_splits_17 : decode cX6_splits 17 = .ok (.baload, 1) := dk_51 (dk_at dksX6_splits_0 17 rfl rfl)
theorem dX6_splits_18 : decode cX6_splits 18 = .ok (.istore_n 3, 1) := dk_62 (dk_at dksX6_splits_0 18 rfl rfl)
theorem dX6_splits_19 : decode cX6_splits 19 = .ok (.iload_n 3, 1) := dk_29 (dk_at dksX6_splits_0 19 rfl rfl)
theorem dX6_splits_20 : decode cX6_splits 20 = .ok (.bipush 32, 2) := dk_16 32 (dk_at dksX6_splits_0 20 rfl rfl)
theorem dX6_splits_22 : decode cX6_splits 22 = .ok (.if_icmp .ne 9, 3) := dk_160 0 9 (dk_at dksX6_splits_1 0 rfl rfl)
theorem dX6_splits_25 : decode cX6_splits 25 = .ok (.iinc 2 1, 3) := dk_132 2 1 (dk_at dksX6_splits_1 3 rfl rfl)
theorem dX6_splits_28 : decode cX6_splits 28 = .ok (.goto (-21), 3) := dk_167 255 235 (dk_at dksX6_splits_1 6 rfl rfl)
theorem dX6_splits_31 : decode cX6_splits 31 = .ok (.iload_n 2, 1) := dk_28 (dk_at dksX6_splits_1 9 rfl rfl)
theorem dX6_splits_32 : decode cX6_splits 32 = .ok (.iconst 1, 1) := dk_4 (dk_at dksX6_splits_1 10 rfl rfl)
theorem dX6_splits_33 : decode cX6_splits 33 = .ok (.iadd, 1) := dk_96 (dk_at dksX6_splits_1 11 rfl rfl)
theorem dX6_splits_34 : decode cX6_splits 34 = .ok (.istore 4, 2) := dk_54 4 (dk_at dksX6_splits_1 12 rfl rfl)
theorem dX6_splits_36 : decode cX6_splits 36 = .ok (.iload_n 3, 1) := dk_29 (dk_at dksX6_splits_1 14 rfl rfl)
theorem dX6_splits_37 : decode cX6_splits 37 = .ok (.invokestatic 150, 3) := dk_184 0 150 (dk_at dksX6_splits_1 15 rfl rfl)
theorem dX6_splits_40 : decode cX6_splits 40 = .ok (.ifCond .eq 28, 3) := dk_153 0 28 (dk_at dksX6_splits_1 18 rfl rfl)
theorem dX6_splits_43 : decode cX6_splits 43 = .ok (.iload 4, 2) := dk_21 4 (dk_at dksX6_splits_1 21 rfl rfl)
theorem dX6_splits_45 : decode cX6_splits 45 = .ok (.iload_n 1, 1) := dk_27 (dk_at dksX6_splits_1 23 rfl rfl)
theorem dX6_splits_46 : decode cX6_splits 46 = .ok (.if_icmp .ge 22, 3) := dk_162 0 22 (dk_at dksX6_splits_2 0 rfl rfl)
theorem dX6_splits_49 : decode cX6_splits 49 = .ok (.aload_n 0, 1) := dk_42 (dk_at dksX6_splits_2 3 rfl rfl)
theorem dX6_splits_50 : decode cX6_splits 50 = .ok (.getfield 41, 3) := dk_180 0 41 (dk_at dksX6_splits_2 4 rfl rfl)
theorem dX6_splits_53 : decode cX6_splits 53 = .ok (.iload 4, 2) := dk_21 4 (dk_at dksX6_splits_2 7 rfl rfl)
theorem dX6_splits_55 : decode cX6_splits 55 = .ok (.baload, 1) := dk_51 (dk_at dksX6_splits_2 9 rfl rfl)
theorem dX6_splits_56 : decode cX6_splits 56 = .ok (.invokestatic 150, 3) := dk_184 0 150 (dk_at dksX6_splits_2 10 rfl rfl)
theorem dX6_splits_59 : decode cX6_splits 59 = .ok (.ifCond .eq 9, 3) := dk_153 0 9 (dk_at dksX6_splits_2 13 rfl rfl)
theorem dX6_splits_62 : decode cX6_splits 62 = .ok (.iinc 4 1, 3) := dk_132 4 1 (dk_at dksX6_splits_2 16 rfl rfl)
theorem dX6_splits_65 : decode cX6_splits 65 = .ok (.goto (-22), 3) := dk_167 255 234 (dk_at dksX6_splits_2 19 rfl rfl)
theorem dX6_splits_68 : decode cX6_splits 68 = .ok (.iload_n 3, 1) := dk_29 (dk_at dksX6_splits_2 22 rfl rfl)
theorem dX6_splits_69 : decode cX6_splits 69 = .ok (.invokestatic 153, 3) := dk_184 0 153 (dk_at dksX6_splits_3 0 rfl rfl)
theorem dX6_splits_72 : decode cX6_splits 72 = .ok (.ifCond .eq 28, 3) := dk_153 0 28 (dk_at dksX6_splits_3 3 rfl rfl)
theorem dX6_splits_75 : decode cX6_splits 75 = .ok (.iload 4, 2) := dk_21 4 (dk_at dksX6_splits_3 6 rfl rfl)
theorem dX6_splits_77 : decode cX6_splits 77 = .ok (.iload_n 1, 1) := dk_27 (dk_at dksX6_splits_3 8 rfl rfl)
theorem dX6_splits_78 : decode cX6_splits 78 = .ok (.if_icmp .ge 22, 3) := dk_162 0 22 (dk_at dksX6_splits_3 9 rfl rfl)
theorem dX6_splits_81 : decode cX6_splits 81 = .ok (.aload_n 0, 1) := dk_42 (dk_at dksX6_splits_3 12 rfl rfl)
theorem dX6_splits_82 : decode cX6_splits 82 = .ok (.getfield 41, 3) := dk_180 0 41 (dk_at dksX6_splits_3 13 rfl rfl)
theorem dX6_splits_85 : decode cX6_splits 85 = .ok (.iload 4, 2) := dk_21 4 (dk_at dksX6_splits_3 16 rfl rfl)
theorem dX6_splits_87 : decode cX6_splits 87 = .ok (.baload, 1) := dk_51 (dk_at dksX6_splits_3 18 rfl rfl)
theorem dX6_splits_88 : decode cX6_splits 88 = .ok (.invokestatic 153, 3) := dk_184 0 153 (dk_at dksX6_splits_3 19 rfl rfl)
theorem dX6_splits_91 : decode cX6_splits 91 = .ok (.ifCond .eq 9, 3) := dk_153 0 9 (dk_at dksX6_splits_4 0 rfl rfl)
theorem dX6_splits_94 : decode cX6_splits 94 = .ok (.iinc 4 1, 3) := dk_132 4 1 (dk_at dksX6_splits_4 3 rfl rfl)
theorem dX6_splits_97 : decode cX6_splits 97 = .ok (.goto (-22), 3) := dk_167 255 234 (dk_at dksX6_splits_4 6 rfl rfl)
theorem dX6_splits_100 : decode cX6_splits 100 = .ok (.aload_n 0, 1) := dk_42 (dk_at dksX6_splits_4 9 rfl rfl)
theorem dX6_splits_101 : decode cX6_splits 101 = .ok (.getfield 56, 3) := dk_180 0 56 (dk_at dksX6_splits_4 10 rfl rfl)
theorem dX6_splits_104 : decode cX6_splits 104 = .ok (.aload_n 0, 1) := dk_42 (dk_at dksX6_splits_4 13 rfl rfl)
theorem dX6_splits_105 : decode cX6_splits 105 = .ok (.getfield 147, 3) := dk_180 0 147 (dk_at dksX6_splits_4 14 rfl rfl)
theorem dX6_splits_108 : decode cX6_splits 108 = .ok (.iload_n 2, 1) := dk_28 (dk_at dksX6_splits_4 17 rfl rfl)
theorem dX6_splits_109 : decode cX6_splits 109 = .ok (.iastore, 1) := dk_79 (dk_at dksX6_splits_4 18 rfl rfl)
theorem dX6_splits_110 : decode cX6_splits 110 = .ok (.aload_n 0, 1) := dk_42 (dk_at dksX6_splits_4 19 rfl rfl)
theorem dX6_splits_111 : decode cX6_splits 111 = .ok (.getfield 53, 3) := dk_180 0 53 (dk_at dksX6_splits_4 20 rfl rfl)
theorem dX6_splits_114 : decode cX6_splits 114 = .ok (.aload_n 0, 1) := dk_42 (dk_at dksX6_splits_4 23 rfl rfl)
theorem dX6_splits_115 : decode cX6_splits 115 = .ok (.getfield 147, 3) := dk_180 0 147 (dk_at dksX6_splits_5 0 rfl rfl)
theorem dX6_splits_118 : decode cX6_splits 118 = .ok (.iconst 0, 1) := dk_3 (dk_at dksX6_splits_5 3 rfl rfl)
theorem dX6_splits_119 : decode cX6_splits 119 = .ok (.iastore, 1) := dk_79 (dk_at dksX6_splits_5 4 rfl rfl)
theorem dX6_splits_120 : decode cX6_splits 120 = .ok (.aload_n 0, 1) := dk_42 (dk_at dksX6_splits_5 5 rfl rfl)
theorem dX6_splits_121 : decode cX6_splits 121 = .ok (.getfield 50, 3) := dk_180 0 50 (dk_at dksX6_splits_5 6 rfl rfl)
theorem dX6_splits_124 : decode cX6_splits 124 = .ok (.aload_n 0, 1) := dk_42 (dk_at dksX6_splits_5 9 rfl rfl)
theorem dX6_splits_125 : decode cX6_splits 125 = .ok (.getfield 147, 3) := dk_180 0 147 (dk_at dksX6_splits_5 10 rfl rfl)
theorem dX6_splits_128 : decode cX6_splits 128 = .ok (.iload_n 3, 1) := dk_29 (dk_at dksX6_splits_5 13 rfl rfl)
theorem dX6_splits_129 : decode cX6_splits 129 = .ok (.invokestatic 150, 3) := dk_184 0 150 (dk_at dksX6_splits_5 14 rfl rfl)
theorem dX6_splits_132 : decode cX6_splits 132 = .ok (.ifCond .eq 13, 3) := dk_153 0 13 (dk_at dksX6_splits_5 17 rfl rfl)
theorem dX6_splits_135 : decode cX6_splits 135 = .ok (.aload_n 0, 1) := dk_42 (dk_at dksX6_splits_5 20 rfl rfl)
theorem dX6_splits_136 : decode cX6_splits 136 = .ok (.iload_n 2, 1) := dk_28 (dk_at dksX6_splits_5 21 rfl rfl)
theorem dX6_splits_137 : decode cX6_splits 137 = .ok (.iload 4, 2) := dk_21 4 (dk_at dksX6_splits_5 22 rfl rfl)
theorem dX6_splits_139 : decode cX6_splits 139 = .ok (.invokevirtual 156, 3) := dk_182 0 156 (dk_at dksX6_splits_6 0 rfl rfl)
theorem dX6_splits_142 : decode cX6_splits 142 = .ok (.goto 23, 3) := dk_167 0 23 (dk_at dksX6_splits_6 3 rfl rfl)
theorem dX6_splits_145 : decode cX6_splits 145 = .ok (.iload_n 3, 1) := dk_29 (dk_at dksX6_splits_6 6 rfl rfl)
theorem dX6_splits_146 : decode cX6_splits 146 = .ok (.invokestatic 153, 3) := dk_184 0 153 (dk_at dksX6_splits_6 7 rfl rfl)
theorem dX6_splits_149 : decode cX6_splits 149 = .ok (.ifCond .eq 8, 3) := dk_153 0 8 (dk_at dksX6_splits_6 10 rfl rfl)
theorem dX6_splits_152 : decode cX6_splits 152 = .ok (.bipush 50, 2) := dk_16 50 (dk_at dksX6_splits_6 13 rfl rfl)
theorem dX6_splits_154 : decode cX6_splits 154 = .ok (.goto 11, 3) := dk_167 0 11 (dk_at dksX6_splits_6 15 rfl rfl)
theorem dX6_splits_157 : decode cX6_splits 157 = .ok (.bipush 100, 2) := dk_16 100 (dk_at dksX6_splits_6 18 rfl rfl)
theorem dX6_splits_159 : decode cX6_splits 159 = .ok (.iload_n 3, 1) := dk_29 (dk_at dksX6_splits_6 20 rfl rfl)
theorem dX6_splits_160 : decode cX6_splits 160 = .ok (.sipush 255, 3) := dk_17 0 255 (dk_at dksX6_splits_6 21 rfl rfl)
theorem dX6_splits_163 : decode cX6_splits 163 = .ok (.iand, 1) := dk_126 (dk_at dksX6_splits_7 0 rfl rfl)
theorem dX6_splits_164 : decode cX6_splits 164 = .ok (.iadd, 1) := dk_96 (dk_at dksX6_splits_7 1 rfl rfl)
theorem dX6_splits_165 : decode cX6_splits 165 = .ok (.iastore, 1) := dk_79 (dk_at dksX6_splits_7 2 rfl rfl)
theorem dX6_splits_166 : decode cX6_splits 166 = .ok (.iload_n 2, 1) := dk_28 (dk_at dksX6_splits_7 3 rfl rfl)
theorem dX6_splits_167 : decode cX6_splits 167 = .ok (.istore 5, 2) := dk_54 5 (dk_at dksX6_splits_7 4 rfl rfl)
theorem dX6_splits_169 : decode cX6_splits 169 = .ok (.iload 5, 2) := dk_21 5 (dk_at dksX6_splits_7 6 rfl rfl)
theorem dX6_splits_171 : decode cX6_splits 171 = .ok (.iload 4, 2) := dk_21 4 (dk_at dksX6_splits_7 8 rfl rfl)
theorem dX6_splits_173 : decode cX6_splits 173 = .ok (.if_icmp .ge 74, 3) := dk_162 0 74 (dk_at dksX6_splits_7 10 rfl rfl)
theorem dX6_splits_176 : decode cX6_splits 176 = .ok (.iload_n 3, 1) := dk_29 (dk_at dksX6_splits_7 13 rfl rfl)
theorem dX6_splits_177 : decode cX6_splits 177 = .ok (.invokestatic 153, 3) := dk_184 0 153 (dk_at dksX6_splits_7 14 rfl rfl)
theorem dX6_splits_180 : decode cX6_splits 180 = .ok (.ifCond .eq 67, 3) := dk_153 0 67 (dk_at dksX6_splits_7 17 rfl rfl)
theorem dX6_splits_183 : decode cX6_splits 183 = .ok (.aload_n 0, 1) := dk_42 (dk_at dksX6_splits_7 20 rfl rfl)
theorem dX6_splits_184 : decode cX6_splits 184 = .ok (.getfield 53, 3) := dk_180 0 53 (dk_at dksX6_splits_7 21 rfl rfl)
theorem dX6_splits_187 : decode cX6_splits 187 = .ok (.aload_n 0, 1) := dk_42 (dk_at dksX6_splits_8 0 rfl rfl)
theorem dX6_splits_188 : decode cX6_splits 188 = .ok (.getfield 147, 3) := dk_180 0 147 (dk_at dksX6_splits_8 1 rfl rfl)
theorem dX6_splits_191 : decode cX6_splits 191 = .ok (.aload_n 0, 1) := dk_42 (dk_at dksX6_splits_8 4 rfl rfl)
theorem dX6_splits_192 : decode cX6_splits 192 = .ok (.getfield 53, 3) := dk_180 0 53 (dk_at dksX6_splits_8 5 rfl rfl)
theorem dX6_splits_195 : decode cX6_splits 195 = .ok (.aload_n 0, 1) := dk_42 (dk_at dksX6_splits_8 8 rfl rfl)
theorem dX6_splits_196 : decode cX6_splits 196 = .ok (.getfield 147, 3) := dk_180 0 147 (dk_at dksX6_splits_8 9 rfl rfl)
theorem dX6_splits_199 : decode cX6_splits 199 = .ok (.iaload, 1) := dk_46 (dk_at dksX6_splits_8 12 rfl rfl)
theorem dX6_splits_200 : decode cX6_splits 200 = .ok (.ldc 160, 2) := dk_18 160 (dk_at dksX6_splits_8 13 rfl rfl)
theorem dX6_splits_202 : decode cX6_splits 202 = .ok (.if_icmp .le 15, 3) := dk_164 0 15 (dk_at dksX6_splits_8 15 rfl rfl)
theorem dX6_splits_205 : decode cX6_splits 205 = .ok (.aload_n 0, 1) := dk_42 (dk_at dksX6_splits_8 18 rfl rfl)
theorem dX6_splits_206 : decode cX6_splits 206 = .ok (.getfield 53, 3) := dk_180 0 53 (dk_at dksX6_splits_8 19 rfl rfl)
theorem dX6_splits_209 : decode cX6_splits 209 = .ok (.aload_n 0, 1) := dk_42 (dk_at dksX6_splits_8 22 rfl rfl)
theorem dX6_splits_210 : decode cX6_splits 210 = .ok (.getfield 147, 3) := dk_180 0 147 (dk_at dksX6_splits_9 0 rfl rfl)
theorem dX6_splits_213 : decode cX6_splits 213 = .ok (.iaload, 1) := dk_46 (dk_at dksX6_splits_9 3 rfl rfl)
theorem dX6_splits_214 : decode cX6_splits 214 = .ok (.goto 26, 3) := dk_167 0 26 (dk_at dksX6_splits_9 4 rfl rfl)
theorem dX6_splits_217 : decode cX6_splits 217 = .ok (.bipush 10, 2) := dk_16 10 (dk_at dksX6_splits_9 7 rfl rfl)
theorem dX6_splits_219 : decode cX6_splits 219 = .ok (.aload_n 0, 1) := dk_42 (dk_at dksX6_splits_9 9 rfl rfl)
theorem dX6_splits_220 : decode cX6_splits 220 = .ok (.getfield 53, 3) := dk_180 0 53 (dk_at dksX6_splits_9 10 rfl rfl)
theorem dX6_splits_223 : decode cX6_splits 223 = .ok (.aload_n 0, 1) := dk_42 (dk_at dksX6_splits_9 13 rfl rfl)
theorem dX6_splits_224 : decode cX6_splits 224 = .ok (.getfield 147, 3) := dk_180 0 147 (dk_at dksX6_splits_9 14 rfl rfl)
theorem dX6_splits_227 : decode cX6_splits 227 = .ok (.iaload, 1) := dk_46 (dk_at dksX6_splits_9 17 rfl rfl)
theorem dX6_splits_228 : decode cX6_splits 228 = .ok (.imul, 1) := dk_104 (dk_at dksX6_splits_9 18 rfl rfl)
theorem dX6_splits_229 : decode cX6_splits 229 = .ok (.aload_n 0, 1) := dk_42 (dk_at dksX6_splits_9 19 rfl rfl)
theorem dX6_splits_230 : decode cX6_splits 230 = .ok (.getfield 41, 3) := dk_180 0 41 (dk_at dksX6_splits_9 20 rfl rfl)
theorem dX6_splits_233 : decode cX6_splits 233 = .ok (.iload 5, 2) := dk_21 5 (dk_at dksX6_splits_10 0 rfl rfl)
theorem dX6_splits_235 : decode cX6_splits 235 = .ok (.baload, 1) := dk_51 (dk_at dksX6_splits_10 2 rfl rfl)
theorem dX6_splits_236 : decode cX6_splits 236 = .ok (.iadd, 1) := dk_96 (dk_at dksX6_splits_10 3 rfl rfl)
theorem dX6_splits_237 : decode cX6_splits 237 = .ok (.bipush 48, 2) := dk_16 48 (dk_at dksX6_splits_10 4 rfl rfl)
theorem dX6_splits_239 : decode cX6_splits 239 = .ok (.isub, 1) := dk_100 (dk_at dksX6_splits_10 6 rfl rfl)
theorem dX6_splits_240 : decode cX6_splits 240 = .ok (.iastore, 1) := dk_79 (dk_at dksX6_splits_10 7 rfl rfl)
theorem dX6_splits_241 : decode cX6_splits 241 = .ok (.iinc 5 1, 3) := dk_132 5 1 (dk_at dksX6_splits_10 8 rfl rfl)
theorem dX6_splits_244 : decode cX6_splits 244 = .ok (.goto (-75), 3) := dk_167 255 181 (dk_at dksX6_splits_10 11 rfl rfl)
theorem dX6_splits_247 : decode cX6_splits 247 = .ok (.aload_n 0, 1) := dk_42 (dk_at dksX6_splits_10 14 rfl rfl)
theorem dX6_splits_248 : decode cX6_splits 248 = .ok (.dup, 1) := dk_89 (dk_at dksX6_splits_10 15 rfl rfl)
theorem dX6_splits_249 : decode cX6_splits 249 = .ok (.getfield 147, 3) := dk_180 0 147 (dk_at dksX6_splits_10 16 rfl rfl)
theorem dX6_splits_252 : decode cX6_splits 252 = .ok (.iconst 1, 1) := dk_4 (dk_at dksX6_splits_10 19 rfl rfl)
theorem dX6_splits_253 : decode cX6_splits 253 = .ok (.iadd, 1) := dk_96 (dk_at dksX6_splits_10 20 rfl rfl)
theorem dX6_splits_254 : decode cX6_splits 254 = .ok (.putfield 147, 3) := dk_181 0 147 (dk_at dksX6_splits_10 21 rfl rfl)
theorem dX6_splits_257 : decode cX6_splits 257 = .ok (.iload 4, 2) := dk_21 4 (dk_at dksX6_splits_11 0 rfl rfl)
theorem dX6_splits_259 : decode cX6_splits 259 = .ok (.istore_n 2, 1) := dk_61 (dk_at dksX6_splits_11 2 rfl rfl)
theorem dX6_splits_260 : decode cX6_splits 260 = .ok (.goto (-253), 3) := dk_167 255 3 (dk_at dksX6_splits_11 3 rfl rfl)
theorem dX6_splits_263 : decode cX6_splits 263 = .ok (.aload_n 0, 1) := dk_42 (dk_at dksX6_splits_11 6 rfl rfl)
theorem dX6_splits_264 : decode cX6_splits 264 = .ok (.getfield 56, 3) := dk_180 0 56 (dk_at dksX6_splits_11 7 rfl rfl)
theorem dX6_splits_267 : decode cX6_splits 267 = .ok (.aload_n 0, 1) := dk_42 (dk_at dksX6_splits_11 10 rfl rfl)
theorem dX6_splits_268 : decode cX6_splits 268 = .ok (.getfield 147, 3) := dk_180 0 147 (dk_at dksX6_splits_11 11 rfl rfl)
theorem dX6_splits_271 : decode cX6_splits 271 = .ok (.iload_n 1, 1) := dk_27 (dk_at dksX6_splits_11 14 rfl rfl)
theorem dX6_splits_272 : decode cX6_splits 272 = .ok (.iastore, 1) := dk_79 (dk_at dksX6_splits_11 15 rfl rfl)
theorem dX6_splits_273 : decode cX6_splits 273 = .ok (.aload_n 0, 1) := dk_42 (dk_at dksX6_splits_11 16 rfl rfl)
theorem dX6_splits_274 : decode cX6_splits 274 = .ok (.getfield 50, 3) := dk_180 0 50 (dk_at dksX6_splits_11 17 rfl rfl)
theorem dX6_splits_277 : decode cX6_splits 277 = .ok (.aload_n 0, 1) := dk_42 (dk_at dksX6_splits_11 20 rfl rfl)
theorem dX6_splits_278 : decode cX6_splits 278 = .ok (.getfield 147, 3) := dk_180 0 147 (dk_at dksX6_splits_11 21 rfl rfl)
theorem dX6_splits_281 : decode cX6_splits 281 = .ok (.iconst 0, 1) := dk_3 (dk_at dksX6_splits_12 0 rfl rfl)
theorem dX6_splits_282 : decode cX6_splits 282 = .ok (.iastore, 1) := dk_79 (dk_at dksX6_splits_12 1 rfl rfl)
theorem dX6_splits_283 : decode cX6_splits 283 = .ok (.aload_n 0, 1) := dk_42 (dk_at dksX6_splits_12 2 rfl rfl)
theorem dX6_splits_284 : decode cX6_splits 284 = .ok (.getfield 53, 3) := dk_180 0 53 (dk_at dksX6_splits_12 3 rfl rfl)
theorem dX6_splits_287 : decode cX6_splits 287 = .ok (.aload_n 0, 1) := dk_42 (dk_at dksX6_splits_12 6 rfl rfl)
theorem dX6_splits_288 : decode cX6_splits 288 = .ok (.getfield 147, 3) := dk_180 0 147 (dk_at dksX6_splits_12 7 rfl rfl)
theorem dX6_splits_291 : decode cX6_splits 291 = .ok (.iconst 0, 1) := dk_3 (dk_at dksX6_splits_12 10 rfl rfl)
theorem dX6_splits_292 : decode cX6_splits 292 = .ok (.iastore, 1) := dk_79 (dk_at dksX6_splits_12 11 rfl rfl)
theorem dX6_splits_293 : decode cX6_splits 293 = .ok (.return_, 1) := dk_177 (dk_at dksX6_splits_12 12 rfl rfl)
abbrev cX6_isSmall : ByteArray := prog_29_method_30_code
def yX6_isSmall : MethodName := ⟨RX6, "isSmall", "(I)Z"⟩
def dkwX6_isSmall_0 : List UInt8 := [26, 16, 97, 161, 0, 13, 26, 16, 122, 163, 0, 7, 4, 167, 0, 4, 3, 172]
abbrev dktX6_isSmall_0 : List UInt8 := dkwX6_isSmall_0 ++ []
theorem dksX6_isSmall_0 : cX6_isSmall.data.toList.drop 0 = dktX6_isSmall_0 := by decide +kernel
theorem dX6_isSmall_0 : decode cX6_isSmall 0 = .ok (.iload_n 0, 1) := dk_26 (dk_at dksX6_isSmall_0 0 rfl rfl)
theorem dX6_isSmall_1 : decode cX6_isSmall 1 = .ok (.bipush 97, 2) := dk_16 97 (dk_at dksX6_isSmall_0 1 rfl rfl)
theorem dX6_isSmall_3 : decode cX6_isSmall 3 = .ok (.if_icmp .lt 13, 3) := dk_161 0 13 (dk_at dksX6_isSmall_0 3 rfl rfl)
theorem dX6_isSmall_6 : decode cX6_isSmall 6 = .ok (.iload_n 0, 1) := dk_26 (dk_at dksX6_isSmall_0 6 rfl rfl)
theorem dX6_isSmall_7 : decode cX6_isSmall 7 = .ok (.bipush 122, 2) := dk_16 122 (dk_at dksX6_isSmall_0 7 rfl rfl)
theorem dX6_isSmall_9 : decode cX6_isSmall 9 = .ok (.if_icmp .gt 7, 3) := dk_163 0 7 (dk_at dksX6_isSmall_0 9 rfl rfl)
theorem dX6_isSmall_12 : decode cX6_isSmall 12 = .ok (.iconst 1, 1) := dk_4 (dk_at dksX6_isSmall_0 12 rfl rfl)
theorem dX6_isSmall_13 : decode cX6_isSmall 13 = .ok (.goto 4, 3) := dk_167 0 4 (dk_at dksX6_isSmall_0 13 rfl rfl)
theorem dX6_isSmall_16 : decode cX6_isSmall 16 = .ok (.iconst 0, 1) := dk_3 (dk_at dksX6_isSmall_0 16 rfl rfl)
theorem dX6_isSmall_17 : decode cX6_isSmall 17 = .ok (.ireturn, 1) := dk_172 (dk_at dksX6_isSmall_0 17 rfl rfl)
abbrev cX6_isDigit : ByteArray := prog_29_method_31_code
def yX6_isDigit : MethodName := ⟨RX6, "isDigit", "(I)Z"⟩
def dkwX6_isDigit_0 : List UInt8 := [26, 16, 48, 161, 0, 13, 26, 16, 57, 163, 0, 7, 4, 167, 0, 4, 3, 172]
abbrev dktX6_isDigit_0 : List UInt8 := dkwX6_isDigit_0 ++ []
theorem dksX6_isDigit_0 : cX6_isDigit.data.toList.drop 0 = dktX6_isDigit_0 := by decide +kernel
theorem dX6_isDigit_0 : decode cX6_isDigit 0 = .ok (.iload_n 0, 1) := dk_26 (dk_at dksX6_isDigit_0 0 rfl rfl)
theorem dX6_isDigit_1 : decode cX6_isDigit 1 = .ok (.bipush 48, 2) := dk_16 48 (dk_at dksX6_isDigit_0 1 rfl rfl)
theorem dX6_isDigit_3 : decode cX6_isDigit 3 = .ok (.if_icmp .lt 13, 3) := dk_161 0 13 (dk_at dksX6_isDigit_0 3 rfl rfl)
theorem dX6_isDigit_6 : decode cX6_isDigit 6 = .ok (.iload_n 0, 1) := dk_26 (dk_at dksX6_isDigit_0 6 rfl rfl)
theorem dX6_isDigit_7 : decode cX6_isDigit 7 = .ok (.bipush 57, 2) := dk_16 57 (dk_at dksX6_isDigit_0 7 rfl rfl)
theorem dX6_isDigit_9 : decode cX6_isDigit 9 = .ok (.if_icmp .gt 7, 3) := dk_163 0 7 (dk_at dksX6_isDigit_0 9 rfl rfl)
theorem dX6_isDigit_12 : decode cX6_isDigit 12 = .ok (.iconst 1, 1) := dk_4 (dk_at dksX6_isDigit_0 12 rfl rfl)
theorem dX6_isDigit_13 : decode cX6_isDigit 13 = .ok (.goto 4, 3) := dk_167 0 4 (dk_at dksX6_isDigit_0 13 rfl rfl)
theorem dX6_isDigit_16 : decode cX6_isDigit 16 = .ok (.iconst 0, 1) := dk_3 (dk_at dksX6_isDigit_0 16 rfl rfl)
theorem dX6_isDigit_17 : decode cX6_isDigit 17 = .ok (.ireturn, 1) := dk_172 (dk_at dksX6_isDigit_0 17 rfl rfl)
abbrev cX6_wordOf : ByteArray := prog_29_method_32_code
def yX6_wordOf : MethodName := ⟨RX6, "wordOf", "(II)I"⟩
def dkwX6_wordOf_5 : List UInt8 := [96, 96, 54, 4, 132, 3, 1, 167, 255, 138, 3, 172]
abbrev dktX6_wordOf_5 : List UInt8 := dkwX6_wordOf_5 ++ []
def dkwX6_wordOf_4 : List UInt8 := [167, 0, 4, 3, 54, 6, 132, 7, 1, 167, 255, 212, 21, 6, 153, 0, 5, 29, 172, 21, 4, 21, 5, 4]
abbrev dktX6_wordOf_4 : List UInt8 := dkwX6_wordOf_4 ++ dktX6_wordOf_5
def dkwX6_wordOf_3 : List UInt8 := [180, 0, 37, 21, 4, 21, 7, 96, 51, 42, 180, 0, 41, 27, 21, 7, 96, 51, 160, 0, 7, 4]
abbrev dktX6_wordOf_3 : List UInt8 := dkwX6_wordOf_3 ++ dktX6_wordOf_4
def dkwX6_wordOf_2 : List UInt8 := [167, 0, 4, 3, 54, 6, 3, 54, 7, 21, 7, 21, 5, 162, 0, 43, 21, 6, 153, 0, 38, 42]
abbrev dktX6_wordOf_2 : List UInt8 := dkwX6_wordOf_2 ++ dktX6_wordOf_3
def dkwX6_wordOf_1 : List UInt8 := [21, 5, 96, 51, 16, 32, 159, 0, 9, 132, 5, 1, 167, 255, 238, 21, 5, 28, 27, 100, 160, 0, 7, 4]
abbrev dktX6_wordOf_1 : List UInt8 := dkwX6_wordOf_1 ++ dktX6_wordOf_2
def dkwX6_wordOf_0 : List UInt8 := [4, 62, 3, 54, 4, 21, 4, 42, 180, 0, 37, 190, 162, 0, 114, 3, 54, 5, 42, 180, 0, 37, 21, 4]
abbrev dktX6_wordOf_0 : List UInt8 := dkwX6_wordOf_0 ++ dktX6_wordOf_1
theorem dksX6_wordOf_0 : cX6_wordOf.data.toList.drop 0 = dktX6_wordOf_0 := by decide +kernel
theorem dksX6_wordOf_1 : cX6_wordOf.data.toList.drop 24 = dktX6_wordOf_1 := dk_seg dksX6_wordOf_0 24 rfl rfl
theorem dksX6_wordOf_2 : cX6_wordOf.data.toList.drop 48 = dktX6_wordOf_2 := dk_seg dksX6_wordOf_1 24 rfl rfl
theorem dksX6_wordOf_3 : cX6_wordOf.data.toList.drop 70 = dktX6_wordOf_3 := dk_seg dksX6_wordOf_2 22 rfl rfl
theorem dksX6_wordOf_4 : cX6_wordOf.data.toList.drop 92 = dktX6_wordOf_4 := dk_seg dksX6_wordOf_3 22 rfl rfl
theorem dksX6_wordOf_5 : cX6_wordOf.data.toList.drop 116 = dktX6_wordOf_5 := dk_seg dksX6_wordOf_4 24 rfl rfl
theorem dX6_wordOf_0 : decode cX6_wordOf 0 = .ok (.iconst 1, 1) := dk_4 (dk_at dksX6_wordOf_0 0 rfl rfl)
theorem dX6_wordOf_1 : decode cX6_wordOf 1 = .ok (.istore_n 3, 1) := dk_62 (dk_at dksX6_wordOf_0 1 rfl rfl)
theorem dX6_wordOf_2 : decode cX6_wordOf 2 = .ok (.iconst 0, 1) := dk_3 (dk_at dksX6_wordOf_0 2 rfl rfl)
theorem dX6_wordOf_3 : decode cX6_wordOf 3 = .ok (.istore 4, 2) := dk_54 4 (dk_at dksX6_wordOf_0 3 rfl rfl)
theorem dX6_wordOf_5 : decode cX6_wordOf 5 = .ok (.iload 4, 2) := dk_21 4 (dk_at dksX6_wordOf_0 5 rfl rfl)
theorem dX6_wordOf_7 : decode cX6_wordOf 7 = .ok (.aload_n 0, 1) := dk_42 (dk_at dksX6_wordOf_0 7 rfl rfl)
theorem dX6_wordOf_8 : decode cX6_wordOf 8 = .ok (.getfield 37, 3) := dk_180 0 37 (dk_at dksX6_wordOf_0 8 rfl rfl)
theorem dX6_wordOf_11 : decode cX6_wordOf 11 = .ok (.arraylength, 1) := dk_190 (dk_at dksX6_wordOf_0 11 rfl rfl)
theorem dX6_wordOf_12 : decode cX6_wordOf 12 = .ok (.if_icmp .ge 114, 3) := dk_162 0 114 (dk_at dksX6_wordOf_0 12 rfl rfl)
theorem dX6_wordOf_15 : decode cX6_wordOf 15 = .ok (.iconst 0, 1) := dk_3 (dk_at dksX6_wordOf_0 15 rfl rfl)
theorem dX6_wordOf_16 : decode cX6_wordOf 16 = .ok (.istore 5, 2) := dk_54 5 (dk_at dksX6_wordOf_0 16 rfl rfl)
theorem dX6_wordOf_18 : decode cX6_wordOf 18 = .ok (.aload_n 0, 1) := dk_42 (dk_at dksX6_wordOf_0 18 rfl rfl)
theorem dX6_wordOf_19 : decode cX6_wordOf 19 = .ok (.getfield 37, 3) := dk_180 0 37 (dk_at dksX6_wordOf_0 19 rfl rfl)
theorem dX6_wordOf_22 : decode cX6_wordOf 22 = .ok (.iload 4, 2) := dk_21 4 (dk_at dksX6_wordOf_0 22 rfl rfl)
theorem dX6_wordOf_24 : decode cX6_wordOf 24 = .ok (.iload 5, 2) := dk_21 5 (dk_at dksX6_wordOf_1 0 rfl rfl)
theorem dX6_wordOf_26 : decode cX6_wordOf 26 = .ok (.iadd, 1) := dk_96 (dk_at dksX6_wordOf_1 2 rfl rfl)
theorem dX6_wordOf_27 : decode cX6_wordOf 27 = .ok (.baload, 1) := dk_51 (dk_at dksX6_wordOf_1 3 rfl rfl)
theorem dX6_wordOf_28 : decode cX6_wordOf 28 = .ok (.bipush 32, 2) := dk_16 32 (dk_at dksX6_wordOf_1 4 rfl rfl)
theorem dX6_wordOf_30 : decode cX6_wordOf 30 = .ok (.if_icmp .eq 9, 3) := dk_159 0 9 (dk_at dksX6_wordOf_1 6 rfl rfl)
theorem dX6_wordOf_33 : decode cX6_wordOf 33 = .ok (.iinc 5 1, 3) := dk_132 5 1 (dk_at dksX6_wordOf_1 9 rfl rfl)
theorem dX6_wordOf_36 : decode cX6_wordOf 36 = .ok (.goto (-18), 3) := dk_167 255 238 (dk_at dksX6_wordOf_1 12 rfl rfl)
theorem dX6_wordOf_39 : decode cX6_wordOf 39 = .ok (.iload 5, 2) := dk_21 5 (dk_at dksX6_wordOf_1 15 rfl rfl)
theorem dX6_wordOf_41 : decode cX6_wordOf 41 = .ok (.iload_n 2, 1) := dk_28 (dk_at dksX6_wordOf_1 17 rfl rfl)
theorem dX6_wordOf_42 : decode cX6_wordOf 42 = .ok (.iload_n 1, 1) := dk_27 (dk_at dksX6_wordOf_1 18 rfl rfl)
theorem dX6_wordOf_43 : decode cX6_wordOf 43 = .ok (.isub, 1) := dk_100 (dk_at dksX6_wordOf_1 19 rfl rfl)
theorem dX6_wordOf_44 : decode cX6_wordOf 44 = .ok (.if_icmp .ne 7, 3) := dk_160 0 7 (dk_at dksX6_wordOf_1 20 rfl rfl)
theorem dX6_wordOf_47 : decode cX6_wordOf 47 = .ok (.iconst 1, 1) := dk_4 (dk_at dksX6_wordOf_1 23 rfl rfl)
theorem dX6_wordOf_48 : decode cX6_wordOf 48 = .ok (.goto 4, 3) := dk_167 0 4 (dk_at dksX6_wordOf_2 0 rfl rfl)
theorem dX6_wordOf_51 : decode cX6_wordOf 51 = .ok (.iconst 0, 1) := dk_3 (dk_at dksX6_wordOf_2 3 rfl rfl)
theorem dX6_wordOf_52 : decode cX6_wordOf 52 = .ok (.istore 6, 2) := dk_54 6 (dk_at dksX6_wordOf_2 4 rfl rfl)
theorem dX6_wordOf_54 : decode cX6_wordOf 54 = .ok (.iconst 0, 1) := dk_3 (dk_at dksX6_wordOf_2 6 rfl rfl)
theorem dX6_wordOf_55 : decode cX6_wordOf 55 = .ok (.istore 7, 2) := dk_54 7 (dk_at dksX6_wordOf_2 7 rfl rfl)
theorem dX6_wordOf_57 : decode cX6_wordOf 57 = .ok (.iload 7, 2) := dk_21 7 (dk_at dksX6_wordOf_2 9 rfl rfl)
theorem dX6_wordOf_59 : decode cX6_wordOf 59 = .ok (.iload 5, 2) := dk_21 5 (dk_at dksX6_wordOf_2 11 rfl rfl)
theorem dX6_wordOf_61 : decode cX6_wordOf 61 = .ok (.if_icmp .ge 43, 3) := dk_162 0 43 (dk_at dksX6_wordOf_2 13 rfl rfl)
theorem dX6_wordOf_64 : decode cX6_wordOf 64 = .ok (.iload 6, 2) := dk_21 6 (dk_at dksX6_wordOf_2 16 rfl rfl)
theorem dX6_wordOf_66 : decode cX6_wordOf 66 = .ok (.ifCond .eq 38, 3) := dk_153 0 38 (dk_at dksX6_wordOf_2 18 rfl rfl)
theorem dX6_wordOf_69 : decode cX6_wordOf 69 = .ok (.aload_n 0, 1) := dk_42 (dk_at dksX6_wordOf_2 21 rfl rfl)
theorem dX6_wordOf_70 : decode cX6_wordOf 70 = .ok (.getfield 37, 3) := dk_180 0 37 (dk_at dksX6_wordOf_3 0 rfl rfl)
theorem dX6_wordOf_73 : decode cX6_wordOf 73 = .ok (.iload 4, 2) := dk_21 4 (dk_at dksX6_wordOf_3 3 rfl rfl)
theorem dX6_wordOf_75 : decode cX6_wordOf 75 = .ok (.iload 7, 2) := dk_21 7 (dk_at dksX6_wordOf_3 5 rfl rfl)
theorem dX6_wordOf_77 : decode cX6_wordOf 77 = .ok (.iadd, 1) := dk_96 (dk_at dksX6_wordOf_3 7 rfl rfl)
theorem dX6_wordOf_78 : decode cX6_wordOf 78 = .ok (.baload, 1) := dk_51 (dk_at dksX6_wordOf_3 8 rfl rfl)
theorem dX6_wordOf_79 : decode cX6_wordOf 79 = .ok (.aload_n 0, 1) := dk_42 (dk_at dksX6_wordOf_3 9 rfl rfl)
theorem dX6_wordOf_80 : decode cX6_wordOf 80 = .ok (.getfield 41, 3) := dk_180 0 41 (dk_at dksX6_wordOf_3 10 rfl rfl)
theorem dX6_wordOf_83 : decode cX6_wordOf 83 = .ok (.iload_n 1, 1) := dk_27 (dk_at dksX6_wordOf_3 13 rfl rfl)
theorem dX6_wordOf_84 : decode cX6_wordOf 84 = .ok (.iload 7, 2) := dk_21 7 (dk_at dksX6_wordOf_3 14 rfl rfl)
theorem dX6_wordOf_86 : decode cX6_wordOf 86 = .ok (.iadd, 1) := dk_96 (dk_at dksX6_wordOf_3 16 rfl rfl)
theorem dX6_wordOf_87 : decode cX6_wordOf 87 = .ok (.baload, 1) := dk_51 (dk_at dksX6_wordOf_3 17 rfl rfl)
theorem dX6_wordOf_88 : decode cX6_wordOf 88 = .ok (.if_icmp .ne 7, 3) := dk_160 0 7 (dk_at dksX6_wordOf_3 18 rfl rfl)
theorem dX6_wordOf_91 : decode cX6_wordOf 91 = .ok (.iconst 1, 1) := dk_4 (dk_at dksX6_wordOf_3 21 rfl rfl)
theorem dX6_wordOf_92 : decode cX6_wordOf 92 = .ok (.goto 4, 3) := dk_167 0 4 (dk_at dksX6_wordOf_4 0 rfl rfl)
theorem dX6_wordOf_95 : decode cX6_wordOf 95 = .ok (.iconst 0, 1) := dk_3 (dk_at dksX6_wordOf_4 3 rfl rfl)
theorem dX6_wordOf_96 : decode cX6_wordOf 96 = .ok (.istore 6, 2) := dk_54 6 (dk_at dksX6_wordOf_4 4 rfl rfl)
theorem dX6_wordOf_98 : decode cX6_wordOf 98 = .ok (.iinc 7 1, 3) := dk_132 7 1 (dk_at dksX6_wordOf_4 6 rfl rfl)
theorem dX6_wordOf_101 : decode cX6_wordOf 101 = .ok (.goto (-44), 3) := dk_167 255 212 (dk_at dksX6_wordOf_4 9 rfl rfl)
theorem dX6_wordOf_104 : decode cX6_wordOf 104 = .ok (.iload 6, 2) := dk_21 6 (dk_at dksX6_wordOf_4 12 rfl rfl)
theorem dX6_wordOf_106 : decode cX6_wordOf 106 = .ok (.ifCond .eq 5, 3) := dk_153 0 5 (dk_at dksX6_wordOf_4 14 rfl rfl)
theorem dX6_wordOf_109 : decode cX6_wordOf 109 = .ok (.iload_n 3, 1) := dk_29 (dk_at dksX6_wordOf_4 17 rfl rfl)
theorem dX6_wordOf_110 : decode cX6_wordOf 110 = .ok (.ireturn, 1) := dk_172 (dk_at dksX6_wordOf_4 18 rfl rfl)
theorem dX6_wordOf_111 : decode cX6_wordOf 111 = .ok (.iload 4, 2) := dk_21 4 (dk_at dksX6_wordOf_4 19 rfl rfl)
theorem dX6_wordOf_113 : decode cX6_wordOf 113 = .ok (.iload 5, 2) := dk_21 5 (dk_at dksX6_wordOf_4 21 rfl rfl)
theorem dX6_wordOf_115 : decode cX6_wordOf 115 = .ok (.iconst 1, 1) := dk_4 (dk_at dksX6_wordOf_4 23 rfl rfl)
theorem dX6_wordOf_116 : decode cX6_wordOf 116 = .ok (.iadd, 1) := dk_96 (dk_at dksX6_wordOf_5 0 rfl rfl)
theorem dX6_wordOf_117 : decode cX6_wordOf 117 = .ok (.iadd, 1) := dk_96 (dk_at dksX6_wordOf_5 1 rfl rfl)
theorem dX6_wordOf_118 : decode cX6_wordOf 118 = .ok (.istore 4, 2) := dk_54 4 (dk_at dksX6_wordOf_5 2 rfl rfl)
theorem dX6_wordOf_120 : decode cX6_wordOf 120 = .ok (.iinc 3 1, 3) := dk_132 3 1 (dk_at dksX6_wordOf_5 4 rfl rfl)
theorem dX6_wordOf_123 : decode cX6_wordOf 123 = .ok (.goto (-118), 3) := dk_167 255 138 (dk_at dksX6_wordOf_5 7 rfl rfl)
theorem dX6_wordOf_126 : decode cX6_wordOf 126 = .ok (.iconst 0, 1) := dk_3 (dk_at dksX6_wordOf_5 10 rfl rfl)
theorem dX6_wordOf_127 : decode cX6_wordOf 127 = .ok (.ireturn, 1) := dk_172 (dk_at dksX6_wordOf_5 11 rfl rfl)
abbrev cX6_readOne : ByteArray := prog_29_method_43_code
def yX6_readOne : MethodName := ⟨RX6, "readOne", "()V"⟩
def dkwX6_readOne_0 : List UInt8 := [42, 180, 0, 194, 153, 0, 10, 42, 182, 0, 198, 167, 0, 7, 42, 182, 0, 201, 177]
abbrev dktX6_readOne_0 : List UInt8 := dkwX6_readOne_0 ++ []
theorem dksX6_readOne_0 : cX6_readOne.data.toList.drop 0 = dktX6_readOne_0 := by decide +kernel
theorem dX6_readOne_0 : decode cX6_readOne 0 = .ok (.aload_n 0, 1) := dk_42 (dk_at dksX6_readOne_0 0 rfl rfl)
theorem dX6_readOne_1 : decode cX6_readOne 1 = .ok (.getfield 194, 3) := dk_180 0 194 (dk_at dksX6_readOne_0 1 rfl rfl)
theorem dX6_readOne_4 : decode cX6_readOne 4 = .ok (.ifCond .eq 10, 3) := dk_153 0 10 (dk_at dksX6_readOne_0 4 rfl rfl)
theorem dX6_readOne_7 : decode cX6_readOne 7 = .ok (.aload_n 0, 1) := dk_42 (dk_at dksX6_readOne_0 7 rfl rfl)
theorem dX6_readOne_8 : decode cX6_readOne 8 = .ok (.invokevirtual 198, 3) := dk_182 0 198 (dk_at dksX6_readOne_0 8 rfl rfl)
theorem dX6_readOne_11 : decode cX6_readOne 11 = .ok (.goto 7, 3) := dk_167 0 7 (dk_at dksX6_readOne_0 11 rfl rfl)
theorem dX6_readOne_14 : decode cX6_readOne 14 = .ok (.aload_n 0, 1) := dk_42 (dk_at dksX6_readOne_0 14 rfl rfl)
theorem dX6_readOne_15 : decode cX6_readOne 15 = .ok (.invokevirtual 201, 3) := dk_182 0 201 (dk_at dksX6_readOne_0 15 rfl rfl)
theorem dX6_readOne_18 : decode cX6_readOne 18 = .ok (.return_, 1) := dk_177 (dk_at dksX6_readOne_0 18 rfl rfl)
abbrev cX6_readOrder : ByteArray := prog_29_method_42_code
def yX6_readOrder : MethodName := ⟨RX6, "readOrder", "()V"⟩
def dkwX6_readOrder_2 : List UInt8 := [182, 0, 190, 42, 16, 6, 182, 0, 171, 153, 0, 8, 42, 3, 182, 0, 187, 177]
abbrev dktX6_readOrder_2 : List UInt8 := dkwX6_readOrder_2 ++ []
def dkwX6_readOrder_1 : List UInt8 := [167, 0, 9, 42, 16, 28, 182, 0, 184, 42, 16, 29, 182, 0, 171, 153, 0, 10, 42, 4, 16, 20]
abbrev dktX6_readOrder_1 : List UInt8 := dkwX6_readOrder_1 ++ dktX6_readOrder_2
def dkwX6_readOrder_0 : List UInt8 := [42, 16, 26, 182, 0, 171, 154, 0, 12, 42, 16, 27, 182, 0, 171, 153, 0, 11, 42, 3, 182, 0, 180]
abbrev dktX6_readOrder_0 : List UInt8 := dkwX6_readOrder_0 ++ dktX6_readOrder_1
theorem dksX6_readOrder_0 : cX6_readOrder.data.toList.drop 0 = dktX6_readOrder_0 := by decide +kernel
theorem dksX6_readOrder_1 : cX6_readOrder.data.toList.drop 23 = dktX6_readOrder_1 := dk_seg dksX6_readOrder_0 23 rfl rfl
theorem dksX6_readOrder_2 : cX6_readOrder.data.toList.drop 45 = dktX6_readOrder_2 := dk_seg dksX6_readOrder_1 22 rfl rfl
theorem dX6_readOrder_0 : decode cX6_readOrder 0 = .ok (.aload_n 0, 1) := dk_42 (dk_at dksX6_readOrder_0 0 rfl rfl)
theorem dX6_readOrder_1 : decode cX6_readOrder 1 = .ok (.bipush 26, 2) := dk_16 26 (dk_at dksX6_readOrder_0 1 rfl rfl)
theorem dX6_readOrder_3 : decode cX6_readOrder 3 = .ok (.invokevirtual 171, 3) := dk_182 0 171 (dk_at dksX6_readOrder_0 3 rfl rfl)
theorem dX6_readOrder_6 : decode cX6_readOrder 6 = .ok (.ifCond .ne 12, 3) := dk_154 0 12 (dk_at dksX6_readOrder_0 6 rfl rfl)
theorem dX6_readOrder_9 : decode cX6_readOrder 9 = .ok (.aload_n 0, 1) := dk_42 (dk_at dksX6_readOrder_0 9 rfl rfl)
theorem dX6_readOrder_10 : decode cX6_readOrder 10 = .ok (.bipush 27, 2) := dk_16 27 (dk_at dksX6_readOrder_0 10 rfl rfl)
theorem dX6_readOrder_12 : decode cX6_readOrder 12 = .ok (.invokevirtual 171, 3) := dk_182 0 171 (dk_at dksX6_readOrder_0 12 rfl rfl)
theorem dX6_readOrder_15 : decode cX6_readOrder 15 = .ok (.ifCond .eq 11, 3) := dk_153 0 11 (dk_at dksX6_readOrder_0 15 rfl rfl)
theorem dX6_readOrder_18 : decode cX6_readOrder 18 = .ok (.aload_n 0, 1) := dk_42 (dk_at dksX6_readOrder_0 18 rfl rfl)
theorem dX6_readOrder_19 : decode cX6_readOrder 19 = .ok (.iconst 0, 1) := dk_3 (dk_at dksX6_readOrder_0 19 rfl rfl)
theorem dX6_readOrder_20 : decode cX6_readOrder 20 = .ok (.invokevirtual 180, 3) := dk_182 0 180 (dk_at dksX6_readOrder_0 20 rfl rfl)
theorem dX6_readOrder_23 : decode cX6_readOrder 23 = .ok (.goto 9, 3) := dk_167 0 9 (dk_at dksX6_readOrder_1 0 rfl rfl)
theorem dX6_readOrder_26 : decode cX6_readOrder 26 = .ok (.aload_n 0, 1) := dk_42 (dk_at dksX6_readOrder_1 3 rfl rfl)
theorem dX6_readOrder_27 : decode cX6_readOrder 27 = .ok (.bipush 28, 2) := dk_16 28 (dk_at dksX6_readOrder_1 4 rfl rfl)
theorem dX6_readOrder_29 : decode cX6_readOrder 29 = .ok (.invokevirtual 184, 3) := dk_182 0 184 (dk_at dksX6_readOrder_1 6 rfl rfl)
theorem dX6_readOrder_32 : decode cX6_readOrder 32 = .ok (.aload_n 0, 1) := dk_42 (dk_at dksX6_readOrder_1 9 rfl rfl)
theorem dX6_readOrder_33 : decode cX6_readOrder 33 = .ok (.bipush 29, 2) := dk_16 29 (dk_at dksX6_readOrder_1 10 rfl rfl)
theorem dX6_readOrder_35 : decode cX6_readOrder 35 = .ok (.invokevirtual 171, 3) := dk_182 0 171 (dk_at dksX6_readOrder_1 12 rfl rfl)
theorem dX6_readOrder_38 : decode cX6_readOrder 38 = .ok (.ifCond .eq 10, 3) := dk_153 0 10 (dk_at dksX6_readOrder_1 15 rfl rfl)
theorem dX6_readOrder_41 : decode cX6_readOrder 41 = .ok (.aload_n 0, 1) := dk_42 (dk_at dksX6_readOrder_1 18 rfl rfl)
theorem dX6_readOrder_42 : decode cX6_readOrder 42 = .ok (.iconst 1, 1) := dk_4 (dk_at dksX6_readOrder_1 19 rfl rfl)
theorem dX6_readOrder_43 : decode cX6_readOrder 43 = .ok (.bipush 20, 2) := dk_16 20 (dk_at dksX6_readOrder_1 20 rfl rfl)
theorem dX6_readOrder_45 : decode cX6_readOrder 45 = .ok (.invokevirtual 190, 3) := dk_182 0 190 (dk_at dksX6_readOrder_2 0 rfl rfl)
theorem dX6_readOrder_48 : decode cX6_readOrder 48 = .ok (.aload_n 0, 1) := dk_42 (dk_at dksX6_readOrder_2 3 rfl rfl)
theorem dX6_readOrder_49 : decode cX6_readOrder 49 = .ok (.bipush 6, 2) := dk_16 6 (dk_at dksX6_readOrder_2 4 rfl rfl)
theorem dX6_readOrder_51 : decode cX6_readOrder 51 = .ok (.invokevirtual 171, 3) := dk_182 0 171 (dk_at dksX6_readOrder_2 6 rfl rfl)
theorem dX6_readOrder_54 : decode cX6_readOrder 54 = .ok (.ifCond .eq 8, 3) := dk_153 0 8 (dk_at dksX6_readOrder_2 9 rfl rfl)
theorem dX6_readOrder_57 : decode cX6_readOrder 57 = .ok (.aload_n 0, 1) := dk_42 (dk_at dksX6_readOrder_2 12 rfl rfl)
theorem dX6_readOrder_58 : decode cX6_readOrder 58 = .ok (.iconst 0, 1) := dk_3 (dk_at dksX6_readOrder_2 13 rfl rfl)
theorem dX6_readOrder_59 : decode cX6_readOrder 59 = .ok (.invokevirtual 187, 3) := dk_182 0 187 (dk_at dksX6_readOrder_2 14 rfl rfl)
theorem dX6_readOrder_62 : decode cX6_readOrder 62 = .ok (.return_, 1) := dk_177 (dk_at dksX6_readOrder_2 17 rfl rfl)
abbrev cX6_takes0 : ByteArray := prog_29_method_36_code
def yX6_takes0 : MethodName := ⟨RX6, "takes0", "(I)Z"⟩
def dkwX6_takes0_1 : List UInt8 := [3, 61, 28, 153, 0, 13, 42, 89, 180, 0, 168, 4, 96, 181, 0, 168, 28, 172]
abbrev dktX6_takes0_1 : List UInt8 := dkwX6_takes0_1 ++ []
def dkwX6_takes0_0 : List UInt8 := [42, 182, 0, 164, 153, 0, 20, 42, 180, 0, 50, 42, 180, 0, 168, 46, 27, 160, 0, 7, 4, 167, 0, 4]
abbrev dktX6_takes0_0 : List UInt8 := dkwX6_takes0_0 ++ dktX6_takes0_1
theorem dksX6_takes0_0 : cX6_takes0.data.toList.drop 0 = dktX6_takes0_0 := by decide +kernel
theorem dksX6_takes0_1 : cX6_takes0.data.toList.drop 24 = dktX6_takes0_1 := dk_seg dksX6_takes0_0 24 rfl rfl
theorem dX6_takes0_0 : decode cX6_takes0 0 = .ok (.aload_n 0, 1) := dk_42 (dk_at dksX6_takes0_0 0 rfl rfl)
theorem dX6_takes0_1 : decode cX6_takes0 1 = .ok (.invokevirtual 164, 3) := dk_182 0 164 (dk_at dksX6_takes0_0 1 rfl rfl)
theorem dX6_takes0_4 : decode cX6_takes0 4 = .ok (.ifCond .eq 20, 3) := dk_153 0 20 (dk_at dksX6_takes0_0 4 rfl rfl)
theorem dX6_takes0_7 : decode cX6_takes0 7 = .ok (.aload_n 0, 1) := dk_42 (dk_at dksX6_takes0_0 7 rfl rfl)
theorem dX6_takes0_8 : decode cX6_takes0 8 = .ok (.getfield 50, 3) := dk_180 0 50 (dk_at dksX6_takes0_0 8 rfl rfl)
theorem dX6_takes0_11 : decode cX6_takes0 11 = .ok (.aload_n 0, 1) := dk_42 (dk_at dksX6_takes0_0 11 rfl rfl)
theorem dX6_takes0_12 : decode cX6_takes0 12 = .ok (.getfield 168, 3) := dk_180 0 168 (dk_at dksX6_takes0_0 12 rfl rfl)
theorem dX6_takes0_15 : decode cX6_takes0 15 = .ok (.iaload, 1) := dk_46 (dk_at dksX6_takes0_0 15 rfl rfl)
theorem dX6_takes0_16 : decode cX6_takes0 16 = .ok (.iload_n 1, 1) := dk_27 (dk_at dksX6_takes0_0 16 rfl rfl)
theorem dX6_takes0_17 : decode cX6_takes0 17 = .ok (.if_icmp .ne 7, 3) := dk_160 0 7 (dk_at dksX6_takes0_0 17 rfl rfl)
theorem dX6_takes0_20 : decode cX6_takes0 20 = .ok (.iconst 1, 1) := dk_4 (dk_at dksX6_takes0_0 20 rfl rfl)
theorem dX6_takes0_21 : decode cX6_takes0 21 = .ok (.goto 4, 3) := dk_167 0 4 (dk_at dksX6_takes0_0 21 rfl rfl)
theorem dX6_takes0_24 : decode cX6_takes0 24 = .ok (.iconst 0, 1) := dk_3 (dk_at dksX6_takes0_1 0 rfl rfl)
theorem dX6_takes0_25 : decode cX6_takes0 25 = .ok (.istore_n 2, 1) := dk_61 (dk_at dksX6_takes0_1 1 rfl rfl)
theorem dX6_takes0_26 : decode cX6_takes0 26 = .ok (.iload_n 2, 1) := dk_28 (dk_at dksX6_takes0_1 2 rfl rfl)
theorem dX6_takes0_27 : decode cX6_takes0 27 = .ok (.ifCond .eq 13, 3) := dk_153 0 13 (dk_at dksX6_takes0_1 3 rfl rfl)
theorem dX6_takes0_30 : decode cX6_takes0 30 = .ok (.aload_n 0, 1) := dk_42 (dk_at dksX6_takes0_1 6 rfl rfl)
theorem dX6_takes0_31 : decode cX6_takes0 31 = .ok (.dup, 1) := dk_89 (dk_at dksX6_takes0_1 7 rfl rfl)
theorem dX6_takes0_32 : decode cX6_takes0 32 = .ok (.getfield 168, 3) := dk_180 0 168 (dk_at dksX6_takes0_1 8 rfl rfl)
theorem dX6_takes0_35 : decode cX6_takes0 35 = .ok (.iconst 1, 1) := dk_4 (dk_at dksX6_takes0_1 11 rfl rfl)
theorem dX6_takes0_36 : decode cX6_takes0 36 = .ok (.iadd, 1) := dk_96 (dk_at dksX6_takes0_1 12 rfl rfl)
theorem dX6_takes0_37 : decode cX6_takes0 37 = .ok (.putfield 168, 3) := dk_181 0 168 (dk_at dksX6_takes0_1 13 rfl rfl)
theorem dX6_takes0_40 : decode cX6_takes0 40 = .ok (.iload_n 2, 1) := dk_28 (dk_at dksX6_takes0_1 16 rfl rfl)
theorem dX6_takes0_41 : decode cX6_takes0 41 = .ok (.ireturn, 1) := dk_172 (dk_at dksX6_takes0_1 17 rfl rfl)
abbrev cX6_fine : ByteArray := prog_29_method_34_code
def yX6_fine : MethodName := ⟨RX6, "fine", "()Z"⟩
def dkwX6_fine_0 : List UInt8 := [42, 180, 0, 161, 2, 160, 0, 7, 4, 167, 0, 4, 3, 172]
abbrev dktX6_fine_0 : List UInt8 := dkwX6_fine_0 ++ []
theorem dksX6_fine_0 : cX6_fine.data.toList.drop 0 = dktX6_fine_0 := by decide +kernel
theorem dX6_fine_0 : decode cX6_fine 0 = .ok (.aload_n 0, 1) := dk_42 (dk_at dksX6_fine_0 0 rfl rfl)
theorem dX6_fine_1 : decode cX6_fine 1 = .ok (.getfield 161, 3) := dk_180 0 161 (dk_at dksX6_fine_0 1 rfl rfl)
theorem dX6_fine_4 : decode cX6_fine 4 = .ok (.iconst (-1), 1) := dk_2 (dk_at dksX6_fine_0 4 rfl rfl)
theorem dX6_fine_5 : decode cX6_fine 5 = .ok (.if_icmp .ne 7, 3) := dk_160 0 7 (dk_at dksX6_fine_0 5 rfl rfl)
theorem dX6_fine_8 : decode cX6_fine 8 = .ok (.iconst 1, 1) := dk_4 (dk_at dksX6_fine_0 8 rfl rfl)
theorem dX6_fine_9 : decode cX6_fine 9 = .ok (.goto 4, 3) := dk_167 0 4 (dk_at dksX6_fine_0 9 rfl rfl)
theorem dX6_fine_12 : decode cX6_fine 12 = .ok (.iconst 0, 1) := dk_3 (dk_at dksX6_fine_0 12 rfl rfl)
theorem dX6_fine_13 : decode cX6_fine 13 = .ok (.ireturn, 1) := dk_172 (dk_at dksX6_fine_0 13 rfl rfl)
abbrev cX6_readSum : ByteArray := prog_29_method_47_code
def yX6_readSum : MethodName := ⟨RX6, "readSum", "(I)V"⟩
def dkwX6_readSum_1 : List UInt8 := [182, 0, 171, 153, 0, 11, 42, 27, 182, 0, 214, 167, 255, 227, 177]
abbrev dktX6_readSum_1 : List UInt8 := dkwX6_readSum_1 ++ []
def dkwX6_readSum_0 : List UInt8 := [42, 27, 182, 0, 214, 42, 16, 43, 184, 0, 210, 182, 0, 171, 154, 0, 15, 42, 16, 45, 184, 0, 210]
abbrev dktX6_readSum_0 : List UInt8 := dkwX6_readSum_0 ++ dktX6_readSum_1
theorem dksX6_readSum_0 : cX6_readSum.data.toList.drop 0 = dktX6_readSum_0 := by decide +kernel
theorem dksX6_readSum_1 : cX6_readSum.data.toList.drop 23 = dktX6_readSum_1 := dk_seg dksX6_readSum_0 23 rfl rfl
theorem dX6_readSum_0 : decode cX6_readSum 0 = .ok (.aload_n 0, 1) := dk_42 (dk_at dksX6_readSum_0 0 rfl rfl)
theorem dX6_readSum_1 : decode cX6_readSum 1 = .ok (.iload_n 1, 1) := dk_27 (dk_at dksX6_readSum_0 1 rfl rfl)
theorem dX6_readSum_2 : decode cX6_readSum 2 = .ok (.invokevirtual 214, 3) := dk_182 0 214 (dk_at dksX6_readSum_0 2 rfl rfl)
theorem dX6_readSum_5 : decode cX6_readSum 5 = .ok (.aload_n 0, 1) := dk_42 (dk_at dksX6_readSum_0 5 rfl rfl)
theorem dX6_readSum_6 : decode cX6_readSum 6 = .ok (.bipush 43, 2) := dk_16 43 (dk_at dksX6_readSum_0 6 rfl rfl)
theorem dX6_readSum_8 : decode cX6_readSum 8 = .ok (.invokestatic 210, 3) := dk_184 0 210 (dk_at dksX6_readSum_0 8 rfl rfl)
theorem dX6_readSum_11 : decode cX6_readSum 11 = .ok (.invokevirtual 171, 3) := dk_182 0 171 (dk_at dksX6_readSum_0 11 rfl rfl)
theorem dX6_readSum_14 : decode cX6_readSum 14 = .ok (.ifCond .ne 15, 3) := dk_154 0 15 (dk_at dksX6_readSum_0 14 rfl rfl)
theorem dX6_readSum_17 : decode cX6_readSum 17 = .ok (.aload_n 0, 1) := dk_42 (dk_at dksX6_readSum_0 17 rfl rfl)
theorem dX6_readSum_18 : decode cX6_readSum 18 = .ok (.bipush 45, 2) := dk_16 45 (dk_at dksX6_readSum_0 18 rfl rfl)
theorem dX6_readSum_20 : decode cX6_readSum 20 = .ok (.invokestatic 210, 3) := dk_184 0 210 (dk_at dksX6_readSum_0 20 rfl rfl)
theorem dX6_readSum_23 : decode cX6_readSum 23 = .ok (.invokevirtual 171, 3) := dk_182 0 171 (dk_at dksX6_readSum_1 0 rfl rfl)
theorem dX6_readSum_26 : decode cX6_readSum 26 = .ok (.ifCond .eq 11, 3) := dk_153 0 11 (dk_at dksX6_readSum_1 3 rfl rfl)
theorem dX6_readSum_29 : decode cX6_readSum 29 = .ok (.aload_n 0, 1) := dk_42 (dk_at dksX6_readSum_1 6 rfl rfl)
theorem dX6_readSum_30 : decode cX6_readSum 30 = .ok (.iload_n 1, 1) := dk_27 (dk_at dksX6_readSum_1 7 rfl rfl)
theorem dX6_readSum_31 : decode cX6_readSum 31 = .ok (.invokevirtual 214, 3) := dk_182 0 214 (dk_at dksX6_readSum_1 8 rfl rfl)
theorem dX6_readSum_34 : decode cX6_readSum 34 = .ok (.goto (-29), 3) := dk_167 255 227 (dk_at dksX6_readSum_1 11 rfl rfl)
theorem dX6_readSum_37 : decode cX6_readSum 37 = .ok (.return_, 1) := dk_177 (dk_at dksX6_readSum_1 14 rfl rfl)
abbrev cX6_readTerm : ByteArray := prog_29_method_48_code
def yX6_readTerm : MethodName := ⟨RX6, "readTerm", "(I)V"⟩
def dkwX6_readTerm_2 : List UInt8 := [167, 255, 215, 177]
abbrev dktX6_readTerm_2 : List UInt8 := dkwX6_readTerm_2 ++ []
def dkwX6_readTerm_1 : List UInt8 := [182, 0, 171, 154, 0, 15, 42, 16, 37, 184, 0, 210, 182, 0, 171, 153, 0, 11, 42, 27, 182, 0, 217]
abbrev dktX6_readTerm_1 : List UInt8 := dkwX6_readTerm_1 ++ dktX6_readTerm_2
def dkwX6_readTerm_0 : List UInt8 := [42, 27, 182, 0, 217, 42, 16, 42, 184, 0, 210, 182, 0, 171, 154, 0, 27, 42, 16, 47, 184, 0, 210]
abbrev dktX6_readTerm_0 : List UInt8 := dkwX6_readTerm_0 ++ dktX6_readTerm_1
theorem dksX6_readTerm_0 : cX6_readTerm.data.toList.drop 0 = dktX6_readTerm_0 := by decide +kernel
theorem dksX6_readTerm_1 : cX6_readTerm.data.toList.drop 23 = dktX6_readTerm_1 := dk_seg dksX6_readTerm_0 23 rfl rfl
theorem dksX6_readTerm_2 : cX6_readTerm.data.toList.drop 46 = dktX6_readTerm_2 := dk_seg dksX6_readTerm_1 23 rfl rfl
theorem dX6_readTerm_0 : decode cX6_readTerm 0 = .ok (.aload_n 0, 1) := dk_42 (dk_at dksX6_readTerm_0 0 rfl rfl)
theorem dX6_readTerm_1 : decode cX6_readTerm 1 = .ok (.iload_n 1, 1) := dk_27 (dk_at dksX6_readTerm_0 1 rfl rfl)
theorem dX6_readTerm_2 : decode cX6_readTerm 2 = .ok (.invokevirtual 217, 3) := dk_182 0 217 (dk_at dksX6_readTerm_0 2 rfl rfl)
theorem dX6_readTerm_5 : decode cX6_readTerm 5 = .ok (.aload_n 0, 1) := dk_42 (dk_at dksX6_readTerm_0 5 rfl rfl)
theorem dX6_readTerm_6 : decode cX6_readTerm 6 = .ok (.bipush 42, 2) := dk_16 42 (dk_at dksX6_readTerm_0 6 rfl rfl)
theorem dX6_readTerm_8 : decode cX6_readTerm 8 = .ok (.invokestatic 210, 3) := dk_184 0 210 (dk_at dksX6_readTerm_0 8 rfl rfl)
theorem dX6_readTerm_11 : decode cX6_readTerm 11 = .ok (.invokevirtual 171, 3) := dk_182 0 171 (dk_at dksX6_readTerm_0 11 rfl rfl)
theorem dX6_readTerm_14 : decode cX6_readTerm 14 = .ok (.ifCond .ne 27, 3) := dk_154 0 27 (dk_at dksX6_readTerm_0 14 rfl rfl)
theorem dX6_readTerm_17 : decode cX6_readTerm 17 = .ok (.aload_n 0, 1) := dk_42 (dk_at dksX6_readTerm_0 17 rfl rfl)
theorem dX6_readTerm_18 : decode cX6_readTerm 18 = .ok (.bipush 47, 2) := dk_16 47 (dk_at dksX6_readTerm_0 18 rfl rfl)
theorem dX6_readTerm_20 : decode cX6_readTerm 20 = .ok (.invokestatic 210, 3) := dk_184 0 210 (dk_at dksX6_readTerm_0 20 rfl rfl)
theorem dX6_readTerm_23 : decode cX6_readTerm 23 = .ok (.invokevirtual 171, 3) := dk_182 0 171 (dk_at dksX6_readTerm_1 0 rfl rfl)
theorem dX6_readTerm_26 : decode cX6_readTerm 26 = .ok (.ifCond .ne 15, 3) := dk_154 0 15 (dk_at dksX6_readTerm_1 3 rfl rfl)
theorem dX6_readTerm_29 : decode cX6_readTerm 29 = .ok (.aload_n 0, 1) := dk_42 (dk_at dksX6_readTerm_1 6 rfl rfl)
theorem dX6_readTerm_30 : decode cX6_readTerm 30 = .ok (.bipush 37, 2) := dk_16 37 (dk_at dksX6_readTerm_1 7 rfl rfl)
theorem dX6_readTerm_32 : decode cX6_readTerm 32 = .ok (.invokestatic 210, 3) := dk_184 0 210 (dk_at dksX6_readTerm_1 9 rfl rfl)
theorem dX6_readTerm_35 : decode cX6_readTerm 35 = .ok (.invokevirtual 171, 3) := dk_182 0 171 (dk_at dksX6_readTerm_1 12 rfl rfl)
theorem dX6_readTerm_38 : decode cX6_readTerm 38 = .ok (.ifCond .eq 11, 3) := dk_153 0 11 (dk_at dksX6_readTerm_1 15 rfl rfl)
theorem dX6_readTerm_41 : decode cX6_readTerm 41 = .ok (.aload_n 0, 1) := dk_42 (dk_at dksX6_readTerm_1 18 rfl rfl)
theorem dX6_readTerm_42 : decode cX6_readTerm 42 = .ok (.iload_n 1, 1) := dk_27 (dk_at dksX6_readTerm_1 19 rfl rfl)
theorem dX6_readTerm_43 : decode cX6_readTerm 43 = .ok (.invokevirtual 217, 3) := dk_182 0 217 (dk_at dksX6_readTerm_1 20 rfl rfl)
theorem dX6_readTerm_46 : decode cX6_readTerm 46 = .ok (.goto (-41), 3) := dk_167 255 215 (dk_at dksX6_readTerm_2 0 rfl rfl)
theorem dX6_readTerm_49 : decode cX6_readTerm 49 = .ok (.return_, 1) := dk_177 (dk_at dksX6_readTerm_2 3 rfl rfl)
abbrev cX6_readPart : ByteArray := prog_29_method_49_code
def yX6_readPart : MethodName := ⟨RX6, "readPart", "(I)V"⟩
def dkwX6_readPart_5 : List UInt8 := [159, 0, 9, 28, 16, 25, 160, 0, 17, 42, 3, 16, 9, 182, 0, 190, 167, 0, 7, 42, 182, 0, 174, 177]
abbrev dktX6_readPart_5 : List UInt8 := dkwX6_readPart_5 ++ []
def dkwX6_readPart_4 : List UInt8 := [28, 42, 180, 0, 220, 161, 0, 37, 28, 42, 180, 0, 223, 163, 0, 29, 42, 182, 0, 226, 28, 16, 24]
abbrev dktX6_readPart_4 : List UInt8 := dkwX6_readPart_4 ++ dktX6_readPart_5
def dkwX6_readPart_3 : List UInt8 := [167, 0, 70, 28, 16, 50, 160, 0, 18, 42, 180, 0, 53, 42, 180, 0, 168, 46, 17, 3, 232, 164, 0, 19]
abbrev dktX6_readPart_3 : List UInt8 := dkwX6_readPart_3 ++ dktX6_readPart_4
def dkwX6_readPart_2 : List UInt8 := [180, 0, 168, 4, 96, 181, 0, 168, 42, 27, 4, 96, 182, 0, 180, 42, 16, 93, 184, 0, 210, 182, 0, 184]
abbrev dktX6_readPart_2 : List UInt8 := dkwX6_readPart_2 ++ dktX6_readPart_3
def dkwX6_readPart_1 : List UInt8 := [160, 0, 50, 27, 16, 8, 160, 0, 7, 42, 182, 0, 174, 42, 182, 0, 164, 154, 0, 4, 177, 42, 89]
abbrev dktX6_readPart_1 : List UInt8 := dkwX6_readPart_1 ++ dktX6_readPart_2
def dkwX6_readPart_0 : List UInt8 := [42, 182, 0, 164, 154, 0, 4, 177, 42, 180, 0, 50, 42, 180, 0, 168, 46, 61, 28, 16, 91, 184, 0, 210]
abbrev dktX6_readPart_0 : List UInt8 := dkwX6_readPart_0 ++ dktX6_readPart_1
theorem dksX6_readPart_0 : cX6_readPart.data.toList.drop 0 = dktX6_readPart_0 := by decide +kernel
theorem dksX6_readPart_1 : cX6_readPart.data.toList.drop 24 = dktX6_readPart_1 := dk_seg dksX6_readPart_0 24 rfl rfl
theorem dksX6_readPart_2 : cX6_readPart.data.toList.drop 47 = dktX6_readPart_2 := dk_seg dksX6_readPart_1 23 rfl rfl
theorem dksX6_readPart_3 : cX6_readPart.data.toList.drop 71 = dktX6_readPart_3 := dk_seg dksX6_readPart_2 24 rfl rfl
theorem dksX6_readPart_4 : cX6_readPart.data.toList.drop 95 = dktX6_readPart_4 := dk_seg dksX6_readPart_3 24 rfl rfl
theorem dksX6_readPart_5 : cX6_readPart.data.toList.drop 118 = dktX6_readPart_5 := dk_seg dksX6_readPart_4 23 rfl rfl
theorem dX6_readPart_0 : decode cX6_readPart 0 = .ok (.aload_n 0, 1) := dk_42 (dk_at dksX6_readPart_0 0 rfl rfl)
theorem dX6_readPart_1 : decode cX6_readPart 1 = .ok (.invokevirtual 164, 3) := dk_182 0 164 (dk_at dksX6_readPart_0 1 rfl rfl)
theorem dX6_readPart_4 : decode cX6_readPart 4 = .ok (.ifCond .ne 4, 3) := dk_154 0 4 (dk_at dksX6_readPart_0 4 rfl rfl)
theorem dX6_readPart_7 : decode cX6_readPart 7 = .ok (.return_, 1) := dk_177 (dk_at dksX6_readPart_0 7 rfl rfl)
theorem dX6_readPart_8 : decode cX6_readPart 8 = .ok (.aload_n 0, 1) := dk_42 (dk_at dksX6_readPart_0 8 rfl rfl)
theorem dX6_readPart_9 : decode cX6_readPart 9 = .ok (.getfield 50, 3) := dk_180 0 50 (dk_at dksX6_readPart_0 9 rfl rfl)
theorem dX6_readPart_12 : decode cX6_readPart 12 = .ok (.aload_n 0, 1) := dk_42 (dk_at dksX6_readPart_0 12 rfl rfl)
theorem dX6_readPart_13 : decode cX6_readPart 13 = .ok (.getfield 168, 3) := dk_180 0 168 (dk_at dksX6_readPart_0 13 rfl rfl)
theorem dX6_readPart_16 : decode cX6_readPart 16 = .ok (.iaload, 1) := dk_46 (dk_at dksX6_readPart_0 16 rfl rfl)
theorem dX6_readPart_17 : decode cX6_readPart 17 = .ok (.istore_n 2, 1) := dk_61 (dk_at dksX6_readPart_0 17 rfl rfl)
theorem dX6_readPart_18 : decode cX6_readPart 18 = .ok (.iload_n 2, 1) := dk_28 (dk_at dksX6_readPart_0 18 rfl rfl)
theorem dX6_readPart_19 : decode cX6_readPart 19 = .ok (.bipush 91, 2) := dk_16 91 (dk_at dksX6_readPart_0 19 rfl rfl)
theorem dX6_readPart_21 : decode cX6_readPart 21 = .ok (.invokestatic 210, 3) := dk_184 0 210 (dk_at dksX6_readPart_0 21 rfl rfl)
theorem dX6_readPart_24 : decode cX6_readPart 24 = .ok (.if_icmp .ne 50, 3) := dk_160 0 50 (dk_at dksX6_readPart_1 0 rfl rfl)
theorem dX6_readPart_27 : decode cX6_readPart 27 = .ok (.iload_n 1, 1) := dk_27 (dk_at dksX6_readPart_1 3 rfl rfl)
theorem dX6_readPart_28 : decode cX6_readPart 28 = .ok (.bipush 8, 2) := dk_16 8 (dk_at dksX6_readPart_1 4 rfl rfl)
theorem dX6_readPart_30 : decode cX6_readPart 30 = .ok (.if_icmp .ne 7, 3) := dk_160 0 7 (dk_at dksX6_readPart_1 6 rfl rfl)
theorem dX6_readPart_33 : decode cX6_readPart 33 = .ok (.aload_n 0, 1) := dk_42 (dk_at dksX6_readPart_1 9 rfl rfl)
theorem dX6_readPart_34 : decode cX6_readPart 34 = .ok (.invokevirtual 174, 3) := dk_182 0 174 (dk_at dksX6_readPart_1 10 rfl rfl)
theorem dX6_readPart_37 : decode cX6_readPart 37 = .ok (.aload_n 0, 1) := dk_42 (dk_at dksX6_readPart_1 13 rfl rfl)
theorem dX6_readPart_38 : decode cX6_readPart 38 = .ok (.invokevirtual 164, 3) := dk_182 0 164 (dk_at dksX6_readPart_1 14 rfl rfl)
theorem dX6_readPart_41 : decode cX6_readPart 41 = .ok (.ifCond .ne 4, 3) := dk_154 0 4 (dk_at dksX6_readPart_1 17 rfl rfl)
theorem dX6_readPart_44 : decode cX6_readPart 44 = .ok (.return_, 1) := dk_177 (dk_at dksX6_readPart_1 20 rfl rfl)
theorem dX6_readPart_45 : decode cX6_readPart 45 = .ok (.aload_n 0, 1) := dk_42 (dk_at dksX6_readPart_1 21 rfl rfl)
theorem dX6_readPart_46 : decode cX6_readPart 46 = .ok (.dup, 1) := dk_89 (dk_at dksX6_readPart_1 22 rfl rfl)
theorem dX6_readPart_47 : decode cX6_readPart 47 = .ok (.getfield 168, 3) := dk_180 0 168 (dk_at dksX6_readPart_2 0 rfl rfl)
theorem dX6_readPart_50 : decode cX6_readPart 50 = .ok (.iconst 1, 1) := dk_4 (dk_at dksX6_readPart_2 3 rfl rfl)
theorem dX6_readPart_51 : decode cX6_readPart 51 = .ok (.iadd, 1) := dk_96 (dk_at dksX6_readPart_2 4 rfl rfl)
theorem dX6_readPart_52 : decode cX6_readPart 52 = .ok (.putfield 168, 3) := dk_181 0 168 (dk_at dksX6_readPart_2 5 rfl rfl)
theorem dX6_readPart_55 : decode cX6_readPart 55 = .ok (.aload_n 0, 1) := dk_42 (dk_at dksX6_readPart_2 8 rfl rfl)
theorem dX6_readPart_56 : decode cX6_readPart 56 = .ok (.iload_n 1, 1) := dk_27 (dk_at dksX6_readPart_2 9 rfl rfl)
theorem dX6_readPart_57 : decode cX6_readPart 57 = .ok (.iconst 1, 1) := dk_4 (dk_at dksX6_readPart_2 10 rfl rfl)
theorem dX6_readPart_58 : decode cX6_readPart 58 = .ok (.iadd, 1) := dk_96 (dk_at dksX6_readPart_2 11 rfl rfl)
theorem dX6_readPart_59 : decode cX6_readPart 59 = .ok (.invokevirtual 180, 3) := dk_182 0 180 (dk_at dksX6_readPart_2 12 rfl rfl)
theorem dX6_readPart_62 : decode cX6_readPart 62 = .ok (.aload_n 0, 1) := dk_42 (dk_at dksX6_readPart_2 15 rfl rfl)
theorem dX6_readPart_63 : decode cX6_readPart 63 = .ok (.bipush 93, 2) := dk_16 93 (dk_at dksX6_readPart_2 16 rfl rfl)
theorem dX6_readPart_65 : decode cX6_readPart 65 = .ok (.invokestatic 210, 3) := dk_184 0 210 (dk_at dksX6_readPart_2 18 rfl rfl)
theorem dX6_readPart_68 : decode cX6_readPart 68 = .ok (.invokevirtual 184, 3) := dk_182 0 184 (dk_at dksX6_readPart_2 21 rfl rfl)
theorem dX6_readPart_71 : decode cX6_readPart 71 = .ok (.goto 70, 3) := dk_167 0 70 (dk_at dksX6_readPart_3 0 rfl rfl)
theorem dX6_readPart_74 : decode cX6_readPart 74 = .ok (.iload_n 2, 1) := dk_28 (dk_at dksX6_readPart_3 3 rfl rfl)
theorem dX6_readPart_75 : decode cX6_readPart 75 = .ok (.bipush 50, 2) := dk_16 50 (dk_at dksX6_readPart_3 4 rfl rfl)
theorem dX6_readPart_77 : decode cX6_readPart 77 = .ok (.if_icmp .ne 18, 3) := dk_160 0 18 (dk_at dksX6_readPart_3 6 rfl rfl)
theorem dX6_readPart_80 : decode cX6_readPart 80 = .ok (.aload_n 0, 1) := dk_42 (dk_at dksX6_readPart_3 9 rfl rfl)
theorem dX6_readPart_81 : decode cX6_readPart 81 = .ok (.getfield 53, 3) := dk_180 0 53 (dk_at dksX6_readPart_3 10 rfl rfl)
theorem dX6_readPart_84 : decode cX6_readPart 84 = .ok (.aload_n 0, 1) := dk_42 (dk_at dksX6_readPart_3 13 rfl rfl)
theorem dX6_readPart_85 : decode cX6_readPart 85 = .ok (.getfield 168, 3) := dk_180 0 168 (dk_at dksX6_readPart_3 14 rfl rfl)
theorem dX6_readPart_88 : decode cX6_readPart 88 = .ok (.iaload, 1) := dk_46 (dk_at dksX6_readPart_3 17 rfl rfl)
theorem dX6_readPart_89 : decode cX6_readPart 89 = .ok (.sipush 1000, 3) := dk_17 3 232 (dk_at dksX6_readPart_3 18 rfl rfl)
theorem dX6_readPart_92 : decode cX6_readPart 92 = .ok (.if_icmp .le 19, 3) := dk_164 0 19 (dk_at dksX6_readPart_3 21 rfl rfl)
theorem dX6_readPart_95 : decode cX6_readPart 95 = .ok (.iload_n 2, 1) := dk_28 (dk_at dksX6_readPart_4 0 rfl rfl)
theorem dX6_readPart_96 : decode cX6_readPart 96 = .ok (.aload_n 0, 1) := dk_42 (dk_at dksX6_readPart_4 1 rfl rfl)
theorem dX6_readPart_97 : decode cX6_readPart 97 = .ok (.getfield 220, 3) := dk_180 0 220 (dk_at dksX6_readPart_4 2 rfl rfl)
theorem dX6_readPart_100 : decode cX6_readPart 100 = .ok (.if_icmp .lt 37, 3) := dk_161 0 37 (dk_at dksX6_readPart_4 5 rfl rfl)
theorem dX6_readPart_103 : decode cX6_readPart 103 = .ok (.iload_n 2, 1) := dk_28 (dk_at dksX6_readPart_4 8 rfl rfl)
theorem dX6_readPart_104 : decode cX6_readPart 104 = .ok (.aload_n 0, 1) := dk_42 (dk_at dksX6_readPart_4 9 rfl rfl)
theorem dX6_readPart_105 : decode cX6_readPart 105 = .ok (.getfield 223, 3) := dk_180 0 223 (dk_at dksX6_readPart_4 10 rfl rfl)
theorem dX6_readPart_108 : decode cX6_readPart 108 = .ok (.if_icmp .gt 29, 3) := dk_163 0 29 (dk_at dksX6_readPart_4 13 rfl rfl)
theorem dX6_readPart_111 : decode cX6_readPart 111 = .ok (.aload_n 0, 1) := dk_42 (dk_at dksX6_readPart_4 16 rfl rfl)
theorem dX6_readPart_112 : decode cX6_readPart 112 = .ok (.invokevirtual 226, 3) := dk_182 0 226 (dk_at dksX6_readPart_4 17 rfl rfl)
theorem dX6_readPart_115 : decode cX6_readPart 115 = .ok (.iload_n 2, 1) := dk_28 (dk_at dksX6_readPart_4 20 rfl rfl)
theorem dX6_readPart_116 : decode cX6_readPart 116 = .ok (.bipush 24, 2) := dk_16 24 (dk_at dksX6_readPart_4 21 rfl rfl)
theorem dX6_readPart_118 : decode cX6_readPart 118 = .ok (.if_icmp .eq 9, 3) := dk_159 0 9 (dk_at dksX6_readPart_5 0 rfl rfl)
theorem dX6_readPart_121 : decode cX6_readPart 121 = .ok (.iload_n 2, 1) := dk_28 (dk_at dksX6_readPart_5 3 rfl rfl)
theorem dX6_readPart_122 : decode cX6_readPart 122 = .ok (.bipush 25, 2) := dk_16 25 (dk_at dksX6_readPart_5 4 rfl rfl)
theorem dX6_readPart_124 : decode cX6_readPart 124 = .ok (.if_icmp .ne 17, 3) := dk_160 0 17 (dk_at dksX6_readPart_5 6 rfl rfl)
theorem dX6_readPart_127 : decode cX6_readPart 127 = .ok (.aload_n 0, 1) := dk_42 (dk_at dksX6_readPart_5 9 rfl rfl)
theorem dX6_readPart_128 : decode cX6_readPart 128 = .ok (.iconst 0, 1) := dk_3 (dk_at dksX6_readPart_5 10 rfl rfl)
theorem dX6_readPart_129 : decode cX6_readPart 129 = .ok (.bipush 9, 2) := dk_16 9 (dk_at dksX6_readPart_5 11 rfl rfl)
theorem dX6_readPart_131 : decode cX6_readPart 131 = .ok (.invokevirtual 190, 3) := dk_182 0 190 (dk_at dksX6_readPart_5 13 rfl rfl)
theorem dX6_readPart_134 : decode cX6_readPart 134 = .ok (.goto 7, 3) := dk_167 0 7 (dk_at dksX6_readPart_5 16 rfl rfl)
theorem dX6_readPart_137 : decode cX6_readPart 137 = .ok (.aload_n 0, 1) := dk_42 (dk_at dksX6_readPart_5 19 rfl rfl)
theorem dX6_readPart_138 : decode cX6_readPart 138 = .ok (.invokevirtual 174, 3) := dk_182 0 174 (dk_at dksX6_readPart_5 20 rfl rfl)
theorem dX6_readPart_141 : decode cX6_readPart 141 = .ok (.return_, 1) := dk_177 (dk_at dksX6_readPart_5 23 rfl rfl)
abbrev cX6_sign : ByteArray := prog_29_method_39_code
def yX6_sign : MethodName := ⟨RX6, "sign", "(C)I"⟩
def dkwX6_sign_0 : List UInt8 := [16, 100, 26, 96, 172]
abbrev dktX6_sign_0 : List UInt8 := dkwX6_sign_0 ++ []
theorem dksX6_sign_0 : cX6_sign.data.toList.drop 0 = dktX6_sign_0 := by decide +kernel
theorem dX6_sign_0 : decode cX6_sign 0 = .ok (.bipush 100, 2) := dk_16 100 (dk_at dksX6_sign_0 0 rfl rfl)
theorem dX6_sign_2 : decode cX6_sign 2 = .ok (.iload_n 0, 1) := dk_26 (dk_at dksX6_sign_0 2 rfl rfl)
theorem dX6_sign_3 : decode cX6_sign 3 = .ok (.iadd, 1) := dk_96 (dk_at dksX6_sign_0 3 rfl rfl)
theorem dX6_sign_4 : decode cX6_sign 4 = .ok (.ireturn, 1) := dk_172 (dk_at dksX6_sign_0 4 rfl rfl)
abbrev cX6_faults : ByteArray := prog_29_method_35_code
def yX6_faults : MethodName := ⟨RX6, "faults", "()V"⟩
def dkwX6_faults_0 : List UInt8 := [42, 182, 0, 164, 153, 0, 16, 42, 42, 180, 0, 56, 42, 180, 0, 168, 46, 181, 0, 161, 177]
abbrev dktX6_faults_0 : List UInt8 := dkwX6_faults_0 ++ []
theorem dksX6_faults_0 : cX6_faults.data.toList.drop 0 = dktX6_faults_0 := by decide +kernel
theorem dX6_faults_0 : decode cX6_faults 0 = .ok (.aload_n 0, 1) := dk_42 (dk_at dksX6_faults_0 0 rfl rfl)
theorem dX6_faults_1 : decode cX6_faults 1 = .ok (.invokevirtual 164, 3) := dk_182 0 164 (dk_at dksX6_faults_0 1 rfl rfl)
theorem dX6_faults_4 : decode cX6_faults 4 = .ok (.ifCond .eq 16, 3) := dk_153 0 16 (dk_at dksX6_faults_0 4 rfl rfl)
theorem dX6_faults_7 : decode cX6_faults 7 = .ok (.aload_n 0, 1) := dk_42 (dk_at dksX6_faults_0 7 rfl rfl)
theorem dX6_faults_8 : decode cX6_faults 8 = .ok (.aload_n 0, 1) := dk_42 (dk_at dksX6_faults_0 8 rfl rfl)
theorem dX6_faults_9 : decode cX6_faults 9 = .ok (.getfield 56, 3) := dk_180 0 56 (dk_at dksX6_faults_0 9 rfl rfl)
theorem dX6_faults_12 : decode cX6_faults 12 = .ok (.aload_n 0, 1) := dk_42 (dk_at dksX6_faults_0 12 rfl rfl)
theorem dX6_faults_13 : decode cX6_faults 13 = .ok (.getfield 168, 3) := dk_180 0 168 (dk_at dksX6_faults_0 13 rfl rfl)
theorem dX6_faults_16 : decode cX6_faults 16 = .ok (.iaload, 1) := dk_46 (dk_at dksX6_faults_0 16 rfl rfl)
theorem dX6_faults_17 : decode cX6_faults 17 = .ok (.putfield 161, 3) := dk_181 0 161 (dk_at dksX6_faults_0 17 rfl rfl)
theorem dX6_faults_20 : decode cX6_faults 20 = .ok (.return_, 1) := dk_177 (dk_at dksX6_faults_0 20 rfl rfl)
abbrev cX6_must : ByteArray := prog_29_method_37_code
def yX6_must : MethodName := ⟨RX6, "must", "(I)V"⟩
def dkwX6_must_0 : List UInt8 := [42, 27, 182, 0, 171, 154, 0, 7, 42, 182, 0, 174, 177]
abbrev dktX6_must_0 : List UInt8 := dkwX6_must_0 ++ []
theorem dksX6_must_0 : cX6_must.data.toList.drop 0 = dktX6_must_0 := by decide +kernel
theorem dX6_must_0 : decode cX6_must 0 = .ok (.aload_n 0, 1) := dk_42 (dk_at dksX6_must_0 0 rfl rfl)
theorem dX6_must_1 : decode cX6_must 1 = .ok (.iload_n 1, 1) := dk_27 (dk_at dksX6_must_0 1 rfl rfl)
theorem dX6_must_2 : decode cX6_must 2 = .ok (.invokevirtual 171, 3) := dk_182 0 171 (dk_at dksX6_must_0 2 rfl rfl)
theorem dX6_must_5 : decode cX6_must 5 = .ok (.ifCond .ne 7, 3) := dk_154 0 7 (dk_at dksX6_must_0 5 rfl rfl)
theorem dX6_must_8 : decode cX6_must 8 = .ok (.aload_n 0, 1) := dk_42 (dk_at dksX6_must_0 8 rfl rfl)
theorem dX6_must_9 : decode cX6_must 9 = .ok (.invokevirtual 174, 3) := dk_182 0 174 (dk_at dksX6_must_0 9 rfl rfl)
theorem dX6_must_12 : decode cX6_must 12 = .ok (.return_, 1) := dk_177 (dk_at dksX6_must_0 12 rfl rfl)
abbrev cX6_leaf : ByteArray := prog_29_method_38_code
def yX6_leaf : MethodName := ⟨RX6, "leaf", "()V"⟩
def dkwX6_leaf_1 : List UInt8 := [182, 0, 164, 153, 0, 13, 42, 89, 180, 0, 168, 4, 96, 181, 0, 168, 177]
abbrev dktX6_leaf_1 : List UInt8 := dkwX6_leaf_1 ++ []
def dkwX6_leaf_0 : List UInt8 := [42, 180, 0, 177, 16, 50, 160, 0, 7, 42, 182, 0, 174, 42, 89, 180, 0, 177, 4, 96, 181, 0, 177, 42]
abbrev dktX6_leaf_0 : List UInt8 := dkwX6_leaf_0 ++ dktX6_leaf_1
theorem dksX6_leaf_0 : cX6_leaf.data.toList.drop 0 = dktX6_leaf_0 := by decide +kernel
theorem dksX6_leaf_1 : cX6_leaf.data.toList.drop 24 = dktX6_leaf_1 := dk_seg dksX6_leaf_0 24 rfl rfl
theorem dX6_leaf_0 : decode cX6_leaf 0 = .ok (.aload_n 0, 1) := dk_42 (dk_at dksX6_leaf_0 0 rfl rfl)
theorem dX6_leaf_1 : decode cX6_leaf 1 = .ok (.getfield 177, 3) := dk_180 0 177 (dk_at dksX6_leaf_0 1 rfl rfl)
theorem dX6_leaf_4 : decode cX6_leaf 4 = .ok (.bipush 50, 2) := dk_16 50 (dk_at dksX6_leaf_0 4 rfl rfl)
theorem dX6_leaf_6 : decode cX6_leaf 6 = .ok (.if_icmp .ne 7, 3) := dk_160 0 7 (dk_at dksX6_leaf_0 6 rfl rfl)
theorem dX6_leaf_9 : decode cX6_leaf 9 = .ok (.aload_n 0, 1) := dk_42 (dk_at dksX6_leaf_0 9 rfl rfl)
theorem dX6_leaf_10 : decode cX6_leaf 10 = .ok (.invokevirtual 174, 3) := dk_182 0 174 (dk_at dksX6_leaf_0 10 rfl rfl)
theorem dX6_leaf_13 : decode cX6_leaf 13 = .ok (.aload_n 0, 1) := dk_42 (dk_at dksX6_leaf_0 13 rfl rfl)
theorem dX6_leaf_14 : decode cX6_leaf 14 = .ok (.dup, 1) := dk_89 (dk_at dksX6_leaf_0 14 rfl rfl)
theorem dX6_leaf_15 : decode cX6_leaf 15 = .ok (.getfield 177, 3) := dk_180 0 177 (dk_at dksX6_leaf_0 15 rfl rfl)
theorem dX6_leaf_18 : decode cX6_leaf 18 = .ok (.iconst 1, 1) := dk_4 (dk_at dksX6_leaf_0 18 rfl rfl)
theorem dX6_leaf_19 : decode cX6_leaf 19 = .ok (.iadd, 1) := dk_96 (dk_at dksX6_leaf_0 19 rfl rfl)
theorem dX6_leaf_20 : decode cX6_leaf 20 = .ok (.putfield 177, 3) := dk_181 0 177 (dk_at dksX6_leaf_0 20 rfl rfl)
theorem dX6_leaf_23 : decode cX6_leaf 23 = .ok (.aload_n 0, 1) := dk_42 (dk_at dksX6_leaf_0 23 rfl rfl)
theorem dX6_leaf_24 : decode cX6_leaf 24 = .ok (.invokevirtual 164, 3) := dk_182 0 164 (dk_at dksX6_leaf_1 0 rfl rfl)
theorem dX6_leaf_27 : decode cX6_leaf 27 = .ok (.ifCond .eq 13, 3) := dk_153 0 13 (dk_at dksX6_leaf_1 3 rfl rfl)
theorem dX6_leaf_30 : decode cX6_leaf 30 = .ok (.aload_n 0, 1) := dk_42 (dk_at dksX6_leaf_1 6 rfl rfl)
theorem dX6_leaf_31 : decode cX6_leaf 31 = .ok (.dup, 1) := dk_89 (dk_at dksX6_leaf_1 7 rfl rfl)
theorem dX6_leaf_32 : decode cX6_leaf 32 = .ok (.getfield 168, 3) := dk_180 0 168 (dk_at dksX6_leaf_1 8 rfl rfl)
theorem dX6_leaf_35 : decode cX6_leaf 35 = .ok (.iconst 1, 1) := dk_4 (dk_at dksX6_leaf_1 11 rfl rfl)
theorem dX6_leaf_36 : decode cX6_leaf 36 = .ok (.iadd, 1) := dk_96 (dk_at dksX6_leaf_1 12 rfl rfl)
theorem dX6_leaf_37 : decode cX6_leaf 37 = .ok (.putfield 168, 3) := dk_181 0 168 (dk_at dksX6_leaf_1 13 rfl rfl)
theorem dX6_leaf_40 : decode cX6_leaf 40 = .ok (.return_, 1) := dk_177 (dk_at dksX6_leaf_1 16 rfl rfl)
abbrev cX6_mustNumber : ByteArray := prog_29_method_40_code
def yX6_mustNumber : MethodName := ⟨RX6, "mustNumber", "(II)V"⟩
def dkwX6_mustNumber_2 : List UInt8 := [153, 0, 13, 42, 89, 180, 0, 168, 4, 96, 181, 0, 168, 177]
abbrev dktX6_mustNumber_2 : List UInt8 := dkwX6_mustNumber_2 ++ []
def dkwX6_mustNumber_1 : List UInt8 := [180, 0, 53, 42, 180, 0, 168, 46, 27, 28, 184, 0, 106, 154, 0, 7, 42, 182, 0, 174, 42, 182, 0, 164]
abbrev dktX6_mustNumber_1 : List UInt8 := dkwX6_mustNumber_1 ++ dktX6_mustNumber_2
def dkwX6_mustNumber_0 : List UInt8 := [42, 182, 0, 164, 153, 0, 38, 42, 180, 0, 50, 42, 180, 0, 168, 46, 16, 50, 160, 0, 20, 42]
abbrev dktX6_mustNumber_0 : List UInt8 := dkwX6_mustNumber_0 ++ dktX6_mustNumber_1
theorem dksX6_mustNumber_0 : cX6_mustNumber.data.toList.drop 0 = dktX6_mustNumber_0 := by decide +kernel
theorem dksX6_mustNumber_1 : cX6_mustNumber.data.toList.drop 22 = dktX6_mustNumber_1 := dk_seg dksX6_mustNumber_0 22 rfl rfl
theorem dksX6_mustNumber_2 : cX6_mustNumber.data.toList.drop 46 = dktX6_mustNumber_2 := dk_seg dksX6_mustNumber_1 24 rfl rfl
theorem dX6_mustNumber_0 : decode cX6_mustNumber 0 = .ok (.aload_n 0, 1) := dk_42 (dk_at dksX6_mustNumber_0 0 rfl rfl)
theorem dX6_mustNumber_1 : decode cX6_mustNumber 1 = .ok (.invokevirtual 164, 3) := dk_182 0 164 (dk_at dksX6_mustNumber_0 1 rfl rfl)
theorem dX6_mustNumber_4 : decode cX6_mustNumber 4 = .ok (.ifCond .eq 38, 3) := dk_153 0 38 (dk_at dksX6_mustNumber_0 4 rfl rfl)
theorem dX6_mustNumber_7 : decode cX6_mustNumber 7 = .ok (.aload_n 0, 1) := dk_42 (dk_at dksX6_mustNumber_0 7 rfl rfl)
theorem dX6_mustNumber_8 : decode cX6_mustNumber 8 = .ok (.getfield 50, 3) := dk_180 0 50 (dk_at dksX6_mustNumber_0 8 rfl rfl)
theorem dX6_mustNumber_11 : decode cX6_mustNumber 11 = .ok (.aload_n 0, 1) := dk_42 (dk_at dksX6_mustNumber_0 11 rfl rfl)
theorem dX6_mustNumber_12 : decode cX6_mustNumber 12 = .ok (.getfield 168, 3) := dk_180 0 168 (dk_at dksX6_mustNumber_0 12 rfl rfl)
theorem dX6_mustNumber_15 : decode cX6_mustNumber 15 = .ok (.iaload, 1) := dk_46 (dk_at dksX6_mustNumber_0 15 rfl rfl)
theorem dX6_mustNumber_16 : decode cX6_mustNumber 16 = .ok (.bipush 50, 2) := dk_16 50 (dk_at dksX6_mustNumber_0 16 rfl rfl)
theorem dX6_mustNumber_18 : decode cX6_mustNumber 18 = .ok (.if_icmp .ne 20, 3) := dk_160 0 20 (dk_at dksX6_mustNumber_0 18 rfl rfl)
theorem dX6_mustNumber_21 : decode cX6_mustNumber 21 = .ok (.aload_n 0, 1) := dk_42 (dk_at dksX6_mustNumber_0 21 rfl rfl)
theorem dX6_mustNumber_22 : decode cX6_mustNumber 22 = .ok (.getfield 53, 3) := dk_180 0 53 (dk_at dksX6_mustNumber_1 0 rfl rfl)
theorem dX6_mustNumber_25 : decode cX6_mustNumber 25 = .ok (.aload_n 0, 1) := dk_42 (dk_at dksX6_mustNumber_1 3 rfl rfl)
theorem dX6_mustNumber_26 : decode cX6_mustNumber 26 = .ok (.getfield 168, 3) := dk_180 0 168 (dk_at dksX6_mustNumber_1 4 rfl rfl)
theorem dX6_mustNumber_29 : decode cX6_mustNumber 29 = .ok (.iaload, 1) := dk_46 (dk_at dksX6_mustNumber_1 7 rfl rfl)
theorem dX6_mustNumber_30 : decode cX6_mustNumber 30 = .ok (.iload_n 1, 1) := dk_27 (dk_at dksX6_mustNumber_1 8 rfl rfl)
theorem dX6_mustNumber_31 : decode cX6_mustNumber 31 = .ok (.iload_n 2, 1) := dk_28 (dk_at dksX6_mustNumber_1 9 rfl rfl)
theorem dX6_mustNumber_32 : decode cX6_mustNumber 32 = .ok (.invokestatic 106, 3) := dk_184 0 106 (dk_at dksX6_mustNumber_1 10 rfl rfl)
theorem dX6_mustNumber_35 : decode cX6_mustNumber 35 = .ok (.ifCond .ne 7, 3) := dk_154 0 7 (dk_at dksX6_mustNumber_1 13 rfl rfl)
theorem dX6_mustNumber_38 : decode cX6_mustNumber 38 = .ok (.aload_n 0, 1) := dk_42 (dk_at dksX6_mustNumber_1 16 rfl rfl)
theorem dX6_mustNumber_39 : decode cX6_mustNumber 39 = .ok (.invokevirtual 174, 3) := dk_182 0 174 (dk_at dksX6_mustNumber_1 17 rfl rfl)
theorem dX6_mustNumber_42 : decode cX6_mustNumber 42 = .ok (.aload_n 0, 1) := dk_42 (dk_at dksX6_mustNumber_1 20 rfl rfl)
theorem dX6_mustNumber_43 : decode cX6_mustNumber 43 = .ok (.invokevirtual 164, 3) := dk_182 0 164 (dk_at dksX6_mustNumber_1 21 rfl rfl)
theorem dX6_mustNumber_46 : decode cX6_mustNumber 46 = .ok (.ifCond .eq 13, 3) := dk_153 0 13 (dk_at dksX6_mustNumber_2 0 rfl rfl)
theorem dX6_mustNumber_49 : decode cX6_mustNumber 49 = .ok (.aload_n 0, 1) := dk_42 (dk_at dksX6_mustNumber_2 3 rfl rfl)
theorem dX6_mustNumber_50 : decode cX6_mustNumber 50 = .ok (.dup, 1) := dk_89 (dk_at dksX6_mustNumber_2 4 rfl rfl)
theorem dX6_mustNumber_51 : decode cX6_mustNumber 51 = .ok (.getfield 168, 3) := dk_180 0 168 (dk_at dksX6_mustNumber_2 5 rfl rfl)
theorem dX6_mustNumber_54 : decode cX6_mustNumber 54 = .ok (.iconst 1, 1) := dk_4 (dk_at dksX6_mustNumber_2 8 rfl rfl)
theorem dX6_mustNumber_55 : decode cX6_mustNumber 55 = .ok (.iadd, 1) := dk_96 (dk_at dksX6_mustNumber_2 9 rfl rfl)
theorem dX6_mustNumber_56 : decode cX6_mustNumber 56 = .ok (.putfield 168, 3) := dk_181 0 168 (dk_at dksX6_mustNumber_2 10 rfl rfl)
theorem dX6_mustNumber_59 : decode cX6_mustNumber 59 = .ok (.return_, 1) := dk_177 (dk_at dksX6_mustNumber_2 13 rfl rfl)
abbrev cX6_readTest : ByteArray := prog_29_method_44_code
def yX6_readTest : MethodName := ⟨RX6, "readTest", "(I)V"⟩
def dkwX6_readTest_0 : List UInt8 := [42, 27, 182, 0, 204, 42, 16, 7, 182, 0, 171, 153, 0, 11, 42, 27, 182, 0, 204, 167, 255, 242, 177]
abbrev dktX6_readTest_0 : List UInt8 := dkwX6_readTest_0 ++ []
theorem dksX6_readTest_0 : cX6_readTest.data.toList.drop 0 = dktX6_readTest_0 := by decide +kernel
theorem dX6_readTest_0 : decode cX6_readTest 0 = .ok (.aload_n 0, 1) := dk_42 (dk_at dksX6_readTest_0 0 rfl rfl)
theorem dX6_readTest_1 : decode cX6_readTest 1 = .ok (.iload_n 1, 1) := dk_27 (dk_at dksX6_readTest_0 1 rfl rfl)
theorem dX6_readTest_2 : decode cX6_readTest 2 = .ok (.invokevirtual 204, 3) := dk_182 0 204 (dk_at dksX6_readTest_0 2 rfl rfl)
theorem dX6_readTest_5 : decode cX6_readTest 5 = .ok (.aload_n 0, 1) := dk_42 (dk_at dksX6_readTest_0 5 rfl rfl)
theorem dX6_readTest_6 : decode cX6_readTest 6 = .ok (.bipush 7, 2) := dk_16 7 (dk_at dksX6_readTest_0 6 rfl rfl)
theorem dX6_readTest_8 : decode cX6_readTest 8 = .ok (.invokevirtual 171, 3) := dk_182 0 171 (dk_at dksX6_readTest_0 8 rfl rfl)
theorem dX6_readTest_11 : decode cX6_readTest 11 = .ok (.ifCond .eq 11, 3) := dk_153 0 11 (dk_at dksX6_readTest_0 11 rfl rfl)
theorem dX6_readTest_14 : decode cX6_readTest 14 = .ok (.aload_n 0, 1) := dk_42 (dk_at dksX6_readTest_0 14 rfl rfl)
theorem dX6_readTest_15 : decode cX6_readTest 15 = .ok (.iload_n 1, 1) := dk_27 (dk_at dksX6_readTest_0 15 rfl rfl)
theorem dX6_readTest_16 : decode cX6_readTest 16 = .ok (.invokevirtual 204, 3) := dk_182 0 204 (dk_at dksX6_readTest_0 16 rfl rfl)
theorem dX6_readTest_19 : decode cX6_readTest 19 = .ok (.goto (-14), 3) := dk_167 255 242 (dk_at dksX6_readTest_0 19 rfl rfl)
theorem dX6_readTest_22 : decode cX6_readTest 22 = .ok (.return_, 1) := dk_177 (dk_at dksX6_readTest_0 22 rfl rfl)
abbrev cX6_readBoth : ByteArray := prog_29_method_45_code
def yX6_readBoth : MethodName := ⟨RX6, "readBoth", "(I)V"⟩
def dkwX6_readBoth_0 : List UInt8 := [42, 27, 182, 0, 207, 42, 16, 8, 182, 0, 171, 153, 0, 11, 42, 27, 182, 0, 207, 167, 255, 242, 177]
abbrev dktX6_readBoth_0 : List UInt8 := dkwX6_readBoth_0 ++ []
theorem dksX6_readBoth_0 : cX6_readBoth.data.toList.drop 0 = dktX6_readBoth_0 := by decide +kernel
theorem dX6_readBoth_0 : decode cX6_readBoth 0 = .ok (.aload_n 0, 1) := dk_42 (dk_at dksX6_readBoth_0 0 rfl rfl)
theorem dX6_readBoth_1 : decode cX6_readBoth 1 = .ok (.iload_n 1, 1) := dk_27 (dk_at dksX6_readBoth_0 1 rfl rfl)
theorem dX6_readBoth_2 : decode cX6_readBoth 2 = .ok (.invokevirtual 207, 3) := dk_182 0 207 (dk_at dksX6_readBoth_0 2 rfl rfl)
theorem dX6_readBoth_5 : decode cX6_readBoth 5 = .ok (.aload_n 0, 1) := dk_42 (dk_at dksX6_readBoth_0 5 rfl rfl)
theorem dX6_readBoth_6 : decode cX6_readBoth 6 = .ok (.bipush 8, 2) := dk_16 8 (dk_at dksX6_readBoth_0 6 rfl rfl)
theorem dX6_readBoth_8 : decode cX6_readBoth 8 = .ok (.invokevirtual 171, 3) := dk_182 0 171 (dk_at dksX6_readBoth_0 8 rfl rfl)
theorem dX6_readBoth_11 : decode cX6_readBoth 11 = .ok (.ifCond .eq 11, 3) := dk_153 0 11 (dk_at dksX6_readBoth_0 11 rfl rfl)
theorem dX6_readBoth_14 : decode cX6_readBoth 14 = .ok (.aload_n 0, 1) := dk_42 (dk_at dksX6_readBoth_0 14 rfl rfl)
theorem dX6_readBoth_15 : decode cX6_readBoth 15 = .ok (.iload_n 1, 1) := dk_27 (dk_at dksX6_readBoth_0 15 rfl rfl)
theorem dX6_readBoth_16 : decode cX6_readBoth 16 = .ok (.invokevirtual 207, 3) := dk_182 0 207 (dk_at dksX6_readBoth_0 16 rfl rfl)
theorem dX6_readBoth_19 : decode cX6_readBoth 19 = .ok (.goto (-14), 3) := dk_167 255 242 (dk_at dksX6_readBoth_0 19 rfl rfl)
theorem dX6_readBoth_22 : decode cX6_readBoth 22 = .ok (.return_, 1) := dk_177 (dk_at dksX6_readBoth_0 22 rfl rfl)
abbrev cX6_readPlain : ByteArray := prog_29_method_46_code
def yX6_readPlain : MethodName := ⟨RX6, "readPlain", "(I)V"⟩
def dkwX6_readPlain_5 : List UInt8 := [154, 0, 12, 42, 16, 61, 184, 0, 210, 182, 0, 184, 42, 27, 182, 0, 180, 177]
abbrev dktX6_readPlain_5 : List UInt8 := dkwX6_readPlain_5 ++ []
def dkwX6_readPlain_4 : List UInt8 := [182, 0, 180, 42, 16, 60, 184, 0, 210, 182, 0, 171, 154, 0, 24, 42, 16, 62, 184, 0, 210, 182, 0, 171]
abbrev dktX6_readPlain_4 : List UInt8 := dkwX6_readPlain_4 ++ dktX6_readPlain_5
def dkwX6_readPlain_3 : List UInt8 := [181, 0, 168, 42, 27, 4, 96, 182, 0, 187, 42, 16, 41, 184, 0, 210, 182, 0, 184, 167, 0, 46, 42, 27]
abbrev dktX6_readPlain_3 : List UInt8 := dkwX6_readPlain_3 ++ dktX6_readPlain_4
def dkwX6_readPlain_2 : List UInt8 := [160, 0, 7, 42, 182, 0, 174, 42, 182, 0, 164, 154, 0, 4, 177, 42, 89, 180, 0, 168, 4, 96]
abbrev dktX6_readPlain_2 : List UInt8 := dkwX6_readPlain_2 ++ dktX6_readPlain_3
def dkwX6_readPlain_1 : List UInt8 := [42, 180, 0, 50, 42, 180, 0, 168, 46, 62, 29, 16, 40, 184, 0, 210, 160, 0, 50, 27, 16, 8]
abbrev dktX6_readPlain_1 : List UInt8 := dkwX6_readPlain_1 ++ dktX6_readPlain_2
def dkwX6_readPlain_0 : List UInt8 := [4, 61, 28, 153, 0, 13, 42, 16, 9, 182, 0, 171, 61, 167, 255, 245, 42, 182, 0, 164, 154, 0, 4, 177]
abbrev dktX6_readPlain_0 : List UInt8 := dkwX6_readPlain_0 ++ dktX6_readPlain_1
theorem dksX6_readPlain_0 : cX6_readPlain.data.toList.drop 0 = dktX6_readPlain_0 := by decide +kernel
theorem dksX6_readPlain_1 : cX6_readPlain.data.toList.drop 24 = dktX6_readPlain_1 := dk_seg dksX6_readPlain_0 24 rfl rfl
theorem dksX6_readPlain_2 : cX6_readPlain.data.toList.drop 46 = dktX6_readPlain_2 := dk_seg dksX6_readPlain_1 22 rfl rfl
theorem dksX6_readPlain_3 : cX6_readPlain.data.toList.drop 68 = dktX6_readPlain_3 := dk_seg dksX6_readPlain_2 22 rfl rfl
theorem dksX6_readPlain_4 : cX6_readPlain.data.toList.drop 92 = dktX6_readPlain_4 := dk_seg dksX6_readPlain_3 24 rfl rfl
theorem dksX6_readPlain_5 : cX6_readPlain.data.toList.drop 116 = dktX6_readPlain_5 := dk_seg dksX6_readPlain_4 24 rfl rfl
theorem dX6_readPlain_0 : decode cX6_readPlain 0 = .ok (.iconst 1, 1) := dk_4 (dk_at dksX6_readPlain_0 0 rfl rfl)
theorem dX6_readPlain_1 : decode cX6_readPlain 1 = .ok (.istore_n 2, 1) := dk_61 (dk_at dksX6_readPlain_0 1 rfl rfl)
theorem dX6_readPlain_2 : decode cX6_readPlain 2 = .ok (.iload_n 2, 1) := dk_28 (dk_at dksX6_readPlain_0 2 rfl rfl)
theorem dX6_readPlain_3 : decode cX6_readPlain 3 = .ok (.ifCond .eq 13, 3) := dk_153 0 13 (dk_at dksX6_readPlain_0 3 rfl rfl)
theorem dX6_readPlain_6 : decode cX6_readPlain 6 = .ok (.aload_n 0, 1) := dk_42 (dk_at dksX6_readPlain_0 6 rfl rfl)
theorem dX6_readPlain_7 : decode cX6_readPlain 7 = .ok (.bipush 9, 2) := dk_16 9 (dk_at dksX6_readPlain_0 7 rfl rfl)
theorem dX6_readPlain_9 : decode cX6_readPlain 9 = .ok (.invokevirtual 171, 3) := dk_182 0 171 (dk_at dksX6_readPlain_0 9 rfl rfl)
theorem dX6_readPlain_12 : decode cX6_readPlain 12 = .ok (.istore_n 2, 1) := dk_61 (dk_at dksX6_readPlain_0 12 rfl rfl)
theorem dX6_readPlain_13 : decode cX6_readPlain 13 = .ok (.goto (-11), 3) := dk_167 255 245 (dk_at dksX6_readPlain_0 13 rfl rfl)
theorem dX6_readPlain_16 : decode cX6_readPlain 16 = .ok (.aload_n 0, 1) := dk_42 (dk_at dksX6_readPlain_0 16 rfl rfl)
theorem dX6_readPlain_17 : decode cX6_readPlain 17 = .ok (.invokevirtual 164, 3) := dk_182 0 164 (dk_at dksX6_readPlain_0 17 rfl rfl)
theorem dX6_readPlain_20 : decode cX6_readPlain 20 = .ok (.ifCond .ne 4, 3) := dk_154 0 4 (dk_at dksX6_readPlain_0 20 rfl rfl)
theorem dX6_readPlain_23 : decode cX6_readPlain 23 = .ok (.return_, 1) := dk_177 (dk_at dksX6_readPlain_0 23 rfl rfl)
theorem dX6_readPlain_24 : decode cX6_readPlain 24 = .ok (.aload_n 0, 1) := dk_42 (dk_at dksX6_readPlain_1 0 rfl rfl)
theorem dX6_readPlain_25 : decode cX6_readPlain 25 = .ok (.getfield 50, 3) := dk_180 0 50 (dk_at dksX6_readPlain_1 1 rfl rfl)
theorem dX6_readPlain_28 : decode cX6_readPlain 28 = .ok (.aload_n 0, 1) := dk_42 (dk_at dksX6_readPlain_1 4 rfl rfl)
theorem dX6_readPlain_29 : decode cX6_readPlain 29 = .ok (.getfield 168, 3) := dk_180 0 168 (dk_at dksX6_readPlain_1 5 rfl rfl)
theorem dX6_readPlain_32 : decode cX6_readPlain 32 = .ok (.iaload, 1) := dk_46 (dk_at dksX6_readPlain_1 8 rfl rfl)
theorem dX6_readPlain_33 : decode cX6_readPlain 33 = .ok (.istore_n 3, 1) := dk_62 (dk_at dksX6_readPlain_1 9 rfl rfl)
theorem dX6_readPlain_34 : decode cX6_readPlain 34 = .ok (.iload_n 3, 1) := dk_29 (dk_at dksX6_readPlain_1 10 rfl rfl)
theorem dX6_readPlain_35 : decode cX6_readPlain 35 = .ok (.bipush 40, 2) := dk_16 40 (dk_at dksX6_readPlain_1 11 rfl rfl)
theorem dX6_readPlain_37 : decode cX6_readPlain 37 = .ok (.invokestatic 210, 3) := dk_184 0 210 (dk_at dksX6_readPlain_1 13 rfl rfl)
theorem dX6_readPlain_40 : decode cX6_readPlain 40 = .ok (.if_icmp .ne 50, 3) := dk_160 0 50 (dk_at dksX6_readPlain_1 16 rfl rfl)
theorem dX6_readPlain_43 : decode cX6_readPlain 43 = .ok (.iload_n 1, 1) := dk_27 (dk_at dksX6_readPlain_1 19 rfl rfl)
theorem dX6_readPlain_44 : decode cX6_readPlain 44 = .ok (.bipush 8, 2) := dk_16 8 (dk_at dksX6_readPlain_1 20 rfl rfl)
theorem dX6_readPlain_46 : decode cX6_readPlain 46 = .ok (.if_icmp .ne 7, 3) := dk_160 0 7 (dk_at dksX6_readPlain_2 0 rfl rfl)
theorem dX6_readPlain_49 : decode cX6_readPlain 49 = .ok (.aload_n 0, 1) := dk_42 (dk_at dksX6_readPlain_2 3 rfl rfl)
theorem dX6_readPlain_50 : decode cX6_readPlain 50 = .ok (.invokevirtual 174, 3) := dk_182 0 174 (dk_at dksX6_readPlain_2 4 rfl rfl)
theorem dX6_readPlain_53 : decode cX6_readPlain 53 = .ok (.aload_n 0, 1) := dk_42 (dk_at dksX6_readPlain_2 7 rfl rfl)
theorem dX6_readPlain_54 : decode cX6_readPlain 54 = .ok (.invokevirtual 164, 3) := dk_182 0 164 (dk_at dksX6_readPlain_2 8 rfl rfl)
theorem dX6_readPlain_57 : decode cX6_readPlain 57 = .ok (.ifCond .ne 4, 3) := dk_154 0 4 (dk_at dksX6_readPlain_2 11 rfl rfl)
theorem dX6_readPlain_60 : decode cX6_readPlain 60 = .ok (.return_, 1) := dk_177 (dk_at dksX6_readPlain_2 14 rfl rfl)
theorem dX6_readPlain_61 : decode cX6_readPlain 61 = .ok (.aload_n 0, 1) := dk_42 (dk_at dksX6_readPlain_2 15 rfl rfl)
theorem dX6_readPlain_62 : decode cX6_readPlain 62 = .ok (.dup, 1) := dk_89 (dk_at dksX6_readPlain_2 16 rfl rfl)
theorem dX6_readPlain_63 : decode cX6_readPlain 63 = .ok (.getfield 168, 3) := dk_180 0 168 (dk_at dksX6_readPlain_2 17 rfl rfl)
theorem dX6_readPlain_66 : decode cX6_readPlain 66 = .ok (.iconst 1, 1) := dk_4 (dk_at dksX6_readPlain_2 20 rfl rfl)
theorem dX6_readPlain_67 : decode cX6_readPlain 67 = .ok (.iadd, 1) := dk_96 (dk_at dksX6_readPlain_2 21 rfl rfl)
theorem dX6_readPlain_68 : decode cX6_readPlain 68 = .ok (.putfield 168, 3) := dk_181 0 168 (dk_at dksX6_readPlain_3 0 rfl rfl)
theorem dX6_readPlain_71 : decode cX6_readPlain 71 = .ok (.aload_n 0, 1) := dk_42 (dk_at dksX6_readPlain_3 3 rfl rfl)
theorem dX6_readPlain_72 : decode cX6_readPlain 72 = .ok (.iload_n 1, 1) := dk_27 (dk_at dksX6_readPlain_3 4 rfl rfl)
theorem dX6_readPlain_73 : decode cX6_readPlain 73 = .ok (.iconst 1, 1) := dk_4 (dk_at dksX6_readPlain_3 5 rfl rfl)
theorem dX6_readPlain_74 : decode cX6_readPlain 74 = .ok (.iadd, 1) := dk_96 (dk_at dksX6_readPlain_3 6 rfl rfl)
theorem dX6_readPlain_75 : decode cX6_readPlain 75 = .ok (.invokevirtual 187, 3) := dk_182 0 187 (dk_at dksX6_readPlain_3 7 rfl rfl)
theorem dX6_readPlain_78 : decode cX6_readPlain 78 = .ok (.aload_n 0, 1) := dk_42 (dk_at dksX6_readPlain_3 10 rfl rfl)
theorem dX6_readPlain_79 : decode cX6_readPlain 79 = .ok (.bipush 41, 2) := dk_16 41 (dk_at dksX6_readPlain_3 11 rfl rfl)
theorem dX6_readPlain_81 : decode cX6_readPlain 81 = .ok (.invokestatic 210, 3) := dk_184 0 210 (dk_at dksX6_readPlain_3 13 rfl rfl)
theorem dX6_readPlain_84 : decode cX6_readPlain 84 = .ok (.invokevirtual 184, 3) := dk_182 0 184 (dk_at dksX6_readPlain_3 16 rfl rfl)
theorem dX6_readPlain_87 : decode cX6_readPlain 87 = .ok (.goto 46, 3) := dk_167 0 46 (dk_at dksX6_readPlain_3 19 rfl rfl)
theorem dX6_readPlain_90 : decode cX6_readPlain 90 = .ok (.aload_n 0, 1) := dk_42 (dk_at dksX6_readPlain_3 22 rfl rfl)
theorem dX6_readPlain_91 : decode cX6_readPlain 91 = .ok (.iload_n 1, 1) := dk_27 (dk_at dksX6_readPlain_3 23 rfl rfl)
theorem dX6_readPlain_92 : decode cX6_readPlain 92 = .ok (.invokevirtual 180, 3) := dk_182 0 180 (dk_at dksX6_readPlain_4 0 rfl rfl)
theorem dX6_readPlain_95 : decode cX6_readPlain 95 = .ok (.aload_n 0, 1) := dk_42 (dk_at dksX6_readPlain_4 3 rfl rfl)
theorem dX6_readPlain_96 : decode cX6_readPlain 96 = .ok (.bipush 60, 2) := dk_16 60 (dk_at dksX6_readPlain_4 4 rfl rfl)
theorem dX6_readPlain_98 : decode cX6_readPlain 98 = .ok (.invokestatic 210, 3) := dk_184 0 210 (dk_at dksX6_readPlain_4 6 rfl rfl)
theorem dX6_readPlain_101 : decode cX6_readPlain 101 = .ok (.invokevirtual 171, 3) := dk_182 0 171 (dk_at dksX6_readPlain_4 9 rfl rfl)
theorem dX6_readPlain_104 : decode cX6_readPlain 104 = .ok (.ifCond .ne 24, 3) := dk_154 0 24 (dk_at dksX6_readPlain_4 12 rfl rfl)
theorem dX6_readPlain_107 : decode cX6_readPlain 107 = .ok (.aload_n 0, 1) := dk_42 (dk_at dksX6_readPlain_4 15 rfl rfl)
theorem dX6_readPlain_108 : decode cX6_readPlain 108 = .ok (.bipush 62, 2) := dk_16 62 (dk_at dksX6_readPlain_4 16 rfl rfl)
theorem dX6_readPlain_110 : decode cX6_readPlain 110 = .ok (.invokestatic 210, 3) := dk_184 0 210 (dk_at dksX6_readPlain_4 18 rfl rfl)
theorem dX6_readPlain_113 : decode cX6_readPlain 113 = .ok (.invokevirtual 171, 3) := dk_182 0 171 (dk_at dksX6_readPlain_4 21 rfl rfl)
theorem dX6_readPlain_116 : decode cX6_readPlain 116 = .ok (.ifCond .ne 12, 3) := dk_154 0 12 (dk_at dksX6_readPlain_5 0 rfl rfl)
theorem dX6_readPlain_119 : decode cX6_readPlain 119 = .ok (.aload_n 0, 1) := dk_42 (dk_at dksX6_readPlain_5 3 rfl rfl)
theorem dX6_readPlain_120 : decode cX6_readPlain 120 = .ok (.bipush 61, 2) := dk_16 61 (dk_at dksX6_readPlain_5 4 rfl rfl)
theorem dX6_readPlain_122 : decode cX6_readPlain 122 = .ok (.invokestatic 210, 3) := dk_184 0 210 (dk_at dksX6_readPlain_5 6 rfl rfl)
theorem dX6_readPlain_125 : decode cX6_readPlain 125 = .ok (.invokevirtual 184, 3) := dk_182 0 184 (dk_at dksX6_readPlain_5 9 rfl rfl)
theorem dX6_readPlain_128 : decode cX6_readPlain 128 = .ok (.aload_n 0, 1) := dk_42 (dk_at dksX6_readPlain_5 12 rfl rfl)
theorem dX6_readPlain_129 : decode cX6_readPlain 129 = .ok (.iload_n 1, 1) := dk_27 (dk_at dksX6_readPlain_5 13 rfl rfl)
theorem dX6_readPlain_130 : decode cX6_readPlain 130 = .ok (.invokevirtual 180, 3) := dk_182 0 180 (dk_at dksX6_readPlain_5 14 rfl rfl)
theorem dX6_readPlain_133 : decode cX6_readPlain 133 = .ok (.return_, 1) := dk_177 (dk_at dksX6_readPlain_5 17 rfl rfl)
abbrev cX6_readClause : ByteArray := prog_29_method_41_code
def yX6_readClause : MethodName := ⟨RX6, "readClause", "()V"⟩
def dkwX6_readClause_2 : List UInt8 := [182, 0, 171, 153, 0, 8, 42, 3, 182, 0, 187, 177]
abbrev dktX6_readClause_2 : List UInt8 := dkwX6_readClause_2 ++ []
def dkwX6_readClause_1 : List UInt8 := [42, 7, 182, 0, 171, 153, 0, 11, 42, 3, 182, 0, 180, 167, 0, 8, 42, 8, 182, 0, 184, 42, 16, 6]
abbrev dktX6_readClause_1 : List UInt8 := dkwX6_readClause_1 ++ dktX6_readClause_2
def dkwX6_readClause_0 : List UInt8 := [42, 4, 182, 0, 171, 154, 0, 27, 42, 5, 182, 0, 171, 154, 0, 19, 42, 6, 182, 0, 171, 154, 0, 11]
abbrev dktX6_readClause_0 : List UInt8 := dkwX6_readClause_0 ++ dktX6_readClause_1
theorem dksX6_readClause_0 : cX6_readClause.data.toList.drop 0 = dktX6_readClause_0 := by decide +kernel
theorem dksX6_readClause_1 : cX6_readClause.data.toList.drop 24 = dktX6_readClause_1 := dk_seg dksX6_readClause_0 24 rfl rfl
theorem dksX6_readClause_2 : cX6_readClause.data.toList.drop 48 = dktX6_readClause_2 := dk_seg dksX6_readClause_1 24 rfl rfl
theorem dX6_readClause_0 : decode cX6_readClause 0 = .ok (.aload_n 0, 1) := dk_42 (dk_at dksX6_readClause_0 0 rfl rfl)
theorem dX6_readClause_1 : decode cX6_readClause 1 = .ok (.iconst 1, 1) := dk_4 (dk_at dksX6_readClause_0 1 rfl rfl)
theorem dX6_readClause_2 : decode cX6_readClause 2 = .ok (.invokevirtual 171, 3) := dk_182 0 171 (dk_at dksX6_readClause_0 2 rfl rfl)
theorem dX6_readClause_5 : decode cX6_readClause 5 = .ok (.ifCond .ne 27, 3) := dk_154 0 27 (dk_at dksX6_readClause_0 5 rfl rfl)
theorem dX6_readClause_8 : decode cX6_readClause 8 = .ok (.aload_n 0, 1) := dk_42 (dk_at dksX6_readClause_0 8 rfl rfl)
theorem dX6_readClause_9 : decode cX6_readClause 9 = .ok (.iconst 2, 1) := dk_5 (dk_at dksX6_readClause_0 9 rfl rfl)
theorem dX6_readClause_10 : decode cX6_readClause 10 = .ok (.invokevirtual 171, 3) := dk_182 0 171 (dk_at dksX6_readClause_0 10 rfl rfl)
theorem dX6_readClause_13 : decode cX6_readClause 13 = .ok (.ifCond .ne 19, 3) := dk_154 0 19 (dk_at dksX6_readClause_0 13 rfl rfl)
theorem dX6_readClause_16 : decode cX6_readClause 16 = .ok (.aload_n 0, 1) := dk_42 (dk_at dksX6_readClause_0 16 rfl rfl)
theorem dX6_readClause_17 : decode cX6_readClause 17 = .ok (.iconst 3, 1) := dk_6 (dk_at dksX6_readClause_0 17 rfl rfl)
theorem dX6_readClause_18 : decode cX6_readClause 18 = .ok (.invokevirtual 171, 3) := dk_182 0 171 (dk_at dksX6_readClause_0 18 rfl rfl)
theorem dX6_readClause_21 : decode cX6_readClause 21 = .ok (.ifCond .ne 11, 3) := dk_154 0 11 (dk_at dksX6_readClause_0 21 rfl rfl)
theorem dX6_readClause_24 : decode cX6_readClause 24 = .ok (.aload_n 0, 1) := dk_42 (dk_at dksX6_readClause_1 0 rfl rfl)
theorem dX6_readClause_25 : decode cX6_readClause 25 = .ok (.iconst 4, 1) := dk_7 (dk_at dksX6_readClause_1 1 rfl rfl)
theorem dX6_readClause_26 : decode cX6_readClause 26 = .ok (.invokevirtual 171, 3) := dk_182 0 171 (dk_at dksX6_readClause_1 2 rfl rfl)
theorem dX6_readClause_29 : decode cX6_readClause 29 = .ok (.ifCond .eq 11, 3) := dk_153 0 11 (dk_at dksX6_readClause_1 5 rfl rfl)
theorem dX6_readClause_32 : decode cX6_readClause 32 = .ok (.aload_n 0, 1) := dk_42 (dk_at dksX6_readClause_1 8 rfl rfl)
theorem dX6_readClause_33 : decode cX6_readClause 33 = .ok (.iconst 0, 1) := dk_3 (dk_at dksX6_readClause_1 9 rfl rfl)
theorem dX6_readClause_34 : decode cX6_readClause 34 = .ok (.invokevirtual 180, 3) := dk_182 0 180 (dk_at dksX6_readClause_1 10 rfl rfl)
theorem dX6_readClause_37 : decode cX6_readClause 37 = .ok (.goto 8, 3) := dk_167 0 8 (dk_at dksX6_readClause_1 13 rfl rfl)
theorem dX6_readClause_40 : decode cX6_readClause 40 = .ok (.aload_n 0, 1) := dk_42 (dk_at dksX6_readClause_1 16 rfl rfl)
theorem dX6_readClause_41 : decode cX6_readClause 41 = .ok (.iconst 5, 1) := dk_8 (dk_at dksX6_readClause_1 17 rfl rfl)
theorem dX6_readClause_42 : decode cX6_readClause 42 = .ok (.invokevirtual 184, 3) := dk_182 0 184 (dk_at dksX6_readClause_1 18 rfl rfl)
theorem dX6_readClause_45 : decode cX6_readClause 45 = .ok (.aload_n 0, 1) := dk_42 (dk_at dksX6_readClause_1 21 rfl rfl)
theorem dX6_readClause_46 : decode cX6_readClause 46 = .ok (.bipush 6, 2) := dk_16 6 (dk_at dksX6_readClause_1 22 rfl rfl)
theorem dX6_readClause_48 : decode cX6_readClause 48 = .ok (.invokevirtual 171, 3) := dk_182 0 171 (dk_at dksX6_readClause_2 0 rfl rfl)
theorem dX6_readClause_51 : decode cX6_readClause 51 = .ok (.ifCond .eq 8, 3) := dk_153 0 8 (dk_at dksX6_readClause_2 3 rfl rfl)
theorem dX6_readClause_54 : decode cX6_readClause 54 = .ok (.aload_n 0, 1) := dk_42 (dk_at dksX6_readClause_2 6 rfl rfl)
theorem dX6_readClause_55 : decode cX6_readClause 55 = .ok (.iconst 0, 1) := dk_3 (dk_at dksX6_readClause_2 7 rfl rfl)
theorem dX6_readClause_56 : decode cX6_readClause 56 = .ok (.invokevirtual 187, 3) := dk_182 0 187 (dk_at dksX6_readClause_2 8 rfl rfl)
theorem dX6_readClause_59 : decode cX6_readClause 59 = .ok (.return_, 1) := dk_177 (dk_at dksX6_readClause_2 11 rfl rfl)
abbrev cX6_lays : ByteArray := prog_29_method_52_code
def yX6_lays : MethodName := ⟨RX6, "lays", "(I)V"⟩
def dkwX6_lays_3 : List UInt8 := [167, 255, 201, 177]
abbrev dktX6_lays_3 : List UInt8 := dkwX6_lays_3 ++ []
def dkwX6_lays_2 : List UInt8 := [180, 0, 24, 17, 11, 250, 17, 1, 144, 27, 104, 96, 28, 96, 42, 180, 0, 53, 28, 46, 79, 132, 2, 1]
abbrev dktX6_lays_2 : List UInt8 := dkwX6_lays_2 ++ dktX6_lays_3
def dkwX6_lays_1 : List UInt8 := [42, 180, 0, 24, 17, 1, 10, 17, 1, 144, 27, 104, 96, 28, 96, 42, 180, 0, 50, 28, 46, 79, 42]
abbrev dktX6_lays_1 : List UInt8 := dkwX6_lays_1 ++ dktX6_lays_2
def dkwX6_lays_0 : List UInt8 := [42, 180, 0, 24, 17, 1, 3, 27, 96, 42, 180, 0, 147, 79, 3, 61, 28, 42, 180, 0, 147, 162, 0, 53]
abbrev dktX6_lays_0 : List UInt8 := dkwX6_lays_0 ++ dktX6_lays_1
theorem dksX6_lays_0 : cX6_lays.data.toList.drop 0 = dktX6_lays_0 := by decide +kernel
theorem dksX6_lays_1 : cX6_lays.data.toList.drop 24 = dktX6_lays_1 := dk_seg dksX6_lays_0 24 rfl rfl
theorem dksX6_lays_2 : cX6_lays.data.toList.drop 47 = dktX6_lays_2 := dk_seg dksX6_lays_1 23 rfl rfl
theorem dksX6_lays_3 : cX6_lays.data.toList.drop 71 = dktX6_lays_3 := dk_seg dksX6_lays_2 24 rfl rfl
theorem dX6_lays_0 : decode cX6_lays 0 = .ok (.aload_n 0, 1) := dk_42 (dk_at dksX6_lays_0 0 rfl rfl)
theorem dX6_lays_1 : decode cX6_lays 1 = .ok (.getfield 24, 3) := dk_180 0 24 (dk_at dksX6_lays_0 1 rfl rfl)
theorem dX6_lays_4 : decode cX6_lays 4 = .ok (.sipush 259, 3) := dk_17 1 3 (dk_at dksX6_lays_0 4 rfl rfl)
theorem dX6_lays_7 : decode cX6_lays 7 = .ok (.iload_n 1, 1) := dk_27 (dk_at dksX6_lays_0 7 rfl rfl)
theorem dX6_lays_8 : decode cX6_lays 8 = .ok (.iadd, 1) := dk_96 (dk_at dksX6_lays_0 8 rfl rfl)
theorem dX6_lays_9 : decode cX6_lays 9 = .ok (.aload_n 0, 1) := dk_42 (dk_at dksX6_lays_0 9 rfl rfl)
theorem dX6_lays_10 : decode cX6_lays 10 = .ok (.getfield 147, 3) := dk_180 0 147 (dk_at dksX6_lays_0 10 rfl rfl)
theorem dX6_lays_13 : decode cX6_lays 13 = .ok (.iastore, 1) := dk_79 (dk_at dksX6_lays_0 13 rfl rfl)
theorem dX6_lays_14 : decode cX6_lays 14 = .ok (.iconst 0, 1) := dk_3 (dk_at dksX6_lays_0 14 rfl rfl)
theorem dX6_lays_15 : decode cX6_lays 15 = .ok (.istore_n 2, 1) := dk_61 (dk_at dksX6_lays_0 15 rfl rfl)
theorem dX6_lays_16 : decode cX6_lays 16 = .ok (.iload_n 2, 1) := dk_28 (dk_at dksX6_lays_0 16 rfl rfl)
theorem dX6_lays_17 : decode cX6_lays 17 = .ok (.aload_n 0, 1) := dk_42 (dk_at dksX6_lays_0 17 rfl rfl)
theorem dX6_lays_18 : decode cX6_lays 18 = .ok (.getfield 147, 3) := dk_180 0 147 (dk_at dksX6_lays_0 18 rfl rfl)
theorem dX6_lays_21 : decode cX6_lays 21 = .ok (.if_icmp .ge 53, 3) := dk_162 0 53 (dk_at dksX6_lays_0 21 rfl rfl)
theorem dX6_lays_24 : decode cX6_lays 24 = .ok (.aload_n 0, 1) := dk_42 (dk_at dksX6_lays_1 0 rfl rfl)
theorem dX6_lays_25 : decode cX6_lays 25 = .ok (.getfield 24, 3) := dk_180 0 24 (dk_at dksX6_lays_1 1 rfl rfl)
theorem dX6_lays_28 : decode cX6_lays 28 = .ok (.sipush 266, 3) := dk_17 1 10 (dk_at dksX6_lays_1 4 rfl rfl)
theorem dX6_lays_31 : decode cX6_lays 31 = .ok (.sipush 400, 3) := dk_17 1 144 (dk_at dksX6_lays_1 7 rfl rfl)
theorem dX6_lays_34 : decode cX6_lays 34 = .ok (.iload_n 1, 1) := dk_27 (dk_at dksX6_lays_1 10 rfl rfl)
theorem dX6_lays_35 : decode cX6_lays 35 = .ok (.imul, 1) := dk_104 (dk_at dksX6_lays_1 11 rfl rfl)
theorem dX6_lays_36 : decode cX6_lays 36 = .ok (.iadd, 1) := dk_96 (dk_at dksX6_lays_1 12 rfl rfl)
theorem dX6_lays_37 : decode cX6_lays 37 = .ok (.iload_n 2, 1) := dk_28 (dk_at dksX6_lays_1 13 rfl rfl)
theorem dX6_lays_38 : decode cX6_lays 38 = .ok (.iadd, 1) := dk_96 (dk_at dksX6_lays_1 14 rfl rfl)
theorem dX6_lays_39 : decode cX6_lays 39 = .ok (.aload_n 0, 1) := dk_42 (dk_at dksX6_lays_1 15 rfl rfl)
theorem dX6_lays_40 : decode cX6_lays 40 = .ok (.getfield 50, 3) := dk_180 0 50 (dk_at dksX6_lays_1 16 rfl rfl)
theorem dX6_lays_43 : decode cX6_lays 43 = .ok (.iload_n 2, 1) := dk_28 (dk_at dksX6_lays_1 19 rfl rfl)
theorem dX6_lays_44 : decode cX6_lays 44 = .ok (.iaload, 1) := dk_46 (dk_at dksX6_lays_1 20 rfl rfl)
theorem dX6_lays_45 : decode cX6_lays 45 = .ok (.iastore, 1) := dk_79 (dk_at dksX6_lays_1 21 rfl rfl)
theorem dX6_lays_46 : decode cX6_lays 46 = .ok (.aload_n 0, 1) := dk_42 (dk_at dksX6_lays_1 22 rfl rfl)
theorem dX6_lays_47 : decode cX6_lays 47 = .ok (.getfield 24, 3) := dk_180 0 24 (dk_at dksX6_lays_2 0 rfl rfl)
theorem dX6_lays_50 : decode cX6_lays 50 = .ok (.sipush 3066, 3) := dk_17 11 250 (dk_at dksX6_lays_2 3 rfl rfl)
theorem dX6_lays_53 : decode cX6_lays 53 = .ok (.sipush 400, 3) := dk_17 1 144 (dk_at dksX6_lays_2 6 rfl rfl)
theorem dX6_lays_56 : decode cX6_lays 56 = .ok (.iload_n 1, 1) := dk_27 (dk_at dksX6_lays_2 9 rfl rfl)
theorem dX6_lays_57 : decode cX6_lays 57 = .ok (.imul, 1) := dk_104 (dk_at dksX6_lays_2 10 rfl rfl)
theorem dX6_lays_58 : decode cX6_lays 58 = .ok (.iadd, 1) := dk_96 (dk_at dksX6_lays_2 11 rfl rfl)
theorem dX6_lays_59 : decode cX6_lays 59 = .ok (.iload_n 2, 1) := dk_28 (dk_at dksX6_lays_2 12 rfl rfl)
theorem dX6_lays_60 : decode cX6_lays 60 = .ok (.iadd, 1) := dk_96 (dk_at dksX6_lays_2 13 rfl rfl)
theorem dX6_lays_61 : decode cX6_lays 61 = .ok (.aload_n 0, 1) := dk_42 (dk_at dksX6_lays_2 14 rfl rfl)
theorem dX6_lays_62 : decode cX6_lays 62 = .ok (.getfield 53, 3) := dk_180 0 53 (dk_at dksX6_lays_2 15 rfl rfl)
theorem dX6_lays_65 : decode cX6_lays 65 = .ok (.iload_n 2, 1) := dk_28 (dk_at dksX6_lays_2 18 rfl rfl)
theorem dX6_lays_66 : decode cX6_lays 66 = .ok (.iaload, 1) := dk_46 (dk_at dksX6_lays_2 19 rfl rfl)
theorem dX6_lays_67 : decode cX6_lays 67 = .ok (.iastore, 1) := dk_79 (dk_at dksX6_lays_2 20 rfl rfl)
theorem dX6_lays_68 : decode cX6_lays 68 = .ok (.iinc 2 1, 3) := dk_132 2 1 (dk_at dksX6_lays_2 21 rfl rfl)
theorem dX6_lays_71 : decode cX6_lays 71 = .ok (.goto (-55), 3) := dk_167 255 201 (dk_at dksX6_lays_3 0 rfl rfl)
theorem dX6_lays_74 : decode cX6_lays 74 = .ok (.return_, 1) := dk_177 (dk_at dksX6_lays_3 3 rfl rfl)
abbrev cX6_fault : ByteArray := prog_29_method_54_code
def yX6_fault : MethodName := ⟨RX6, "fault", "()I"⟩
theorem dX6_fault_0 : decode cX6_fault 0 = .ok (.aload_n 0, 1) := by decide +kernel
theorem dX6_fault_1 : decode cX6_fault 1 = .ok (.getfield 47, 3) := by decide +kernel
theorem dX6_fault_4 : decode cX6_fault 4 = .ok (.ireturn, 1) := by decide +kernel
abbrev cX6_force : ByteArray := prog_29_method_55_code
def yX6_force : MethodName := ⟨RX6, "force", "(I)I"⟩
def dkwX6_force_2 : List UInt8 := [172]
abbrev dktX6_force_2 : List UInt8 := dkwX6_force_2 ++ []
def dkwX6_force_1 : List UInt8 := [172, 42, 180, 0, 24, 17, 1, 2, 46, 61, 42, 180, 0, 24, 17, 1, 2, 27, 79, 42, 28, 182, 0, 14]
abbrev dktX6_force_1 : List UInt8 := dkwX6_force_1 ++ dktX6_force_2
def dkwX6_force_0 : List UInt8 := [27, 2, 42, 180, 0, 24, 17, 1, 1, 46, 4, 100, 184, 0, 106, 154, 0, 10, 42, 16, 254, 182, 0, 110]
abbrev dktX6_force_0 : List UInt8 := dkwX6_force_0 ++ dktX6_force_1
theorem dksX6_force_0 : cX6_force.data.toList.drop 0 = dktX6_force_0 := by decide +kernel
theorem dksX6_force_1 : cX6_force.data.toList.drop 24 = dktX6_force_1 := dk_seg dksX6_force_0 24 rfl rfl
theorem dksX6_force_2 : cX6_force.data.toList.drop 48 = dktX6_force_2 := dk_seg dksX6_force_1 24 rfl rfl
theorem dX6_force_0 : decode cX6_force 0 = .ok (.iload_n 1, 1) := dk_27 (dk_at dksX6_force_0 0 rfl rfl)
theorem dX6_force_1 : decode cX6_force 1 = .ok (.iconst (-1), 1) := dk_2 (dk_at dksX6_force_0 1 rfl rfl)
theorem dX6_force_2 : decode cX6_force 2 = .ok (.aload_n 0, 1) := dk_42 (dk_at dksX6_force_0 2 rfl rfl)
theorem dX6_force_3 : decode cX6_force 3 = .ok (.getfield 24, 3) := dk_180 0 24 (dk_at dksX6_force_0 3 rfl rfl)
theorem dX6_force_6 : decode cX6_force 6 = .ok (.sipush 257, 3) := dk_17 1 1 (dk_at dksX6_force_0 6 rfl rfl)
theorem dX6_force_9 : decode cX6_force 9 = .ok (.iaload, 1) := dk_46 (dk_at dksX6_force_0 9 rfl rfl)
theorem dX6_force_10 : decode cX6_force 10 = .ok (.iconst 1, 1) := dk_4 (dk_at dksX6_force_0 10 rfl rfl)
theorem dX6_force_11 : decode cX6_force 11 = .ok (.isub, 1) := dk_100 (dk_at dksX6_force_0 11 rfl rfl)
theorem dX6_force_12 : decode cX6_force 12 = .ok (.invokestatic 106, 3) := dk_184 0 106 (dk_at dksX6_force_0 12 rfl rfl)
theorem dX6_force_15 : decode cX6_force 15 = .ok (.ifCond .ne 10, 3) := dk_154 0 10 (dk_at dksX6_force_0 15 rfl rfl)
theorem dX6_force_18 : decode cX6_force 18 = .ok (.aload_n 0, 1) := dk_42 (dk_at dksX6_force_0 18 rfl rfl)
theorem dX6_force_19 : decode cX6_force 19 = .ok (.bipush (-2), 2) := dk_16 254 (dk_at dksX6_force_0 19 rfl rfl)
theorem dX6_force_21 : decode cX6_force 21 = .ok (.invokevirtual 110, 3) := dk_182 0 110 (dk_at dksX6_force_0 21 rfl rfl)
theorem dX6_force_24 : decode cX6_force 24 = .ok (.ireturn, 1) := dk_172 (dk_at dksX6_force_1 0 rfl rfl)
theorem dX6_force_25 : decode cX6_force 25 = .ok (.aload_n 0, 1) := dk_42 (dk_at dksX6_force_1 1 rfl rfl)
theorem dX6_force_26 : decode cX6_force 26 = .ok (.getfield 24, 3) := dk_180 0 24 (dk_at dksX6_force_1 2 rfl rfl)
theorem dX6_force_29 : decode cX6_force 29 = .ok (.sipush 258, 3) := dk_17 1 2 (dk_at dksX6_force_1 5 rfl rfl)
theorem dX6_force_32 : decode cX6_force 32 = .ok (.iaload, 1) := dk_46 (dk_at dksX6_force_1 8 rfl rfl)
theorem dX6_force_33 : decode cX6_force 33 = .ok (.istore_n 2, 1) := dk_61 (dk_at dksX6_force_1 9 rfl rfl)
theorem dX6_force_34 : decode cX6_force 34 = .ok (.aload_n 0, 1) := dk_42 (dk_at dksX6_force_1 10 rfl rfl)
theorem dX6_force_35 : decode cX6_force 35 = .ok (.getfield 24, 3) := dk_180 0 24 (dk_at dksX6_force_1 11 rfl rfl)
theorem dX6_force_38 : decode cX6_force 38 = .ok (.sipush 258, 3) := dk_17 1 2 (dk_at dksX6_force_1 14 rfl rfl)
theorem dX6_force_41 : decode cX6_force 41 = .ok (.iload_n 1, 1) := dk_27 (dk_at dksX6_force_1 17 rfl rfl)
theorem dX6_force_42 : decode cX6_force 42 = .ok (.iastore, 1) := dk_79 (dk_at dksX6_force_1 18 rfl rfl)
theorem dX6_force_43 : decode cX6_force 43 = .ok (.aload_n 0, 1) := dk_42 (dk_at dksX6_force_1 19 rfl rfl)
theorem dX6_force_44 : decode cX6_force 44 = .ok (.iload_n 2, 1) := dk_28 (dk_at dksX6_force_1 20 rfl rfl)
theorem dX6_force_45 : decode cX6_force 45 = .ok (.invokevirtual 14, 3) := dk_182 0 14 (dk_at dksX6_force_1 21 rfl rfl)
theorem dX6_force_48 : decode cX6_force 48 = .ok (.ireturn, 1) := dk_172 (dk_at dksX6_force_2 0 rfl rfl)
abbrev cX6_asks : ByteArray := prog_29_method_74_code
def yX6_asks : MethodName := ⟨RX6, "asks", "(III)I"⟩
def dkwX6_asks_5 : List UInt8 := [159, 0, 12, 42, 27, 28, 182, 1, 63, 167, 0, 4, 2, 172, 2, 172]
abbrev dktX6_asks_5 : List UInt8 := dkwX6_asks_5 ++ []
def dkwX6_asks_4 : List UInt8 := [182, 1, 59, 153, 0, 7, 4, 167, 0, 4, 3, 172, 42, 28, 182, 0, 128, 153, 0, 17, 28, 27]
abbrev dktX6_asks_4 : List UInt8 := dkwX6_asks_4 ++ dktX6_asks_5
def dkwX6_asks_3 : List UInt8 := [16, 20, 27, 96, 46, 42, 180, 0, 24, 16, 33, 46, 42, 42, 180, 0, 24, 16, 33, 46, 182, 1, 36]
abbrev dktX6_asks_3 : List UInt8 := dkwX6_asks_3 ++ dktX6_asks_4
def dkwX6_asks_2 : List UInt8 := [42, 27, 182, 1, 50, 172, 42, 27, 182, 1, 53, 172, 42, 27, 182, 1, 56, 172, 42, 27, 42, 180, 0, 24]
abbrev dktX6_asks_2 : List UInt8 := dkwX6_asks_2 ++ dktX6_asks_3
def dkwX6_asks_1 : List UInt8 := [170, 0, 0, 0, 116, 0, 0, 0, 0, 0, 0, 0, 4, 0, 0, 0, 33, 0, 0, 0, 39, 0, 0, 0, 45, 0, 0, 0, 51, 0, 0, 0, 92]
abbrev dktX6_asks_1 : List UInt8 := dkwX6_asks_1 ++ dktX6_asks_2
def dkwX6_asks_0 : List UInt8 := [42, 27, 182, 0, 128, 154, 0, 5, 2, 172, 29]
abbrev dktX6_asks_0 : List UInt8 := dkwX6_asks_0 ++ dktX6_asks_1
theorem dksX6_asks_0 : cX6_asks.data.toList.drop 0 = dktX6_asks_0 := by decide +kernel
theorem dksX6_asks_1 : cX6_asks.data.toList.drop 11 = dktX6_asks_1 := dk_seg dksX6_asks_0 11 rfl rfl
theorem dksX6_asks_2 : cX6_asks.data.toList.drop 44 = dktX6_asks_2 := dk_seg dksX6_asks_1 33 rfl rfl
theorem dksX6_asks_3 : cX6_asks.data.toList.drop 68 = dktX6_asks_3 := dk_seg dksX6_asks_2 24 rfl rfl
theorem dksX6_asks_4 : cX6_asks.data.toList.drop 91 = dktX6_asks_4 := dk_seg dksX6_asks_3 23 rfl rfl
theorem dksX6_asks_5 : cX6_asks.data.toList.drop 113 = dktX6_asks_5 := dk_seg dksX6_asks_4 22 rfl rfl
theorem dX6_asks_0 : decode cX6_asks 0 = .ok (.aload_n 0, 1) := dk_42 (dk_at dksX6_asks_0 0 rfl rfl)
theorem dX6_asks_1 : decode cX6_asks 1 = .ok (.iload_n 1, 1) := dk_27 (dk_at dksX6_asks_0 1 rfl rfl)
theorem dX6_asks_2 : decode cX6_asks 2 = .ok (.invokevirtual 128, 3) := dk_182 0 128 (dk_at dksX6_asks_0 2 rfl rfl)
theorem dX6_asks_5 : decode cX6_asks 5 = .ok (.ifCond .ne 5, 3) := dk_154 0 5 (dk_at dksX6_asks_0 5 rfl rfl)
theorem dX6_asks_8 : decode cX6_asks 8 = .ok (.iconst (-1), 1) := dk_2 (dk_at dksX6_asks_0 8 rfl rfl)
theorem dX6_asks_9 : decode cX6_asks 9 = .ok (.ireturn, 1) := dk_172 (dk_at dksX6_asks_0 9 rfl rfl)
theorem dX6_asks_10 : decode cX6_asks 10 = .ok (.iload_n 3, 1) := dk_29 (dk_at dksX6_asks_0 10 rfl rfl)
theorem dX6_asks_11 : decode cX6_asks 11 = .ok (.tableswitch 116 0 4 #[33, 39, 45, 51, 92], 33) := by decide +kernel
theorem dX6_asks_44 : decode cX6_asks 44 = .ok (.aload_n 0, 1) := dk_42 (dk_at dksX6_asks_2 0 rfl rfl)
theorem dX6_asks_45 : decode cX6_asks 45 = .ok (.iload_n 1, 1) := dk_27 (dk_at dksX6_asks_2 1 rfl rfl)
theorem dX6_asks_46 : decode cX6_asks 46 = .ok (.invokevirtual 306, 3) := dk_182 1 50 (dk_at dksX6_asks_2 2 rfl rfl)
theorem dX6_asks_49 : decode cX6_asks 49 = .ok (.ireturn, 1) := dk_172 (dk_at dksX6_asks_2 5 rfl rfl)
theorem dX6_asks_50 : decode cX6_asks 50 = .ok (.aload_n 0, 1) := dk_42 (dk_at dksX6_asks_2 6 rfl rfl)
theorem dX6_asks_51 : decode cX6_asks 51 = .ok (.iload_n 1, 1) := dk_27 (dk_at dksX6_asks_2 7 rfl rfl)
theorem dX6_asks_52 : decode cX6_asks 52 = .ok (.invokevirtual 309, 3) := dk_182 1 53 (dk_at dksX6_asks_2 8 rfl rfl)
theorem dX6_asks_55 : decode cX6_asks 55 = .ok (.ireturn, 1) := dk_172 (dk_at dksX6_asks_2 11 rfl rfl)
theorem dX6_asks_56 : decode cX6_asks 56 = .ok (.aload_n 0, 1) := dk_42 (dk_at dksX6_asks_2 12 rfl rfl)
theorem dX6_asks_57 : decode cX6_asks 57 = .ok (.iload_n 1, 1) := dk_27 (dk_at dksX6_asks_2 13 rfl rfl)
theorem dX6_asks_58 : decode cX6_asks 58 = .ok (.invokevirtual 312, 3) := dk_182 1 56 (dk_at dksX6_asks_2 14 rfl rfl)
theorem dX6_asks_61 : decode cX6_asks 61 = .ok (.ireturn, 1) := dk_172 (dk_at dksX6_asks_2 17 rfl rfl)
theorem dX6_asks_62 : decode cX6_asks 62 = .ok (.aload_n 0, 1) := dk_42 (dk_at dksX6_asks_2 18 rfl rfl)
theorem dX6_asks_63 : decode cX6_asks 63 = .ok (.iload_n 1, 1) := dk_27 (dk_at dksX6_asks_2 19 rfl rfl)
theorem dX6_asks_64 : decode cX6_asks 64 = .ok (.aload_n 0, 1) := dk_42 (dk_at dksX6_asks_2 20 rfl rfl)
theorem dX6_asks_65 : decode cX6_asks 65 = .ok (.getfield 24, 3) := dk_180 0 24 (dk_at dksX6_asks_2 21 rfl rfl)
theorem dX6_asks_68 : decode cX6_asks 68 = .ok (.bipush 20, 2) := dk_16 20 (dk_at dksX6_asks_3 0 rfl rfl)
theorem dX6_asks_70 : decode cX6_asks 70 = .ok (.iload_n 1, 1) := dk_27 (dk_at dksX6_asks_3 2 rfl rfl)
theorem dX6_asks_71 : decode cX6_asks 71 = .ok (.iadd, 1) := dk_96 (dk_at dksX6_asks_3 3 rfl rfl)
theorem dX6_asks_72 : decode cX6_asks 72 = .ok (.iaload, 1) := dk_46 (dk_at dksX6_asks_3 4 rfl rfl)
theorem dX6_asks_73 : decode cX6_asks 73 = .ok (.aload_n 0, 1) := dk_42 (dk_at dksX6_asks_3 5 rfl rfl)
theorem dX6_asks_74 : decode cX6_asks 74 = .ok (.getfield 24, 3) := dk_180 0 24 (dk_at dksX6_asks_3 6 rfl rfl)
theorem dX6_asks_77 : decode cX6_asks 77 = .ok (.bipush 33, 2) := dk_16 33 (dk_at dksX6_asks_3 9 rfl rfl)
theorem dX6_asks_79 : decode cX6_asks 79 = .ok (.iaload, 1) := dk_46 (dk_at dksX6_asks_3 11 rfl rfl)
theorem dX6_asks_80 : decode cX6_asks 80 = .ok (.aload_n 0, 1) := dk_42 (dk_at dksX6_asks_3 12 rfl rfl)
theorem dX6_asks_81 : decode cX6_asks 81 = .ok (.aload_n 0, 1) := dk_42 (dk_at dksX6_asks_3 13 rfl rfl)
theorem dX6_asks_82 : decode cX6_asks 82 = .ok (.getfield 24, 3) := dk_180 0 24 (dk_at dksX6_asks_3 14 rfl rfl)
theorem dX6_asks_85 : decode cX6_asks 85 = .ok (.bipush 33, 2) := dk_16 33 (dk_at dksX6_asks_3 17 rfl rfl)
theorem dX6_asks_87 : decode cX6_asks 87 = .ok (.iaload, 1) := dk_46 (dk_at dksX6_asks_3 19 rfl rfl)
theorem dX6_asks_88 : decode cX6_asks 88 = .ok (.invokevirtual 292, 3) := dk_182 1 36 (dk_at dksX6_asks_3 20 rfl rfl)
theorem dX6_asks_91 : decode cX6_asks 91 = .ok (.invokevirtual 315, 3) := dk_182 1 59 (dk_at dksX6_asks_4 0 rfl rfl)
theorem dX6_asks_94 : decode cX6_asks 94 = .ok (.ifCond .eq 7, 3) := dk_153 0 7 (dk_at dksX6_asks_4 3 rfl rfl)
theorem dX6_asks_97 : decode cX6_asks 97 = .ok (.iconst 1, 1) := dk_4 (dk_at dksX6_asks_4 6 rfl rfl)
theorem dX6_asks_98 : decode cX6_asks 98 = .ok (.goto 4, 3) := dk_167 0 4 (dk_at dksX6_asks_4 7 rfl rfl)
theorem dX6_asks_101 : decode cX6_asks 101 = .ok (.iconst 0, 1) := dk_3 (dk_at dksX6_asks_4 10 rfl rfl)
theorem dX6_asks_102 : decode cX6_asks 102 = .ok (.ireturn, 1) := dk_172 (dk_at dksX6_asks_4 11 rfl rfl)
theorem dX6_asks_103 : decode cX6_asks 103 = .ok (.aload_n 0, 1) := dk_42 (dk_at dksX6_asks_4 12 rfl rfl)
theorem dX6_asks_104 : decode cX6_asks 104 = .ok (.iload_n 2, 1) := dk_28 (dk_at dksX6_asks_4 13 rfl rfl)
theorem dX6_asks_105 : decode cX6_asks 105 = .ok (.invokevirtual 128, 3) := dk_182 0 128 (dk_at dksX6_asks_4 14 rfl rfl)
theorem dX6_asks_108 : decode cX6_asks 108 = .ok (.ifCond .eq 17, 3) := dk_153 0 17 (dk_at dksX6_asks_4 17 rfl rfl)
theorem dX6_asks_111 : decode cX6_asks 111 = .ok (.iload_n 2, 1) := dk_28 (dk_at dksX6_asks_4 20 rfl rfl)
theorem dX6_asks_112 : decode cX6_asks 112 = .ok (.iload_n 1, 1) := dk_27 (dk_at dksX6_asks_4 21 rfl rfl)
theorem dX6_asks_113 : decode cX6_asks 113 = .ok (.if_icmp .eq 12, 3) := dk_159 0 12 (dk_at dksX6_asks_5 0 rfl rfl)
theorem dX6_asks_116 : decode cX6_asks 116 = .ok (.aload_n 0, 1) := dk_42 (dk_at dksX6_asks_5 3 rfl rfl)
theorem dX6_asks_117 : decode cX6_asks 117 = .ok (.iload_n 1, 1) := dk_27 (dk_at dksX6_asks_5 4 rfl rfl)
theorem dX6_asks_118 : decode cX6_asks 118 = .ok (.iload_n 2, 1) := dk_28 (dk_at dksX6_asks_5 5 rfl rfl)
theorem dX6_asks_119 : decode cX6_asks 119 = .ok (.invokevirtual 319, 3) := dk_182 1 63 (dk_at dksX6_asks_5 6 rfl rfl)
theorem dX6_asks_122 : decode cX6_asks 122 = .ok (.goto 4, 3) := dk_167 0 4 (dk_at dksX6_asks_5 9 rfl rfl)
theorem dX6_asks_125 : decode cX6_asks 125 = .ok (.iconst (-1), 1) := dk_2 (dk_at dksX6_asks_5 12 rfl rfl)
theorem dX6_asks_126 : decode cX6_asks 126 = .ok (.ireturn, 1) := dk_172 (dk_at dksX6_asks_5 13 rfl rfl)
theorem dX6_asks_127 : decode cX6_asks 127 = .ok (.iconst (-1), 1) := dk_2 (dk_at dksX6_asks_5 14 rfl rfl)
theorem dX6_asks_128 : decode cX6_asks 128 = .ok (.ireturn, 1) := dk_172 (dk_at dksX6_asks_5 15 rfl rfl)
abbrev cX6_takesNow : ByteArray := prog_29_method_69_code
def yX6_takesNow : MethodName := ⟨RX6, "takesNow", "(I)I"⟩
def dkwX6_takesNow_0 : List UInt8 := [42, 27, 182, 1, 43, 42, 4, 16, 60, 42, 27, 182, 0, 132, 182, 1, 46, 172]
abbrev dktX6_takesNow_0 : List UInt8 := dkwX6_takesNow_0 ++ []
theorem dksX6_takesNow_0 : cX6_takesNow.data.toList.drop 0 = dktX6_takesNow_0 := by decide +kernel
theorem dX6_takesNow_0 : decode cX6_takesNow 0 = .ok (.aload_n 0, 1) := dk_42 (dk_at dksX6_takesNow_0 0 rfl rfl)
theorem dX6_takesNow_1 : decode cX6_takesNow 1 = .ok (.iload_n 1, 1) := dk_27 (dk_at dksX6_takesNow_0 1 rfl rfl)
theorem dX6_takesNow_2 : decode cX6_takesNow 2 = .ok (.invokevirtual 299, 3) := dk_182 1 43 (dk_at dksX6_takesNow_0 2 rfl rfl)
theorem dX6_takesNow_5 : decode cX6_takesNow 5 = .ok (.aload_n 0, 1) := dk_42 (dk_at dksX6_takesNow_0 5 rfl rfl)
theorem dX6_takesNow_6 : decode cX6_takesNow 6 = .ok (.iconst 1, 1) := dk_4 (dk_at dksX6_takesNow_0 6 rfl rfl)
theorem dX6_takesNow_7 : decode cX6_takesNow 7 = .ok (.bipush 60, 2) := dk_16 60 (dk_at dksX6_takesNow_0 7 rfl rfl)
theorem dX6_takesNow_9 : decode cX6_takesNow 9 = .ok (.aload_n 0, 1) := dk_42 (dk_at dksX6_takesNow_0 9 rfl rfl)
theorem dX6_takesNow_10 : decode cX6_takesNow 10 = .ok (.iload_n 1, 1) := dk_27 (dk_at dksX6_takesNow_0 10 rfl rfl)
theorem dX6_takesNow_11 : decode cX6_takesNow 11 = .ok (.invokevirtual 132, 3) := dk_182 0 132 (dk_at dksX6_takesNow_0 11 rfl rfl)
theorem dX6_takesNow_14 : decode cX6_takesNow 14 = .ok (.invokevirtual 302, 3) := dk_182 1 46 (dk_at dksX6_takesNow_0 14 rfl rfl)
theorem dX6_takesNow_17 : decode cX6_takesNow 17 = .ok (.ireturn, 1) := dk_172 (dk_at dksX6_takesNow_0 17 rfl rfl)
abbrev cX6_setsNow : ByteArray := prog_29_method_68_code
def yX6_setsNow : MethodName := ⟨RX6, "setsNow", "(I)V"⟩
def dkwX6_setsNow_1 : List UInt8 := [16, 33, 46, 182, 1, 36, 182, 1, 39, 177]
abbrev dktX6_setsNow_1 : List UInt8 := dkwX6_setsNow_1 ++ []
def dkwX6_setsNow_0 : List UInt8 := [42, 27, 42, 180, 0, 24, 16, 20, 27, 96, 46, 2, 42, 180, 0, 24, 16, 33, 46, 42, 42, 180, 0, 24]
abbrev dktX6_setsNow_0 : List UInt8 := dkwX6_setsNow_0 ++ dktX6_setsNow_1
theorem dksX6_setsNow_0 : cX6_setsNow.data.toList.drop 0 = dktX6_setsNow_0 := by decide +kernel
theorem dksX6_setsNow_1 : cX6_setsNow.data.toList.drop 24 = dktX6_setsNow_1 := dk_seg dksX6_setsNow_0 24 rfl rfl
theorem dX6_setsNow_0 : decode cX6_setsNow 0 = .ok (.aload_n 0, 1) := dk_42 (dk_at dksX6_setsNow_0 0 rfl rfl)
theorem dX6_setsNow_1 : decode cX6_setsNow 1 = .ok (.iload_n 1, 1) := dk_27 (dk_at dksX6_setsNow_0 1 rfl rfl)
theorem dX6_setsNow_2 : decode cX6_setsNow 2 = .ok (.aload_n 0, 1) := dk_42 (dk_at dksX6_setsNow_0 2 rfl rfl)
theorem dX6_setsNow_3 : decode cX6_setsNow 3 = .ok (.getfield 24, 3) := dk_180 0 24 (dk_at dksX6_setsNow_0 3 rfl rfl)
theorem dX6_setsNow_6 : decode cX6_setsNow 6 = .ok (.bipush 20, 2) := dk_16 20 (dk_at dksX6_setsNow_0 6 rfl rfl)
theorem dX6_setsNow_8 : decode cX6_setsNow 8 = .ok (.iload_n 1, 1) := dk_27 (dk_at dksX6_setsNow_0 8 rfl rfl)
theorem dX6_setsNow_9 : decode cX6_setsNow 9 = .ok (.iadd, 1) := dk_96 (dk_at dksX6_setsNow_0 9 rfl rfl)
theorem dX6_setsNow_10 : decode cX6_setsNow 10 = .ok (.iaload, 1) := dk_46 (dk_at dksX6_setsNow_0 10 rfl rfl)
theorem dX6_setsNow_11 : decode cX6_setsNow 11 = .ok (.iconst (-1), 1) := dk_2 (dk_at dksX6_setsNow_0 11 rfl rfl)
theorem dX6_setsNow_12 : decode cX6_setsNow 12 = .ok (.aload_n 0, 1) := dk_42 (dk_at dksX6_setsNow_0 12 rfl rfl)
theorem dX6_setsNow_13 : decode cX6_setsNow 13 = .ok (.getfield 24, 3) := dk_180 0 24 (dk_at dksX6_setsNow_0 13 rfl rfl)
theorem dX6_setsNow_16 : decode cX6_setsNow 16 = .ok (.bipush 33, 2) := dk_16 33 (dk_at dksX6_setsNow_0 16 rfl rfl)
theorem dX6_setsNow_18 : decode cX6_setsNow 18 = .ok (.iaload, 1) := dk_46 (dk_at dksX6_setsNow_0 18 rfl rfl)
theorem dX6_setsNow_19 : decode cX6_setsNow 19 = .ok (.aload_n 0, 1) := dk_42 (dk_at dksX6_setsNow_0 19 rfl rfl)
theorem dX6_setsNow_20 : decode cX6_setsNow 20 = .ok (.aload_n 0, 1) := dk_42 (dk_at dksX6_setsNow_0 20 rfl rfl)
theorem dX6_setsNow_21 : decode cX6_setsNow 21 = .ok (.getfield 24, 3) := dk_180 0 24 (dk_at dksX6_setsNow_0 21 rfl rfl)
theorem dX6_setsNow_24 : decode cX6_setsNow 24 = .ok (.bipush 33, 2) := dk_16 33 (dk_at dksX6_setsNow_1 0 rfl rfl)
theorem dX6_setsNow_26 : decode cX6_setsNow 26 = .ok (.iaload, 1) := dk_46 (dk_at dksX6_setsNow_1 2 rfl rfl)
theorem dX6_setsNow_27 : decode cX6_setsNow 27 = .ok (.invokevirtual 292, 3) := dk_182 1 36 (dk_at dksX6_setsNow_1 3 rfl rfl)
theorem dX6_setsNow_30 : decode cX6_setsNow 30 = .ok (.invokevirtual 295, 3) := dk_182 1 39 (dk_at dksX6_setsNow_1 6 rfl rfl)
theorem dX6_setsNow_33 : decode cX6_setsNow 33 = .ok (.return_, 1) := dk_177 (dk_at dksX6_setsNow_1 9 rfl rfl)
abbrev cX6_fogOn : ByteArray := prog_29_method_24_code
def yX6_fogOn : MethodName := ⟨RX6, "fogOn", "(I)I"⟩
def dkwX6_fogOn_0 : List UInt8 := [27, 16, 100, 162, 0, 16, 42, 180, 0, 24, 17, 0, 154, 27, 96, 46, 167, 0, 4, 3, 172]
abbrev dktX6_fogOn_0 : List UInt8 := dkwX6_fogOn_0 ++ []
theorem dksX6_fogOn_0 : cX6_fogOn.data.toList.drop 0 = dktX6_fogOn_0 := by decide +kernel
theorem dX6_fogOn_0 : decode cX6_fogOn 0 = .ok (.iload_n 1, 1) := dk_27 (dk_at dksX6_fogOn_0 0 rfl rfl)
theorem dX6_fogOn_1 : decode cX6_fogOn 1 = .ok (.bipush 100, 2) := dk_16 100 (dk_at dksX6_fogOn_0 1 rfl rfl)
theorem dX6_fogOn_3 : decode cX6_fogOn 3 = .ok (.if_icmp .ge 16, 3) := dk_162 0 16 (dk_at dksX6_fogOn_0 3 rfl rfl)
theorem dX6_fogOn_6 : decode cX6_fogOn 6 = .ok (.aload_n 0, 1) := dk_42 (dk_at dksX6_fogOn_0 6 rfl rfl)
theorem dX6_fogOn_7 : decode cX6_fogOn 7 = .ok (.getfield 24, 3) := dk_180 0 24 (dk_at dksX6_fogOn_0 7 rfl rfl)
theorem dX6_fogOn_10 : decode cX6_fogOn 10 = .ok (.sipush 154, 3) := dk_17 0 154 (dk_at dksX6_fogOn_0 10 rfl rfl)
theorem dX6_fogOn_13 : decode cX6_fogOn 13 = .ok (.iload_n 1, 1) := dk_27 (dk_at dksX6_fogOn_0 13 rfl rfl)
theorem dX6_fogOn_14 : decode cX6_fogOn 14 = .ok (.iadd, 1) := dk_96 (dk_at dksX6_fogOn_0 14 rfl rfl)
theorem dX6_fogOn_15 : decode cX6_fogOn 15 = .ok (.iaload, 1) := dk_46 (dk_at dksX6_fogOn_0 15 rfl rfl)
theorem dX6_fogOn_16 : decode cX6_fogOn 16 = .ok (.goto 4, 3) := dk_167 0 4 (dk_at dksX6_fogOn_0 16 rfl rfl)
theorem dX6_fogOn_19 : decode cX6_fogOn 19 = .ok (.iconst 0, 1) := dk_3 (dk_at dksX6_fogOn_0 19 rfl rfl)
theorem dX6_fogOn_20 : decode cX6_fogOn 20 = .ok (.ireturn, 1) := dk_172 (dk_at dksX6_fogOn_0 20 rfl rfl)
abbrev cX6_sets : ByteArray := prog_29_method_67_code
def yX6_sets : MethodName := ⟨RX6, "sets", "(IIIII)V"⟩
def dkwX6_sets_4 : List UInt8 := [180, 0, 59, 16, 8, 42, 180, 0, 24, 17, 0, 255, 46, 79, 42, 180, 0, 59, 16, 9, 21, 4, 79, 177]
abbrev dktX6_sets_4 : List UInt8 := dkwX6_sets_4 ++ []
def dkwX6_sets_3 : List UInt8 := [160, 0, 7, 2, 167, 0, 8, 42, 29, 182, 0, 132, 79, 42, 180, 0, 59, 16, 7, 21, 5, 79, 42]
abbrev dktX6_sets_3 : List UInt8 := dkwX6_sets_3 ++ dktX6_sets_4
def dkwX6_sets_2 : List UInt8 := [29, 2, 160, 0, 7, 2, 167, 0, 8, 42, 29, 182, 0, 135, 79, 42, 180, 0, 59, 16, 6, 29, 2]
abbrev dktX6_sets_2 : List UInt8 := dkwX6_sets_2 ++ dktX6_sets_3
def dkwX6_sets_1 : List UInt8 := [27, 182, 0, 135, 79, 42, 180, 0, 59, 6, 28, 79, 42, 180, 0, 59, 7, 29, 79, 42, 180, 0, 59, 8]
abbrev dktX6_sets_1 : List UInt8 := dkwX6_sets_1 ++ dktX6_sets_2
def dkwX6_sets_0 : List UInt8 := [42, 180, 0, 59, 3, 27, 79, 42, 180, 0, 59, 4, 42, 27, 182, 0, 132, 79, 42, 180, 0, 59, 5, 42]
abbrev dktX6_sets_0 : List UInt8 := dkwX6_sets_0 ++ dktX6_sets_1
theorem dksX6_sets_0 : cX6_sets.data.toList.drop 0 = dktX6_sets_0 := by decide +kernel
theorem dksX6_sets_1 : cX6_sets.data.toList.drop 24 = dktX6_sets_1 := dk_seg dksX6_sets_0 24 rfl rfl
theorem dksX6_sets_2 : cX6_sets.data.toList.drop 48 = dktX6_sets_2 := dk_seg dksX6_sets_1 24 rfl rfl
theorem dksX6_sets_3 : cX6_sets.data.toList.drop 71 = dktX6_sets_3 := dk_seg dksX6_sets_2 23 rfl rfl
theorem dksX6_sets_4 : cX6_sets.data.toList.drop 94 = dktX6_sets_4 := dk_seg dksX6_sets_3 23 rfl rfl
theorem dX6_sets_0 : decode cX6_sets 0 = .ok (.aload_n 0, 1) := dk_42 (dk_at dksX6_sets_0 0 rfl rfl)
theorem dX6_sets_1 : decode cX6_sets 1 = .ok (.getfield 59, 3) := dk_180 0 59 (dk_at dksX6_sets_0 1 rfl rfl)
theorem dX6_sets_4 : decode cX6_sets 4 = .ok (.iconst 0, 1) := dk_3 (dk_at dksX6_sets_0 4 rfl rfl)
theorem dX6_sets_5 : decode cX6_sets 5 = .ok (.iload_n 1, 1) := dk_27 (dk_at dksX6_sets_0 5 rfl rfl)
theorem dX6_sets_6 : decode cX6_sets 6 = .ok (.iastore, 1) := dk_79 (dk_at dksX6_sets_0 6 rfl rfl)
theorem dX6_sets_7 : decode cX6_sets 7 = .ok (.aload_n 0, 1) := dk_42 (dk_at dksX6_sets_0 7 rfl rfl)
theorem dX6_sets_8 : decode cX6_sets 8 = .ok (.getfield 59, 3) := dk_180 0 59 (dk_at dksX6_sets_0 8 rfl rfl)
theorem dX6_sets_11 : decode cX6_sets 11 = .ok (.iconst 1, 1) := dk_4 (dk_at dksX6_sets_0 11 rfl rfl)
theorem dX6_sets_12 : decode cX6_sets 12 = .ok (.aload_n 0, 1) := dk_42 (dk_at dksX6_sets_0 12 rfl rfl)
theorem dX6_sets_13 : decode cX6_sets 13 = .ok (.iload_n 1, 1) := dk_27 (dk_at dksX6_sets_0 13 rfl rfl)
theorem dX6_sets_14 : decode cX6_sets 14 = .ok (.invokevirtual 132, 3) := dk_182 0 132 (dk_at dksX6_sets_0 14 rfl rfl)
theorem dX6_sets_17 : decode cX6_sets 17 = .ok (.iastore, 1) := dk_79 (dk_at dksX6_sets_0 17 rfl rfl)
theorem dX6_sets_18 : decode cX6_sets 18 = .ok (.aload_n 0, 1) := dk_42 (dk_at dksX6_sets_0 18 rfl rfl)
theorem dX6_sets_19 : decode cX6_sets 19 = .ok (.getfield 59, 3) := dk_180 0 59 (dk_at dksX6_sets_0 19 rfl rfl)
theorem dX6_sets_22 : decode cX6_sets 22 = .ok (.iconst 2, 1) := dk_5 (dk_at dksX6_sets_0 22 rfl rfl)
theorem dX6_sets_23 : decode cX6_sets 23 = .ok (.aload_n 0, 1) := dk_42 (dk_at dksX6_sets_0 23 rfl rfl)
theorem dX6_sets_24 : decode cX6_sets 24 = .ok (.iload_n 1, 1) := dk_27 (dk_at dksX6_sets_1 0 rfl rfl)
theorem dX6_sets_25 : decode cX6_sets 25 = .ok (.invokevirtual 135, 3) := dk_182 0 135 (dk_at dksX6_sets_1 1 rfl rfl)
theorem dX6_sets_28 : decode cX6_sets 28 = .ok (.iastore, 1) := dk_79 (dk_at dksX6_sets_1 4 rfl rfl)
theorem dX6_sets_29 : decode cX6_sets 29 = .ok (.aload_n 0, 1) := dk_42 (dk_at dksX6_sets_1 5 rfl rfl)
theorem dX6_sets_30 : decode cX6_sets 30 = .ok (.getfield 59, 3) := dk_180 0 59 (dk_at dksX6_sets_1 6 rfl rfl)
theorem dX6_sets_33 : decode cX6_sets 33 = .ok (.iconst 3, 1) := dk_6 (dk_at dksX6_sets_1 9 rfl rfl)
theorem dX6_sets_34 : decode cX6_sets 34 = .ok (.iload_n 2, 1) := dk_28 (dk_at dksX6_sets_1 10 rfl rfl)
theorem dX6_sets_35 : decode cX6_sets 35 = .ok (.iastore, 1) := dk_79 (dk_at dksX6_sets_1 11 rfl rfl)
theorem dX6_sets_36 : decode cX6_sets 36 = .ok (.aload_n 0, 1) := dk_42 (dk_at dksX6_sets_1 12 rfl rfl)
theorem dX6_sets_37 : decode cX6_sets 37 = .ok (.getfield 59, 3) := dk_180 0 59 (dk_at dksX6_sets_1 13 rfl rfl)
theorem dX6_sets_40 : decode cX6_sets 40 = .ok (.iconst 4, 1) := dk_7 (dk_at dksX6_sets_1 16 rfl rfl)
theorem dX6_sets_41 : decode cX6_sets 41 = .ok (.iload_n 3, 1) := dk_29 (dk_at dksX6_sets_1 17 rfl rfl)
theorem dX6_sets_42 : decode cX6_sets 42 = .ok (.iastore, 1) := dk_79 (dk_at dksX6_sets_1 18 rfl rfl)
theorem dX6_sets_43 : decode cX6_sets 43 = .ok (.aload_n 0, 1) := dk_42 (dk_at dksX6_sets_1 19 rfl rfl)
theorem dX6_sets_44 : decode cX6_sets 44 = .ok (.getfield 59, 3) := dk_180 0 59 (dk_at dksX6_sets_1 20 rfl rfl)
theorem dX6_sets_47 : decode cX6_sets 47 = .ok (.iconst 5, 1) := dk_8 (dk_at dksX6_sets_1 23 rfl rfl)
theorem dX6_sets_48 : decode cX6_sets 48 = .ok (.iload_n 3, 1) := dk_29 (dk_at dksX6_sets_2 0 rfl rfl)
theorem dX6_sets_49 : decode cX6_sets 49 = .ok (.iconst (-1), 1) := dk_2 (dk_at dksX6_sets_2 1 rfl rfl)
theorem dX6_sets_50 : decode cX6_sets 50 = .ok (.if_icmp .ne 7, 3) := dk_160 0 7 (dk_at dksX6_sets_2 2 rfl rfl)
theorem dX6_sets_53 : decode cX6_sets 53 = .ok (.iconst (-1), 1) := dk_2 (dk_at dksX6_sets_2 5 rfl rfl)
theorem dX6_sets_54 : decode cX6_sets 54 = .ok (.goto 8, 3) := dk_167 0 8 (dk_at dksX6_sets_2 6 rfl rfl)
theorem dX6_sets_57 : decode cX6_sets 57 = .ok (.aload_n 0, 1) := dk_42 (dk_at dksX6_sets_2 9 rfl rfl)
theorem dX6_sets_58 : decode cX6_sets 58 = .ok (.iload_n 3, 1) := dk_29 (dk_at dksX6_sets_2 10 rfl rfl)
theorem dX6_sets_59 : decode cX6_sets 59 = .ok (.invokevirtual 135, 3) := dk_182 0 135 (dk_at dksX6_sets_2 11 rfl rfl)
theorem dX6_sets_62 : decode cX6_sets 62 = .ok (.iastore, 1) := dk_79 (dk_at dksX6_sets_2 14 rfl rfl)
theorem dX6_sets_63 : decode cX6_sets 63 = .ok (.aload_n 0, 1) := dk_42 (dk_at dksX6_sets_2 15 rfl rfl)
theorem dX6_sets_64 : decode cX6_sets 64 = .ok (.getfield 59, 3) := dk_180 0 59 (dk_at dksX6_sets_2 16 rfl rfl)
theorem dX6_sets_67 : decode cX6_sets 67 = .ok (.bipush 6, 2) := dk_16 6 (dk_at dksX6_sets_2 19 rfl rfl)
theorem dX6_sets_69 : decode cX6_sets 69 = .ok (.iload_n 3, 1) := dk_29 (dk_at dksX6_sets_2 21 rfl rfl)
theorem dX6_sets_70 : decode cX6_sets 70 = .ok (.iconst (-1), 1) := dk_2 (dk_at dksX6_sets_2 22 rfl rfl)
theorem dX6_sets_71 : decode cX6_sets 71 = .ok (.if_icmp .ne 7, 3) := dk_160 0 7 (dk_at dksX6_sets_3 0 rfl rfl)
theorem dX6_sets_74 : decode cX6_sets 74 = .ok (.iconst (-1), 1) := dk_2 (dk_at dksX6_sets_3 3 rfl rfl)
theorem dX6_sets_75 : decode cX6_sets 75 = .ok (.goto 8, 3) := dk_167 0 8 (dk_at dksX6_sets_3 4 rfl rfl)
theorem dX6_sets_78 : decode cX6_sets 78 = .ok (.aload_n 0, 1) := dk_42 (dk_at dksX6_sets_3 7 rfl rfl)
theorem dX6_sets_79 : decode cX6_sets 79 = .ok (.iload_n 3, 1) := dk_29 (dk_at dksX6_sets_3 8 rfl rfl)
theorem dX6_sets_80 : decode cX6_sets 80 = .ok (.invokevirtual 132, 3) := dk_182 0 132 (dk_at dksX6_sets_3 9 rfl rfl)
theorem dX6_sets_83 : decode cX6_sets 83 = .ok (.iastore, 1) := dk_79 (dk_at dksX6_sets_3 12 rfl rfl)
theorem dX6_sets_84 : decode cX6_sets 84 = .ok (.aload_n 0, 1) := dk_42 (dk_at dksX6_sets_3 13 rfl rfl)
theorem dX6_sets_85 : decode cX6_sets 85 = .ok (.getfield 59, 3) := dk_180 0 59 (dk_at dksX6_sets_3 14 rfl rfl)
theorem dX6_sets_88 : decode cX6_sets 88 = .ok (.bipush 7, 2) := dk_16 7 (dk_at dksX6_sets_3 17 rfl rfl)
theorem dX6_sets_90 : decode cX6_sets 90 = .ok (.iload 5, 2) := dk_21 5 (dk_at dksX6_sets_3 19 rfl rfl)
theorem dX6_sets_92 : decode cX6_sets 92 = .ok (.iastore, 1) := dk_79 (dk_at dksX6_sets_3 21 rfl rfl)
theorem dX6_sets_93 : decode cX6_sets 93 = .ok (.aload_n 0, 1) := dk_42 (dk_at dksX6_sets_3 22 rfl rfl)
theorem dX6_sets_94 : decode cX6_sets 94 = .ok (.getfield 59, 3) := dk_180 0 59 (dk_at dksX6_sets_4 0 rfl rfl)
theorem dX6_sets_97 : decode cX6_sets 97 = .ok (.bipush 8, 2) := dk_16 8 (dk_at dksX6_sets_4 3 rfl rfl)
theorem dX6_sets_99 : decode cX6_sets 99 = .ok (.aload_n 0, 1) := dk_42 (dk_at dksX6_sets_4 5 rfl rfl)
theorem dX6_sets_100 : decode cX6_sets 100 = .ok (.getfield 24, 3) := dk_180 0 24 (dk_at dksX6_sets_4 6 rfl rfl)
theorem dX6_sets_103 : decode cX6_sets 103 = .ok (.sipush 255, 3) := dk_17 0 255 (dk_at dksX6_sets_4 9 rfl rfl)
theorem dX6_sets_106 : decode cX6_sets 106 = .ok (.iaload, 1) := dk_46 (dk_at dksX6_sets_4 12 rfl rfl)
theorem dX6_sets_107 : decode cX6_sets 107 = .ok (.iastore, 1) := dk_79 (dk_at dksX6_sets_4 13 rfl rfl)
theorem dX6_sets_108 : decode cX6_sets 108 = .ok (.aload_n 0, 1) := dk_42 (dk_at dksX6_sets_4 14 rfl rfl)
theorem dX6_sets_109 : decode cX6_sets 109 = .ok (.getfield 59, 3) := dk_180 0 59 (dk_at dksX6_sets_4 15 rfl rfl)
theorem dX6_sets_112 : decode cX6_sets 112 = .ok (.bipush 9, 2) := dk_16 9 (dk_at dksX6_sets_4 18 rfl rfl)
theorem dX6_sets_114 : decode cX6_sets 114 = .ok (.iload 4, 2) := dk_21 4 (dk_at dksX6_sets_4 20 rfl rfl)
theorem dX6_sets_116 : decode cX6_sets 116 = .ok (.iastore, 1) := dk_79 (dk_at dksX6_sets_4 22 rfl rfl)
theorem dX6_sets_117 : decode cX6_sets 117 = .ok (.return_, 1) := dk_177 (dk_at dksX6_sets_4 23 rfl rfl)
abbrev cX6_tells : ByteArray := prog_29_method_66_code
def yX6_tells : MethodName := ⟨RX6, "tells", "(III)I"⟩
def dkwX6_tells_9 : List UInt8 := [181, 0, 248, 167, 255, 107, 22, 4, 136, 172]
abbrev dktX6_tells_9 : List UInt8 := dkwX6_tells_9 ++ []
def dkwX6_tells_8 : List UInt8 := [22, 7, 28, 133, 148, 158, 0, 8, 28, 133, 167, 0, 5, 22, 7, 55, 4, 42, 89, 180, 0, 248, 4, 96]
abbrev dktX6_tells_8 : List UInt8 := dkwX6_tells_8 ++ dktX6_tells_9
def dkwX6_tells_7 : List UInt8 := [42, 180, 1, 2, 154, 0, 36, 21, 9, 154, 0, 31, 22, 7, 9, 148, 156, 0, 7, 9, 167, 0, 18]
abbrev dktX6_tells_7 : List UInt8 := dkwX6_tells_7 ++ dktX6_tells_8
def dkwX6_tells_6 : List UInt8 := [182, 1, 33, 153, 0, 7, 4, 167, 0, 4, 3, 54, 10, 21, 6, 27, 160, 0, 48, 21, 10, 153, 0, 43]
abbrev dktX6_tells_6 : List UInt8 := dkwX6_tells_6 ++ dktX6_tells_7
def dkwX6_tells_5 : List UInt8 := [55, 7, 42, 180, 1, 2, 54, 9, 42, 3, 181, 1, 2, 42, 16, 6, 182, 1, 16, 153, 0, 11, 42, 4]
abbrev dktX6_tells_5 : List UInt8 := dkwX6_tells_5 ++ dktX6_tells_6
def dkwX6_tells_4 : List UInt8 := [180, 0, 248, 4, 96, 181, 0, 248, 21, 6, 8, 160, 0, 7, 10, 167, 0, 8, 42, 4, 182, 1, 19]
abbrev dktX6_tells_4 : List UInt8 := dkwX6_tells_4 ++ dktX6_tells_5
def dkwX6_tells_3 : List UInt8 := [42, 180, 0, 245, 162, 0, 144, 42, 42, 180, 0, 248, 182, 0, 251, 54, 6, 42, 3, 181, 1, 2, 42, 89]
abbrev dktX6_tells_3 : List UInt8 := dkwX6_tells_3 ++ dktX6_tells_4
def dkwX6_tells_2 : List UInt8 := [180, 0, 24, 17, 1, 3, 42, 180, 0, 24, 17, 1, 2, 46, 96, 46, 96, 181, 0, 245, 42, 180, 0, 248]
abbrev dktX6_tells_2 : List UInt8 := dkwX6_tells_2 ++ dktX6_tells_3
def dkwX6_tells_1 : List UInt8 := [42, 17, 1, 144, 42, 180, 0, 24, 17, 1, 2, 46, 104, 181, 0, 248, 42, 42, 180, 0, 248, 42]
abbrev dktX6_tells_1 : List UInt8 := dkwX6_tells_1 ++ dktX6_tells_2
def dkwX6_tells_0 : List UInt8 := [42, 180, 0, 24, 17, 1, 2, 46, 2, 160, 0, 5, 29, 172, 42, 16, 10, 181, 0, 220, 29, 133, 55, 4]
abbrev dktX6_tells_0 : List UInt8 := dkwX6_tells_0 ++ dktX6_tells_1
theorem dksX6_tells_0 : cX6_tells.data.toList.drop 0 = dktX6_tells_0 := by decide +kernel
theorem dksX6_tells_1 : cX6_tells.data.toList.drop 24 = dktX6_tells_1 := dk_seg dksX6_tells_0 24 rfl rfl
theorem dksX6_tells_2 : cX6_tells.data.toList.drop 46 = dktX6_tells_2 := dk_seg dksX6_tells_1 22 rfl rfl
theorem dksX6_tells_3 : cX6_tells.data.toList.drop 70 = dktX6_tells_3 := dk_seg dksX6_tells_2 24 rfl rfl
theorem dksX6_tells_4 : cX6_tells.data.toList.drop 94 = dktX6_tells_4 := dk_seg dksX6_tells_3 24 rfl rfl
theorem dksX6_tells_5 : cX6_tells.data.toList.drop 117 = dktX6_tells_5 := dk_seg dksX6_tells_4 23 rfl rfl
theorem dksX6_tells_6 : cX6_tells.data.toList.drop 141 = dktX6_tells_6 := dk_seg dksX6_tells_5 24 rfl rfl
theorem dksX6_tells_7 : cX6_tells.data.toList.drop 165 = dktX6_tells_7 := dk_seg dksX6_tells_6 24 rfl rfl
theorem dksX6_tells_8 : cX6_tells.data.toList.drop 188 = dktX6_tells_8 := dk_seg dksX6_tells_7 23 rfl rfl
theorem dksX6_tells_9 : cX6_tells.data.toList.drop 212 = dktX6_tells_9 := dk_seg dksX6_tells_8 24 rfl rfl
theorem dX6_tells_0 : decode cX6_tells 0 = .ok (.aload_n 0, 1) := dk_42 (dk_at dksX6_tells_0 0 rfl rfl)
theorem dX6_tells_1 : decode cX6_tells 1 = .ok (.getfield 24, 3) := dk_180 0 24 (dk_at dksX6_tells_0 1 rfl rfl)
theorem dX6_tells_4 : decode cX6_tells 4 = .ok (.sipush 258, 3) := dk_17 1 2 (dk_at dksX6_tells_0 4 rfl rfl)
theorem dX6_tells_7 : decode cX6_tells 7 = .ok (.iaload, 1) := dk_46 (dk_at dksX6_tells_0 7 rfl rfl)
theorem dX6_tells_8 : decode cX6_tells 8 = .ok (.iconst (-1), 1) := dk_2 (dk_at dksX6_tells_0 8 rfl rfl)
theorem dX6_tells_9 : decode cX6_tells 9 = .ok (.if_icmp .ne 5, 3) := dk_160 0 5 (dk_at dksX6_tells_0 9 rfl rfl)
theorem dX6_tells_12 : decode cX6_tells 12 = .ok (.iload_n 3, 1) := dk_29 (dk_at dksX6_tells_0 12 rfl rfl)
theorem dX6_tells_13 : decode cX6_tells 13 = .ok (.ireturn, 1) := dk_172 (dk_at dksX6_tells_0 13 rfl rfl)
theorem dX6_tells_14 : decode cX6_tells 14 = .ok (.aload_n 0, 1) := dk_42 (dk_at dksX6_tells_0 14 rfl rfl)
theorem dX6_tells_15 : decode cX6_tells 15 = .ok (.bipush 10, 2) := dk_16 10 (dk_at dksX6_tells_0 15 rfl rfl)
theorem dX6_tells_17 : decode cX6_tells 17 = .ok (.putfield 220, 3) := dk_181 0 220 (dk_at dksX6_tells_0 17 rfl rfl)
theorem dX6_tells_20 : decode cX6_tells 20 = .ok (.iload_n 3, 1) := dk_29 (dk_at dksX6_tells_0 20 rfl rfl)
theorem dX6_tells_21 : decode cX6_tells 21 = .ok (.i2l, 1) := dk_133 (dk_at dksX6_tells_0 21 rfl rfl)
theorem dX6_tells_22 : decode cX6_tells 22 = .ok (.lstore 4, 2) := dk_55 4 (dk_at dksX6_tells_0 22 rfl rfl)
theorem dX6_tells_24 : decode cX6_tells 24 = .ok (.aload_n 0, 1) := dk_42 (dk_at dksX6_tells_1 0 rfl rfl)
theorem dX6_tells_25 : decode cX6_tells 25 = .ok (.sipush 400, 3) := dk_17 1 144 (dk_at dksX6_tells_1 1 rfl rfl)
theorem dX6_tells_28 : decode cX6_tells 28 = .ok (.aload_n 0, 1) := dk_42 (dk_at dksX6_tells_1 4 rfl rfl)
theorem dX6_tells_29 : decode cX6_tells 29 = .ok (.getfield 24, 3) := dk_180 0 24 (dk_at dksX6_tells_1 5 rfl rfl)
theorem dX6_tells_32 : decode cX6_tells 32 = .ok (.sipush 258, 3) := dk_17 1 2 (dk_at dksX6_tells_1 8 rfl rfl)
theorem dX6_tells_35 : decode cX6_tells 35 = .ok (.iaload, 1) := dk_46 (dk_at dksX6_tells_1 11 rfl rfl)
theorem dX6_tells_36 : decode cX6_tells 36 = .ok (.imul, 1) := dk_104 (dk_at dksX6_tells_1 12 rfl rfl)
theorem dX6_tells_37 : decode cX6_tells 37 = .ok (.putfield 248, 3) := dk_181 0 248 (dk_at dksX6_tells_1 13 rfl rfl)
theorem dX6_tells_40 : decode cX6_tells 40 = .ok (.aload_n 0, 1) := dk_42 (dk_at dksX6_tells_1 16 rfl rfl)
theorem dX6_tells_41 : decode cX6_tells 41 = .ok (.aload_n 0, 1) := dk_42 (dk_at dksX6_tells_1 17 rfl rfl)
theorem dX6_tells_42 : decode cX6_tells 42 = .ok (.getfield 248, 3) := dk_180 0 248 (dk_at dksX6_tells_1 18 rfl rfl)
theorem dX6_tells_45 : decode cX6_tells 45 = .ok (.aload_n 0, 1) := dk_42 (dk_at dksX6_tells_1 21 rfl rfl)
theorem dX6_tells_46 : decode cX6_tells 46 = .ok (.getfield 24, 3) := dk_180 0 24 (dk_at dksX6_tells_2 0 rfl rfl)
theorem dX6_tells_49 : decode cX6_tells 49 = .ok (.sipush 259, 3) := dk_17 1 3 (dk_at dksX6_tells_2 3 rfl rfl)
theorem dX6_tells_52 : decode cX6_tells 52 = .ok (.aload_n 0, 1) := dk_42 (dk_at dksX6_tells_2 6 rfl rfl)
theorem dX6_tells_53 : decode cX6_tells 53 = .ok (.getfield 24, 3) := dk_180 0 24 (dk_at dksX6_tells_2 7 rfl rfl)
theorem dX6_tells_56 : decode cX6_tells 56 = .ok (.sipush 258, 3) := dk_17 1 2 (dk_at dksX6_tells_2 10 rfl rfl)
theorem dX6_tells_59 : decode cX6_tells 59 = .ok (.iaload, 1) := dk_46 (dk_at dksX6_tells_2 13 rfl rfl)
theorem dX6_tells_60 : decode cX6_tells 60 = .ok (.iadd, 1) := dk_96 (dk_at dksX6_tells_2 14 rfl rfl)
theorem dX6_tells_61 : decode cX6_tells 61 = .ok (.iaload, 1) := dk_46 (dk_at dksX6_tells_2 15 rfl rfl)
theorem dX6_tells_62 : decode cX6_tells 62 = .ok (.iadd, 1) := dk_96 (dk_at dksX6_tells_2 16 rfl rfl)
theorem dX6_tells_63 : decode cX6_tells 63 = .ok (.putfield 245, 3) := dk_181 0 245 (dk_at dksX6_tells_2 17 rfl rfl)
theorem dX6_tells_66 : decode cX6_tells 66 = .ok (.aload_n 0, 1) := dk_42 (dk_at dksX6_tells_2 20 rfl rfl)
theorem dX6_tells_67 : decode cX6_tells 67 = .ok (.getfield 248, 3) := dk_180 0 248 (dk_at dksX6_tells_2 21 rfl rfl)
theorem dX6_tells_70 : decode cX6_tells 70 = .ok (.aload_n 0, 1) := dk_42 (dk_at dksX6_tells_3 0 rfl rfl)
theorem dX6_tells_71 : decode cX6_tells 71 = .ok (.getfield 245, 3) := dk_180 0 245 (dk_at dksX6_tells_3 1 rfl rfl)
theorem dX6_tells_74 : decode cX6_tells 74 = .ok (.if_icmp .ge 144, 3) := dk_162 0 144 (dk_at dksX6_tells_3 4 rfl rfl)
theorem dX6_tells_77 : decode cX6_tells 77 = .ok (.aload_n 0, 1) := dk_42 (dk_at dksX6_tells_3 7 rfl rfl)
theorem dX6_tells_78 : decode cX6_tells 78 = .ok (.aload_n 0, 1) := dk_42 (dk_at dksX6_tells_3 8 rfl rfl)
theorem dX6_tells_79 : decode cX6_tells 79 = .ok (.getfield 248, 3) := dk_180 0 248 (dk_at dksX6_tells_3 9 rfl rfl)
theorem dX6_tells_82 : decode cX6_tells 82 = .ok (.invokevirtual 251, 3) := dk_182 0 251 (dk_at dksX6_tells_3 12 rfl rfl)
theorem dX6_tells_85 : decode cX6_tells 85 = .ok (.istore 6, 2) := dk_54 6 (dk_at dksX6_tells_3 15 rfl rfl)
theorem dX6_tells_87 : decode cX6_tells 87 = .ok (.aload_n 0, 1) := dk_42 (dk_at dksX6_tells_3 17 rfl rfl)
theorem dX6_tells_88 : decode cX6_tells 88 = .ok (.iconst 0, 1) := dk_3 (dk_at dksX6_tells_3 18 rfl rfl)
theorem dX6_tells_89 : decode cX6_tells 89 = .ok (.putfield 258, 3) := dk_181 1 2 (dk_at dksX6_tells_3 19 rfl rfl)
theorem dX6_tells_92 : decode cX6_tells 92 = .ok (.aload_n 0, 1) := dk_42 (dk_at dksX6_tells_3 22 rfl rfl)
theorem dX6_tells_93 : decode cX6_tells 93 = .ok (.dup, 1) := dk_89 (dk_at dksX6_tells_3 23 rfl rfl)
theorem dX6_tells_94 : decode cX6_tells 94 = .ok (.getfield 248, 3) := dk_180 0 248 (dk_at dksX6_tells_4 0 rfl rfl)
theorem dX6_tells_97 : decode cX6_tells 97 = .ok (.iconst 1, 1) := dk_4 (dk_at dksX6_tells_4 3 rfl rfl)
theorem dX6_tells_98 : decode cX6_tells 98 = .ok (.iadd, 1) := dk_96 (dk_at dksX6_tells_4 4 rfl rfl)
theorem dX6_tells_99 : decode cX6_tells 99 = .ok (.putfield 248, 3) := dk_181 0 248 (dk_at dksX6_tells_4 5 rfl rfl)
theorem dX6_tells_102 : decode cX6_tells 102 = .ok (.iload 6, 2) := dk_21 6 (dk_at dksX6_tells_4 8 rfl rfl)
theorem dX6_tells_104 : decode cX6_tells 104 = .ok (.iconst 5, 1) := dk_8 (dk_at dksX6_tells_4 10 rfl rfl)
theorem dX6_tells_105 : decode cX6_tells 105 = .ok (.if_icmp .ne 7, 3) := dk_160 0 7 (dk_at dksX6_tells_4 11 rfl rfl)
theorem dX6_tells_108 : decode cX6_tells 108 = .ok (.lconst 1, 1) := dk_10 (dk_at dksX6_tells_4 14 rfl rfl)
theorem dX6_tells_109 : decode cX6_tells 109 = .ok (.goto 8, 3) := dk_167 0 8 (dk_at dksX6_tells_4 15 rfl rfl)
theorem dX6_tells_112 : decode cX6_tells 112 = .ok (.aload_n 0, 1) := dk_42 (dk_at dksX6_tells_4 18 rfl rfl)
theorem dX6_tells_113 : decode cX6_tells 113 = .ok (.iconst 1, 1) := dk_4 (dk_at dksX6_tells_4 19 rfl rfl)
theorem dX6_tells_114 : decode cX6_tells 114 = .ok (.invokevirtual 275, 3) := dk_182 1 19 (dk_at dksX6_tells_4 20 rfl rfl)
theorem dX6_tells_117 : decode cX6_tells 117 = .ok (.lstore 7, 2) := dk_55 7 (dk_at dksX6_tells_5 0 rfl rfl)
theorem dX6_tells_119 : decode cX6_tells 119 = .ok (.aload_n 0, 1) := dk_42 (dk_at dksX6_tells_5 2 rfl rfl)
theorem dX6_tells_120 : decode cX6_tells 120 = .ok (.getfield 258, 3) := dk_180 1 2 (dk_at dksX6_tells_5 3 rfl rfl)
theorem dX6_tells_123 : decode cX6_tells 123 = .ok (.istore 9, 2) := dk_54 9 (dk_at dksX6_tells_5 6 rfl rfl)
theorem dX6_tells_125 : decode cX6_tells 125 = .ok (.aload_n 0, 1) := dk_42 (dk_at dksX6_tells_5 8 rfl rfl)
theorem dX6_tells_126 : decode cX6_tells 126 = .ok (.iconst 0, 1) := dk_3 (dk_at dksX6_tells_5 9 rfl rfl)
theorem dX6_tells_127 : decode cX6_tells 127 = .ok (.putfield 258, 3) := dk_181 1 2 (dk_at dksX6_tells_5 10 rfl rfl)
theorem dX6_tells_130 : decode cX6_tells 130 = .ok (.aload_n 0, 1) := dk_42 (dk_at dksX6_tells_5 13 rfl rfl)
theorem dX6_tells_131 : decode cX6_tells 131 = .ok (.bipush 6, 2) := dk_16 6 (dk_at dksX6_tells_5 14 rfl rfl)
theorem dX6_tells_133 : decode cX6_tells 133 = .ok (.invokevirtual 272, 3) := dk_182 1 16 (dk_at dksX6_tells_5 16 rfl rfl)
theorem dX6_tells_136 : decode cX6_tells 136 = .ok (.ifCond .eq 11, 3) := dk_153 0 11 (dk_at dksX6_tells_5 19 rfl rfl)
theorem dX6_tells_139 : decode cX6_tells 139 = .ok (.aload_n 0, 1) := dk_42 (dk_at dksX6_tells_5 22 rfl rfl)
theorem dX6_tells_140 : decode cX6_tells 140 = .ok (.iconst 1, 1) := dk_4 (dk_at dksX6_tells_5 23 rfl rfl)
theorem dX6_tells_141 : decode cX6_tells 141 = .ok (.invokevirtual 289, 3) := dk_182 1 33 (dk_at dksX6_tells_6 0 rfl rfl)
theorem dX6_tells_144 : decode cX6_tells 144 = .ok (.ifCond .eq 7, 3) := dk_153 0 7 (dk_at dksX6_tells_6 3 rfl rfl)
theorem dX6_tells_147 : decode cX6_tells 147 = .ok (.iconst 1, 1) := dk_4 (dk_at dksX6_tells_6 6 rfl rfl)
theorem dX6_tells_148 : decode cX6_tells 148 = .ok (.goto 4, 3) := dk_167 0 4 (dk_at dksX6_tells_6 7 rfl rfl)
theorem dX6_tells_151 : decode cX6_tells 151 = .ok (.iconst 0, 1) := dk_3 (dk_at dksX6_tells_6 10 rfl rfl)
theorem dX6_tells_152 : decode cX6_tells 152 = .ok (.istore 10, 2) := dk_54 10 (dk_at dksX6_tells_6 11 rfl rfl)
theorem dX6_tells_154 : decode cX6_tells 154 = .ok (.iload 6, 2) := dk_21 6 (dk_at dksX6_tells_6 13 rfl rfl)
theorem dX6_tells_156 : decode cX6_tells 156 = .ok (.iload_n 1, 1) := dk_27 (dk_at dksX6_tells_6 15 rfl rfl)
theorem dX6_tells_157 : decode cX6_tells 157 = .ok (.if_icmp .ne 48, 3) := dk_160 0 48 (dk_at dksX6_tells_6 16 rfl rfl)
theorem dX6_tells_160 : decode cX6_tells 160 = .ok (.iload 10, 2) := dk_21 10 (dk_at dksX6_tells_6 19 rfl rfl)
theorem dX6_tells_162 : decode cX6_tells 162 = .ok (.ifCond .eq 43, 3) := dk_153 0 43 (dk_at dksX6_tells_6 21 rfl rfl)
theorem dX6_tells_165 : decode cX6_tells 165 = .ok (.aload_n 0, 1) := dk_42 (dk_at dksX6_tells_7 0 rfl rfl)
theorem dX6_tells_166 : decode cX6_tells 166 = .ok (.getfield 258, 3) := dk_180 1 2 (dk_at dksX6_tells_7 1 rfl rfl)
theorem dX6_tells_169 : decode cX6_tells 169 = .ok (.ifCond .ne 36, 3) := dk_154 0 36 (dk_at dksX6_tells_7 4 rfl rfl)
theorem dX6_tells_172 : decode cX6_tells 172 = .ok (.iload 9, 2) := dk_21 9 (dk_at dksX6_tells_7 7 rfl rfl)
theorem dX6_tells_174 : decode cX6_tells 174 = .ok (.ifCond .ne 31, 3) := dk_154 0 31 (dk_at dksX6_tells_7 9 rfl rfl)
theorem dX6_tells_177 : decode cX6_tells 177 = .ok (.lload 7, 2) := dk_22 7 (dk_at dksX6_tells_7 12 rfl rfl)
theorem dX6_tells_179 : decode cX6_tells 179 = .ok (.lconst 0, 1) := dk_9 (dk_at dksX6_tells_7 14 rfl rfl)
theorem dX6_tells_180 : decode cX6_tells 180 = .ok (.lcmp, 1) := dk_148 (dk_at dksX6_tells_7 15 rfl rfl)
theorem dX6_tells_181 : decode cX6_tells 181 = .ok (.ifCond .ge 7, 3) := dk_156 0 7 (dk_at dksX6_tells_7 16 rfl rfl)
theorem dX6_tells_184 : decode cX6_tells 184 = .ok (.lconst 0, 1) := dk_9 (dk_at dksX6_tells_7 19 rfl rfl)
theorem dX6_tells_185 : decode cX6_tells 185 = .ok (.goto 18, 3) := dk_167 0 18 (dk_at dksX6_tells_7 20 rfl rfl)
theorem dX6_tells_188 : decode cX6_tells 188 = .ok (.lload 7, 2) := dk_22 7 (dk_at dksX6_tells_8 0 rfl rfl)
theorem dX6_tells_190 : decode cX6_tells 190 = .ok (.iload_n 2, 1) := dk_28 (dk_at dksX6_tells_8 2 rfl rfl)
theorem dX6_tells_191 : decode cX6_tells 191 = .ok (.i2l, 1) := dk_133 (dk_at dksX6_tells_8 3 rfl rfl)
theorem dX6_tells_192 : decode cX6_tells 192 = .ok (.lcmp, 1) := dk_148 (dk_at dksX6_tells_8 4 rfl rfl)
theorem dX6_tells_193 : decode cX6_tells 193 = .ok (.ifCond .le 8, 3) := dk_158 0 8 (dk_at dksX6_tells_8 5 rfl rfl)
theorem dX6_tells_196 : decode cX6_tells 196 = .ok (.iload_n 2, 1) := dk_28 (dk_at dksX6_tells_8 8 rfl rfl)
theorem dX6_tells_197 : decode cX6_tells 197 = .ok (.i2l, 1) := dk_133 (dk_at dksX6_tells_8 9 rfl rfl)
theorem dX6_tells_198 : decode cX6_tells 198 = .ok (.goto 5, 3) := dk_167 0 5 (dk_at dksX6_tells_8 10 rfl rfl)
theorem dX6_tells_201 : decode cX6_tells 201 = .ok (.lload 7, 2) := dk_22 7 (dk_at dksX6_tells_8 13 rfl rfl)
theorem dX6_tells_203 : decode cX6_tells 203 = .ok (.lstore 4, 2) := dk_55 4 (dk_at dksX6_tells_8 15 rfl rfl)
theorem dX6_tells_205 : decode cX6_tells 205 = .ok (.aload_n 0, 1) := dk_42 (dk_at dksX6_tells_8 17 rfl rfl)
theorem dX6_tells_206 : decode cX6_tells 206 = .ok (.dup, 1) := dk_89 (dk_at dksX6_tells_8 18 rfl rfl)
theorem dX6_tells_207 : decode cX6_tells 207 = .ok (.getfield 248, 3) := dk_180 0 248 (dk_at dksX6_tells_8 19 rfl rfl)
theorem dX6_tells_210 : decode cX6_tells 210 = .ok (.iconst 1, 1) := dk_4 (dk_at dksX6_tells_8 22 rfl rfl)
theorem dX6_tells_211 : decode cX6_tells 211 = .ok (.iadd, 1) := dk_96 (dk_at dksX6_tells_8 23 rfl rfl)
theorem dX6_tells_212 : decode cX6_tells 212 = .ok (.putfield 248, 3) := dk_181 0 248 (dk_at dksX6_tells_9 0 rfl rfl)
theorem dX6_tells_215 : decode cX6_tells 215 = .ok (.goto (-149), 3) := dk_167 255 107 (dk_at dksX6_tells_9 3 rfl rfl)
theorem dX6_tells_218 : decode cX6_tells 218 = .ok (.lload 4, 2) := dk_22 4 (dk_at dksX6_tells_9 6 rfl rfl)
theorem dX6_tells_220 : decode cX6_tells 220 = .ok (.l2i, 1) := dk_136 (dk_at dksX6_tells_9 8 rfl rfl)
theorem dX6_tells_221 : decode cX6_tells 221 = .ok (.ireturn, 1) := dk_172 (dk_at dksX6_tells_9 9 rfl rfl)
abbrev cX6_codeAt : ByteArray := prog_29_method_56_code
def yX6_codeAt : MethodName := ⟨RX6, "codeAt", "(I)I"⟩
def dkwX6_codeAt_0 : List UInt8 := [27, 42, 180, 0, 245, 162, 0, 16, 42, 180, 0, 24, 17, 1, 10, 27, 96, 46, 167, 0, 4, 3, 172]
abbrev dktX6_codeAt_0 : List UInt8 := dkwX6_codeAt_0 ++ []
theorem dksX6_codeAt_0 : cX6_codeAt.data.toList.drop 0 = dktX6_codeAt_0 := by decide +kernel
theorem dX6_codeAt_0 : decode cX6_codeAt 0 = .ok (.iload_n 1, 1) := dk_27 (dk_at dksX6_codeAt_0 0 rfl rfl)
theorem dX6_codeAt_1 : decode cX6_codeAt 1 = .ok (.aload_n 0, 1) := dk_42 (dk_at dksX6_codeAt_0 1 rfl rfl)
theorem dX6_codeAt_2 : decode cX6_codeAt 2 = .ok (.getfield 245, 3) := dk_180 0 245 (dk_at dksX6_codeAt_0 2 rfl rfl)
theorem dX6_codeAt_5 : decode cX6_codeAt 5 = .ok (.if_icmp .ge 16, 3) := dk_162 0 16 (dk_at dksX6_codeAt_0 5 rfl rfl)
theorem dX6_codeAt_8 : decode cX6_codeAt 8 = .ok (.aload_n 0, 1) := dk_42 (dk_at dksX6_codeAt_0 8 rfl rfl)
theorem dX6_codeAt_9 : decode cX6_codeAt 9 = .ok (.getfield 24, 3) := dk_180 0 24 (dk_at dksX6_codeAt_0 9 rfl rfl)
theorem dX6_codeAt_12 : decode cX6_codeAt 12 = .ok (.sipush 266, 3) := dk_17 1 10 (dk_at dksX6_codeAt_0 12 rfl rfl)
theorem dX6_codeAt_15 : decode cX6_codeAt 15 = .ok (.iload_n 1, 1) := dk_27 (dk_at dksX6_codeAt_0 15 rfl rfl)
theorem dX6_codeAt_16 : decode cX6_codeAt 16 = .ok (.iadd, 1) := dk_96 (dk_at dksX6_codeAt_0 16 rfl rfl)
theorem dX6_codeAt_17 : decode cX6_codeAt 17 = .ok (.iaload, 1) := dk_46 (dk_at dksX6_codeAt_0 17 rfl rfl)
theorem dX6_codeAt_18 : decode cX6_codeAt 18 = .ok (.goto 4, 3) := dk_167 0 4 (dk_at dksX6_codeAt_0 18 rfl rfl)
theorem dX6_codeAt_21 : decode cX6_codeAt 21 = .ok (.iconst 0, 1) := dk_3 (dk_at dksX6_codeAt_0 21 rfl rfl)
theorem dX6_codeAt_22 : decode cX6_codeAt 22 = .ok (.ireturn, 1) := dk_172 (dk_at dksX6_codeAt_0 22 rfl rfl)
abbrev cX6_sumOf : ByteArray := prog_29_method_59_code
def yX6_sumOf : MethodName := ⟨RX6, "sumOf", "(Z)J"⟩
def dkwX6_sumOf_4 : List UInt8 := [182, 1, 9, 65, 167, 255, 162, 32, 173]
abbrev dktX6_sumOf_4 : List UInt8 := dkwX6_sumOf_4 ++ []
def dkwX6_sumOf_3 : List UInt8 := [27, 182, 1, 5, 55, 5, 42, 21, 4, 153, 0, 10, 32, 22, 5, 97, 167, 0, 7, 32, 22, 5, 101, 27]
abbrev dktX6_sumOf_3 : List UInt8 := dkwX6_sumOf_3 ++ dktX6_sumOf_4
def dkwX6_sumOf_2 : List UInt8 := [184, 0, 210, 160, 0, 7, 4, 167, 0, 4, 3, 54, 4, 42, 89, 180, 0, 248, 4, 96, 181, 0, 248, 42]
abbrev dktX6_sumOf_2 : List UInt8 := dkwX6_sumOf_2 ++ dktX6_sumOf_3
def dkwX6_sumOf_1 : List UInt8 := [180, 0, 248, 182, 0, 251, 16, 45, 184, 0, 210, 160, 0, 68, 42, 42, 180, 0, 248, 182, 0, 251, 16, 43]
abbrev dktX6_sumOf_1 : List UInt8 := dkwX6_sumOf_1 ++ dktX6_sumOf_2
def dkwX6_sumOf_0 : List UInt8 := [42, 27, 182, 1, 5, 65, 42, 42, 180, 0, 248, 182, 0, 251, 16, 43, 184, 0, 210, 159, 0, 19, 42, 42]
abbrev dktX6_sumOf_0 : List UInt8 := dkwX6_sumOf_0 ++ dktX6_sumOf_1
theorem dksX6_sumOf_0 : cX6_sumOf.data.toList.drop 0 = dktX6_sumOf_0 := by decide +kernel
theorem dksX6_sumOf_1 : cX6_sumOf.data.toList.drop 24 = dktX6_sumOf_1 := dk_seg dksX6_sumOf_0 24 rfl rfl
theorem dksX6_sumOf_2 : cX6_sumOf.data.toList.drop 48 = dktX6_sumOf_2 := dk_seg dksX6_sumOf_1 24 rfl rfl
theorem dksX6_sumOf_3 : cX6_sumOf.data.toList.drop 72 = dktX6_sumOf_3 := dk_seg dksX6_sumOf_2 24 rfl rfl
theorem dksX6_sumOf_4 : cX6_sumOf.data.toList.drop 96 = dktX6_sumOf_4 := dk_seg dksX6_sumOf_3 24 rfl rfl
theorem dX6_sumOf_0 : decode cX6_sumOf 0 = .ok (.aload_n 0, 1) := dk_42 (dk_at dksX6_sumOf_0 0 rfl rfl)
theorem dX6_sumOf_1 : decode cX6_sumOf 1 = .ok (.iload_n 1, 1) := dk_27 (dk_at dksX6_sumOf_0 1 rfl rfl)
theorem dX6_sumOf_2 : decode cX6_sumOf 2 = .ok (.invokevirtual 261, 3) := dk_182 1 5 (dk_at dksX6_sumOf_0 2 rfl rfl)
theorem dX6_sumOf_5 : decode cX6_sumOf 5 = .ok (.lstore_n 2, 1) := dk_65 (dk_at dksX6_sumOf_0 5 rfl rfl)
theorem dX6_sumOf_6 : decode cX6_sumOf 6 = .ok (.aload_n 0, 1) := dk_42 (dk_at dksX6_sumOf_0 6 rfl rfl)
theorem dX6_sumOf_7 : decode cX6_sumOf 7 = .ok (.aload_n 0, 1) := dk_42 (dk_at dksX6_sumOf_0 7 rfl rfl)
theorem dX6_sumOf_8 : decode cX6_sumOf 8 = .ok (.getfield 248, 3) := dk_180 0 248 (dk_at dksX6_sumOf_0 8 rfl rfl)
theorem dX6_sumOf_11 : decode cX6_sumOf 11 = .ok (.invokevirtual 251, 3) := dk_182 0 251 (dk_at dksX6_sumOf_0 11 rfl rfl)
theorem dX6_sumOf_14 : decode cX6_sumOf 14 = .ok (.bipush 43, 2) := dk_16 43 (dk_at dksX6_sumOf_0 14 rfl rfl)
theorem dX6_sumOf_16 : decode cX6_sumOf 16 = .ok (.invokestatic 210, 3) := dk_184 0 210 (dk_at dksX6_sumOf_0 16 rfl rfl)
theorem dX6_sumOf_19 : decode cX6_sumOf 19 = .ok (.if_icmp .eq 19, 3) := dk_159 0 19 (dk_at dksX6_sumOf_0 19 rfl rfl)
theorem dX6_sumOf_22 : decode cX6_sumOf 22 = .ok (.aload_n 0, 1) := dk_42 (dk_at dksX6_sumOf_0 22 rfl rfl)
theorem dX6_sumOf_23 : decode cX6_sumOf 23 = .ok (.aload_n 0, 1) := dk_42 (dk_at dksX6_sumOf_0 23 rfl rfl)
theorem dX6_sumOf_24 : decode cX6_sumOf 24 = .ok (.getfield 248, 3) := dk_180 0 248 (dk_at dksX6_sumOf_1 0 rfl rfl)
theorem dX6_sumOf_27 : decode cX6_sumOf 27 = .ok (.invokevirtual 251, 3) := dk_182 0 251 (dk_at dksX6_sumOf_1 3 rfl rfl)
theorem dX6_sumOf_30 : decode cX6_sumOf 30 = .ok (.bipush 45, 2) := dk_16 45 (dk_at dksX6_sumOf_1 6 rfl rfl)
theorem dX6_sumOf_32 : decode cX6_sumOf 32 = .ok (.invokestatic 210, 3) := dk_184 0 210 (dk_at dksX6_sumOf_1 8 rfl rfl)
theorem dX6_sumOf_35 : decode cX6_sumOf 35 = .ok (.if_icmp .ne 68, 3) := dk_160 0 68 (dk_at dksX6_sumOf_1 11 rfl rfl)
theorem dX6_sumOf_38 : decode cX6_sumOf 38 = .ok (.aload_n 0, 1) := dk_42 (dk_at dksX6_sumOf_1 14 rfl rfl)
theorem dX6_sumOf_39 : decode cX6_sumOf 39 = .ok (.aload_n 0, 1) := dk_42 (dk_at dksX6_sumOf_1 15 rfl rfl)
theorem dX6_sumOf_40 : decode cX6_sumOf 40 = .ok (.getfield 248, 3) := dk_180 0 248 (dk_at dksX6_sumOf_1 16 rfl rfl)
theorem dX6_sumOf_43 : decode cX6_sumOf 43 = .ok (.invokevirtual 251, 3) := dk_182 0 251 (dk_at dksX6_sumOf_1 19 rfl rfl)
theorem dX6_sumOf_46 : decode cX6_sumOf 46 = .ok (.bipush 43, 2) := dk_16 43 (dk_at dksX6_sumOf_1 22 rfl rfl)
theorem dX6_sumOf_48 : decode cX6_sumOf 48 = .ok (.invokestatic 210, 3) := dk_184 0 210 (dk_at dksX6_sumOf_2 0 rfl rfl)
theorem dX6_sumOf_51 : decode cX6_sumOf 51 = .ok (.if_icmp .ne 7, 3) := dk_160 0 7 (dk_at dksX6_sumOf_2 3 rfl rfl)
theorem dX6_sumOf_54 : decode cX6_sumOf 54 = .ok (.iconst 1, 1) := dk_4 (dk_at dksX6_sumOf_2 6 rfl rfl)
theorem dX6_sumOf_55 : decode cX6_sumOf 55 = .ok (.goto 4, 3) := dk_167 0 4 (dk_at dksX6_sumOf_2 7 rfl rfl)
theorem dX6_sumOf_58 : decode cX6_sumOf 58 = .ok (.iconst 0, 1) := dk_3 (dk_at dksX6_sumOf_2 10 rfl rfl)
theorem dX6_sumOf_59 : decode cX6_sumOf 59 = .ok (.istore 4, 2) := dk_54 4 (dk_at dksX6_sumOf_2 11 rfl rfl)
theorem dX6_sumOf_61 : decode cX6_sumOf 61 = .ok (.aload_n 0, 1) := dk_42 (dk_at dksX6_sumOf_2 13 rfl rfl)
theorem dX6_sumOf_62 : decode cX6_sumOf 62 = .ok (.dup, 1) := dk_89 (dk_at dksX6_sumOf_2 14 rfl rfl)
theorem dX6_sumOf_63 : decode cX6_sumOf 63 = .ok (.getfield 248, 3) := dk_180 0 248 (dk_at dksX6_sumOf_2 15 rfl rfl)
theorem dX6_sumOf_66 : decode cX6_sumOf 66 = .ok (.iconst 1, 1) := dk_4 (dk_at dksX6_sumOf_2 18 rfl rfl)
theorem dX6_sumOf_67 : decode cX6_sumOf 67 = .ok (.iadd, 1) := dk_96 (dk_at dksX6_sumOf_2 19 rfl rfl)
theorem dX6_sumOf_68 : decode cX6_sumOf 68 = .ok (.putfield 248, 3) := dk_181 0 248 (dk_at dksX6_sumOf_2 20 rfl rfl)
theorem dX6_sumOf_71 : decode cX6_sumOf 71 = .ok (.aload_n 0, 1) := dk_42 (dk_at dksX6_sumOf_2 23 rfl rfl)
theorem dX6_sumOf_72 : decode cX6_sumOf 72 = .ok (.iload_n 1, 1) := dk_27 (dk_at dksX6_sumOf_3 0 rfl rfl)
theorem dX6_sumOf_73 : decode cX6_sumOf 73 = .ok (.invokevirtual 261, 3) := dk_182 1 5 (dk_at dksX6_sumOf_3 1 rfl rfl)
theorem dX6_sumOf_76 : decode cX6_sumOf 76 = .ok (.lstore 5, 2) := dk_55 5 (dk_at dksX6_sumOf_3 4 rfl rfl)
theorem dX6_sumOf_78 : decode cX6_sumOf 78 = .ok (.aload_n 0, 1) := dk_42 (dk_at dksX6_sumOf_3 6 rfl rfl)
theorem dX6_sumOf_79 : decode cX6_sumOf 79 = .ok (.iload 4, 2) := dk_21 4 (dk_at dksX6_sumOf_3 7 rfl rfl)
theorem dX6_sumOf_81 : decode cX6_sumOf 81 = .ok (.ifCond .eq 10, 3) := dk_153 0 10 (dk_at dksX6_sumOf_3 9 rfl rfl)
theorem dX6_sumOf_84 : decode cX6_sumOf 84 = .ok (.lload_n 2, 1) := dk_32 (dk_at dksX6_sumOf_3 12 rfl rfl)
theorem dX6_sumOf_85 : decode cX6_sumOf 85 = .ok (.lload 5, 2) := dk_22 5 (dk_at dksX6_sumOf_3 13 rfl rfl)
theorem dX6_sumOf_87 : decode cX6_sumOf 87 = .ok (.ladd, 1) := dk_97 (dk_at dksX6_sumOf_3 15 rfl rfl)
theorem dX6_sumOf_88 : decode cX6_sumOf 88 = .ok (.goto 7, 3) := dk_167 0 7 (dk_at dksX6_sumOf_3 16 rfl rfl)
theorem dX6_sumOf_91 : decode cX6_sumOf 91 = .ok (.lload_n 2, 1) := dk_32 (dk_at dksX6_sumOf_3 19 rfl rfl)
theorem dX6_sumOf_92 : decode cX6_sumOf 92 = .ok (.lload 5, 2) := dk_22 5 (dk_at dksX6_sumOf_3 20 rfl rfl)
theorem dX6_sumOf_94 : decode cX6_sumOf 94 = .ok (.lsub, 1) := dk_101 (dk_at dksX6_sumOf_3 22 rfl rfl)
theorem dX6_sumOf_95 : decode cX6_sumOf 95 = .ok (.iload_n 1, 1) := dk_27 (dk_at dksX6_sumOf_3 23 rfl rfl)
theorem dX6_sumOf_96 : decode cX6_sumOf 96 = .ok (.invokevirtual 265, 3) := dk_182 1 9 (dk_at dksX6_sumOf_4 0 rfl rfl)
theorem dX6_sumOf_99 : decode cX6_sumOf 99 = .ok (.lstore_n 2, 1) := dk_65 (dk_at dksX6_sumOf_4 3 rfl rfl)
theorem dX6_sumOf_100 : decode cX6_sumOf 100 = .ok (.goto (-94), 3) := dk_167 255 162 (dk_at dksX6_sumOf_4 4 rfl rfl)
theorem dX6_sumOf_103 : decode cX6_sumOf 103 = .ok (.lload_n 2, 1) := dk_32 (dk_at dksX6_sumOf_4 7 rfl rfl)
theorem dX6_sumOf_104 : decode cX6_sumOf 104 = .ok (.lreturn, 1) := dk_173 (dk_at dksX6_sumOf_4 8 rfl rfl)
abbrev cX6_termOf : ByteArray := prog_29_method_60_code
def yX6_termOf : MethodName := ⟨RX6, "termOf", "(Z)J"⟩
def dkwX6_termOf_7 : List UInt8 := [167, 255, 97, 32, 173]
abbrev dktX6_termOf_7 : List UInt8 := dkwX6_termOf_7 ++ []
def dkwX6_termOf_6 : List UInt8 := [184, 0, 210, 160, 0, 10, 32, 22, 5, 109, 167, 0, 7, 32, 22, 5, 113, 27, 182, 1, 9, 65]
abbrev dktX6_termOf_6 : List UInt8 := dkwX6_termOf_6 ++ dktX6_termOf_7
def dkwX6_termOf_5 : List UInt8 := [55, 5, 42, 21, 4, 16, 42, 184, 0, 210, 160, 0, 10, 32, 22, 5, 105, 167, 0, 24, 21, 4, 16, 47]
abbrev dktX6_termOf_5 : List UInt8 := dkwX6_termOf_5 ++ dktX6_termOf_6
def dkwX6_termOf_4 : List UInt8 := [154, 0, 26, 42, 42, 180, 1, 2, 154, 0, 7, 27, 153, 0, 7, 4, 167, 0, 4, 3, 181, 1, 2, 10]
abbrev dktX6_termOf_4 : List UInt8 := dkwX6_termOf_4 ++ dktX6_termOf_5
def dkwX6_termOf_3 : List UInt8 := [181, 0, 248, 42, 27, 182, 1, 13, 55, 5, 21, 4, 16, 42, 184, 0, 210, 159, 0, 33, 22, 5, 9, 148]
abbrev dktX6_termOf_3 : List UInt8 := dkwX6_termOf_3 ++ dktX6_termOf_4
def dkwX6_termOf_2 : List UInt8 := [184, 0, 210, 160, 0, 117, 42, 42, 180, 0, 248, 182, 0, 251, 54, 4, 42, 89, 180, 0, 248, 4, 96]
abbrev dktX6_termOf_2 : List UInt8 := dkwX6_termOf_2 ++ dktX6_termOf_3
def dkwX6_termOf_1 : List UInt8 := [180, 0, 248, 182, 0, 251, 16, 47, 184, 0, 210, 159, 0, 19, 42, 42, 180, 0, 248, 182, 0, 251, 16, 37]
abbrev dktX6_termOf_1 : List UInt8 := dkwX6_termOf_1 ++ dktX6_termOf_2
def dkwX6_termOf_0 : List UInt8 := [42, 27, 182, 1, 13, 65, 42, 42, 180, 0, 248, 182, 0, 251, 16, 42, 184, 0, 210, 159, 0, 35, 42, 42]
abbrev dktX6_termOf_0 : List UInt8 := dkwX6_termOf_0 ++ dktX6_termOf_1
theorem dksX6_termOf_0 : cX6_termOf.data.toList.drop 0 = dktX6_termOf_0 := by decide +kernel
theorem dksX6_termOf_1 : cX6_termOf.data.toList.drop 24 = dktX6_termOf_1 := dk_seg dksX6_termOf_0 24 rfl rfl
theorem dksX6_termOf_2 : cX6_termOf.data.toList.drop 48 = dktX6_termOf_2 := dk_seg dksX6_termOf_1 24 rfl rfl
theorem dksX6_termOf_3 : cX6_termOf.data.toList.drop 71 = dktX6_termOf_3 := dk_seg dksX6_termOf_2 23 rfl rfl
theorem dksX6_termOf_4 : cX6_termOf.data.toList.drop 95 = dktX6_termOf_4 := dk_seg dksX6_termOf_3 24 rfl rfl
theorem dksX6_termOf_5 : cX6_termOf.data.toList.drop 119 = dktX6_termOf_5 := dk_seg dksX6_termOf_4 24 rfl rfl
theorem dksX6_termOf_6 : cX6_termOf.data.toList.drop 143 = dktX6_termOf_6 := dk_seg dksX6_termOf_5 24 rfl rfl
theorem dksX6_termOf_7 : cX6_termOf.data.toList.drop 165 = dktX6_termOf_7 := dk_seg dksX6_termOf_6 22 rfl rfl
theorem dX6_termOf_0 : decode cX6_termOf 0 = .ok (.aload_n 0, 1) := dk_42 (dk_at dksX6_termOf_0 0 rfl rfl)
theorem dX6_termOf_1 : decode cX6_termOf 1 = .ok (.iload_n 1, 1) := dk_27 (dk_at dksX6_termOf_0 1 rfl rfl)
theorem dX6_termOf_2 : decode cX6_termOf 2 = .ok (.invokevirtual 269, 3) := dk_182 1 13 (dk_at dksX6_termOf_0 2 rfl rfl)
theorem dX6_termOf_5 : decode cX6_termOf 5 = .ok (.lstore_n 2, 1) := dk_65 (dk_at dksX6_termOf_0 5 rfl rfl)
theorem dX6_termOf_6 : decode cX6_termOf 6 = .ok (.aload_n 0, 1) := dk_42 (dk_at dksX6_termOf_0 6 rfl rfl)
theorem dX6_termOf_7 : decode cX6_termOf 7 = .ok (.aload_n 0, 1) := dk_42 (dk_at dksX6_termOf_0 7 rfl rfl)
theorem dX6_termOf_8 : decode cX6_termOf 8 = .ok (.getfield 248, 3) := dk_180 0 248 (dk_at dksX6_termOf_0 8 rfl rfl)
theorem dX6_termOf_11 : decode cX6_termOf 11 = .ok (.invokevirtual 251, 3) := dk_182 0 251 (dk_at dksX6_termOf_0 11 rfl rfl)
theorem dX6_termOf_14 : decode cX6_termOf 14 = .ok (.bipush 42, 2) := dk_16 42 (dk_at dksX6_termOf_0 14 rfl rfl)
theorem dX6_termOf_16 : decode cX6_termOf 16 = .ok (.invokestatic 210, 3) := dk_184 0 210 (dk_at dksX6_termOf_0 16 rfl rfl)
theorem dX6_termOf_19 : decode cX6_termOf 19 = .ok (.if_icmp .eq 35, 3) := dk_159 0 35 (dk_at dksX6_termOf_0 19 rfl rfl)
theorem dX6_termOf_22 : decode cX6_termOf 22 = .ok (.aload_n 0, 1) := dk_42 (dk_at dksX6_termOf_0 22 rfl rfl)
theorem dX6_termOf_23 : decode cX6_termOf 23 = .ok (.aload_n 0, 1) := dk_42 (dk_at dksX6_termOf_0 23 rfl rfl)
theorem dX6_termOf_24 : decode cX6_termOf 24 = .ok (.getfield 248, 3) := dk_180 0 248 (dk_at dksX6_termOf_1 0 rfl rfl)
theorem dX6_termOf_27 : decode cX6_termOf 27 = .ok (.invokevirtual 251, 3) := dk_182 0 251 (dk_at dksX6_termOf_1 3 rfl rfl)
theorem dX6_termOf_30 : decode cX6_termOf 30 = .ok (.bipush 47, 2) := dk_16 47 (dk_at dksX6_termOf_1 6 rfl rfl)
theorem dX6_termOf_32 : decode cX6_termOf 32 = .ok (.invokestatic 210, 3) := dk_184 0 210 (dk_at dksX6_termOf_1 8 rfl rfl)
theorem dX6_termOf_35 : decode cX6_termOf 35 = .ok (.if_icmp .eq 19, 3) := dk_159 0 19 (dk_at dksX6_termOf_1 11 rfl rfl)
theorem dX6_termOf_38 : decode cX6_termOf 38 = .ok (.aload_n 0, 1) := dk_42 (dk_at dksX6_termOf_1 14 rfl rfl)
theorem dX6_termOf_39 : decode cX6_termOf 39 = .ok (.aload_n 0, 1) := dk_42 (dk_at dksX6_termOf_1 15 rfl rfl)
theorem dX6_termOf_40 : decode cX6_termOf 40 = .ok (.getfield 248, 3) := dk_180 0 248 (dk_at dksX6_termOf_1 16 rfl rfl)
theorem dX6_termOf_43 : decode cX6_termOf 43 = .ok (.invokevirtual 251, 3) := dk_182 0 251 (dk_at dksX6_termOf_1 19 rfl rfl)
theorem dX6_termOf_46 : decode cX6_termOf 46 = .ok (.bipush 37, 2) := dk_16 37 (dk_at dksX6_termOf_1 22 rfl rfl)
theorem dX6_termOf_48 : decode cX6_termOf 48 = .ok (.invokestatic 210, 3) := dk_184 0 210 (dk_at dksX6_termOf_2 0 rfl rfl)
theorem dX6_termOf_51 : decode cX6_termOf 51 = .ok (.if_icmp .ne 117, 3) := dk_160 0 117 (dk_at dksX6_termOf_2 3 rfl rfl)
theorem dX6_termOf_54 : decode cX6_termOf 54 = .ok (.aload_n 0, 1) := dk_42 (dk_at dksX6_termOf_2 6 rfl rfl)
theorem dX6_termOf_55 : decode cX6_termOf 55 = .ok (.aload_n 0, 1) := dk_42 (dk_at dksX6_termOf_2 7 rfl rfl)
theorem dX6_termOf_56 : decode cX6_termOf 56 = .ok (.getfield 248, 3) := dk_180 0 248 (dk_at dksX6_termOf_2 8 rfl rfl)
theorem dX6_termOf_59 : decode cX6_termOf 59 = .ok (.invokevirtual 251, 3) := dk_182 0 251 (dk_at dksX6_termOf_2 11 rfl rfl)
theorem dX6_termOf_62 : decode cX6_termOf 62 = .ok (.istore 4, 2) := dk_54 4 (dk_at dksX6_termOf_2 14 rfl rfl)
theorem dX6_termOf_64 : decode cX6_termOf 64 = .ok (.aload_n 0, 1) := dk_42 (dk_at dksX6_termOf_2 16 rfl rfl)
theorem dX6_termOf_65 : decode cX6_termOf 65 = .ok (.dup, 1) := dk_89 (dk_at dksX6_termOf_2 17 rfl rfl)
theorem dX6_termOf_66 : decode cX6_termOf 66 = .ok (.getfield 248, 3) := dk_180 0 248 (dk_at dksX6_termOf_2 18 rfl rfl)
theorem dX6_termOf_69 : decode cX6_termOf 69 = .ok (.iconst 1, 1) := dk_4 (dk_at dksX6_termOf_2 21 rfl rfl)
theorem dX6_termOf_70 : decode cX6_termOf 70 = .ok (.iadd, 1) := dk_96 (dk_at dksX6_termOf_2 22 rfl rfl)
theorem dX6_termOf_71 : decode cX6_termOf 71 = .ok (.putfield 248, 3) := dk_181 0 248 (dk_at dksX6_termOf_3 0 rfl rfl)
theorem dX6_termOf_74 : decode cX6_termOf 74 = .ok (.aload_n 0, 1) := dk_42 (dk_at dksX6_termOf_3 3 rfl rfl)
theorem dX6_termOf_75 : decode cX6_termOf 75 = .ok (.iload_n 1, 1) := dk_27 (dk_at dksX6_termOf_3 4 rfl rfl)
theorem dX6_termOf_76 : decode cX6_termOf 76 = .ok (.invokevirtual 269, 3) := dk_182 1 13 (dk_at dksX6_termOf_3 5 rfl rfl)
theorem dX6_termOf_79 : decode cX6_termOf 79 = .ok (.lstore 5, 2) := dk_55 5 (dk_at dksX6_termOf_3 8 rfl rfl)
theorem dX6_termOf_81 : decode cX6_termOf 81 = .ok (.iload 4, 2) := dk_21 4 (dk_at dksX6_termOf_3 10 rfl rfl)
theorem dX6_termOf_83 : decode cX6_termOf 83 = .ok (.bipush 42, 2) := dk_16 42 (dk_at dksX6_termOf_3 12 rfl rfl)
theorem dX6_termOf_85 : decode cX6_termOf 85 = .ok (.invokestatic 210, 3) := dk_184 0 210 (dk_at dksX6_termOf_3 14 rfl rfl)
theorem dX6_termOf_88 : decode cX6_termOf 88 = .ok (.if_icmp .eq 33, 3) := dk_159 0 33 (dk_at dksX6_termOf_3 17 rfl rfl)
theorem dX6_termOf_91 : decode cX6_termOf 91 = .ok (.lload 5, 2) := dk_22 5 (dk_at dksX6_termOf_3 20 rfl rfl)
theorem dX6_termOf_93 : decode cX6_termOf 93 = .ok (.lconst 0, 1) := dk_9 (dk_at dksX6_termOf_3 22 rfl rfl)
theorem dX6_termOf_94 : decode cX6_termOf 94 = .ok (.lcmp, 1) := dk_148 (dk_at dksX6_termOf_3 23 rfl rfl)
theorem dX6_termOf_95 : decode cX6_termOf 95 = .ok (.ifCond .ne 26, 3) := dk_154 0 26 (dk_at dksX6_termOf_4 0 rfl rfl)
theorem dX6_termOf_98 : decode cX6_termOf 98 = .ok (.aload_n 0, 1) := dk_42 (dk_at dksX6_termOf_4 3 rfl rfl)
theorem dX6_termOf_99 : decode cX6_termOf 99 = .ok (.aload_n 0, 1) := dk_42 (dk_at dksX6_termOf_4 4 rfl rfl)
theorem dX6_termOf_100 : decode cX6_termOf 100 = .ok (.getfield 258, 3) := dk_180 1 2 (dk_at dksX6_termOf_4 5 rfl rfl)
theorem dX6_termOf_103 : decode cX6_termOf 103 = .ok (.ifCond .ne 7, 3) := dk_154 0 7 (dk_at dksX6_termOf_4 8 rfl rfl)
theorem dX6_termOf_106 : decode cX6_termOf 106 = .ok (.iload_n 1, 1) := dk_27 (dk_at dksX6_termOf_4 11 rfl rfl)
theorem dX6_termOf_107 : decode cX6_termOf 107 = .ok (.ifCond .eq 7, 3) := dk_153 0 7 (dk_at dksX6_termOf_4 12 rfl rfl)
theorem dX6_termOf_110 : decode cX6_termOf 110 = .ok (.iconst 1, 1) := dk_4 (dk_at dksX6_termOf_4 15 rfl rfl)
theorem dX6_termOf_111 : decode cX6_termOf 111 = .ok (.goto 4, 3) := dk_167 0 4 (dk_at dksX6_termOf_4 16 rfl rfl)
theorem dX6_termOf_114 : decode cX6_termOf 114 = .ok (.iconst 0, 1) := dk_3 (dk_at dksX6_termOf_4 19 rfl rfl)
theorem dX6_termOf_115 : decode cX6_termOf 115 = .ok (.putfield 258, 3) := dk_181 1 2 (dk_at dksX6_termOf_4 20 rfl rfl)
theorem dX6_termOf_118 : decode cX6_termOf 118 = .ok (.lconst 1, 1) := dk_10 (dk_at dksX6_termOf_4 23 rfl rfl)
theorem dX6_termOf_119 : decode cX6_termOf 119 = .ok (.lstore 5, 2) := dk_55 5 (dk_at dksX6_termOf_5 0 rfl rfl)
theorem dX6_termOf_121 : decode cX6_termOf 121 = .ok (.aload_n 0, 1) := dk_42 (dk_at dksX6_termOf_5 2 rfl rfl)
theorem dX6_termOf_122 : decode cX6_termOf 122 = .ok (.iload 4, 2) := dk_21 4 (dk_at dksX6_termOf_5 3 rfl rfl)
theorem dX6_termOf_124 : decode cX6_termOf 124 = .ok (.bipush 42, 2) := dk_16 42 (dk_at dksX6_termOf_5 5 rfl rfl)
theorem dX6_termOf_126 : decode cX6_termOf 126 = .ok (.invokestatic 210, 3) := dk_184 0 210 (dk_at dksX6_termOf_5 7 rfl rfl)
theorem dX6_termOf_129 : decode cX6_termOf 129 = .ok (.if_icmp .ne 10, 3) := dk_160 0 10 (dk_at dksX6_termOf_5 10 rfl rfl)
theorem dX6_termOf_132 : decode cX6_termOf 132 = .ok (.lload_n 2, 1) := dk_32 (dk_at dksX6_termOf_5 13 rfl rfl)
theorem dX6_termOf_133 : decode cX6_termOf 133 = .ok (.lload 5, 2) := dk_22 5 (dk_at dksX6_termOf_5 14 rfl rfl)
theorem dX6_termOf_135 : decode cX6_termOf 135 = .ok (.lmul, 1) := dk_105 (dk_at dksX6_termOf_5 16 rfl rfl)
theorem dX6_termOf_136 : decode cX6_termOf 136 = .ok (.goto 24, 3) := dk_167 0 24 (dk_at dksX6_termOf_5 17 rfl rfl)
theorem dX6_termOf_139 : decode cX6_termOf 139 = .ok (.iload 4, 2) := dk_21 4 (dk_at dksX6_termOf_5 20 rfl rfl)
theorem dX6_termOf_141 : decode cX6_termOf 141 = .ok (.bipush 47, 2) := dk_16 47 (dk_at dksX6_termOf_5 22 rfl rfl)
theorem dX6_termOf_143 : decode cX6_termOf 143 = .ok (.invokestatic 210, 3) := dk_184 0 210 (dk_at dksX6_termOf_6 0 rfl rfl)
theorem dX6_termOf_146 : decode cX6_termOf 146 = .ok (.if_icmp .ne 10, 3) := dk_160 0 10 (dk_at dksX6_termOf_6 3 rfl rfl)
theorem dX6_termOf_149 : decode cX6_termOf 149 = .ok (.lload_n 2, 1) := dk_32 (dk_at dksX6_termOf_6 6 rfl rfl)
theorem dX6_termOf_150 : decode cX6_termOf 150 = .ok (.lload 5, 2) := dk_22 5 (dk_at dksX6_termOf_6 7 rfl rfl)
theorem dX6_termOf_152 : decode cX6_termOf 152 = .ok (.ldiv, 1) := dk_109 (dk_at dksX6_termOf_6 9 rfl rfl)
theorem dX6_termOf_153 : decode cX6_termOf 153 = .ok (.goto 7, 3) := dk_167 0 7 (dk_at dksX6_termOf_6 10 rfl rfl)
theorem dX6_termOf_156 : decode cX6_termOf 156 = .ok (.lload_n 2, 1) := dk_32 (dk_at dksX6_termOf_6 13 rfl rfl)
theorem dX6_termOf_157 : decode cX6_termOf 157 = .ok (.lload 5, 2) := dk_22 5 (dk_at dksX6_termOf_6 14 rfl rfl)
theorem dX6_termOf_159 : decode cX6_termOf 159 = .ok (.lrem, 1) := dk_113 (dk_at dksX6_termOf_6 16 rfl rfl)
theorem dX6_termOf_160 : decode cX6_termOf 160 = .ok (.iload_n 1, 1) := dk_27 (dk_at dksX6_termOf_6 17 rfl rfl)
theorem dX6_termOf_161 : decode cX6_termOf 161 = .ok (.invokevirtual 265, 3) := dk_182 1 9 (dk_at dksX6_termOf_6 18 rfl rfl)
theorem dX6_termOf_164 : decode cX6_termOf 164 = .ok (.lstore_n 2, 1) := dk_65 (dk_at dksX6_termOf_6 21 rfl rfl)
theorem dX6_termOf_165 : decode cX6_termOf 165 = .ok (.goto (-159), 3) := dk_167 255 97 (dk_at dksX6_termOf_7 0 rfl rfl)
theorem dX6_termOf_168 : decode cX6_termOf 168 = .ok (.lload_n 2, 1) := dk_32 (dk_at dksX6_termOf_7 3 rfl rfl)
theorem dX6_termOf_169 : decode cX6_termOf 169 = .ok (.lreturn, 1) := dk_173 (dk_at dksX6_termOf_7 4 rfl rfl)
abbrev cX6_partOf : ByteArray := prog_29_method_61_code
def yX6_partOf : MethodName := ⟨RX6, "partOf", "(Z)J"⟩
def dkwX6_partOf_8 : List UInt8 := [42, 180, 0, 220, 100, 46, 133, 173]
abbrev dktX6_partOf_8 : List UInt8 := dkwX6_partOf_8 ++ []
def dkwX6_partOf_7 : List UInt8 := [42, 180, 0, 24, 17, 11, 250, 42, 180, 0, 248, 96, 4, 100, 46, 133, 167, 0, 15, 42, 180, 0, 59, 28]
abbrev dktX6_partOf_7 : List UInt8 := dkwX6_partOf_7 ++ dktX6_partOf_8
def dkwX6_partOf_6 : List UInt8 := [42, 180, 0, 24, 3, 29, 96, 46, 5, 160, 0, 7, 10, 167, 0, 4, 9, 173, 28, 16, 50, 160, 0, 22]
abbrev dktX6_partOf_6 : List UInt8 := dkwX6_partOf_6 ++ dktX6_partOf_7
def dkwX6_partOf_5 : List UInt8 := [154, 0, 9, 20, 1, 22, 167, 0, 35, 28, 16, 24, 160, 0, 12, 42, 29, 182, 0, 138, 133, 167, 0, 20]
abbrev dktX6_partOf_5 : List UInt8 := dkwX6_partOf_5 ++ dktX6_partOf_6
def dkwX6_partOf_4 : List UInt8 := [153, 0, 5, 9, 173, 28, 16, 24, 159, 0, 9, 28, 16, 25, 160, 0, 50, 42, 29, 182, 0, 128]
abbrev dktX6_partOf_4 : List UInt8 := dkwX6_partOf_4 ++ dktX6_partOf_5
def dkwX6_partOf_3 : List UInt8 := [180, 0, 248, 96, 46, 62, 42, 89, 180, 0, 248, 4, 96, 181, 0, 248, 27, 153, 0, 10, 42, 180, 1, 2]
abbrev dktX6_partOf_3 : List UInt8 := dkwX6_partOf_3 ++ dktX6_partOf_4
def dkwX6_partOf_2 : List UInt8 := [181, 0, 248, 28, 16, 24, 159, 0, 9, 28, 16, 25, 160, 0, 27, 42, 180, 0, 24, 17, 11, 250, 42]
abbrev dktX6_partOf_2 : List UInt8 := dkwX6_partOf_2 ++ dktX6_partOf_3
def dkwX6_partOf_1 : List UInt8 := [96, 181, 0, 248, 32, 173, 42, 42, 180, 0, 248, 182, 0, 251, 61, 3, 62, 42, 89, 180, 0, 248, 4, 96]
abbrev dktX6_partOf_1 : List UInt8 := dkwX6_partOf_1 ++ dktX6_partOf_2
def dkwX6_partOf_0 : List UInt8 := [42, 16, 91, 184, 0, 210, 182, 1, 16, 153, 0, 21, 42, 27, 182, 1, 19, 65, 42, 89, 180, 0, 248, 4]
abbrev dktX6_partOf_0 : List UInt8 := dkwX6_partOf_0 ++ dktX6_partOf_1
theorem dksX6_partOf_0 : cX6_partOf.data.toList.drop 0 = dktX6_partOf_0 := by decide +kernel
theorem dksX6_partOf_1 : cX6_partOf.data.toList.drop 24 = dktX6_partOf_1 := dk_seg dksX6_partOf_0 24 rfl rfl
theorem dksX6_partOf_2 : cX6_partOf.data.toList.drop 48 = dktX6_partOf_2 := dk_seg dksX6_partOf_1 24 rfl rfl
theorem dksX6_partOf_3 : cX6_partOf.data.toList.drop 71 = dktX6_partOf_3 := dk_seg dksX6_partOf_2 23 rfl rfl
theorem dksX6_partOf_4 : cX6_partOf.data.toList.drop 95 = dktX6_partOf_4 := dk_seg dksX6_partOf_3 24 rfl rfl
theorem dksX6_partOf_5 : cX6_partOf.data.toList.drop 117 = dktX6_partOf_5 := dk_seg dksX6_partOf_4 22 rfl rfl
theorem dksX6_partOf_6 : cX6_partOf.data.toList.drop 141 = dktX6_partOf_6 := dk_seg dksX6_partOf_5 24 rfl rfl
theorem dksX6_partOf_7 : cX6_partOf.data.toList.drop 165 = dktX6_partOf_7 := dk_seg dksX6_partOf_6 24 rfl rfl
theorem dksX6_partOf_8 : cX6_partOf.data.toList.drop 189 = dktX6_partOf_8 := dk_seg dksX6_partOf_7 24 rfl rfl
theorem dX6_partOf_0 : decode cX6_partOf 0 = .ok (.aload_n 0, 1) := dk_42 (dk_at dksX6_partOf_0 0 rfl rfl)
theorem dX6_partOf_1 : decode cX6_partOf 1 = .ok (.bipush 91, 2) := dk_16 91 (dk_at dksX6_partOf_0 1 rfl rfl)
theorem dX6_partOf_3 : decode cX6_partOf 3 = .ok (.invokestatic 210, 3) := dk_184 0 210 (dk_at dksX6_partOf_0 3 rfl rfl)
theorem dX6_partOf_6 : decode cX6_partOf 6 = .ok (.invokevirtual 272, 3) := dk_182 1 16 (dk_at dksX6_partOf_0 6 rfl rfl)
theorem dX6_partOf_9 : decode cX6_partOf 9 = .ok (.ifCond .eq 21, 3) := dk_153 0 21 (dk_at dksX6_partOf_0 9 rfl rfl)
theorem dX6_partOf_12 : decode cX6_partOf 12 = .ok (.aload_n 0, 1) := dk_42 (dk_at dksX6_partOf_0 12 rfl rfl)
theorem dX6_partOf_13 : decode cX6_partOf 13 = .ok (.iload_n 1, 1) := dk_27 (dk_at dksX6_partOf_0 13 rfl rfl)
theorem dX6_partOf_14 : decode cX6_partOf 14 = .ok (.invokevirtual 275, 3) := dk_182 1 19 (dk_at dksX6_partOf_0 14 rfl rfl)
theorem dX6_partOf_17 : decode cX6_partOf 17 = .ok (.lstore_n 2, 1) := dk_65 (dk_at dksX6_partOf_0 17 rfl rfl)
theorem dX6_partOf_18 : decode cX6_partOf 18 = .ok (.aload_n 0, 1) := dk_42 (dk_at dksX6_partOf_0 18 rfl rfl)
theorem dX6_partOf_19 : decode cX6_partOf 19 = .ok (.dup, 1) := dk_89 (dk_at dksX6_partOf_0 19 rfl rfl)
theorem dX6_partOf_20 : decode cX6_partOf 20 = .ok (.getfield 248, 3) := dk_180 0 248 (dk_at dksX6_partOf_0 20 rfl rfl)
theorem dX6_partOf_23 : decode cX6_partOf 23 = .ok (.iconst 1, 1) := dk_4 (dk_at dksX6_partOf_0 23 rfl rfl)
theorem dX6_partOf_24 : decode cX6_partOf 24 = .ok (.iadd, 1) := dk_96 (dk_at dksX6_partOf_1 0 rfl rfl)
theorem dX6_partOf_25 : decode cX6_partOf 25 = .ok (.putfield 248, 3) := dk_181 0 248 (dk_at dksX6_partOf_1 1 rfl rfl)
theorem dX6_partOf_28 : decode cX6_partOf 28 = .ok (.lload_n 2, 1) := dk_32 (dk_at dksX6_partOf_1 4 rfl rfl)
theorem dX6_partOf_29 : decode cX6_partOf 29 = .ok (.lreturn, 1) := dk_173 (dk_at dksX6_partOf_1 5 rfl rfl)
theorem dX6_partOf_30 : decode cX6_partOf 30 = .ok (.aload_n 0, 1) := dk_42 (dk_at dksX6_partOf_1 6 rfl rfl)
theorem dX6_partOf_31 : decode cX6_partOf 31 = .ok (.aload_n 0, 1) := dk_42 (dk_at dksX6_partOf_1 7 rfl rfl)
theorem dX6_partOf_32 : decode cX6_partOf 32 = .ok (.getfield 248, 3) := dk_180 0 248 (dk_at dksX6_partOf_1 8 rfl rfl)
theorem dX6_partOf_35 : decode cX6_partOf 35 = .ok (.invokevirtual 251, 3) := dk_182 0 251 (dk_at dksX6_partOf_1 11 rfl rfl)
theorem dX6_partOf_38 : decode cX6_partOf 38 = .ok (.istore_n 2, 1) := dk_61 (dk_at dksX6_partOf_1 14 rfl rfl)
theorem dX6_partOf_39 : decode cX6_partOf 39 = .ok (.iconst 0, 1) := dk_3 (dk_at dksX6_partOf_1 15 rfl rfl)
theorem dX6_partOf_40 : decode cX6_partOf 40 = .ok (.istore_n 3, 1) := dk_62 (dk_at dksX6_partOf_1 16 rfl rfl)
theorem dX6_partOf_41 : decode cX6_partOf 41 = .ok (.aload_n 0, 1) := dk_42 (dk_at dksX6_partOf_1 17 rfl rfl)
theorem dX6_partOf_42 : decode cX6_partOf 42 = .ok (.dup, 1) := dk_89 (dk_at dksX6_partOf_1 18 rfl rfl)
theorem dX6_partOf_43 : decode cX6_partOf 43 = .ok (.getfield 248, 3) := dk_180 0 248 (dk_at dksX6_partOf_1 19 rfl rfl)
theorem dX6_partOf_46 : decode cX6_partOf 46 = .ok (.iconst 1, 1) := dk_4 (dk_at dksX6_partOf_1 22 rfl rfl)
theorem dX6_partOf_47 : decode cX6_partOf 47 = .ok (.iadd, 1) := dk_96 (dk_at dksX6_partOf_1 23 rfl rfl)
theorem dX6_partOf_48 : decode cX6_partOf 48 = .ok (.putfield 248, 3) := dk_181 0 248 (dk_at dksX6_partOf_2 0 rfl rfl)
theorem dX6_partOf_51 : decode cX6_partOf 51 = .ok (.iload_n 2, 1) := dk_28 (dk_at dksX6_partOf_2 3 rfl rfl)
theorem dX6_partOf_52 : decode cX6_partOf 52 = .ok (.bipush 24, 2) := dk_16 24 (dk_at dksX6_partOf_2 4 rfl rfl)
theorem dX6_partOf_54 : decode cX6_partOf 54 = .ok (.if_icmp .eq 9, 3) := dk_159 0 9 (dk_at dksX6_partOf_2 6 rfl rfl)
theorem dX6_partOf_57 : decode cX6_partOf 57 = .ok (.iload_n 2, 1) := dk_28 (dk_at dksX6_partOf_2 9 rfl rfl)
theorem dX6_partOf_58 : decode cX6_partOf 58 = .ok (.bipush 25, 2) := dk_16 25 (dk_at dksX6_partOf_2 10 rfl rfl)
theorem dX6_partOf_60 : decode cX6_partOf 60 = .ok (.if_icmp .ne 27, 3) := dk_160 0 27 (dk_at dksX6_partOf_2 12 rfl rfl)
theorem dX6_partOf_63 : decode cX6_partOf 63 = .ok (.aload_n 0, 1) := dk_42 (dk_at dksX6_partOf_2 15 rfl rfl)
theorem dX6_partOf_64 : decode cX6_partOf 64 = .ok (.getfield 24, 3) := dk_180 0 24 (dk_at dksX6_partOf_2 16 rfl rfl)
theorem dX6_partOf_67 : decode cX6_partOf 67 = .ok (.sipush 3066, 3) := dk_17 11 250 (dk_at dksX6_partOf_2 19 rfl rfl)
theorem dX6_partOf_70 : decode cX6_partOf 70 = .ok (.aload_n 0, 1) := dk_42 (dk_at dksX6_partOf_2 22 rfl rfl)
theorem dX6_partOf_71 : decode cX6_partOf 71 = .ok (.getfield 248, 3) := dk_180 0 248 (dk_at dksX6_partOf_3 0 rfl rfl)
theorem dX6_partOf_74 : decode cX6_partOf 74 = .ok (.iadd, 1) := dk_96 (dk_at dksX6_partOf_3 3 rfl rfl)
theorem dX6_partOf_75 : decode cX6_partOf 75 = .ok (.iaload, 1) := dk_46 (dk_at dksX6_partOf_3 4 rfl rfl)
theorem dX6_partOf_76 : decode cX6_partOf 76 = .ok (.istore_n 3, 1) := dk_62 (dk_at dksX6_partOf_3 5 rfl rfl)
theorem dX6_partOf_77 : decode cX6_partOf 77 = .ok (.aload_n 0, 1) := dk_42 (dk_at dksX6_partOf_3 6 rfl rfl)
theorem dX6_partOf_78 : decode cX6_partOf 78 = .ok (.dup, 1) := dk_89 (dk_at dksX6_partOf_3 7 rfl rfl)
theorem dX6_partOf_79 : decode cX6_partOf 79 = .ok (.getfield 248, 3) := dk_180 0 248 (dk_at dksX6_partOf_3 8 rfl rfl)
theorem dX6_partOf_82 : decode cX6_partOf 82 = .ok (.iconst 1, 1) := dk_4 (dk_at dksX6_partOf_3 11 rfl rfl)
theorem dX6_partOf_83 : decode cX6_partOf 83 = .ok (.iadd, 1) := dk_96 (dk_at dksX6_partOf_3 12 rfl rfl)
theorem dX6_partOf_84 : decode cX6_partOf 84 = .ok (.putfield 248, 3) := dk_181 0 248 (dk_at dksX6_partOf_3 13 rfl rfl)
theorem dX6_partOf_87 : decode cX6_partOf 87 = .ok (.iload_n 1, 1) := dk_27 (dk_at dksX6_partOf_3 16 rfl rfl)
theorem dX6_partOf_88 : decode cX6_partOf 88 = .ok (.ifCond .eq 10, 3) := dk_153 0 10 (dk_at dksX6_partOf_3 17 rfl rfl)
theorem dX6_partOf_91 : decode cX6_partOf 91 = .ok (.aload_n 0, 1) := dk_42 (dk_at dksX6_partOf_3 20 rfl rfl)
theorem dX6_partOf_92 : decode cX6_partOf 92 = .ok (.getfield 258, 3) := dk_180 1 2 (dk_at dksX6_partOf_3 21 rfl rfl)
theorem dX6_partOf_95 : decode cX6_partOf 95 = .ok (.ifCond .eq 5, 3) := dk_153 0 5 (dk_at dksX6_partOf_4 0 rfl rfl)
theorem dX6_partOf_98 : decode cX6_partOf 98 = .ok (.lconst 0, 1) := dk_9 (dk_at dksX6_partOf_4 3 rfl rfl)
theorem dX6_partOf_99 : decode cX6_partOf 99 = .ok (.lreturn, 1) := dk_173 (dk_at dksX6_partOf_4 4 rfl rfl)
theorem dX6_partOf_100 : decode cX6_partOf 100 = .ok (.iload_n 2, 1) := dk_28 (dk_at dksX6_partOf_4 5 rfl rfl)
theorem dX6_partOf_101 : decode cX6_partOf 101 = .ok (.bipush 24, 2) := dk_16 24 (dk_at dksX6_partOf_4 6 rfl rfl)
theorem dX6_partOf_103 : decode cX6_partOf 103 = .ok (.if_icmp .eq 9, 3) := dk_159 0 9 (dk_at dksX6_partOf_4 8 rfl rfl)
theorem dX6_partOf_106 : decode cX6_partOf 106 = .ok (.iload_n 2, 1) := dk_28 (dk_at dksX6_partOf_4 11 rfl rfl)
theorem dX6_partOf_107 : decode cX6_partOf 107 = .ok (.bipush 25, 2) := dk_16 25 (dk_at dksX6_partOf_4 12 rfl rfl)
theorem dX6_partOf_109 : decode cX6_partOf 109 = .ok (.if_icmp .ne 50, 3) := dk_160 0 50 (dk_at dksX6_partOf_4 14 rfl rfl)
theorem dX6_partOf_112 : decode cX6_partOf 112 = .ok (.aload_n 0, 1) := dk_42 (dk_at dksX6_partOf_4 17 rfl rfl)
theorem dX6_partOf_113 : decode cX6_partOf 113 = .ok (.iload_n 3, 1) := dk_29 (dk_at dksX6_partOf_4 18 rfl rfl)
theorem dX6_partOf_114 : decode cX6_partOf 114 = .ok (.invokevirtual 128, 3) := dk_182 0 128 (dk_at dksX6_partOf_4 19 rfl rfl)
theorem dX6_partOf_117 : decode cX6_partOf 117 = .ok (.ifCond .ne 9, 3) := dk_154 0 9 (dk_at dksX6_partOf_5 0 rfl rfl)
theorem dX6_partOf_120 : decode cX6_partOf 120 = .ok (.ldc2_w 278, 3) := dk_20 1 22 (dk_at dksX6_partOf_5 3 rfl rfl)
theorem dX6_partOf_123 : decode cX6_partOf 123 = .ok (.goto 35, 3) := dk_167 0 35 (dk_at dksX6_partOf_5 6 rfl rfl)
theorem dX6_partOf_126 : decode cX6_partOf 126 = .ok (.iload_n 2, 1) := dk_28 (dk_at dksX6_partOf_5 9 rfl rfl)
theorem dX6_partOf_127 : decode cX6_partOf 127 = .ok (.bipush 24, 2) := dk_16 24 (dk_at dksX6_partOf_5 10 rfl rfl)
theorem dX6_partOf_129 : decode cX6_partOf 129 = .ok (.if_icmp .ne 12, 3) := dk_160 0 12 (dk_at dksX6_partOf_5 12 rfl rfl)
theorem dX6_partOf_132 : decode cX6_partOf 132 = .ok (.aload_n 0, 1) := dk_42 (dk_at dksX6_partOf_5 15 rfl rfl)
theorem dX6_partOf_133 : decode cX6_partOf 133 = .ok (.iload_n 3, 1) := dk_29 (dk_at dksX6_partOf_5 16 rfl rfl)
theorem dX6_partOf_134 : decode cX6_partOf 134 = .ok (.invokevirtual 138, 3) := dk_182 0 138 (dk_at dksX6_partOf_5 17 rfl rfl)
theorem dX6_partOf_137 : decode cX6_partOf 137 = .ok (.i2l, 1) := dk_133 (dk_at dksX6_partOf_5 20 rfl rfl)
theorem dX6_partOf_138 : decode cX6_partOf 138 = .ok (.goto 20, 3) := dk_167 0 20 (dk_at dksX6_partOf_5 21 rfl rfl)
theorem dX6_partOf_141 : decode cX6_partOf 141 = .ok (.aload_n 0, 1) := dk_42 (dk_at dksX6_partOf_6 0 rfl rfl)
theorem dX6_partOf_142 : decode cX6_partOf 142 = .ok (.getfield 24, 3) := dk_180 0 24 (dk_at dksX6_partOf_6 1 rfl rfl)
theorem dX6_partOf_145 : decode cX6_partOf 145 = .ok (.iconst 0, 1) := dk_3 (dk_at dksX6_partOf_6 4 rfl rfl)
theorem dX6_partOf_146 : decode cX6_partOf 146 = .ok (.iload_n 3, 1) := dk_29 (dk_at dksX6_partOf_6 5 rfl rfl)
theorem dX6_partOf_147 : decode cX6_partOf 147 = .ok (.iadd, 1) := dk_96 (dk_at dksX6_partOf_6 6 rfl rfl)
theorem dX6_partOf_148 : decode cX6_partOf 148 = .ok (.iaload, 1) := dk_46 (dk_at dksX6_partOf_6 7 rfl rfl)
theorem dX6_partOf_149 : decode cX6_partOf 149 = .ok (.iconst 2, 1) := dk_5 (dk_at dksX6_partOf_6 8 rfl rfl)
theorem dX6_partOf_150 : decode cX6_partOf 150 = .ok (.if_icmp .ne 7, 3) := dk_160 0 7 (dk_at dksX6_partOf_6 9 rfl rfl)
theorem dX6_partOf_153 : decode cX6_partOf 153 = .ok (.lconst 1, 1) := dk_10 (dk_at dksX6_partOf_6 12 rfl rfl)
theorem dX6_partOf_154 : decode cX6_partOf 154 = .ok (.goto 4, 3) := dk_167 0 4 (dk_at dksX6_partOf_6 13 rfl rfl)
theorem dX6_partOf_157 : decode cX6_partOf 157 = .ok (.lconst 0, 1) := dk_9 (dk_at dksX6_partOf_6 16 rfl rfl)
theorem dX6_partOf_158 : decode cX6_partOf 158 = .ok (.lreturn, 1) := dk_173 (dk_at dksX6_partOf_6 17 rfl rfl)
theorem dX6_partOf_159 : decode cX6_partOf 159 = .ok (.iload_n 2, 1) := dk_28 (dk_at dksX6_partOf_6 18 rfl rfl)
theorem dX6_partOf_160 : decode cX6_partOf 160 = .ok (.bipush 50, 2) := dk_16 50 (dk_at dksX6_partOf_6 19 rfl rfl)
theorem dX6_partOf_162 : decode cX6_partOf 162 = .ok (.if_icmp .ne 22, 3) := dk_160 0 22 (dk_at dksX6_partOf_6 21 rfl rfl)
theorem dX6_partOf_165 : decode cX6_partOf 165 = .ok (.aload_n 0, 1) := dk_42 (dk_at dksX6_partOf_7 0 rfl rfl)
theorem dX6_partOf_166 : decode cX6_partOf 166 = .ok (.getfield 24, 3) := dk_180 0 24 (dk_at dksX6_partOf_7 1 rfl rfl)
theorem dX6_partOf_169 : decode cX6_partOf 169 = .ok (.sipush 3066, 3) := dk_17 11 250 (dk_at dksX6_partOf_7 4 rfl rfl)
theorem dX6_partOf_172 : decode cX6_partOf 172 = .ok (.aload_n 0, 1) := dk_42 (dk_at dksX6_partOf_7 7 rfl rfl)
theorem dX6_partOf_173 : decode cX6_partOf 173 = .ok (.getfield 248, 3) := dk_180 0 248 (dk_at dksX6_partOf_7 8 rfl rfl)
theorem dX6_partOf_176 : decode cX6_partOf 176 = .ok (.iadd, 1) := dk_96 (dk_at dksX6_partOf_7 11 rfl rfl)
theorem dX6_partOf_177 : decode cX6_partOf 177 = .ok (.iconst 1, 1) := dk_4 (dk_at dksX6_partOf_7 12 rfl rfl)
theorem dX6_partOf_178 : decode cX6_partOf 178 = .ok (.isub, 1) := dk_100 (dk_at dksX6_partOf_7 13 rfl rfl)
theorem dX6_partOf_179 : decode cX6_partOf 179 = .ok (.iaload, 1) := dk_46 (dk_at dksX6_partOf_7 14 rfl rfl)
theorem dX6_partOf_180 : decode cX6_partOf 180 = .ok (.i2l, 1) := dk_133 (dk_at dksX6_partOf_7 15 rfl rfl)
theorem dX6_partOf_181 : decode cX6_partOf 181 = .ok (.goto 15, 3) := dk_167 0 15 (dk_at dksX6_partOf_7 16 rfl rfl)
theorem dX6_partOf_184 : decode cX6_partOf 184 = .ok (.aload_n 0, 1) := dk_42 (dk_at dksX6_partOf_7 19 rfl rfl)
theorem dX6_partOf_185 : decode cX6_partOf 185 = .ok (.getfield 59, 3) := dk_180 0 59 (dk_at dksX6_partOf_7 20 rfl rfl)
theorem dX6_partOf_188 : decode cX6_partOf 188 = .ok (.iload_n 2, 1) := dk_28 (dk_at dksX6_partOf_7 23 rfl rfl)
theorem dX6_partOf_189 : decode cX6_partOf 189 = .ok (.aload_n 0, 1) := dk_42 (dk_at dksX6_partOf_8 0 rfl rfl)
theorem dX6_partOf_190 : decode cX6_partOf 190 = .ok (.getfield 220, 3) := dk_180 0 220 (dk_at dksX6_partOf_8 1 rfl rfl)
theorem dX6_partOf_193 : decode cX6_partOf 193 = .ok (.isub, 1) := dk_100 (dk_at dksX6_partOf_8 4 rfl rfl)
theorem dX6_partOf_194 : decode cX6_partOf 194 = .ok (.iaload, 1) := dk_46 (dk_at dksX6_partOf_8 5 rfl rfl)
theorem dX6_partOf_195 : decode cX6_partOf 195 = .ok (.i2l, 1) := dk_133 (dk_at dksX6_partOf_8 6 rfl rfl)
theorem dX6_partOf_196 : decode cX6_partOf 196 = .ok (.lreturn, 1) := dk_173 (dk_at dksX6_partOf_8 7 rfl rfl)
abbrev cX6_passes0 : ByteArray := prog_29_method_57_code
def yX6_passes0 : MethodName := ⟨RX6, "passes0", "(I)Z"⟩
def dkwX6_passes0_1 : List UInt8 := [180, 0, 248, 4, 96, 181, 0, 248, 28, 172]
abbrev dktX6_passes0_1 : List UInt8 := dkwX6_passes0_1 ++ []
def dkwX6_passes0_0 : List UInt8 := [42, 42, 180, 0, 248, 182, 0, 251, 27, 160, 0, 7, 4, 167, 0, 4, 3, 61, 28, 153, 0, 13, 42, 89]
abbrev dktX6_passes0_0 : List UInt8 := dkwX6_passes0_0 ++ dktX6_passes0_1
theorem dksX6_passes0_0 : cX6_passes0.data.toList.drop 0 = dktX6_passes0_0 := by decide +kernel
theorem dksX6_passes0_1 : cX6_passes0.data.toList.drop 24 = dktX6_passes0_1 := dk_seg dksX6_passes0_0 24 rfl rfl
theorem dX6_passes0_0 : decode cX6_passes0 0 = .ok (.aload_n 0, 1) := dk_42 (dk_at dksX6_passes0_0 0 rfl rfl)
theorem dX6_passes0_1 : decode cX6_passes0 1 = .ok (.aload_n 0, 1) := dk_42 (dk_at dksX6_passes0_0 1 rfl rfl)
theorem dX6_passes0_2 : decode cX6_passes0 2 = .ok (.getfield 248, 3) := dk_180 0 248 (dk_at dksX6_passes0_0 2 rfl rfl)
theorem dX6_passes0_5 : decode cX6_passes0 5 = .ok (.invokevirtual 251, 3) := dk_182 0 251 (dk_at dksX6_passes0_0 5 rfl rfl)
theorem dX6_passes0_8 : decode cX6_passes0 8 = .ok (.iload_n 1, 1) := dk_27 (dk_at dksX6_passes0_0 8 rfl rfl)
theorem dX6_passes0_9 : decode cX6_passes0 9 = .ok (.if_icmp .ne 7, 3) := dk_160 0 7 (dk_at dksX6_passes0_0 9 rfl rfl)
theorem dX6_passes0_12 : decode cX6_passes0 12 = .ok (.iconst 1, 1) := dk_4 (dk_at dksX6_passes0_0 12 rfl rfl)
theorem dX6_passes0_13 : decode cX6_passes0 13 = .ok (.goto 4, 3) := dk_167 0 4 (dk_at dksX6_passes0_0 13 rfl rfl)
theorem dX6_passes0_16 : decode cX6_passes0 16 = .ok (.iconst 0, 1) := dk_3 (dk_at dksX6_passes0_0 16 rfl rfl)
theorem dX6_passes0_17 : decode cX6_passes0 17 = .ok (.istore_n 2, 1) := dk_61 (dk_at dksX6_passes0_0 17 rfl rfl)
theorem dX6_passes0_18 : decode cX6_passes0 18 = .ok (.iload_n 2, 1) := dk_28 (dk_at dksX6_passes0_0 18 rfl rfl)
theorem dX6_passes0_19 : decode cX6_passes0 19 = .ok (.ifCond .eq 13, 3) := dk_153 0 13 (dk_at dksX6_passes0_0 19 rfl rfl)
theorem dX6_passes0_22 : decode cX6_passes0 22 = .ok (.aload_n 0, 1) := dk_42 (dk_at dksX6_passes0_0 22 rfl rfl)
theorem dX6_passes0_23 : decode cX6_passes0 23 = .ok (.dup, 1) := dk_89 (dk_at dksX6_passes0_0 23 rfl rfl)
theorem dX6_passes0_24 : decode cX6_passes0 24 = .ok (.getfield 248, 3) := dk_180 0 248 (dk_at dksX6_passes0_1 0 rfl rfl)
theorem dX6_passes0_27 : decode cX6_passes0 27 = .ok (.iconst 1, 1) := dk_4 (dk_at dksX6_passes0_1 3 rfl rfl)
theorem dX6_passes0_28 : decode cX6_passes0 28 = .ok (.iadd, 1) := dk_96 (dk_at dksX6_passes0_1 4 rfl rfl)
theorem dX6_passes0_29 : decode cX6_passes0 29 = .ok (.putfield 248, 3) := dk_181 0 248 (dk_at dksX6_passes0_1 5 rfl rfl)
theorem dX6_passes0_32 : decode cX6_passes0 32 = .ok (.iload_n 2, 1) := dk_28 (dk_at dksX6_passes0_1 8 rfl rfl)
theorem dX6_passes0_33 : decode cX6_passes0 33 = .ok (.ireturn, 1) := dk_172 (dk_at dksX6_passes0_1 9 rfl rfl)
abbrev cX6_bounded : ByteArray := prog_29_method_58_code
def yX6_bounded : MethodName := ⟨RX6, "bounded", "(JZ)J"⟩
def dkwX6_bounded_1 : List UInt8 := [181, 1, 2, 42, 180, 1, 2, 153, 0, 7, 9, 167, 0, 4, 31, 173]
abbrev dktX6_bounded_1 : List UInt8 := dkwX6_bounded_1 ++ []
def dkwX6_bounded_0 : List UInt8 := [29, 153, 0, 24, 31, 20, 0, 254, 148, 157, 0, 11, 31, 20, 1, 0, 148, 156, 0, 8, 42, 4]
abbrev dktX6_bounded_0 : List UInt8 := dkwX6_bounded_0 ++ dktX6_bounded_1
theorem dksX6_bounded_0 : cX6_bounded.data.toList.drop 0 = dktX6_bounded_0 := by decide +kernel
theorem dksX6_bounded_1 : cX6_bounded.data.toList.drop 22 = dktX6_bounded_1 := dk_seg dksX6_bounded_0 22 rfl rfl
theorem dX6_bounded_0 : decode cX6_bounded 0 = .ok (.iload_n 3, 1) := dk_29 (dk_at dksX6_bounded_0 0 rfl rfl)
theorem dX6_bounded_1 : decode cX6_bounded 1 = .ok (.ifCond .eq 24, 3) := dk_153 0 24 (dk_at dksX6_bounded_0 1 rfl rfl)
theorem dX6_bounded_4 : decode cX6_bounded 4 = .ok (.lload_n 1, 1) := dk_31 (dk_at dksX6_bounded_0 4 rfl rfl)
theorem dX6_bounded_5 : decode cX6_bounded 5 = .ok (.ldc2_w 254, 3) := dk_20 0 254 (dk_at dksX6_bounded_0 5 rfl rfl)
theorem dX6_bounded_8 : decode cX6_bounded 8 = .ok (.lcmp, 1) := dk_148 (dk_at dksX6_bounded_0 8 rfl rfl)
theorem dX6_bounded_9 : decode cX6_bounded 9 = .ok (.ifCond .gt 11, 3) := dk_157 0 11 (dk_at dksX6_bounded_0 9 rfl rfl)
theorem dX6_bounded_12 : decode cX6_bounded 12 = .ok (.lload_n 1, 1) := dk_31 (dk_at dksX6_bounded_0 12 rfl rfl)
theorem dX6_bounded_13 : decode cX6_bounded 13 = .ok (.ldc2_w 256, 3) := dk_20 1 0 (dk_at dksX6_bounded_0 13 rfl rfl)
theorem dX6_bounded_16 : decode cX6_bounded 16 = .ok (.lcmp, 1) := dk_148 (dk_at dksX6_bounded_0 16 rfl rfl)
theorem dX6_bounded_17 : decode cX6_bounded 17 = .ok (.ifCond .ge 8, 3) := dk_156 0 8 (dk_at dksX6_bounded_0 17 rfl rfl)
theorem dX6_bounded_20 : decode cX6_bounded 20 = .ok (.aload_n 0, 1) := dk_42 (dk_at dksX6_bounded_0 20 rfl rfl)
theorem dX6_bounded_21 : decode cX6_bounded 21 = .ok (.iconst 1, 1) := dk_4 (dk_at dksX6_bounded_0 21 rfl rfl)
theorem dX6_bounded_22 : decode cX6_bounded 22 = .ok (.putfield 258, 3) := dk_181 1 2 (dk_at dksX6_bounded_1 0 rfl rfl)
theorem dX6_bounded_25 : decode cX6_bounded 25 = .ok (.aload_n 0, 1) := dk_42 (dk_at dksX6_bounded_1 3 rfl rfl)
theorem dX6_bounded_26 : decode cX6_bounded 26 = .ok (.getfield 258, 3) := dk_180 1 2 (dk_at dksX6_bounded_1 4 rfl rfl)
theorem dX6_bounded_29 : decode cX6_bounded 29 = .ok (.ifCond .eq 7, 3) := dk_153 0 7 (dk_at dksX6_bounded_1 7 rfl rfl)
theorem dX6_bounded_32 : decode cX6_bounded 32 = .ok (.lconst 0, 1) := dk_9 (dk_at dksX6_bounded_1 10 rfl rfl)
theorem dX6_bounded_33 : decode cX6_bounded 33 = .ok (.goto 4, 3) := dk_167 0 4 (dk_at dksX6_bounded_1 11 rfl rfl)
theorem dX6_bounded_36 : decode cX6_bounded 36 = .ok (.lload_n 1, 1) := dk_31 (dk_at dksX6_bounded_1 14 rfl rfl)
theorem dX6_bounded_37 : decode cX6_bounded 37 = .ok (.lreturn, 1) := dk_173 (dk_at dksX6_bounded_1 15 rfl rfl)
abbrev cX6_testOf : ByteArray := prog_29_method_62_code
def yX6_testOf : MethodName := ⟨RX6, "testOf", "(Z)Z"⟩
def dkwX6_testOf_2 : List UInt8 := [167, 255, 215, 28, 172]
abbrev dktX6_testOf_2 : List UInt8 := dkwX6_testOf_2 ++ []
def dkwX6_testOf_1 : List UInt8 := [4, 167, 0, 4, 3, 182, 1, 24, 62, 28, 154, 0, 7, 29, 153, 0, 7, 4, 167, 0, 4, 3, 61]
abbrev dktX6_testOf_1 : List UInt8 := dkwX6_testOf_1 ++ dktX6_testOf_2
def dkwX6_testOf_0 : List UInt8 := [42, 27, 182, 1, 24, 61, 42, 16, 7, 182, 1, 16, 153, 0, 38, 42, 27, 153, 0, 11, 28, 154, 0, 7]
abbrev dktX6_testOf_0 : List UInt8 := dkwX6_testOf_0 ++ dktX6_testOf_1
theorem dksX6_testOf_0 : cX6_testOf.data.toList.drop 0 = dktX6_testOf_0 := by decide +kernel
theorem dksX6_testOf_1 : cX6_testOf.data.toList.drop 24 = dktX6_testOf_1 := dk_seg dksX6_testOf_0 24 rfl rfl
theorem dksX6_testOf_2 : cX6_testOf.data.toList.drop 47 = dktX6_testOf_2 := dk_seg dksX6_testOf_1 23 rfl rfl
theorem dX6_testOf_0 : decode cX6_testOf 0 = .ok (.aload_n 0, 1) := dk_42 (dk_at dksX6_testOf_0 0 rfl rfl)
theorem dX6_testOf_1 : decode cX6_testOf 1 = .ok (.iload_n 1, 1) := dk_27 (dk_at dksX6_testOf_0 1 rfl rfl)
theorem dX6_testOf_2 : decode cX6_testOf 2 = .ok (.invokevirtual 280, 3) := dk_182 1 24 (dk_at dksX6_testOf_0 2 rfl rfl)
theorem dX6_testOf_5 : decode cX6_testOf 5 = .ok (.istore_n 2, 1) := dk_61 (dk_at dksX6_testOf_0 5 rfl rfl)
theorem dX6_testOf_6 : decode cX6_testOf 6 = .ok (.aload_n 0, 1) := dk_42 (dk_at dksX6_testOf_0 6 rfl rfl)
theorem dX6_testOf_7 : decode cX6_testOf 7 = .ok (.bipush 7, 2) := dk_16 7 (dk_at dksX6_testOf_0 7 rfl rfl)
theorem dX6_testOf_9 : decode cX6_testOf 9 = .ok (.invokevirtual 272, 3) := dk_182 1 16 (dk_at dksX6_testOf_0 9 rfl rfl)
theorem dX6_testOf_12 : decode cX6_testOf 12 = .ok (.ifCond .eq 38, 3) := dk_153 0 38 (dk_at dksX6_testOf_0 12 rfl rfl)
theorem dX6_testOf_15 : decode cX6_testOf 15 = .ok (.aload_n 0, 1) := dk_42 (dk_at dksX6_testOf_0 15 rfl rfl)
theorem dX6_testOf_16 : decode cX6_testOf 16 = .ok (.iload_n 1, 1) := dk_27 (dk_at dksX6_testOf_0 16 rfl rfl)
theorem dX6_testOf_17 : decode cX6_testOf 17 = .ok (.ifCond .eq 11, 3) := dk_153 0 11 (dk_at dksX6_testOf_0 17 rfl rfl)
theorem dX6_testOf_20 : decode cX6_testOf 20 = .ok (.iload_n 2, 1) := dk_28 (dk_at dksX6_testOf_0 20 rfl rfl)
theorem dX6_testOf_21 : decode cX6_testOf 21 = .ok (.ifCond .ne 7, 3) := dk_154 0 7 (dk_at dksX6_testOf_0 21 rfl rfl)
theorem dX6_testOf_24 : decode cX6_testOf 24 = .ok (.iconst 1, 1) := dk_4 (dk_at dksX6_testOf_1 0 rfl rfl)
theorem dX6_testOf_25 : decode cX6_testOf 25 = .ok (.goto 4, 3) := dk_167 0 4 (dk_at dksX6_testOf_1 1 rfl rfl)
theorem dX6_testOf_28 : decode cX6_testOf 28 = .ok (.iconst 0, 1) := dk_3 (dk_at dksX6_testOf_1 4 rfl rfl)
theorem dX6_testOf_29 : decode cX6_testOf 29 = .ok (.invokevirtual 280, 3) := dk_182 1 24 (dk_at dksX6_testOf_1 5 rfl rfl)
theorem dX6_testOf_32 : decode cX6_testOf 32 = .ok (.istore_n 3, 1) := dk_62 (dk_at dksX6_testOf_1 8 rfl rfl)
theorem dX6_testOf_33 : decode cX6_testOf 33 = .ok (.iload_n 2, 1) := dk_28 (dk_at dksX6_testOf_1 9 rfl rfl)
theorem dX6_testOf_34 : decode cX6_testOf 34 = .ok (.ifCond .ne 7, 3) := dk_154 0 7 (dk_at dksX6_testOf_1 10 rfl rfl)
theorem dX6_testOf_37 : decode cX6_testOf 37 = .ok (.iload_n 3, 1) := dk_29 (dk_at dksX6_testOf_1 13 rfl rfl)
theorem dX6_testOf_38 : decode cX6_testOf 38 = .ok (.ifCond .eq 7, 3) := dk_153 0 7 (dk_at dksX6_testOf_1 14 rfl rfl)
theorem dX6_testOf_41 : decode cX6_testOf 41 = .ok (.iconst 1, 1) := dk_4 (dk_at dksX6_testOf_1 17 rfl rfl)
theorem dX6_testOf_42 : decode cX6_testOf 42 = .ok (.goto 4, 3) := dk_167 0 4 (dk_at dksX6_testOf_1 18 rfl rfl)
theorem dX6_testOf_45 : decode cX6_testOf 45 = .ok (.iconst 0, 1) := dk_3 (dk_at dksX6_testOf_1 21 rfl rfl)
theorem dX6_testOf_46 : decode cX6_testOf 46 = .ok (.istore_n 2, 1) := dk_61 (dk_at dksX6_testOf_1 22 rfl rfl)
theorem dX6_testOf_47 : decode cX6_testOf 47 = .ok (.goto (-41), 3) := dk_167 255 215 (dk_at dksX6_testOf_2 0 rfl rfl)
theorem dX6_testOf_50 : decode cX6_testOf 50 = .ok (.iload_n 2, 1) := dk_28 (dk_at dksX6_testOf_2 3 rfl rfl)
theorem dX6_testOf_51 : decode cX6_testOf 51 = .ok (.ireturn, 1) := dk_172 (dk_at dksX6_testOf_2 4 rfl rfl)
abbrev cX6_bothOf : ByteArray := prog_29_method_63_code
def yX6_bothOf : MethodName := ⟨RX6, "bothOf", "(Z)Z"⟩
def dkwX6_bothOf_2 : List UInt8 := [167, 255, 215, 28, 172]
abbrev dktX6_bothOf_2 : List UInt8 := dkwX6_bothOf_2 ++ []
def dkwX6_bothOf_1 : List UInt8 := [4, 167, 0, 4, 3, 182, 1, 27, 62, 28, 153, 0, 11, 29, 153, 0, 7, 4, 167, 0, 4, 3, 61]
abbrev dktX6_bothOf_1 : List UInt8 := dkwX6_bothOf_1 ++ dktX6_bothOf_2
def dkwX6_bothOf_0 : List UInt8 := [42, 27, 182, 1, 27, 61, 42, 16, 8, 182, 1, 16, 153, 0, 38, 42, 27, 153, 0, 11, 28, 153, 0, 7]
abbrev dktX6_bothOf_0 : List UInt8 := dkwX6_bothOf_0 ++ dktX6_bothOf_1
theorem dksX6_bothOf_0 : cX6_bothOf.data.toList.drop 0 = dktX6_bothOf_0 := by decide +kernel
theorem dksX6_bothOf_1 : cX6_bothOf.data.toList.drop 24 = dktX6_bothOf_1 := dk_seg dksX6_bothOf_0 24 rfl rfl
theorem dksX6_bothOf_2 : cX6_bothOf.data.toList.drop 47 = dktX6_bothOf_2 := dk_seg dksX6_bothOf_1 23 rfl rfl
theorem dX6_bothOf_0 : decode cX6_bothOf 0 = .ok (.aload_n 0, 1) := dk_42 (dk_at dksX6_bothOf_0 0 rfl rfl)
theorem dX6_bothOf_1 : decode cX6_bothOf 1 = .ok (.iload_n 1, 1) := dk_27 (dk_at dksX6_bothOf_0 1 rfl rfl)
theorem dX6_bothOf_2 : decode cX6_bothOf 2 = .ok (.invokevirtual 283, 3) := dk_182 1 27 (dk_at dksX6_bothOf_0 2 rfl rfl)
theorem dX6_bothOf_5 : decode cX6_bothOf 5 = .ok (.istore_n 2, 1) := dk_61 (dk_at dksX6_bothOf_0 5 rfl rfl)
theorem dX6_bothOf_6 : decode cX6_bothOf 6 = .ok (.aload_n 0, 1) := dk_42 (dk_at dksX6_bothOf_0 6 rfl rfl)
theorem dX6_bothOf_7 : decode cX6_bothOf 7 = .ok (.bipush 8, 2) := dk_16 8 (dk_at dksX6_bothOf_0 7 rfl rfl)
theorem dX6_bothOf_9 : decode cX6_bothOf 9 = .ok (.invokevirtual 272, 3) := dk_182 1 16 (dk_at dksX6_bothOf_0 9 rfl rfl)
theorem dX6_bothOf_12 : decode cX6_bothOf 12 = .ok (.ifCond .eq 38, 3) := dk_153 0 38 (dk_at dksX6_bothOf_0 12 rfl rfl)
theorem dX6_bothOf_15 : decode cX6_bothOf 15 = .ok (.aload_n 0, 1) := dk_42 (dk_at dksX6_bothOf_0 15 rfl rfl)
theorem dX6_bothOf_16 : decode cX6_bothOf 16 = .ok (.iload_n 1, 1) := dk_27 (dk_at dksX6_bothOf_0 16 rfl rfl)
theorem dX6_bothOf_17 : decode cX6_bothOf 17 = .ok (.ifCond .eq 11, 3) := dk_153 0 11 (dk_at dksX6_bothOf_0 17 rfl rfl)
theorem dX6_bothOf_20 : decode cX6_bothOf 20 = .ok (.iload_n 2, 1) := dk_28 (dk_at dksX6_bothOf_0 20 rfl rfl)
theorem dX6_bothOf_21 : decode cX6_bothOf 21 = .ok (.ifCond .eq 7, 3) := dk_153 0 7 (dk_at dksX6_bothOf_0 21 rfl rfl)
theorem dX6_bothOf_24 : decode cX6_bothOf 24 = .ok (.iconst 1, 1) := dk_4 (dk_at dksX6_bothOf_1 0 rfl rfl)
theorem dX6_bothOf_25 : decode cX6_bothOf 25 = .ok (.goto 4, 3) := dk_167 0 4 (dk_at dksX6_bothOf_1 1 rfl rfl)
theorem dX6_bothOf_28 : decode cX6_bothOf 28 = .ok (.iconst 0, 1) := dk_3 (dk_at dksX6_bothOf_1 4 rfl rfl)
theorem dX6_bothOf_29 : decode cX6_bothOf 29 = .ok (.invokevirtual 283, 3) := dk_182 1 27 (dk_at dksX6_bothOf_1 5 rfl rfl)
theorem dX6_bothOf_32 : decode cX6_bothOf 32 = .ok (.istore_n 3, 1) := dk_62 (dk_at dksX6_bothOf_1 8 rfl rfl)
theorem dX6_bothOf_33 : decode cX6_bothOf 33 = .ok (.iload_n 2, 1) := dk_28 (dk_at dksX6_bothOf_1 9 rfl rfl)
theorem dX6_bothOf_34 : decode cX6_bothOf 34 = .ok (.ifCond .eq 11, 3) := dk_153 0 11 (dk_at dksX6_bothOf_1 10 rfl rfl)
theorem dX6_bothOf_37 : decode cX6_bothOf 37 = .ok (.iload_n 3, 1) := dk_29 (dk_at dksX6_bothOf_1 13 rfl rfl)
theorem dX6_bothOf_38 : decode cX6_bothOf 38 = .ok (.ifCond .eq 7, 3) := dk_153 0 7 (dk_at dksX6_bothOf_1 14 rfl rfl)
theorem dX6_bothOf_41 : decode cX6_bothOf 41 = .ok (.iconst 1, 1) := dk_4 (dk_at dksX6_bothOf_1 17 rfl rfl)
theorem dX6_bothOf_42 : decode cX6_bothOf 42 = .ok (.goto 4, 3) := dk_167 0 4 (dk_at dksX6_bothOf_1 18 rfl rfl)
theorem dX6_bothOf_45 : decode cX6_bothOf 45 = .ok (.iconst 0, 1) := dk_3 (dk_at dksX6_bothOf_1 21 rfl rfl)
theorem dX6_bothOf_46 : decode cX6_bothOf 46 = .ok (.istore_n 2, 1) := dk_61 (dk_at dksX6_bothOf_1 22 rfl rfl)
theorem dX6_bothOf_47 : decode cX6_bothOf 47 = .ok (.goto (-41), 3) := dk_167 255 215 (dk_at dksX6_bothOf_2 0 rfl rfl)
theorem dX6_bothOf_50 : decode cX6_bothOf 50 = .ok (.iload_n 2, 1) := dk_28 (dk_at dksX6_bothOf_2 3 rfl rfl)
theorem dX6_bothOf_51 : decode cX6_bothOf 51 = .ok (.ireturn, 1) := dk_172 (dk_at dksX6_bothOf_2 4 rfl rfl)
abbrev cX6_plainOf : ByteArray := prog_29_method_64_code
def yX6_plainOf : MethodName := ⟨RX6, "plainOf", "(Z)Z"⟩
def dkwX6_plainOf_1 : List UInt8 := [42, 27, 182, 1, 30, 28, 159, 0, 7, 4, 167, 0, 4, 3, 172]
abbrev dktX6_plainOf_1 : List UInt8 := dkwX6_plainOf_1 ++ []
def dkwX6_plainOf_0 : List UInt8 := [3, 61, 42, 16, 9, 182, 1, 16, 153, 0, 16, 28, 154, 0, 7, 4, 167, 0, 4, 3, 61, 167, 255, 237]
abbrev dktX6_plainOf_0 : List UInt8 := dkwX6_plainOf_0 ++ dktX6_plainOf_1
theorem dksX6_plainOf_0 : cX6_plainOf.data.toList.drop 0 = dktX6_plainOf_0 := by decide +kernel
theorem dksX6_plainOf_1 : cX6_plainOf.data.toList.drop 24 = dktX6_plainOf_1 := dk_seg dksX6_plainOf_0 24 rfl rfl
theorem dX6_plainOf_0 : decode cX6_plainOf 0 = .ok (.iconst 0, 1) := dk_3 (dk_at dksX6_plainOf_0 0 rfl rfl)
theorem dX6_plainOf_1 : decode cX6_plainOf 1 = .ok (.istore_n 2, 1) := dk_61 (dk_at dksX6_plainOf_0 1 rfl rfl)
theorem dX6_plainOf_2 : decode cX6_plainOf 2 = .ok (.aload_n 0, 1) := dk_42 (dk_at dksX6_plainOf_0 2 rfl rfl)
theorem dX6_plainOf_3 : decode cX6_plainOf 3 = .ok (.bipush 9, 2) := dk_16 9 (dk_at dksX6_plainOf_0 3 rfl rfl)
theorem dX6_plainOf_5 : decode cX6_plainOf 5 = .ok (.invokevirtual 272, 3) := dk_182 1 16 (dk_at dksX6_plainOf_0 5 rfl rfl)
theorem dX6_plainOf_8 : decode cX6_plainOf 8 = .ok (.ifCond .eq 16, 3) := dk_153 0 16 (dk_at dksX6_plainOf_0 8 rfl rfl)
theorem dX6_plainOf_11 : decode cX6_plainOf 11 = .ok (.iload_n 2, 1) := dk_28 (dk_at dksX6_plainOf_0 11 rfl rfl)
theorem dX6_plainOf_12 : decode cX6_plainOf 12 = .ok (.ifCond .ne 7, 3) := dk_154 0 7 (dk_at dksX6_plainOf_0 12 rfl rfl)
theorem dX6_plainOf_15 : decode cX6_plainOf 15 = .ok (.iconst 1, 1) := dk_4 (dk_at dksX6_plainOf_0 15 rfl rfl)
theorem dX6_plainOf_16 : decode cX6_plainOf 16 = .ok (.goto 4, 3) := dk_167 0 4 (dk_at dksX6_plainOf_0 16 rfl rfl)
theorem dX6_plainOf_19 : decode cX6_plainOf 19 = .ok (.iconst 0, 1) := dk_3 (dk_at dksX6_plainOf_0 19 rfl rfl)
theorem dX6_plainOf_20 : decode cX6_plainOf 20 = .ok (.istore_n 2, 1) := dk_61 (dk_at dksX6_plainOf_0 20 rfl rfl)
theorem dX6_plainOf_21 : decode cX6_plainOf 21 = .ok (.goto (-19), 3) := dk_167 255 237 (dk_at dksX6_plainOf_0 21 rfl rfl)
theorem dX6_plainOf_24 : decode cX6_plainOf 24 = .ok (.aload_n 0, 1) := dk_42 (dk_at dksX6_plainOf_1 0 rfl rfl)
theorem dX6_plainOf_25 : decode cX6_plainOf 25 = .ok (.iload_n 1, 1) := dk_27 (dk_at dksX6_plainOf_1 1 rfl rfl)
theorem dX6_plainOf_26 : decode cX6_plainOf 26 = .ok (.invokevirtual 286, 3) := dk_182 1 30 (dk_at dksX6_plainOf_1 2 rfl rfl)
theorem dX6_plainOf_29 : decode cX6_plainOf 29 = .ok (.iload_n 2, 1) := dk_28 (dk_at dksX6_plainOf_1 5 rfl rfl)
theorem dX6_plainOf_30 : decode cX6_plainOf 30 = .ok (.if_icmp .eq 7, 3) := dk_159 0 7 (dk_at dksX6_plainOf_1 6 rfl rfl)
theorem dX6_plainOf_33 : decode cX6_plainOf 33 = .ok (.iconst 1, 1) := dk_4 (dk_at dksX6_plainOf_1 9 rfl rfl)
theorem dX6_plainOf_34 : decode cX6_plainOf 34 = .ok (.goto 4, 3) := dk_167 0 4 (dk_at dksX6_plainOf_1 10 rfl rfl)
theorem dX6_plainOf_37 : decode cX6_plainOf 37 = .ok (.iconst 0, 1) := dk_3 (dk_at dksX6_plainOf_1 13 rfl rfl)
theorem dX6_plainOf_38 : decode cX6_plainOf 38 = .ok (.ireturn, 1) := dk_172 (dk_at dksX6_plainOf_1 14 rfl rfl)
abbrev cX6_positiveOf : ByteArray := prog_29_method_65_code
def yX6_positiveOf : MethodName := ⟨RX6, "positiveOf", "(Z)Z"⟩
def dkwX6_positiveOf_5 : List UInt8 := [154, 0, 7, 4, 167, 0, 4, 3, 172]
abbrev dktX6_positiveOf_5 : List UInt8 := dkwX6_positiveOf_5 ++ []
def dkwX6_positiveOf_4 : List UInt8 := [21, 4, 16, 62, 184, 0, 210, 160, 0, 13, 32, 22, 5, 148, 158, 0, 17, 167, 0, 10, 32, 22, 5, 148]
abbrev dktX6_positiveOf_4 : List UInt8 := dkwX6_positiveOf_4 ++ dktX6_positiveOf_5
def dkwX6_positiveOf_3 : List UInt8 := [154, 0, 54, 21, 4, 16, 60, 184, 0, 210, 160, 0, 13, 32, 22, 5, 148, 156, 0, 37, 167, 0, 30]
abbrev dktX6_positiveOf_3 : List UInt8 := dkwX6_positiveOf_3 ++ dktX6_positiveOf_4
def dkwX6_positiveOf_2 : List UInt8 := [180, 0, 248, 4, 96, 181, 0, 248, 42, 27, 182, 1, 19, 55, 5, 27, 153, 0, 61, 42, 180, 1, 2]
abbrev dktX6_positiveOf_2 : List UInt8 := dkwX6_positiveOf_2 ++ dktX6_positiveOf_3
def dkwX6_positiveOf_1 : List UInt8 := [96, 181, 0, 248, 28, 172, 42, 27, 182, 1, 19, 65, 42, 42, 180, 0, 248, 182, 0, 251, 54, 4, 42, 89]
abbrev dktX6_positiveOf_1 : List UInt8 := dkwX6_positiveOf_1 ++ dktX6_positiveOf_2
def dkwX6_positiveOf_0 : List UInt8 := [42, 16, 40, 184, 0, 210, 182, 1, 16, 153, 0, 21, 42, 27, 182, 1, 33, 61, 42, 89, 180, 0, 248, 4]
abbrev dktX6_positiveOf_0 : List UInt8 := dkwX6_positiveOf_0 ++ dktX6_positiveOf_1
theorem dksX6_positiveOf_0 : cX6_positiveOf.data.toList.drop 0 = dktX6_positiveOf_0 := by decide +kernel
theorem dksX6_positiveOf_1 : cX6_positiveOf.data.toList.drop 24 = dktX6_positiveOf_1 := dk_seg dksX6_positiveOf_0 24 rfl rfl
theorem dksX6_positiveOf_2 : cX6_positiveOf.data.toList.drop 48 = dktX6_positiveOf_2 := dk_seg dksX6_positiveOf_1 24 rfl rfl
theorem dksX6_positiveOf_3 : cX6_positiveOf.data.toList.drop 71 = dktX6_positiveOf_3 := dk_seg dksX6_positiveOf_2 23 rfl rfl
theorem dksX6_positiveOf_4 : cX6_positiveOf.data.toList.drop 94 = dktX6_positiveOf_4 := dk_seg dksX6_positiveOf_3 23 rfl rfl
theorem dksX6_positiveOf_5 : cX6_positiveOf.data.toList.drop 118 = dktX6_positiveOf_5 := dk_seg dksX6_positiveOf_4 24 rfl rfl
theorem dX6_positiveOf_0 : decode cX6_positiveOf 0 = .ok (.aload_n 0, 1) := dk_42 (dk_at dksX6_positiveOf_0 0 rfl rfl)
theorem dX6_positiveOf_1 : decode cX6_positiveOf 1 = .ok (.bipush 40, 2) := dk_16 40 (dk_at dksX6_positiveOf_0 1 rfl rfl)
theorem dX6_positiveOf_3 : decode cX6_positiveOf 3 = .ok (.invokestatic 210, 3) := dk_184 0 210 (dk_at dksX6_positiveOf_0 3 rfl rfl)
theorem dX6_positiveOf_6 : decode cX6_positiveOf 6 = .ok (.invokevirtual 272, 3) := dk_182 1 16 (dk_at dksX6_positiveOf_0 6 rfl rfl)
theorem dX6_positiveOf_9 : decode cX6_positiveOf 9 = .ok (.ifCond .eq 21, 3) := dk_153 0 21 (dk_at dksX6_positiveOf_0 9 rfl rfl)
theorem dX6_positiveOf_12 : decode cX6_positiveOf 12 = .ok (.aload_n 0, 1) := dk_42 (dk_at dksX6_positiveOf_0 12 rfl rfl)
theorem dX6_positiveOf_13 : decode cX6_positiveOf 13 = .ok (.iload_n 1, 1) := dk_27 (dk_at dksX6_positiveOf_0 13 rfl rfl)
theorem dX6_positiveOf_14 : decode cX6_positiveOf 14 = .ok (.invokevirtual 289, 3) := dk_182 1 33 (dk_at dksX6_positiveOf_0 14 rfl rfl)
theorem dX6_positiveOf_17 : decode cX6_positiveOf 17 = .ok (.istore_n 2, 1) := dk_61 (dk_at dksX6_positiveOf_0 17 rfl rfl)
theorem dX6_positiveOf_18 : decode cX6_positiveOf 18 = .ok (.aload_n 0, 1) := dk_42 (dk_at dksX6_positiveOf_0 18 rfl rfl)
theorem dX6_positiveOf_19 : decode cX6_positiveOf 19 = .ok (.dup, 1) := dk_89 (dk_at dksX6_positiveOf_0 19 rfl rfl)
theorem dX6_positiveOf_20 : decode cX6_positiveOf 20 = .ok (.getfield 248, 3) := dk_180 0 248 (dk_at dksX6_positiveOf_0 20 rfl rfl)
theorem dX6_positiveOf_23 : decode cX6_positiveOf 23 = .ok (.iconst 1, 1) := dk_4 (dk_at dksX6_positiveOf_0 23 rfl rfl)
theorem dX6_positiveOf_24 : decode cX6_positiveOf 24 = .ok (.iadd, 1) := dk_96 (dk_at dksX6_positiveOf_1 0 rfl rfl)
theorem dX6_positiveOf_25 : decode cX6_positiveOf 25 = .ok (.putfield 248, 3) := dk_181 0 248 (dk_at dksX6_positiveOf_1 1 rfl rfl)
theorem dX6_positiveOf_28 : decode cX6_positiveOf 28 = .ok (.iload_n 2, 1) := dk_28 (dk_at dksX6_positiveOf_1 4 rfl rfl)
theorem dX6_positiveOf_29 : decode cX6_positiveOf 29 = .ok (.ireturn, 1) := dk_172 (dk_at dksX6_positiveOf_1 5 rfl rfl)
theorem dX6_positiveOf_30 : decode cX6_positiveOf 30 = .ok (.aload_n 0, 1) := dk_42 (dk_at dksX6_positiveOf_1 6 rfl rfl)
theorem dX6_positiveOf_31 : decode cX6_positiveOf 31 = .ok (.iload_n 1, 1) := dk_27 (dk_at dksX6_positiveOf_1 7 rfl rfl)
theorem dX6_positiveOf_32 : decode cX6_positiveOf 32 = .ok (.invokevirtual 275, 3) := dk_182 1 19 (dk_at dksX6_positiveOf_1 8 rfl rfl)
theorem dX6_positiveOf_35 : decode cX6_positiveOf 35 = .ok (.lstore_n 2, 1) := dk_65 (dk_at dksX6_positiveOf_1 11 rfl rfl)
theorem dX6_positiveOf_36 : decode cX6_positiveOf 36 = .ok (.aload_n 0, 1) := dk_42 (dk_at dksX6_positiveOf_1 12 rfl rfl)
theorem dX6_positiveOf_37 : decode cX6_positiveOf 37 = .ok (.aload_n 0, 1) := dk_42 (dk_at dksX6_positiveOf_1 13 rfl rfl)
theorem dX6_positiveOf_38 : decode cX6_positiveOf 38 = .ok (.getfield 248, 3) := dk_180 0 248 (dk_at dksX6_positiveOf_1 14 rfl rfl)
theorem dX6_positiveOf_41 : decode cX6_positiveOf 41 = .ok (.invokevirtual 251, 3) := dk_182 0 251 (dk_at dksX6_positiveOf_1 17 rfl rfl)
theorem dX6_positiveOf_44 : decode cX6_positiveOf 44 = .ok (.istore 4, 2) := dk_54 4 (dk_at dksX6_positiveOf_1 20 rfl rfl)
theorem dX6_positiveOf_46 : decode cX6_positiveOf 46 = .ok (.aload_n 0, 1) := dk_42 (dk_at dksX6_positiveOf_1 22 rfl rfl)
theorem dX6_positiveOf_47 : decode cX6_positiveOf 47 = .ok (.dup, 1) := dk_89 (dk_at dksX6_positiveOf_1 23 rfl rfl)
theorem dX6_positiveOf_48 : decode cX6_positiveOf 48 = .ok (.getfield 248, 3) := dk_180 0 248 (dk_at dksX6_positiveOf_2 0 rfl rfl)
theorem dX6_positiveOf_51 : decode cX6_positiveOf 51 = .ok (.iconst 1, 1) := dk_4 (dk_at dksX6_positiveOf_2 3 rfl rfl)
theorem dX6_positiveOf_52 : decode cX6_positiveOf 52 = .ok (.iadd, 1) := dk_96 (dk_at dksX6_positiveOf_2 4 rfl rfl)
theorem dX6_positiveOf_53 : decode cX6_positiveOf 53 = .ok (.putfield 248, 3) := dk_181 0 248 (dk_at dksX6_positiveOf_2 5 rfl rfl)
theorem dX6_positiveOf_56 : decode cX6_positiveOf 56 = .ok (.aload_n 0, 1) := dk_42 (dk_at dksX6_positiveOf_2 8 rfl rfl)
theorem dX6_positiveOf_57 : decode cX6_positiveOf 57 = .ok (.iload_n 1, 1) := dk_27 (dk_at dksX6_positiveOf_2 9 rfl rfl)
theorem dX6_positiveOf_58 : decode cX6_positiveOf 58 = .ok (.invokevirtual 275, 3) := dk_182 1 19 (dk_at dksX6_positiveOf_2 10 rfl rfl)
theorem dX6_positiveOf_61 : decode cX6_positiveOf 61 = .ok (.lstore 5, 2) := dk_55 5 (dk_at dksX6_positiveOf_2 13 rfl rfl)
theorem dX6_positiveOf_63 : decode cX6_positiveOf 63 = .ok (.iload_n 1, 1) := dk_27 (dk_at dksX6_positiveOf_2 15 rfl rfl)
theorem dX6_positiveOf_64 : decode cX6_positiveOf 64 = .ok (.ifCond .eq 61, 3) := dk_153 0 61 (dk_at dksX6_positiveOf_2 16 rfl rfl)
theorem dX6_positiveOf_67 : decode cX6_positiveOf 67 = .ok (.aload_n 0, 1) := dk_42 (dk_at dksX6_positiveOf_2 19 rfl rfl)
theorem dX6_positiveOf_68 : decode cX6_positiveOf 68 = .ok (.getfield 258, 3) := dk_180 1 2 (dk_at dksX6_positiveOf_2 20 rfl rfl)
theorem dX6_positiveOf_71 : decode cX6_positiveOf 71 = .ok (.ifCond .ne 54, 3) := dk_154 0 54 (dk_at dksX6_positiveOf_3 0 rfl rfl)
theorem dX6_positiveOf_74 : decode cX6_positiveOf 74 = .ok (.iload 4, 2) := dk_21 4 (dk_at dksX6_positiveOf_3 3 rfl rfl)
theorem dX6_positiveOf_76 : decode cX6_positiveOf 76 = .ok (.bipush 60, 2) := dk_16 60 (dk_at dksX6_positiveOf_3 5 rfl rfl)
theorem dX6_positiveOf_78 : decode cX6_positiveOf 78 = .ok (.invokestatic 210, 3) := dk_184 0 210 (dk_at dksX6_positiveOf_3 7 rfl rfl)
theorem dX6_positiveOf_81 : decode cX6_positiveOf 81 = .ok (.if_icmp .ne 13, 3) := dk_160 0 13 (dk_at dksX6_positiveOf_3 10 rfl rfl)
theorem dX6_positiveOf_84 : decode cX6_positiveOf 84 = .ok (.lload_n 2, 1) := dk_32 (dk_at dksX6_positiveOf_3 13 rfl rfl)
theorem dX6_positiveOf_85 : decode cX6_positiveOf 85 = .ok (.lload 5, 2) := dk_22 5 (dk_at dksX6_positiveOf_3 14 rfl rfl)
theorem dX6_positiveOf_87 : decode cX6_positiveOf 87 = .ok (.lcmp, 1) := dk_148 (dk_at dksX6_positiveOf_3 16 rfl rfl)
theorem dX6_positiveOf_88 : decode cX6_positiveOf 88 = .ok (.ifCond .ge 37, 3) := dk_156 0 37 (dk_at dksX6_positiveOf_3 17 rfl rfl)
theorem dX6_positiveOf_91 : decode cX6_positiveOf 91 = .ok (.goto 30, 3) := dk_167 0 30 (dk_at dksX6_positiveOf_3 20 rfl rfl)
theorem dX6_positiveOf_94 : decode cX6_positiveOf 94 = .ok (.iload 4, 2) := dk_21 4 (dk_at dksX6_positiveOf_4 0 rfl rfl)
theorem dX6_positiveOf_96 : decode cX6_positiveOf 96 = .ok (.bipush 62, 2) := dk_16 62 (dk_at dksX6_positiveOf_4 2 rfl rfl)
theorem dX6_positiveOf_98 : decode cX6_positiveOf 98 = .ok (.invokestatic 210, 3) := dk_184 0 210 (dk_at dksX6_positiveOf_4 4 rfl rfl)
theorem dX6_positiveOf_101 : decode cX6_positiveOf 101 = .ok (.if_icmp .ne 13, 3) := dk_160 0 13 (dk_at dksX6_positiveOf_4 7 rfl rfl)
theorem dX6_positiveOf_104 : decode cX6_positiveOf 104 = .ok (.lload_n 2, 1) := dk_32 (dk_at dksX6_positiveOf_4 10 rfl rfl)
theorem dX6_positiveOf_105 : decode cX6_positiveOf 105 = .ok (.lload 5, 2) := dk_22 5 (dk_at dksX6_positiveOf_4 11 rfl rfl)
theorem dX6_positiveOf_107 : decode cX6_positiveOf 107 = .ok (.lcmp, 1) := dk_148 (dk_at dksX6_positiveOf_4 13 rfl rfl)
theorem dX6_positiveOf_108 : decode cX6_positiveOf 108 = .ok (.ifCond .le 17, 3) := dk_158 0 17 (dk_at dksX6_positiveOf_4 14 rfl rfl)
theorem dX6_positiveOf_111 : decode cX6_positiveOf 111 = .ok (.goto 10, 3) := dk_167 0 10 (dk_at dksX6_positiveOf_4 17 rfl rfl)
theorem dX6_positiveOf_114 : decode cX6_positiveOf 114 = .ok (.lload_n 2, 1) := dk_32 (dk_at dksX6_positiveOf_4 20 rfl rfl)
theorem dX6_positiveOf_115 : decode cX6_positiveOf 115 = .ok (.lload 5, 2) := dk_22 5 (dk_at dksX6_positiveOf_4 21 rfl rfl)
theorem dX6_positiveOf_117 : decode cX6_positiveOf 117 = .ok (.lcmp, 1) := dk_148 (dk_at dksX6_positiveOf_4 23 rfl rfl)
theorem dX6_positiveOf_118 : decode cX6_positiveOf 118 = .ok (.ifCond .ne 7, 3) := dk_154 0 7 (dk_at dksX6_positiveOf_5 0 rfl rfl)
theorem dX6_positiveOf_121 : decode cX6_positiveOf 121 = .ok (.iconst 1, 1) := dk_4 (dk_at dksX6_positiveOf_5 3 rfl rfl)
theorem dX6_positiveOf_122 : decode cX6_positiveOf 122 = .ok (.goto 4, 3) := dk_167 0 4 (dk_at dksX6_positiveOf_5 4 rfl rfl)
theorem dX6_positiveOf_125 : decode cX6_positiveOf 125 = .ok (.iconst 0, 1) := dk_3 (dk_at dksX6_positiveOf_5 7 rfl rfl)
theorem dX6_positiveOf_126 : decode cX6_positiveOf 126 = .ok (.ireturn, 1) := dk_172 (dk_at dksX6_positiveOf_5 8 rfl rfl)
abbrev cX6_costsNow : ByteArray := prog_29_method_70_code
def yX6_costsNow : MethodName := ⟨RX6, "costsNow", "(I)I"⟩
def dkwX6_costsNow_0 : List UInt8 := [42, 27, 182, 1, 43, 42, 5, 17, 3, 231, 42, 27, 182, 0, 132, 182, 1, 46, 172]
abbrev dktX6_costsNow_0 : List UInt8 := dkwX6_costsNow_0 ++ []
theorem dksX6_costsNow_0 : cX6_costsNow.data.toList.drop 0 = dktX6_costsNow_0 := by decide +kernel
theorem dX6_costsNow_0 : decode cX6_costsNow 0 = .ok (.aload_n 0, 1) := dk_42 (dk_at dksX6_costsNow_0 0 rfl rfl)
theorem dX6_costsNow_1 : decode cX6_costsNow 1 = .ok (.iload_n 1, 1) := dk_27 (dk_at dksX6_costsNow_0 1 rfl rfl)
theorem dX6_costsNow_2 : decode cX6_costsNow 2 = .ok (.invokevirtual 299, 3) := dk_182 1 43 (dk_at dksX6_costsNow_0 2 rfl rfl)
theorem dX6_costsNow_5 : decode cX6_costsNow 5 = .ok (.aload_n 0, 1) := dk_42 (dk_at dksX6_costsNow_0 5 rfl rfl)
theorem dX6_costsNow_6 : decode cX6_costsNow 6 = .ok (.iconst 2, 1) := dk_5 (dk_at dksX6_costsNow_0 6 rfl rfl)
theorem dX6_costsNow_7 : decode cX6_costsNow 7 = .ok (.sipush 999, 3) := dk_17 3 231 (dk_at dksX6_costsNow_0 7 rfl rfl)
theorem dX6_costsNow_10 : decode cX6_costsNow 10 = .ok (.aload_n 0, 1) := dk_42 (dk_at dksX6_costsNow_0 10 rfl rfl)
theorem dX6_costsNow_11 : decode cX6_costsNow 11 = .ok (.iload_n 1, 1) := dk_27 (dk_at dksX6_costsNow_0 11 rfl rfl)
theorem dX6_costsNow_12 : decode cX6_costsNow 12 = .ok (.invokevirtual 132, 3) := dk_182 0 132 (dk_at dksX6_costsNow_0 12 rfl rfl)
theorem dX6_costsNow_15 : decode cX6_costsNow 15 = .ok (.invokevirtual 302, 3) := dk_182 1 46 (dk_at dksX6_costsNow_0 15 rfl rfl)
theorem dX6_costsNow_18 : decode cX6_costsNow 18 = .ok (.ireturn, 1) := dk_172 (dk_at dksX6_costsNow_0 18 rfl rfl)
abbrev cX6_lodgesNow : ByteArray := prog_29_method_71_code
def yX6_lodgesNow : MethodName := ⟨RX6, "lodgesNow", "(I)I"⟩
def dkwX6_lodgesNow_0 : List UInt8 := [42, 27, 182, 1, 43, 42, 6, 16, 99, 4, 182, 1, 46, 172]
abbrev dktX6_lodgesNow_0 : List UInt8 := dkwX6_lodgesNow_0 ++ []
theorem dksX6_lodgesNow_0 : cX6_lodgesNow.data.toList.drop 0 = dktX6_lodgesNow_0 := by decide +kernel
theorem dX6_lodgesNow_0 : decode cX6_lodgesNow 0 = .ok (.aload_n 0, 1) := dk_42 (dk_at dksX6_lodgesNow_0 0 rfl rfl)
theorem dX6_lodgesNow_1 : decode cX6_lodgesNow 1 = .ok (.iload_n 1, 1) := dk_27 (dk_at dksX6_lodgesNow_0 1 rfl rfl)
theorem dX6_lodgesNow_2 : decode cX6_lodgesNow 2 = .ok (.invokevirtual 299, 3) := dk_182 1 43 (dk_at dksX6_lodgesNow_0 2 rfl rfl)
theorem dX6_lodgesNow_5 : decode cX6_lodgesNow 5 = .ok (.aload_n 0, 1) := dk_42 (dk_at dksX6_lodgesNow_0 5 rfl rfl)
theorem dX6_lodgesNow_6 : decode cX6_lodgesNow 6 = .ok (.iconst 3, 1) := dk_6 (dk_at dksX6_lodgesNow_0 6 rfl rfl)
theorem dX6_lodgesNow_7 : decode cX6_lodgesNow 7 = .ok (.bipush 99, 2) := dk_16 99 (dk_at dksX6_lodgesNow_0 7 rfl rfl)
theorem dX6_lodgesNow_9 : decode cX6_lodgesNow 9 = .ok (.iconst 1, 1) := dk_4 (dk_at dksX6_lodgesNow_0 9 rfl rfl)
theorem dX6_lodgesNow_10 : decode cX6_lodgesNow 10 = .ok (.invokevirtual 302, 3) := dk_182 1 46 (dk_at dksX6_lodgesNow_0 10 rfl rfl)
theorem dX6_lodgesNow_13 : decode cX6_lodgesNow 13 = .ok (.ireturn, 1) := dk_172 (dk_at dksX6_lodgesNow_0 13 rfl rfl)
abbrev cX6_isBarred : ByteArray := prog_29_method_72_code
def yX6_isBarred : MethodName := ⟨RX6, "isBarred", "(IIII)Z"⟩
def dkwX6_isBarred_1 : List UInt8 := [167, 0, 4, 3, 172]
abbrev dktX6_isBarred_1 : List UInt8 := dkwX6_isBarred_1 ++ []
def dkwX6_isBarred_0 : List UInt8 := [42, 27, 28, 2, 29, 21, 4, 182, 1, 39, 42, 8, 4, 3, 182, 1, 46, 4, 160, 0, 7, 4]
abbrev dktX6_isBarred_0 : List UInt8 := dkwX6_isBarred_0 ++ dktX6_isBarred_1
theorem dksX6_isBarred_0 : cX6_isBarred.data.toList.drop 0 = dktX6_isBarred_0 := by decide +kernel
theorem dksX6_isBarred_1 : cX6_isBarred.data.toList.drop 22 = dktX6_isBarred_1 := dk_seg dksX6_isBarred_0 22 rfl rfl
theorem dX6_isBarred_0 : decode cX6_isBarred 0 = .ok (.aload_n 0, 1) := dk_42 (dk_at dksX6_isBarred_0 0 rfl rfl)
theorem dX6_isBarred_1 : decode cX6_isBarred 1 = .ok (.iload_n 1, 1) := dk_27 (dk_at dksX6_isBarred_0 1 rfl rfl)
theorem dX6_isBarred_2 : decode cX6_isBarred 2 = .ok (.iload_n 2, 1) := dk_28 (dk_at dksX6_isBarred_0 2 rfl rfl)
theorem dX6_isBarred_3 : decode cX6_isBarred 3 = .ok (.iconst (-1), 1) := dk_2 (dk_at dksX6_isBarred_0 3 rfl rfl)
theorem dX6_isBarred_4 : decode cX6_isBarred 4 = .ok (.iload_n 3, 1) := dk_29 (dk_at dksX6_isBarred_0 4 rfl rfl)
theorem dX6_isBarred_5 : decode cX6_isBarred 5 = .ok (.iload 4, 2) := dk_21 4 (dk_at dksX6_isBarred_0 5 rfl rfl)
theorem dX6_isBarred_7 : decode cX6_isBarred 7 = .ok (.invokevirtual 295, 3) := dk_182 1 39 (dk_at dksX6_isBarred_0 7 rfl rfl)
theorem dX6_isBarred_10 : decode cX6_isBarred 10 = .ok (.aload_n 0, 1) := dk_42 (dk_at dksX6_isBarred_0 10 rfl rfl)
theorem dX6_isBarred_11 : decode cX6_isBarred 11 = .ok (.iconst 5, 1) := dk_8 (dk_at dksX6_isBarred_0 11 rfl rfl)
theorem dX6_isBarred_12 : decode cX6_isBarred 12 = .ok (.iconst 1, 1) := dk_4 (dk_at dksX6_isBarred_0 12 rfl rfl)
theorem dX6_isBarred_13 : decode cX6_isBarred 13 = .ok (.iconst 0, 1) := dk_3 (dk_at dksX6_isBarred_0 13 rfl rfl)
theorem dX6_isBarred_14 : decode cX6_isBarred 14 = .ok (.invokevirtual 302, 3) := dk_182 1 46 (dk_at dksX6_isBarred_0 14 rfl rfl)
theorem dX6_isBarred_17 : decode cX6_isBarred 17 = .ok (.iconst 1, 1) := dk_4 (dk_at dksX6_isBarred_0 17 rfl rfl)
theorem dX6_isBarred_18 : decode cX6_isBarred 18 = .ok (.if_icmp .ne 7, 3) := dk_160 0 7 (dk_at dksX6_isBarred_0 18 rfl rfl)
theorem dX6_isBarred_21 : decode cX6_isBarred 21 = .ok (.iconst 1, 1) := dk_4 (dk_at dksX6_isBarred_0 21 rfl rfl)
theorem dX6_isBarred_22 : decode cX6_isBarred 22 = .ok (.goto 4, 3) := dk_167 0 4 (dk_at dksX6_isBarred_1 0 rfl rfl)
theorem dX6_isBarred_25 : decode cX6_isBarred 25 = .ok (.iconst 0, 1) := dk_3 (dk_at dksX6_isBarred_1 3 rfl rfl)
theorem dX6_isBarred_26 : decode cX6_isBarred 26 = .ok (.ireturn, 1) := dk_172 (dk_at dksX6_isBarred_1 4 rfl rfl)
abbrev cX6_spoilsBy : ByteArray := prog_29_method_73_code
def yX6_spoilsBy : MethodName := ⟨RX6, "spoilsBy", "(II)I"⟩
def dkwX6_spoilsBy_0 : List UInt8 := [42, 27, 2, 28, 2, 2, 182, 1, 39, 42, 7, 5, 4, 182, 1, 46, 172]
abbrev dktX6_spoilsBy_0 : List UInt8 := dkwX6_spoilsBy_0 ++ []
theorem dksX6_spoilsBy_0 : cX6_spoilsBy.data.toList.drop 0 = dktX6_spoilsBy_0 := by decide +kernel
theorem dX6_spoilsBy_0 : decode cX6_spoilsBy 0 = .ok (.aload_n 0, 1) := dk_42 (dk_at dksX6_spoilsBy_0 0 rfl rfl)
theorem dX6_spoilsBy_1 : decode cX6_spoilsBy 1 = .ok (.iload_n 1, 1) := dk_27 (dk_at dksX6_spoilsBy_0 1 rfl rfl)
theorem dX6_spoilsBy_2 : decode cX6_spoilsBy 2 = .ok (.iconst (-1), 1) := dk_2 (dk_at dksX6_spoilsBy_0 2 rfl rfl)
theorem dX6_spoilsBy_3 : decode cX6_spoilsBy 3 = .ok (.iload_n 2, 1) := dk_28 (dk_at dksX6_spoilsBy_0 3 rfl rfl)
theorem dX6_spoilsBy_4 : decode cX6_spoilsBy 4 = .ok (.iconst (-1), 1) := dk_2 (dk_at dksX6_spoilsBy_0 4 rfl rfl)
theorem dX6_spoilsBy_5 : decode cX6_spoilsBy 5 = .ok (.iconst (-1), 1) := dk_2 (dk_at dksX6_spoilsBy_0 5 rfl rfl)
theorem dX6_spoilsBy_6 : decode cX6_spoilsBy 6 = .ok (.invokevirtual 295, 3) := dk_182 1 39 (dk_at dksX6_spoilsBy_0 6 rfl rfl)
theorem dX6_spoilsBy_9 : decode cX6_spoilsBy 9 = .ok (.aload_n 0, 1) := dk_42 (dk_at dksX6_spoilsBy_0 9 rfl rfl)
theorem dX6_spoilsBy_10 : decode cX6_spoilsBy 10 = .ok (.iconst 4, 1) := dk_7 (dk_at dksX6_spoilsBy_0 10 rfl rfl)
theorem dX6_spoilsBy_11 : decode cX6_spoilsBy 11 = .ok (.iconst 2, 1) := dk_5 (dk_at dksX6_spoilsBy_0 11 rfl rfl)
theorem dX6_spoilsBy_12 : decode cX6_spoilsBy 12 = .ok (.iconst 1, 1) := dk_4 (dk_at dksX6_spoilsBy_0 12 rfl rfl)
theorem dX6_spoilsBy_13 : decode cX6_spoilsBy 13 = .ok (.invokevirtual 302, 3) := dk_182 1 46 (dk_at dksX6_spoilsBy_0 13 rfl rfl)
theorem dX6_spoilsBy_16 : decode cX6_spoilsBy 16 = .ok (.ireturn, 1) := dk_172 (dk_at dksX6_spoilsBy_0 16 rfl rfl)
abbrev cX6_undo : ByteArray := prog_29_method_76_code
def yX6_undo : MethodName := ⟨RX6, "undo", "()I"⟩
def dkwX6_undo_3 : List UInt8 := [182, 0, 14, 172]
abbrev dktX6_undo_3 : List UInt8 := dkwX6_undo_3 ++ []
def dkwX6_undo_2 : List UInt8 := [180, 0, 62, 27, 28, 96, 46, 79, 132, 2, 1, 167, 255, 233, 42, 42, 180, 0, 62, 27, 16, 34, 96, 46]
abbrev dktX6_undo_2 : List UInt8 := dkwX6_undo_2 ++ dktX6_undo_3
def dkwX6_undo_1 : List UInt8 := [16, 35, 42, 180, 0, 11, 104, 60, 3, 61, 28, 16, 34, 162, 0, 23, 42, 180, 0, 24, 28, 42]
abbrev dktX6_undo_1 : List UInt8 := dkwX6_undo_1 ++ dktX6_undo_2
def dkwX6_undo_0 : List UInt8 := [42, 180, 0, 11, 154, 0, 10, 42, 16, 253, 182, 0, 110, 172, 42, 89, 180, 0, 11, 4, 100, 181, 0, 11]
abbrev dktX6_undo_0 : List UInt8 := dkwX6_undo_0 ++ dktX6_undo_1
theorem dksX6_undo_0 : cX6_undo.data.toList.drop 0 = dktX6_undo_0 := by decide +kernel
theorem dksX6_undo_1 : cX6_undo.data.toList.drop 24 = dktX6_undo_1 := dk_seg dksX6_undo_0 24 rfl rfl
theorem dksX6_undo_2 : cX6_undo.data.toList.drop 46 = dktX6_undo_2 := dk_seg dksX6_undo_1 22 rfl rfl
theorem dksX6_undo_3 : cX6_undo.data.toList.drop 70 = dktX6_undo_3 := dk_seg dksX6_undo_2 24 rfl rfl
theorem dX6_undo_0 : decode cX6_undo 0 = .ok (.aload_n 0, 1) := dk_42 (dk_at dksX6_undo_0 0 rfl rfl)
theorem dX6_undo_1 : decode cX6_undo 1 = .ok (.getfield 11, 3) := dk_180 0 11 (dk_at dksX6_undo_0 1 rfl rfl)
theorem dX6_undo_4 : decode cX6_undo 4 = .ok (.ifCond .ne 10, 3) := dk_154 0 10 (dk_at dksX6_undo_0 4 rfl rfl)
theorem dX6_undo_7 : decode cX6_undo 7 = .ok (.aload_n 0, 1) := dk_42 (dk_at dksX6_undo_0 7 rfl rfl)
theorem dX6_undo_8 : decode cX6_undo 8 = .ok (.bipush (-3), 2) := dk_16 253 (dk_at dksX6_undo_0 8 rfl rfl)
theorem dX6_undo_10 : decode cX6_undo 10 = .ok (.invokevirtual 110, 3) := dk_182 0 110 (dk_at dksX6_undo_0 10 rfl rfl)
theorem dX6_undo_13 : decode cX6_undo 13 = .ok (.ireturn, 1) := dk_172 (dk_at dksX6_undo_0 13 rfl rfl)
theorem dX6_undo_14 : decode cX6_undo 14 = .ok (.aload_n 0, 1) := dk_42 (dk_at dksX6_undo_0 14 rfl rfl)
theorem dX6_undo_15 : decode cX6_undo 15 = .ok (.dup, 1) := dk_89 (dk_at dksX6_undo_0 15 rfl rfl)
theorem dX6_undo_16 : decode cX6_undo 16 = .ok (.getfield 11, 3) := dk_180 0 11 (dk_at dksX6_undo_0 16 rfl rfl)
theorem dX6_undo_19 : decode cX6_undo 19 = .ok (.iconst 1, 1) := dk_4 (dk_at dksX6_undo_0 19 rfl rfl)
theorem dX6_undo_20 : decode cX6_undo 20 = .ok (.isub, 1) := dk_100 (dk_at dksX6_undo_0 20 rfl rfl)
theorem dX6_undo_21 : decode cX6_undo 21 = .ok (.putfield 11, 3) := dk_181 0 11 (dk_at dksX6_undo_0 21 rfl rfl)
theorem dX6_undo_24 : decode cX6_undo 24 = .ok (.bipush 35, 2) := dk_16 35 (dk_at dksX6_undo_1 0 rfl rfl)
theorem dX6_undo_26 : decode cX6_undo 26 = .ok (.aload_n 0, 1) := dk_42 (dk_at dksX6_undo_1 2 rfl rfl)
theorem dX6_undo_27 : decode cX6_undo 27 = .ok (.getfield 11, 3) := dk_180 0 11 (dk_at dksX6_undo_1 3 rfl rfl)
theorem dX6_undo_30 : decode cX6_undo 30 = .ok (.imul, 1) := dk_104 (dk_at dksX6_undo_1 6 rfl rfl)
theorem dX6_undo_31 : decode cX6_undo 31 = .ok (.istore_n 1, 1) := dk_60 (dk_at dksX6_undo_1 7 rfl rfl)
theorem dX6_undo_32 : decode cX6_undo 32 = .ok (.iconst 0, 1) := dk_3 (dk_at dksX6_undo_1 8 rfl rfl)
theorem dX6_undo_33 : decode cX6_undo 33 = .ok (.istore_n 2, 1) := dk_61 (dk_at dksX6_undo_1 9 rfl rfl)
theorem dX6_undo_34 : decode cX6_undo 34 = .ok (.iload_n 2, 1) := dk_28 (dk_at dksX6_undo_1 10 rfl rfl)
theorem dX6_undo_35 : decode cX6_undo 35 = .ok (.bipush 34, 2) := dk_16 34 (dk_at dksX6_undo_1 11 rfl rfl)
theorem dX6_undo_37 : decode cX6_undo 37 = .ok (.if_icmp .ge 23, 3) := dk_162 0 23 (dk_at dksX6_undo_1 13 rfl rfl)
theorem dX6_undo_40 : decode cX6_undo 40 = .ok (.aload_n 0, 1) := dk_42 (dk_at dksX6_undo_1 16 rfl rfl)
theorem dX6_undo_41 : decode cX6_undo 41 = .ok (.getfield 24, 3) := dk_180 0 24 (dk_at dksX6_undo_1 17 rfl rfl)
theorem dX6_undo_44 : decode cX6_undo 44 = .ok (.iload_n 2, 1) := dk_28 (dk_at dksX6_undo_1 20 rfl rfl)
theorem dX6_undo_45 : decode cX6_undo 45 = .ok (.aload_n 0, 1) := dk_42 (dk_at dksX6_undo_1 21 rfl rfl)
theorem dX6_undo_46 : decode cX6_undo 46 = .ok (.getfield 62, 3) := dk_180 0 62 (dk_at dksX6_undo_2 0 rfl rfl)
theorem dX6_undo_49 : decode cX6_undo 49 = .ok (.iload_n 1, 1) := dk_27 (dk_at dksX6_undo_2 3 rfl rfl)
theorem dX6_undo_50 : decode cX6_undo 50 = .ok (.iload_n 2, 1) := dk_28 (dk_at dksX6_undo_2 4 rfl rfl)
theorem dX6_undo_51 : decode cX6_undo 51 = .ok (.iadd, 1) := dk_96 (dk_at dksX6_undo_2 5 rfl rfl)
theorem dX6_undo_52 : decode cX6_undo 52 = .ok (.iaload, 1) := dk_46 (dk_at dksX6_undo_2 6 rfl rfl)
theorem dX6_undo_53 : decode cX6_undo 53 = .ok (.iastore, 1) := dk_79 (dk_at dksX6_undo_2 7 rfl rfl)
theorem dX6_undo_54 : decode cX6_undo 54 = .ok (.iinc 2 1, 3) := dk_132 2 1 (dk_at dksX6_undo_2 8 rfl rfl)
theorem dX6_undo_57 : decode cX6_undo 57 = .ok (.goto (-23), 3) := dk_167 255 233 (dk_at dksX6_undo_2 11 rfl rfl)
theorem dX6_undo_60 : decode cX6_undo 60 = .ok (.aload_n 0, 1) := dk_42 (dk_at dksX6_undo_2 14 rfl rfl)
theorem dX6_undo_61 : decode cX6_undo 61 = .ok (.aload_n 0, 1) := dk_42 (dk_at dksX6_undo_2 15 rfl rfl)
theorem dX6_undo_62 : decode cX6_undo 62 = .ok (.getfield 62, 3) := dk_180 0 62 (dk_at dksX6_undo_2 16 rfl rfl)
theorem dX6_undo_65 : decode cX6_undo 65 = .ok (.iload_n 1, 1) := dk_27 (dk_at dksX6_undo_2 19 rfl rfl)
theorem dX6_undo_66 : decode cX6_undo 66 = .ok (.bipush 34, 2) := dk_16 34 (dk_at dksX6_undo_2 20 rfl rfl)
theorem dX6_undo_68 : decode cX6_undo 68 = .ok (.iadd, 1) := dk_96 (dk_at dksX6_undo_2 22 rfl rfl)
theorem dX6_undo_69 : decode cX6_undo 69 = .ok (.iaload, 1) := dk_46 (dk_at dksX6_undo_2 23 rfl rfl)
theorem dX6_undo_70 : decode cX6_undo 70 = .ok (.invokevirtual 14, 3) := dk_182 0 14 (dk_at dksX6_undo_3 0 rfl rfl)
theorem dX6_undo_73 : decode cX6_undo 73 = .ok (.ireturn, 1) := dk_172 (dk_at dksX6_undo_3 3 rfl rfl)
abbrev cX6_send : ByteArray := prog_29_method_84_code
def yX6_send : MethodName := ⟨RX6, "send", "(I)I"⟩
def dkwX6_send_0 : List UInt8 := [42, 42, 27, 182, 1, 87, 182, 1, 90, 172]
abbrev dktX6_send_0 : List UInt8 := dkwX6_send_0 ++ []
theorem dksX6_send_0 : cX6_send.data.toList.drop 0 = dktX6_send_0 := by decide +kernel
theorem dX6_send_0 : decode cX6_send 0 = .ok (.aload_n 0, 1) := dk_42 (dk_at dksX6_send_0 0 rfl rfl)
theorem dX6_send_1 : decode cX6_send 1 = .ok (.aload_n 0, 1) := dk_42 (dk_at dksX6_send_0 1 rfl rfl)
theorem dX6_send_2 : decode cX6_send 2 = .ok (.iload_n 1, 1) := dk_27 (dk_at dksX6_send_0 2 rfl rfl)
theorem dX6_send_3 : decode cX6_send 3 = .ok (.invokevirtual 343, 3) := dk_182 1 87 (dk_at dksX6_send_0 3 rfl rfl)
theorem dX6_send_6 : decode cX6_send 6 = .ok (.invokevirtual 346, 3) := dk_182 1 90 (dk_at dksX6_send_0 6 rfl rfl)
theorem dX6_send_9 : decode cX6_send 9 = .ok (.ireturn, 1) := dk_172 (dk_at dksX6_send_0 9 rfl rfl)
abbrev cX6_sendsKept : ByteArray := prog_29_method_77_code
def yX6_sendsKept : MethodName := ⟨RX6, "sendsKept", "(I)I"⟩
def dkwX6_sendsKept_4 : List UInt8 := [79, 28, 172]
abbrev dktX6_sendsKept_4 : List UInt8 := dkwX6_sendsKept_4 ++ []
def dkwX6_sendsKept_3 : List UInt8 := [180, 0, 24, 16, 10, 27, 96, 29, 154, 0, 7, 2, 167, 0, 12, 42, 180, 0, 24, 16, 33, 46, 29, 96]
abbrev dktX6_sendsKept_3 : List UInt8 := dkwX6_sendsKept_3 ++ dktX6_sendsKept_4
def dkwX6_sendsKept_2 : List UInt8 := [92, 46, 28, 96, 79, 42, 180, 0, 24, 3, 27, 96, 29, 154, 0, 7, 5, 167, 0, 4, 4, 79, 42]
abbrev dktX6_sendsKept_2 : List UInt8 := dkwX6_sendsKept_2 ++ dktX6_sendsKept_3
def dkwX6_sendsKept_1 : List UInt8 := [172, 42, 3, 182, 1, 66, 42, 27, 182, 1, 53, 61, 42, 27, 182, 1, 50, 62, 42, 180, 0, 24, 16, 32]
abbrev dktX6_sendsKept_1 : List UInt8 := dkwX6_sendsKept_1 ++ dktX6_sendsKept_2
def dkwX6_sendsKept_0 : List UInt8 := [42, 27, 182, 0, 128, 154, 0, 6, 16, 254, 172, 42, 180, 0, 24, 3, 27, 96, 46, 153, 0, 6, 16, 253]
abbrev dktX6_sendsKept_0 : List UInt8 := dkwX6_sendsKept_0 ++ dktX6_sendsKept_1
theorem dksX6_sendsKept_0 : cX6_sendsKept.data.toList.drop 0 = dktX6_sendsKept_0 := by decide +kernel
theorem dksX6_sendsKept_1 : cX6_sendsKept.data.toList.drop 24 = dktX6_sendsKept_1 := dk_seg dksX6_sendsKept_0 24 rfl rfl
theorem dksX6_sendsKept_2 : cX6_sendsKept.data.toList.drop 48 = dktX6_sendsKept_2 := dk_seg dksX6_sendsKept_1 24 rfl rfl
theorem dksX6_sendsKept_3 : cX6_sendsKept.data.toList.drop 71 = dktX6_sendsKept_3 := dk_seg dksX6_sendsKept_2 23 rfl rfl
theorem dksX6_sendsKept_4 : cX6_sendsKept.data.toList.drop 95 = dktX6_sendsKept_4 := dk_seg dksX6_sendsKept_3 24 rfl rfl
theorem dX6_sendsKept_0 : decode cX6_sendsKept 0 = .ok (.aload_n 0, 1) := dk_42 (dk_at dksX6_sendsKept_0 0 rfl rfl)
theorem dX6_sendsKept_1 : decode cX6_sendsKept 1 = .ok (.iload_n 1, 1) := dk_27 (dk_at dksX6_sendsKept_0 1 rfl rfl)
theorem dX6_sendsKept_2 : decode cX6_sendsKept 2 = .ok (.invokevirtual 128, 3) := dk_182 0 128 (dk_at dksX6_sendsKept_0 2 rfl rfl)
theorem dX6_sendsKept_5 : decode cX6_sendsKept 5 = .ok (.ifCond .ne 6, 3) := dk_154 0 6 (dk_at dksX6_sendsKept_0 5 rfl rfl)
theorem dX6_sendsKept_8 : decode cX6_sendsKept 8 = .ok (.bipush (-2), 2) := dk_16 254 (dk_at dksX6_sendsKept_0 8 rfl rfl)
theorem dX6_sendsKept_10 : decode cX6_sendsKept 10 = .ok (.ireturn, 1) := dk_172 (dk_at dksX6_sendsKept_0 10 rfl rfl)
theorem dX6_sendsKept_11 : decode cX6_sendsKept 11 = .ok (.aload_n 0, 1) := dk_42 (dk_at dksX6_sendsKept_0 11 rfl rfl)
theorem dX6_sendsKept_12 : decode cX6_sendsKept 12 = .ok (.getfield 24, 3) := dk_180 0 24 (dk_at dksX6_sendsKept_0 12 rfl rfl)
theorem dX6_sendsKept_15 : decode cX6_sendsKept 15 = .ok (.iconst 0, 1) := dk_3 (dk_at dksX6_sendsKept_0 15 rfl rfl)
theorem dX6_sendsKept_16 : decode cX6_sendsKept 16 = .ok (.iload_n 1, 1) := dk_27 (dk_at dksX6_sendsKept_0 16 rfl rfl)
theorem dX6_sendsKept_17 : decode cX6_sendsKept 17 = .ok (.iadd, 1) := dk_96 (dk_at dksX6_sendsKept_0 17 rfl rfl)
theorem dX6_sendsKept_18 : decode cX6_sendsKept 18 = .ok (.iaload, 1) := dk_46 (dk_at dksX6_sendsKept_0 18 rfl rfl)
theorem dX6_sendsKept_19 : decode cX6_sendsKept 19 = .ok (.ifCond .eq 6, 3) := dk_153 0 6 (dk_at dksX6_sendsKept_0 19 rfl rfl)
theorem dX6_sendsKept_22 : decode cX6_sendsKept 22 = .ok (.bipush (-3), 2) := dk_16 253 (dk_at dksX6_sendsKept_0 22 rfl rfl)
theorem dX6_sendsKept_24 : decode cX6_sendsKept 24 = .ok (.ireturn, 1) := dk_172 (dk_at dksX6_sendsKept_1 0 rfl rfl)
theorem dX6_sendsKept_25 : decode cX6_sendsKept 25 = .ok (.aload_n 0, 1) := dk_42 (dk_at dksX6_sendsKept_1 1 rfl rfl)
theorem dX6_sendsKept_26 : decode cX6_sendsKept 26 = .ok (.iconst 0, 1) := dk_3 (dk_at dksX6_sendsKept_1 2 rfl rfl)
theorem dX6_sendsKept_27 : decode cX6_sendsKept 27 = .ok (.invokevirtual 322, 3) := dk_182 1 66 (dk_at dksX6_sendsKept_1 3 rfl rfl)
theorem dX6_sendsKept_30 : decode cX6_sendsKept 30 = .ok (.aload_n 0, 1) := dk_42 (dk_at dksX6_sendsKept_1 6 rfl rfl)
theorem dX6_sendsKept_31 : decode cX6_sendsKept 31 = .ok (.iload_n 1, 1) := dk_27 (dk_at dksX6_sendsKept_1 7 rfl rfl)
theorem dX6_sendsKept_32 : decode cX6_sendsKept 32 = .ok (.invokevirtual 309, 3) := dk_182 1 53 (dk_at dksX6_sendsKept_1 8 rfl rfl)
theorem dX6_sendsKept_35 : decode cX6_sendsKept 35 = .ok (.istore_n 2, 1) := dk_61 (dk_at dksX6_sendsKept_1 11 rfl rfl)
theorem dX6_sendsKept_36 : decode cX6_sendsKept 36 = .ok (.aload_n 0, 1) := dk_42 (dk_at dksX6_sendsKept_1 12 rfl rfl)
theorem dX6_sendsKept_37 : decode cX6_sendsKept 37 = .ok (.iload_n 1, 1) := dk_27 (dk_at dksX6_sendsKept_1 13 rfl rfl)
theorem dX6_sendsKept_38 : decode cX6_sendsKept 38 = .ok (.invokevirtual 306, 3) := dk_182 1 50 (dk_at dksX6_sendsKept_1 14 rfl rfl)
theorem dX6_sendsKept_41 : decode cX6_sendsKept 41 = .ok (.istore_n 3, 1) := dk_62 (dk_at dksX6_sendsKept_1 17 rfl rfl)
theorem dX6_sendsKept_42 : decode cX6_sendsKept 42 = .ok (.aload_n 0, 1) := dk_42 (dk_at dksX6_sendsKept_1 18 rfl rfl)
theorem dX6_sendsKept_43 : decode cX6_sendsKept 43 = .ok (.getfield 24, 3) := dk_180 0 24 (dk_at dksX6_sendsKept_1 19 rfl rfl)
theorem dX6_sendsKept_46 : decode cX6_sendsKept 46 = .ok (.bipush 32, 2) := dk_16 32 (dk_at dksX6_sendsKept_1 22 rfl rfl)
theorem dX6_sendsKept_48 : decode cX6_sendsKept 48 = .ok (.dup2, 1) := dk_92 (dk_at dksX6_sendsKept_2 0 rfl rfl)
theorem dX6_sendsKept_49 : decode cX6_sendsKept 49 = .ok (.iaload, 1) := dk_46 (dk_at dksX6_sendsKept_2 1 rfl rfl)
theorem dX6_sendsKept_50 : decode cX6_sendsKept 50 = .ok (.iload_n 2, 1) := dk_28 (dk_at dksX6_sendsKept_2 2 rfl rfl)
theorem dX6_sendsKept_51 : decode cX6_sendsKept 51 = .ok (.iadd, 1) := dk_96 (dk_at dksX6_sendsKept_2 3 rfl rfl)
theorem dX6_sendsKept_52 : decode cX6_sendsKept 52 = .ok (.iastore, 1) := dk_79 (dk_at dksX6_sendsKept_2 4 rfl rfl)
theorem dX6_sendsKept_53 : decode cX6_sendsKept 53 = .ok (.aload_n 0, 1) := dk_42 (dk_at dksX6_sendsKept_2 5 rfl rfl)
theorem dX6_sendsKept_54 : decode cX6_sendsKept 54 = .ok (.getfield 24, 3) := dk_180 0 24 (dk_at dksX6_sendsKept_2 6 rfl rfl)
theorem dX6_sendsKept_57 : decode cX6_sendsKept 57 = .ok (.iconst 0, 1) := dk_3 (dk_at dksX6_sendsKept_2 9 rfl rfl)
theorem dX6_sendsKept_58 : decode cX6_sendsKept 58 = .ok (.iload_n 1, 1) := dk_27 (dk_at dksX6_sendsKept_2 10 rfl rfl)
theorem dX6_sendsKept_59 : decode cX6_sendsKept 59 = .ok (.iadd, 1) := dk_96 (dk_at dksX6_sendsKept_2 11 rfl rfl)
theorem dX6_sendsKept_60 : decode cX6_sendsKept 60 = .ok (.iload_n 3, 1) := dk_29 (dk_at dksX6_sendsKept_2 12 rfl rfl)
theorem dX6_sendsKept_61 : decode cX6_sendsKept 61 = .ok (.ifCond .ne 7, 3) := dk_154 0 7 (dk_at dksX6_sendsKept_2 13 rfl rfl)
theorem dX6_sendsKept_64 : decode cX6_sendsKept 64 = .ok (.iconst 2, 1) := dk_5 (dk_at dksX6_sendsKept_2 16 rfl rfl)
theorem dX6_sendsKept_65 : decode cX6_sendsKept 65 = .ok (.goto 4, 3) := dk_167 0 4 (dk_at dksX6_sendsKept_2 17 rfl rfl)
theorem dX6_sendsKept_68 : decode cX6_sendsKept 68 = .ok (.iconst 1, 1) := dk_4 (dk_at dksX6_sendsKept_2 20 rfl rfl)
theorem dX6_sendsKept_69 : decode cX6_sendsKept 69 = .ok (.iastore, 1) := dk_79 (dk_at dksX6_sendsKept_2 21 rfl rfl)
theorem dX6_sendsKept_70 : decode cX6_sendsKept 70 = .ok (.aload_n 0, 1) := dk_42 (dk_at dksX6_sendsKept_2 22 rfl rfl)
theorem dX6_sendsKept_71 : decode cX6_sendsKept 71 = .ok (.getfield 24, 3) := dk_180 0 24 (dk_at dksX6_sendsKept_3 0 rfl rfl)
theorem dX6_sendsKept_74 : decode cX6_sendsKept 74 = .ok (.bipush 10, 2) := dk_16 10 (dk_at dksX6_sendsKept_3 3 rfl rfl)
theorem dX6_sendsKept_76 : decode cX6_sendsKept 76 = .ok (.iload_n 1, 1) := dk_27 (dk_at dksX6_sendsKept_3 5 rfl rfl)
theorem dX6_sendsKept_77 : decode cX6_sendsKept 77 = .ok (.iadd, 1) := dk_96 (dk_at dksX6_sendsKept_3 6 rfl rfl)
theorem dX6_sendsKept_78 : decode cX6_sendsKept 78 = .ok (.iload_n 3, 1) := dk_29 (dk_at dksX6_sendsKept_3 7 rfl rfl)
theorem dX6_sendsKept_79 : decode cX6_sendsKept 79 = .ok (.ifCond .ne 7, 3) := dk_154 0 7 (dk_at dksX6_sendsKept_3 8 rfl rfl)
theorem dX6_sendsKept_82 : decode cX6_sendsKept 82 = .ok (.iconst (-1), 1) := dk_2 (dk_at dksX6_sendsKept_3 11 rfl rfl)
theorem dX6_sendsKept_83 : decode cX6_sendsKept 83 = .ok (.goto 12, 3) := dk_167 0 12 (dk_at dksX6_sendsKept_3 12 rfl rfl)
theorem dX6_sendsKept_86 : decode cX6_sendsKept 86 = .ok (.aload_n 0, 1) := dk_42 (dk_at dksX6_sendsKept_3 15 rfl rfl)
theorem dX6_sendsKept_87 : decode cX6_sendsKept 87 = .ok (.getfield 24, 3) := dk_180 0 24 (dk_at dksX6_sendsKept_3 16 rfl rfl)
theorem dX6_sendsKept_90 : decode cX6_sendsKept 90 = .ok (.bipush 33, 2) := dk_16 33 (dk_at dksX6_sendsKept_3 19 rfl rfl)
theorem dX6_sendsKept_92 : decode cX6_sendsKept 92 = .ok (.iaload, 1) := dk_46 (dk_at dksX6_sendsKept_3 21 rfl rfl)
theorem dX6_sendsKept_93 : decode cX6_sendsKept 93 = .ok (.iload_n 3, 1) := dk_29 (dk_at dksX6_sendsKept_3 22 rfl rfl)
theorem dX6_sendsKept_94 : decode cX6_sendsKept 94 = .ok (.iadd, 1) := dk_96 (dk_at dksX6_sendsKept_3 23 rfl rfl)
theorem dX6_sendsKept_95 : decode cX6_sendsKept 95 = .ok (.iastore, 1) := dk_79 (dk_at dksX6_sendsKept_4 0 rfl rfl)
theorem dX6_sendsKept_96 : decode cX6_sendsKept 96 = .ok (.iload_n 2, 1) := dk_28 (dk_at dksX6_sendsKept_4 1 rfl rfl)
theorem dX6_sendsKept_97 : decode cX6_sendsKept 97 = .ok (.ireturn, 1) := dk_172 (dk_at dksX6_sendsKept_4 2 rfl rfl)
abbrev cX6_keeps : ByteArray := prog_29_method_75_code
def yX6_keeps : MethodName := ⟨RX6, "keeps", "(I)V"⟩
def dkwX6_keeps_4 : List UInt8 := [16, 34, 96, 27, 79, 42, 89, 180, 0, 11, 4, 96, 181, 0, 11, 177]
abbrev dktX6_keeps_4 : List UInt8 := dkwX6_keeps_4 ++ []
def dkwX6_keeps_3 : List UInt8 := [96, 42, 180, 0, 24, 29, 46, 79, 132, 3, 1, 167, 255, 228, 42, 180, 0, 62, 28, 42, 180, 0, 11, 104]
abbrev dktX6_keeps_3 : List UInt8 := dkwX6_keeps_3 ++ dktX6_keeps_4
def dkwX6_keeps_2 : List UInt8 := [4, 100, 181, 0, 11, 3, 62, 29, 16, 34, 162, 0, 28, 42, 180, 0, 62, 28, 42, 180, 0, 11, 104, 29]
abbrev dktX6_keeps_2 : List UInt8 := dkwX6_keeps_2 ++ dktX6_keeps_3
def dkwX6_keeps_1 : List UInt8 := [180, 0, 62, 29, 42, 180, 0, 62, 29, 28, 96, 46, 79, 132, 3, 1, 167, 255, 231, 42, 89, 180, 0, 11]
abbrev dktX6_keeps_1 : List UInt8 := dkwX6_keeps_1 ++ dktX6_keeps_2
def dkwX6_keeps_0 : List UInt8 := [16, 35, 61, 42, 180, 0, 11, 16, 16, 160, 0, 43, 3, 62, 29, 16, 15, 28, 104, 162, 0, 23, 42]
abbrev dktX6_keeps_0 : List UInt8 := dkwX6_keeps_0 ++ dktX6_keeps_1
theorem dksX6_keeps_0 : cX6_keeps.data.toList.drop 0 = dktX6_keeps_0 := by decide +kernel
theorem dksX6_keeps_1 : cX6_keeps.data.toList.drop 23 = dktX6_keeps_1 := dk_seg dksX6_keeps_0 23 rfl rfl
theorem dksX6_keeps_2 : cX6_keeps.data.toList.drop 47 = dktX6_keeps_2 := dk_seg dksX6_keeps_1 24 rfl rfl
theorem dksX6_keeps_3 : cX6_keeps.data.toList.drop 71 = dktX6_keeps_3 := dk_seg dksX6_keeps_2 24 rfl rfl
theorem dksX6_keeps_4 : cX6_keeps.data.toList.drop 95 = dktX6_keeps_4 := dk_seg dksX6_keeps_3 24 rfl rfl
theorem dX6_keeps_0 : decode cX6_keeps 0 = .ok (.bipush 35, 2) := dk_16 35 (dk_at dksX6_keeps_0 0 rfl rfl)
theorem dX6_keeps_2 : decode cX6_keeps 2 = .ok (.istore_n 2, 1) := dk_61 (dk_at dksX6_keeps_0 2 rfl rfl)
theorem dX6_keeps_3 : decode cX6_keeps 3 = .ok (.aload_n 0, 1) := dk_42 (dk_at dksX6_keeps_0 3 rfl rfl)
theorem dX6_keeps_4 : decode cX6_keeps 4 = .ok (.getfield 11, 3) := dk_180 0 11 (dk_at dksX6_keeps_0 4 rfl rfl)
theorem dX6_keeps_7 : decode cX6_keeps 7 = .ok (.bipush 16, 2) := dk_16 16 (dk_at dksX6_keeps_0 7 rfl rfl)
theorem dX6_keeps_9 : decode cX6_keeps 9 = .ok (.if_icmp .ne 43, 3) := dk_160 0 43 (dk_at dksX6_keeps_0 9 rfl rfl)
theorem dX6_keeps_12 : decode cX6_keeps 12 = .ok (.iconst 0, 1) := dk_3 (dk_at dksX6_keeps_0 12 rfl rfl)
theorem dX6_keeps_13 : decode cX6_keeps 13 = .ok (.istore_n 3, 1) := dk_62 (dk_at dksX6_keeps_0 13 rfl rfl)
theorem dX6_keeps_14 : decode cX6_keeps 14 = .ok (.iload_n 3, 1) := dk_29 (dk_at dksX6_keeps_0 14 rfl rfl)
theorem dX6_keeps_15 : decode cX6_keeps 15 = .ok (.bipush 15, 2) := dk_16 15 (dk_at dksX6_keeps_0 15 rfl rfl)
theorem dX6_keeps_17 : decode cX6_keeps 17 = .ok (.iload_n 2, 1) := dk_28 (dk_at dksX6_keeps_0 17 rfl rfl)
theorem dX6_keeps_18 : decode cX6_keeps 18 = .ok (.imul, 1) := dk_104 (dk_at dksX6_keeps_0 18 rfl rfl)
theorem dX6_keeps_19 : decode cX6_keeps 19 = .ok (.if_icmp .ge 23, 3) := dk_162 0 23 (dk_at dksX6_keeps_0 19 rfl rfl)
theorem dX6_keeps_22 : decode cX6_keeps 22 = .ok (.aload_n 0, 1) := dk_42 (dk_at dksX6_keeps_0 22 rfl rfl)
theorem dX6_keeps_23 : decode cX6_keeps 23 = .ok (.getfield 62, 3) := dk_180 0 62 (dk_at dksX6_keeps_1 0 rfl rfl)
theorem dX6_keeps_26 : decode cX6_keeps 26 = .ok (.iload_n 3, 1) := dk_29 (dk_at dksX6_keeps_1 3 rfl rfl)
theorem dX6_keeps_27 : decode cX6_keeps 27 = .ok (.aload_n 0, 1) := dk_42 (dk_at dksX6_keeps_1 4 rfl rfl)
theorem dX6_keeps_28 : decode cX6_keeps 28 = .ok (.getfield 62, 3) := dk_180 0 62 (dk_at dksX6_keeps_1 5 rfl rfl)
theorem dX6_keeps_31 : decode cX6_keeps 31 = .ok (.iload_n 3, 1) := dk_29 (dk_at dksX6_keeps_1 8 rfl rfl)
theorem dX6_keeps_32 : decode cX6_keeps 32 = .ok (.iload_n 2, 1) := dk_28 (dk_at dksX6_keeps_1 9 rfl rfl)
theorem dX6_keeps_33 : decode cX6_keeps 33 = .ok (.iadd, 1) := dk_96 (dk_at dksX6_keeps_1 10 rfl rfl)
theorem dX6_keeps_34 : decode cX6_keeps 34 = .ok (.iaload, 1) := dk_46 (dk_at dksX6_keeps_1 11 rfl rfl)
theorem dX6_keeps_35 : decode cX6_keeps 35 = .ok (.iastore, 1) := dk_79 (dk_at dksX6_keeps_1 12 rfl rfl)
theorem dX6_keeps_36 : decode cX6_keeps 36 = .ok (.iinc 3 1, 3) := dk_132 3 1 (dk_at dksX6_keeps_1 13 rfl rfl)
theorem dX6_keeps_39 : decode cX6_keeps 39 = .ok (.goto (-25), 3) := dk_167 255 231 (dk_at dksX6_keeps_1 16 rfl rfl)
theorem dX6_keeps_42 : decode cX6_keeps 42 = .ok (.aload_n 0, 1) := dk_42 (dk_at dksX6_keeps_1 19 rfl rfl)
theorem dX6_keeps_43 : decode cX6_keeps 43 = .ok (.dup, 1) := dk_89 (dk_at dksX6_keeps_1 20 rfl rfl)
theorem dX6_keeps_44 : decode cX6_keeps 44 = .ok (.getfield 11, 3) := dk_180 0 11 (dk_at dksX6_keeps_1 21 rfl rfl)
theorem dX6_keeps_47 : decode cX6_keeps 47 = .ok (.iconst 1, 1) := dk_4 (dk_at dksX6_keeps_2 0 rfl rfl)
theorem dX6_keeps_48 : decode cX6_keeps 48 = .ok (.isub, 1) := dk_100 (dk_at dksX6_keeps_2 1 rfl rfl)
theorem dX6_keeps_49 : decode cX6_keeps 49 = .ok (.putfield 11, 3) := dk_181 0 11 (dk_at dksX6_keeps_2 2 rfl rfl)
theorem dX6_keeps_52 : decode cX6_keeps 52 = .ok (.iconst 0, 1) := dk_3 (dk_at dksX6_keeps_2 5 rfl rfl)
theorem dX6_keeps_53 : decode cX6_keeps 53 = .ok (.istore_n 3, 1) := dk_62 (dk_at dksX6_keeps_2 6 rfl rfl)
theorem dX6_keeps_54 : decode cX6_keeps 54 = .ok (.iload_n 3, 1) := dk_29 (dk_at dksX6_keeps_2 7 rfl rfl)
theorem dX6_keeps_55 : decode cX6_keeps 55 = .ok (.bipush 34, 2) := dk_16 34 (dk_at dksX6_keeps_2 8 rfl rfl)
theorem dX6_keeps_57 : decode cX6_keeps 57 = .ok (.if_icmp .ge 28, 3) := dk_162 0 28 (dk_at dksX6_keeps_2 10 rfl rfl)
theorem dX6_keeps_60 : decode cX6_keeps 60 = .ok (.aload_n 0, 1) := dk_42 (dk_at dksX6_keeps_2 13 rfl rfl)
theorem dX6_keeps_61 : decode cX6_keeps 61 = .ok (.getfield 62, 3) := dk_180 0 62 (dk_at dksX6_keeps_2 14 rfl rfl)
theorem dX6_keeps_64 : decode cX6_keeps 64 = .ok (.iload_n 2, 1) := dk_28 (dk_at dksX6_keeps_2 17 rfl rfl)
theorem dX6_keeps_65 : decode cX6_keeps 65 = .ok (.aload_n 0, 1) := dk_42 (dk_at dksX6_keeps_2 18 rfl rfl)
theorem dX6_keeps_66 : decode cX6_keeps 66 = .ok (.getfield 11, 3) := dk_180 0 11 (dk_at dksX6_keeps_2 19 rfl rfl)
theorem dX6_keeps_69 : decode cX6_keeps 69 = .ok (.imul, 1) := dk_104 (dk_at dksX6_keeps_2 22 rfl rfl)
theorem dX6_keeps_70 : decode cX6_keeps 70 = .ok (.iload_n 3, 1) := dk_29 (dk_at dksX6_keeps_2 23 rfl rfl)
theorem dX6_keeps_71 : decode cX6_keeps 71 = .ok (.iadd, 1) := dk_96 (dk_at dksX6_keeps_3 0 rfl rfl)
theorem dX6_keeps_72 : decode cX6_keeps 72 = .ok (.aload_n 0, 1) := dk_42 (dk_at dksX6_keeps_3 1 rfl rfl)
theorem dX6_keeps_73 : decode cX6_keeps 73 = .ok (.getfield 24, 3) := dk_180 0 24 (dk_at dksX6_keeps_3 2 rfl rfl)
theorem dX6_keeps_76 : decode cX6_keeps 76 = .ok (.iload_n 3, 1) := dk_29 (dk_at dksX6_keeps_3 5 rfl rfl)
theorem dX6_keeps_77 : decode cX6_keeps 77 = .ok (.iaload, 1) := dk_46 (dk_at dksX6_keeps_3 6 rfl rfl)
theorem dX6_keeps_78 : decode cX6_keeps 78 = .ok (.iastore, 1) := dk_79 (dk_at dksX6_keeps_3 7 rfl rfl)
theorem dX6_keeps_79 : decode cX6_keeps 79 = .ok (.iinc 3 1, 3) := dk_132 3 1 (dk_at dksX6_keeps_3 8 rfl rfl)
theorem dX6_keeps_82 : decode cX6_keeps 82 = .ok (.goto (-28), 3) := dk_167 255 228 (dk_at dksX6_keeps_3 11 rfl rfl)
theorem dX6_keeps_85 : decode cX6_keeps 85 = .ok (.aload_n 0, 1) := dk_42 (dk_at dksX6_keeps_3 14 rfl rfl)
theorem dX6_keeps_86 : decode cX6_keeps 86 = .ok (.getfield 62, 3) := dk_180 0 62 (dk_at dksX6_keeps_3 15 rfl rfl)
theorem dX6_keeps_89 : decode cX6_keeps 89 = .ok (.iload_n 2, 1) := dk_28 (dk_at dksX6_keeps_3 18 rfl rfl)
theorem dX6_keeps_90 : decode cX6_keeps 90 = .ok (.aload_n 0, 1) := dk_42 (dk_at dksX6_keeps_3 19 rfl rfl)
theorem dX6_keeps_91 : decode cX6_keeps 91 = .ok (.getfield 11, 3) := dk_180 0 11 (dk_at dksX6_keeps_3 20 rfl rfl)
theorem dX6_keeps_94 : decode cX6_keeps 94 = .ok (.imul, 1) := dk_104 (dk_at dksX6_keeps_3 23 rfl rfl)
theorem dX6_keeps_95 : decode cX6_keeps 95 = .ok (.bipush 34, 2) := dk_16 34 (dk_at dksX6_keeps_4 0 rfl rfl)
theorem dX6_keeps_97 : decode cX6_keeps 97 = .ok (.iadd, 1) := dk_96 (dk_at dksX6_keeps_4 2 rfl rfl)
theorem dX6_keeps_98 : decode cX6_keeps 98 = .ok (.iload_n 1, 1) := dk_27 (dk_at dksX6_keeps_4 3 rfl rfl)
theorem dX6_keeps_99 : decode cX6_keeps 99 = .ok (.iastore, 1) := dk_79 (dk_at dksX6_keeps_4 4 rfl rfl)
theorem dX6_keeps_100 : decode cX6_keeps 100 = .ok (.aload_n 0, 1) := dk_42 (dk_at dksX6_keeps_4 5 rfl rfl)
theorem dX6_keeps_101 : decode cX6_keeps 101 = .ok (.dup, 1) := dk_89 (dk_at dksX6_keeps_4 6 rfl rfl)
theorem dX6_keeps_102 : decode cX6_keeps 102 = .ok (.getfield 11, 3) := dk_180 0 11 (dk_at dksX6_keeps_4 7 rfl rfl)
theorem dX6_keeps_105 : decode cX6_keeps 105 = .ok (.iconst 1, 1) := dk_4 (dk_at dksX6_keeps_4 10 rfl rfl)
theorem dX6_keeps_106 : decode cX6_keeps 106 = .ok (.iadd, 1) := dk_96 (dk_at dksX6_keeps_4 11 rfl rfl)
theorem dX6_keeps_107 : decode cX6_keeps 107 = .ok (.putfield 11, 3) := dk_181 0 11 (dk_at dksX6_keeps_4 12 rfl rfl)
theorem dX6_keeps_110 : decode cX6_keeps 110 = .ok (.return_, 1) := dk_177 (dk_at dksX6_keeps_4 15 rfl rfl)
abbrev cX6_goodOr : ByteArray := prog_29_method_83_code
def yX6_goodOr : MethodName := ⟨RX6, "goodOr", "(I)I"⟩
def dkwX6_goodOr_0 : List UInt8 := [27, 156, 0, 11, 42, 27, 182, 0, 110, 167, 0, 8, 42, 27, 182, 0, 14, 172]
abbrev dktX6_goodOr_0 : List UInt8 := dkwX6_goodOr_0 ++ []
theorem dksX6_goodOr_0 : cX6_goodOr.data.toList.drop 0 = dktX6_goodOr_0 := by decide +kernel
theorem dX6_goodOr_0 : decode cX6_goodOr 0 = .ok (.iload_n 1, 1) := dk_27 (dk_at dksX6_goodOr_0 0 rfl rfl)
theorem dX6_goodOr_1 : decode cX6_goodOr 1 = .ok (.ifCond .ge 11, 3) := dk_156 0 11 (dk_at dksX6_goodOr_0 1 rfl rfl)
theorem dX6_goodOr_4 : decode cX6_goodOr 4 = .ok (.aload_n 0, 1) := dk_42 (dk_at dksX6_goodOr_0 4 rfl rfl)
theorem dX6_goodOr_5 : decode cX6_goodOr 5 = .ok (.iload_n 1, 1) := dk_27 (dk_at dksX6_goodOr_0 5 rfl rfl)
theorem dX6_goodOr_6 : decode cX6_goodOr 6 = .ok (.invokevirtual 110, 3) := dk_182 0 110 (dk_at dksX6_goodOr_0 6 rfl rfl)
theorem dX6_goodOr_9 : decode cX6_goodOr 9 = .ok (.goto 8, 3) := dk_167 0 8 (dk_at dksX6_goodOr_0 9 rfl rfl)
theorem dX6_goodOr_12 : decode cX6_goodOr 12 = .ok (.aload_n 0, 1) := dk_42 (dk_at dksX6_goodOr_0 12 rfl rfl)
theorem dX6_goodOr_13 : decode cX6_goodOr 13 = .ok (.iload_n 1, 1) := dk_27 (dk_at dksX6_goodOr_0 13 rfl rfl)
theorem dX6_goodOr_14 : decode cX6_goodOr 14 = .ok (.invokevirtual 14, 3) := dk_182 0 14 (dk_at dksX6_goodOr_0 14 rfl rfl)
theorem dX6_goodOr_17 : decode cX6_goodOr 17 = .ok (.ireturn, 1) := dk_172 (dk_at dksX6_goodOr_0 17 rfl rfl)
abbrev cX6_light : ByteArray := prog_29_method_85_code
def yX6_light : MethodName := ⟨RX6, "light", "(I)I"⟩
def dkwX6_light_0 : List UInt8 := [42, 42, 27, 182, 1, 93, 182, 1, 90, 172]
abbrev dktX6_light_0 : List UInt8 := dkwX6_light_0 ++ []
theorem dksX6_light_0 : cX6_light.data.toList.drop 0 = dktX6_light_0 := by decide +kernel
theorem dX6_light_0 : decode cX6_light 0 = .ok (.aload_n 0, 1) := dk_42 (dk_at dksX6_light_0 0 rfl rfl)
theorem dX6_light_1 : decode cX6_light 1 = .ok (.aload_n 0, 1) := dk_42 (dk_at dksX6_light_0 1 rfl rfl)
theorem dX6_light_2 : decode cX6_light 2 = .ok (.iload_n 1, 1) := dk_27 (dk_at dksX6_light_0 2 rfl rfl)
theorem dX6_light_3 : decode cX6_light 3 = .ok (.invokevirtual 349, 3) := dk_182 1 93 (dk_at dksX6_light_0 3 rfl rfl)
theorem dX6_light_6 : decode cX6_light 6 = .ok (.invokevirtual 346, 3) := dk_182 1 90 (dk_at dksX6_light_0 6 rfl rfl)
theorem dX6_light_9 : decode cX6_light 9 = .ok (.ireturn, 1) := dk_172 (dk_at dksX6_light_0 9 rfl rfl)
abbrev cX6_lightsKept : ByteArray := prog_29_method_80_code
def yX6_lightsKept : MethodName := ⟨RX6, "lightsKept", "(I)I"⟩
def dkwX6_lightsKept_13 : List UInt8 := [182, 1, 84, 28, 172]
abbrev dktX6_lightsKept_13 : List UInt8 := dkwX6_lightsKept_13 ++ []
def dkwX6_lightsKept_12 : List UInt8 := [132, 5, 1, 167, 255, 178, 132, 4, 1, 167, 255, 160, 42, 180, 0, 24, 16, 30, 92, 46, 4, 96, 79, 42]
abbrev dktX6_lightsKept_12 : List UInt8 := dkwX6_lightsKept_12 ++ dktX6_lightsKept_13
def dkwX6_lightsKept_11 : List UInt8 := [5, 42, 180, 0, 24, 16, 20, 21, 5, 96, 46, 42, 21, 4, 21, 5, 182, 1, 63, 96, 184, 1, 81, 79]
abbrev dktX6_lightsKept_11 : List UInt8 := dkwX6_lightsKept_11 ++ dktX6_lightsKept_12
def dkwX6_lightsKept_10 : List UInt8 := [6, 159, 0, 47, 42, 21, 4, 21, 5, 182, 1, 78, 153, 0, 36, 42, 180, 0, 24, 16, 20, 21, 5, 96]
abbrev dktX6_lightsKept_10 : List UInt8 := dkwX6_lightsKept_10 ++ dktX6_lightsKept_11
def dkwX6_lightsKept_9 : List UInt8 := [182, 0, 116, 162, 0, 75, 27, 21, 4, 184, 1, 69, 153, 0, 66, 42, 180, 0, 24, 3, 21, 5, 96, 46]
abbrev dktX6_lightsKept_9 : List UInt8 := dkwX6_lightsKept_9 ++ dktX6_lightsKept_10
def dkwX6_lightsKept_8 : List UInt8 := [132, 4, 1, 167, 255, 225, 3, 54, 4, 21, 4, 42, 182, 0, 116, 162, 0, 93, 3, 54, 5, 21, 5, 42]
abbrev dktX6_lightsKept_8 : List UInt8 := dkwX6_lightsKept_8 ++ dktX6_lightsKept_9
def dkwX6_lightsKept_7 : List UInt8 := [162, 0, 28, 27, 21, 4, 184, 1, 69, 153, 0, 13, 42, 180, 0, 24, 3, 21, 4, 96, 6, 79]
abbrev dktX6_lightsKept_7 : List UInt8 := dkwX6_lightsKept_7 ++ dktX6_lightsKept_8
def dkwX6_lightsKept_6 : List UInt8 := [184, 1, 75, 162, 0, 6, 16, 253, 172, 42, 4, 182, 1, 66, 3, 54, 4, 21, 4, 42, 182, 0, 116]
abbrev dktX6_lightsKept_6 : List UInt8 := dkwX6_lightsKept_6 ++ dktX6_lightsKept_7
def dkwX6_lightsKept_5 : List UInt8 := [132, 4, 1, 167, 255, 204, 29, 153, 0, 21, 28, 42, 42, 180, 0, 24, 16, 33, 46, 182, 1, 36]
abbrev dktX6_lightsKept_5 : List UInt8 := dkwX6_lightsKept_5 ++ dktX6_lightsKept_6
def dkwX6_lightsKept_4 : List UInt8 := [21, 4, 182, 1, 72, 153, 0, 7, 4, 167, 0, 4, 3, 62, 28, 42, 21, 4, 182, 0, 138, 96, 61]
abbrev dktX6_lightsKept_4 : List UInt8 := dkwX6_lightsKept_4 ++ dktX6_lightsKept_5
def dkwX6_lightsKept_3 : List UInt8 := [42, 182, 0, 116, 162, 0, 49, 27, 21, 4, 184, 1, 69, 154, 0, 6, 167, 0, 31, 29, 153, 0, 16, 42]
abbrev dktX6_lightsKept_3 : List UInt8 := dkwX6_lightsKept_3 ++ dktX6_lightsKept_4
def dkwX6_lightsKept_2 : List UInt8 := [42, 180, 0, 24, 16, 33, 46, 17, 3, 231, 162, 0, 7, 4, 167, 0, 4, 3, 62, 3, 54, 4, 21, 4]
abbrev dktX6_lightsKept_2 : List UInt8 := dkwX6_lightsKept_2 ++ dktX6_lightsKept_3
def dkwX6_lightsKept_1 : List UInt8 := [29, 184, 1, 69, 153, 0, 14, 42, 29, 182, 0, 128, 154, 0, 6, 16, 254, 172, 132, 3, 1, 167, 255, 228]
abbrev dktX6_lightsKept_1 : List UInt8 := dkwX6_lightsKept_1 ++ dktX6_lightsKept_2
def dkwX6_lightsKept_0 : List UInt8 := [27, 4, 17, 3, 255, 184, 0, 106, 154, 0, 5, 2, 172, 3, 61, 3, 62, 29, 16, 10, 162, 0, 28, 27]
abbrev dktX6_lightsKept_0 : List UInt8 := dkwX6_lightsKept_0 ++ dktX6_lightsKept_1
theorem dksX6_lightsKept_0 : cX6_lightsKept.data.toList.drop 0 = dktX6_lightsKept_0 := by decide +kernel
theorem dksX6_lightsKept_1 : cX6_lightsKept.data.toList.drop 24 = dktX6_lightsKept_1 := dk_seg dksX6_lightsKept_0 24 rfl rfl
theorem dksX6_lightsKept_2 : cX6_lightsKept.data.toList.drop 48 = dktX6_lightsKept_2 := dk_seg dksX6_lightsKept_1 24 rfl rfl
theorem dksX6_lightsKept_3 : cX6_lightsKept.data.toList.drop 72 = dktX6_lightsKept_3 := dk_seg dksX6_lightsKept_2 24 rfl rfl
theorem dksX6_lightsKept_4 : cX6_lightsKept.data.toList.drop 96 = dktX6_lightsKept_4 := dk_seg dksX6_lightsKept_3 24 rfl rfl
theorem dksX6_lightsKept_5 : cX6_lightsKept.data.toList.drop 119 = dktX6_lightsKept_5 := dk_seg dksX6_lightsKept_4 23 rfl rfl
theorem dksX6_lightsKept_6 : cX6_lightsKept.data.toList.drop 141 = dktX6_lightsKept_6 := dk_seg dksX6_lightsKept_5 22 rfl rfl
theorem dksX6_lightsKept_7 : cX6_lightsKept.data.toList.drop 164 = dktX6_lightsKept_7 := dk_seg dksX6_lightsKept_6 23 rfl rfl
theorem dksX6_lightsKept_8 : cX6_lightsKept.data.toList.drop 186 = dktX6_lightsKept_8 := dk_seg dksX6_lightsKept_7 22 rfl rfl
theorem dksX6_lightsKept_9 : cX6_lightsKept.data.toList.drop 210 = dktX6_lightsKept_9 := dk_seg dksX6_lightsKept_8 24 rfl rfl
theorem dksX6_lightsKept_10 : cX6_lightsKept.data.toList.drop 234 = dktX6_lightsKept_10 := dk_seg dksX6_lightsKept_9 24 rfl rfl
theorem dksX6_lightsKept_11 : cX6_lightsKept.data.toList.drop 258 = dktX6_lightsKept_11 := dk_seg dksX6_lightsKept_10 24 rfl rfl
theorem dksX6_lightsKept_12 : cX6_lightsKept.data.toList.drop 282 = dktX6_lightsKept_12 := dk_seg dksX6_lightsKept_11 24 rfl rfl
theorem dksX6_lightsKept_13 : cX6_lightsKept.data.toList.drop 306 = dktX6_lightsKept_13 := dk_seg dksX6_lightsKept_12 24 rfl rfl
theorem dX6_lightsKept_0 : decode cX6_lightsKept 0 = .ok (.iload_n 1, 1) := dk_27 (dk_at dksX6_lightsKept_0 0 rfl rfl)
theorem dX6_lightsKept_1 : decode cX6_lightsKept 1 = .ok (.iconst 1, 1) := dk_4 (dk_at dksX6_lightsKept_0 1 rfl rfl)
theorem dX6_lightsKept_2 : decode cX6_lightsKept 2 = .ok (.sipush 1023, 3) := dk_17 3 255 (dk_at dksX6_lightsKept_0 2 rfl rfl)
theorem dX6_lightsKept_5 : decode cX6_lightsKept 5 = .ok (.invokestatic 106, 3) := dk_184 0 106 (dk_at dksX6_lightsKept_0 5 rfl rfl)
theorem dX6_lightsKept_8 : decode cX6_lightsKept 8 = .ok (.ifCond .ne 5, 3) := dk_154 0 5 (dk_at dksX6_lightsKept_0 8 rfl rfl)
theorem dX6_lightsKept_11 : decode cX6_lightsKept 11 = .ok (.iconst (-1), 1) := dk_2 (dk_at dksX6_lightsKept_0 11 rfl rfl)
theorem dX6_lightsKept_12 : decode cX6_lightsKept 12 = .ok (.ireturn, 1) := dk_172 (dk_at dksX6_lightsKept_0 12 rfl rfl)
theorem dX6_lightsKept_13 : decode cX6_lightsKept 13 = .ok (.iconst 0, 1) := dk_3 (dk_at dksX6_lightsKept_0 13 rfl rfl)
theorem dX6_lightsKept_14 : decode cX6_lightsKept 14 = .ok (.istore_n 2, 1) := dk_61 (dk_at dksX6_lightsKept_0 14 rfl rfl)
theorem dX6_lightsKept_15 : decode cX6_lightsKept 15 = .ok (.iconst 0, 1) := dk_3 (dk_at dksX6_lightsKept_0 15 rfl rfl)
theorem dX6_lightsKept_16 : decode cX6_lightsKept 16 = .ok (.istore_n 3, 1) := dk_62 (dk_at dksX6_lightsKept_0 16 rfl rfl)
theorem dX6_lightsKept_17 : decode cX6_lightsKept 17 = .ok (.iload_n 3, 1) := dk_29 (dk_at dksX6_lightsKept_0 17 rfl rfl)
theorem dX6_lightsKept_18 : decode cX6_lightsKept 18 = .ok (.bipush 10, 2) := dk_16 10 (dk_at dksX6_lightsKept_0 18 rfl rfl)
theorem dX6_lightsKept_20 : decode cX6_lightsKept 20 = .ok (.if_icmp .ge 28, 3) := dk_162 0 28 (dk_at dksX6_lightsKept_0 20 rfl rfl)
theorem dX6_lightsKept_23 : decode cX6_lightsKept 23 = .ok (.iload_n 1, 1) := dk_27 (dk_at dksX6_lightsKept_0 23 rfl rfl)
theorem dX6_lightsKept_24 : decode cX6_lightsKept 24 = .ok (.iload_n 3, 1) := dk_29 (dk_at dksX6_lightsKept_1 0 rfl rfl)
theorem dX6_lightsKept_25 : decode cX6_lightsKept 25 = .ok (.invokestatic 325, 3) := dk_184 1 69 (dk_at dksX6_lightsKept_1 1 rfl rfl)
theorem dX6_lightsKept_28 : decode cX6_lightsKept 28 = .ok (.ifCond .eq 14, 3) := dk_153 0 14 (dk_at dksX6_lightsKept_1 4 rfl rfl)
theorem dX6_lightsKept_31 : decode cX6_lightsKept 31 = .ok (.aload_n 0, 1) := dk_42 (dk_at dksX6_lightsKept_1 7 rfl rfl)
theorem dX6_lightsKept_32 : decode cX6_lightsKept 32 = .ok (.iload_n 3, 1) := dk_29 (dk_at dksX6_lightsKept_1 8 rfl rfl)
theorem dX6_lightsKept_33 : decode cX6_lightsKept 33 = .ok (.invokevirtual 128, 3) := dk_182 0 128 (dk_at dksX6_lightsKept_1 9 rfl rfl)
theorem dX6_lightsKept_36 : decode cX6_lightsKept 36 = .ok (.ifCond .ne 6, 3) := dk_154 0 6 (dk_at dksX6_lightsKept_1 12 rfl rfl)
theorem dX6_lightsKept_39 : decode cX6_lightsKept 39 = .ok (.bipush (-2), 2) := dk_16 254 (dk_at dksX6_lightsKept_1 15 rfl rfl)
theorem dX6_lightsKept_41 : decode cX6_lightsKept 41 = .ok (.ireturn, 1) := dk_172 (dk_at dksX6_lightsKept_1 17 rfl rfl)
theorem dX6_lightsKept_42 : decode cX6_lightsKept 42 = .ok (.iinc 3 1, 3) := dk_132 3 1 (dk_at dksX6_lightsKept_1 18 rfl rfl)
theorem dX6_lightsKept_45 : decode cX6_lightsKept 45 = .ok (.goto (-28), 3) := dk_167 255 228 (dk_at dksX6_lightsKept_1 21 rfl rfl)
theorem dX6_lightsKept_48 : decode cX6_lightsKept 48 = .ok (.aload_n 0, 1) := dk_42 (dk_at dksX6_lightsKept_2 0 rfl rfl)
theorem dX6_lightsKept_49 : decode cX6_lightsKept 49 = .ok (.getfield 24, 3) := dk_180 0 24 (dk_at dksX6_lightsKept_2 1 rfl rfl)
theorem dX6_lightsKept_52 : decode cX6_lightsKept 52 = .ok (.bipush 33, 2) := dk_16 33 (dk_at dksX6_lightsKept_2 4 rfl rfl)
theorem dX6_lightsKept_54 : decode cX6_lightsKept 54 = .ok (.iaload, 1) := dk_46 (dk_at dksX6_lightsKept_2 6 rfl rfl)
theorem dX6_lightsKept_55 : decode cX6_lightsKept 55 = .ok (.sipush 999, 3) := dk_17 3 231 (dk_at dksX6_lightsKept_2 7 rfl rfl)
theorem dX6_lightsKept_58 : decode cX6_lightsKept 58 = .ok (.if_icmp .ge 7, 3) := dk_162 0 7 (dk_at dksX6_lightsKept_2 10 rfl rfl)
theorem dX6_lightsKept_61 : decode cX6_lightsKept 61 = .ok (.iconst 1, 1) := dk_4 (dk_at dksX6_lightsKept_2 13 rfl rfl)
theorem dX6_lightsKept_62 : decode cX6_lightsKept 62 = .ok (.goto 4, 3) := dk_167 0 4 (dk_at dksX6_lightsKept_2 14 rfl rfl)
theorem dX6_lightsKept_65 : decode cX6_lightsKept 65 = .ok (.iconst 0, 1) := dk_3 (dk_at dksX6_lightsKept_2 17 rfl rfl)
theorem dX6_lightsKept_66 : decode cX6_lightsKept 66 = .ok (.istore_n 3, 1) := dk_62 (dk_at dksX6_lightsKept_2 18 rfl rfl)
theorem dX6_lightsKept_67 : decode cX6_lightsKept 67 = .ok (.iconst 0, 1) := dk_3 (dk_at dksX6_lightsKept_2 19 rfl rfl)
theorem dX6_lightsKept_68 : decode cX6_lightsKept 68 = .ok (.istore 4, 2) := dk_54 4 (dk_at dksX6_lightsKept_2 20 rfl rfl)
theorem dX6_lightsKept_70 : decode cX6_lightsKept 70 = .ok (.iload 4, 2) := dk_21 4 (dk_at dksX6_lightsKept_2 22 rfl rfl)
theorem dX6_lightsKept_72 : decode cX6_lightsKept 72 = .ok (.aload_n 0, 1) := dk_42 (dk_at dksX6_lightsKept_3 0 rfl rfl)
theorem dX6_lightsKept_73 : decode cX6_lightsKept 73 = .ok (.invokevirtual 116, 3) := dk_182 0 116 (dk_at dksX6_lightsKept_3 1 rfl rfl)
theorem dX6_lightsKept_76 : decode cX6_lightsKept 76 = .ok (.if_icmp .ge 49, 3) := dk_162 0 49 (dk_at dksX6_lightsKept_3 4 rfl rfl)
theorem dX6_lightsKept_79 : decode cX6_lightsKept 79 = .ok (.iload_n 1, 1) := dk_27 (dk_at dksX6_lightsKept_3 7 rfl rfl)
theorem dX6_lightsKept_80 : decode cX6_lightsKept 80 = .ok (.iload 4, 2) := dk_21 4 (dk_at dksX6_lightsKept_3 8 rfl rfl)
theorem dX6_lightsKept_82 : decode cX6_lightsKept 82 = .ok (.invokestatic 325, 3) := dk_184 1 69 (dk_at dksX6_lightsKept_3 10 rfl rfl)
theorem dX6_lightsKept_85 : decode cX6_lightsKept 85 = .ok (.ifCond .ne 6, 3) := dk_154 0 6 (dk_at dksX6_lightsKept_3 13 rfl rfl)
theorem dX6_lightsKept_88 : decode cX6_lightsKept 88 = .ok (.goto 31, 3) := dk_167 0 31 (dk_at dksX6_lightsKept_3 16 rfl rfl)
theorem dX6_lightsKept_91 : decode cX6_lightsKept 91 = .ok (.iload_n 3, 1) := dk_29 (dk_at dksX6_lightsKept_3 19 rfl rfl)
theorem dX6_lightsKept_92 : decode cX6_lightsKept 92 = .ok (.ifCond .eq 16, 3) := dk_153 0 16 (dk_at dksX6_lightsKept_3 20 rfl rfl)
theorem dX6_lightsKept_95 : decode cX6_lightsKept 95 = .ok (.aload_n 0, 1) := dk_42 (dk_at dksX6_lightsKept_3 23 rfl rfl)
theorem dX6_lightsKept_96 : decode cX6_lightsKept 96 = .ok (.iload 4, 2) := dk_21 4 (dk_at dksX6_lightsKept_4 0 rfl rfl)
theorem dX6_lightsKept_98 : decode cX6_lightsKept 98 = .ok (.invokevirtual 328, 3) := dk_182 1 72 (dk_at dksX6_lightsKept_4 2 rfl rfl)
theorem dX6_lightsKept_101 : decode cX6_lightsKept 101 = .ok (.ifCond .eq 7, 3) := dk_153 0 7 (dk_at dksX6_lightsKept_4 5 rfl rfl)
theorem dX6_lightsKept_104 : decode cX6_lightsKept 104 = .ok (.iconst 1, 1) := dk_4 (dk_at dksX6_lightsKept_4 8 rfl rfl)
theorem dX6_lightsKept_105 : decode cX6_lightsKept 105 = .ok (.goto 4, 3) := dk_167 0 4 (dk_at dksX6_lightsKept_4 9 rfl rfl)
theorem dX6_lightsKept_108 : decode cX6_lightsKept 108 = .ok (.iconst 0, 1) := dk_3 (dk_at dksX6_lightsKept_4 12 rfl rfl)
theorem dX6_lightsKept_109 : decode cX6_lightsKept 109 = .ok (.istore_n 3, 1) := dk_62 (dk_at dksX6_lightsKept_4 13 rfl rfl)
theorem dX6_lightsKept_110 : decode cX6_lightsKept 110 = .ok (.iload_n 2, 1) := dk_28 (dk_at dksX6_lightsKept_4 14 rfl rfl)
theorem dX6_lightsKept_111 : decode cX6_lightsKept 111 = .ok (.aload_n 0, 1) := dk_42 (dk_at dksX6_lightsKept_4 15 rfl rfl)
theorem dX6_lightsKept_112 : decode cX6_lightsKept 112 = .ok (.iload 4, 2) := dk_21 4 (dk_at dksX6_lightsKept_4 16 rfl rfl)
theorem dX6_lightsKept_114 : decode cX6_lightsKept 114 = .ok (.invokevirtual 138, 3) := dk_182 0 138 (dk_at dksX6_lightsKept_4 18 rfl rfl)
theorem dX6_lightsKept_117 : decode cX6_lightsKept 117 = .ok (.iadd, 1) := dk_96 (dk_at dksX6_lightsKept_4 21 rfl rfl)
theorem dX6_lightsKept_118 : decode cX6_lightsKept 118 = .ok (.istore_n 2, 1) := dk_61 (dk_at dksX6_lightsKept_4 22 rfl rfl)
theorem dX6_lightsKept_119 : decode cX6_lightsKept 119 = .ok (.iinc 4 1, 3) := dk_132 4 1 (dk_at dksX6_lightsKept_5 0 rfl rfl)
theorem dX6_lightsKept_122 : decode cX6_lightsKept 122 = .ok (.goto (-52), 3) := dk_167 255 204 (dk_at dksX6_lightsKept_5 3 rfl rfl)
theorem dX6_lightsKept_125 : decode cX6_lightsKept 125 = .ok (.iload_n 3, 1) := dk_29 (dk_at dksX6_lightsKept_5 6 rfl rfl)
theorem dX6_lightsKept_126 : decode cX6_lightsKept 126 = .ok (.ifCond .eq 21, 3) := dk_153 0 21 (dk_at dksX6_lightsKept_5 7 rfl rfl)
theorem dX6_lightsKept_129 : decode cX6_lightsKept 129 = .ok (.iload_n 2, 1) := dk_28 (dk_at dksX6_lightsKept_5 10 rfl rfl)
theorem dX6_lightsKept_130 : decode cX6_lightsKept 130 = .ok (.aload_n 0, 1) := dk_42 (dk_at dksX6_lightsKept_5 11 rfl rfl)
theorem dX6_lightsKept_131 : decode cX6_lightsKept 131 = .ok (.aload_n 0, 1) := dk_42 (dk_at dksX6_lightsKept_5 12 rfl rfl)
theorem dX6_lightsKept_132 : decode cX6_lightsKept 132 = .ok (.getfield 24, 3) := dk_180 0 24 (dk_at dksX6_lightsKept_5 13 rfl rfl)
theorem dX6_lightsKept_135 : decode cX6_lightsKept 135 = .ok (.bipush 33, 2) := dk_16 33 (dk_at dksX6_lightsKept_5 16 rfl rfl)
theorem dX6_lightsKept_137 : decode cX6_lightsKept 137 = .ok (.iaload, 1) := dk_46 (dk_at dksX6_lightsKept_5 18 rfl rfl)
theorem dX6_lightsKept_138 : decode cX6_lightsKept 138 = .ok (.invokevirtual 292, 3) := dk_182 1 36 (dk_at dksX6_lightsKept_5 19 rfl rfl)
theorem dX6_lightsKept_141 : decode cX6_lightsKept 141 = .ok (.invokestatic 331, 3) := dk_184 1 75 (dk_at dksX6_lightsKept_6 0 rfl rfl)
theorem dX6_lightsKept_144 : decode cX6_lightsKept 144 = .ok (.if_icmp .ge 6, 3) := dk_162 0 6 (dk_at dksX6_lightsKept_6 3 rfl rfl)
theorem dX6_lightsKept_147 : decode cX6_lightsKept 147 = .ok (.bipush (-3), 2) := dk_16 253 (dk_at dksX6_lightsKept_6 6 rfl rfl)
theorem dX6_lightsKept_149 : decode cX6_lightsKept 149 = .ok (.ireturn, 1) := dk_172 (dk_at dksX6_lightsKept_6 8 rfl rfl)
theorem dX6_lightsKept_150 : decode cX6_lightsKept 150 = .ok (.aload_n 0, 1) := dk_42 (dk_at dksX6_lightsKept_6 9 rfl rfl)
theorem dX6_lightsKept_151 : decode cX6_lightsKept 151 = .ok (.iconst 1, 1) := dk_4 (dk_at dksX6_lightsKept_6 10 rfl rfl)
theorem dX6_lightsKept_152 : decode cX6_lightsKept 152 = .ok (.invokevirtual 322, 3) := dk_182 1 66 (dk_at dksX6_lightsKept_6 11 rfl rfl)
theorem dX6_lightsKept_155 : decode cX6_lightsKept 155 = .ok (.iconst 0, 1) := dk_3 (dk_at dksX6_lightsKept_6 14 rfl rfl)
theorem dX6_lightsKept_156 : decode cX6_lightsKept 156 = .ok (.istore 4, 2) := dk_54 4 (dk_at dksX6_lightsKept_6 15 rfl rfl)
theorem dX6_lightsKept_158 : decode cX6_lightsKept 158 = .ok (.iload 4, 2) := dk_21 4 (dk_at dksX6_lightsKept_6 17 rfl rfl)
theorem dX6_lightsKept_160 : decode cX6_lightsKept 160 = .ok (.aload_n 0, 1) := dk_42 (dk_at dksX6_lightsKept_6 19 rfl rfl)
theorem dX6_lightsKept_161 : decode cX6_lightsKept 161 = .ok (.invokevirtual 116, 3) := dk_182 0 116 (dk_at dksX6_lightsKept_6 20 rfl rfl)
theorem dX6_lightsKept_164 : decode cX6_lightsKept 164 = .ok (.if_icmp .ge 28, 3) := dk_162 0 28 (dk_at dksX6_lightsKept_7 0 rfl rfl)
theorem dX6_lightsKept_167 : decode cX6_lightsKept 167 = .ok (.iload_n 1, 1) := dk_27 (dk_at dksX6_lightsKept_7 3 rfl rfl)
theorem dX6_lightsKept_168 : decode cX6_lightsKept 168 = .ok (.iload 4, 2) := dk_21 4 (dk_at dksX6_lightsKept_7 4 rfl rfl)
theorem dX6_lightsKept_170 : decode cX6_lightsKept 170 = .ok (.invokestatic 325, 3) := dk_184 1 69 (dk_at dksX6_lightsKept_7 6 rfl rfl)
theorem dX6_lightsKept_173 : decode cX6_lightsKept 173 = .ok (.ifCond .eq 13, 3) := dk_153 0 13 (dk_at dksX6_lightsKept_7 9 rfl rfl)
theorem dX6_lightsKept_176 : decode cX6_lightsKept 176 = .ok (.aload_n 0, 1) := dk_42 (dk_at dksX6_lightsKept_7 12 rfl rfl)
theorem dX6_lightsKept_177 : decode cX6_lightsKept 177 = .ok (.getfield 24, 3) := dk_180 0 24 (dk_at dksX6_lightsKept_7 13 rfl rfl)
theorem dX6_lightsKept_180 : decode cX6_lightsKept 180 = .ok (.iconst 0, 1) := dk_3 (dk_at dksX6_lightsKept_7 16 rfl rfl)
theorem dX6_lightsKept_181 : decode cX6_lightsKept 181 = .ok (.iload 4, 2) := dk_21 4 (dk_at dksX6_lightsKept_7 17 rfl rfl)
theorem dX6_lightsKept_183 : decode cX6_lightsKept 183 = .ok (.iadd, 1) := dk_96 (dk_at dksX6_lightsKept_7 19 rfl rfl)
theorem dX6_lightsKept_184 : decode cX6_lightsKept 184 = .ok (.iconst 3, 1) := dk_6 (dk_at dksX6_lightsKept_7 20 rfl rfl)
theorem dX6_lightsKept_185 : decode cX6_lightsKept 185 = .ok (.iastore, 1) := dk_79 (dk_at dksX6_lightsKept_7 21 rfl rfl)
theorem dX6_lightsKept_186 : decode cX6_lightsKept 186 = .ok (.iinc 4 1, 3) := dk_132 4 1 (dk_at dksX6_lightsKept_8 0 rfl rfl)
theorem dX6_lightsKept_189 : decode cX6_lightsKept 189 = .ok (.goto (-31), 3) := dk_167 255 225 (dk_at dksX6_lightsKept_8 3 rfl rfl)
theorem dX6_lightsKept_192 : decode cX6_lightsKept 192 = .ok (.iconst 0, 1) := dk_3 (dk_at dksX6_lightsKept_8 6 rfl rfl)
theorem dX6_lightsKept_193 : decode cX6_lightsKept 193 = .ok (.istore 4, 2) := dk_54 4 (dk_at dksX6_lightsKept_8 7 rfl rfl)
theorem dX6_lightsKept_195 : decode cX6_lightsKept 195 = .ok (.iload 4, 2) := dk_21 4 (dk_at dksX6_lightsKept_8 9 rfl rfl)
theorem dX6_lightsKept_197 : decode cX6_lightsKept 197 = .ok (.aload_n 0, 1) := dk_42 (dk_at dksX6_lightsKept_8 11 rfl rfl)
theorem dX6_lightsKept_198 : decode cX6_lightsKept 198 = .ok (.invokevirtual 116, 3) := dk_182 0 116 (dk_at dksX6_lightsKept_8 12 rfl rfl)
theorem dX6_lightsKept_201 : decode cX6_lightsKept 201 = .ok (.if_icmp .ge 93, 3) := dk_162 0 93 (dk_at dksX6_lightsKept_8 15 rfl rfl)
theorem dX6_lightsKept_204 : decode cX6_lightsKept 204 = .ok (.iconst 0, 1) := dk_3 (dk_at dksX6_lightsKept_8 18 rfl rfl)
theorem dX6_lightsKept_205 : decode cX6_lightsKept 205 = .ok (.istore 5, 2) := dk_54 5 (dk_at dksX6_lightsKept_8 19 rfl rfl)
theorem dX6_lightsKept_207 : decode cX6_lightsKept 207 = .ok (.iload 5, 2) := dk_21 5 (dk_at dksX6_lightsKept_8 21 rfl rfl)
theorem dX6_lightsKept_209 : decode cX6_lightsKept 209 = .ok (.aload_n 0, 1) := dk_42 (dk_at dksX6_lightsKept_8 23 rfl rfl)
theorem dX6_lightsKept_210 : decode cX6_lightsKept 210 = .ok (.invokevirtual 116, 3) := dk_182 0 116 (dk_at dksX6_lightsKept_9 0 rfl rfl)
theorem dX6_lightsKept_213 : decode cX6_lightsKept 213 = .ok (.if_icmp .ge 75, 3) := dk_162 0 75 (dk_at dksX6_lightsKept_9 3 rfl rfl)
theorem dX6_lightsKept_216 : decode cX6_lightsKept 216 = .ok (.iload_n 1, 1) := dk_27 (dk_at dksX6_lightsKept_9 6 rfl rfl)
theorem dX6_lightsKept_217 : decode cX6_lightsKept 217 = .ok (.iload 4, 2) := dk_21 4 (dk_at dksX6_lightsKept_9 7 rfl rfl)
theorem dX6_lightsKept_219 : decode cX6_lightsKept 219 = .ok (.invokestatic 325, 3) := dk_184 1 69 (dk_at dksX6_lightsKept_9 9 rfl rfl)
theorem dX6_lightsKept_222 : decode cX6_lightsKept 222 = .ok (.ifCond .eq 66, 3) := dk_153 0 66 (dk_at dksX6_lightsKept_9 12 rfl rfl)
theorem dX6_lightsKept_225 : decode cX6_lightsKept 225 = .ok (.aload_n 0, 1) := dk_42 (dk_at dksX6_lightsKept_9 15 rfl rfl)
theorem dX6_lightsKept_226 : decode cX6_lightsKept 226 = .ok (.getfield 24, 3) := dk_180 0 24 (dk_at dksX6_lightsKept_9 16 rfl rfl)
theorem dX6_lightsKept_229 : decode cX6_lightsKept 229 = .ok (.iconst 0, 1) := dk_3 (dk_at dksX6_lightsKept_9 19 rfl rfl)
theorem dX6_lightsKept_230 : decode cX6_lightsKept 230 = .ok (.iload 5, 2) := dk_21 5 (dk_at dksX6_lightsKept_9 20 rfl rfl)
theorem dX6_lightsKept_232 : decode cX6_lightsKept 232 = .ok (.iadd, 1) := dk_96 (dk_at dksX6_lightsKept_9 22 rfl rfl)
theorem dX6_lightsKept_233 : decode cX6_lightsKept 233 = .ok (.iaload, 1) := dk_46 (dk_at dksX6_lightsKept_9 23 rfl rfl)
theorem dX6_lightsKept_234 : decode cX6_lightsKept 234 = .ok (.iconst 3, 1) := dk_6 (dk_at dksX6_lightsKept_10 0 rfl rfl)
theorem dX6_lightsKept_235 : decode cX6_lightsKept 235 = .ok (.if_icmp .eq 47, 3) := dk_159 0 47 (dk_at dksX6_lightsKept_10 1 rfl rfl)
theorem dX6_lightsKept_238 : decode cX6_lightsKept 238 = .ok (.aload_n 0, 1) := dk_42 (dk_at dksX6_lightsKept_10 4 rfl rfl)
theorem dX6_lightsKept_239 : decode cX6_lightsKept 239 = .ok (.iload 4, 2) := dk_21 4 (dk_at dksX6_lightsKept_10 5 rfl rfl)
theorem dX6_lightsKept_241 : decode cX6_lightsKept 241 = .ok (.iload 5, 2) := dk_21 5 (dk_at dksX6_lightsKept_10 7 rfl rfl)
theorem dX6_lightsKept_243 : decode cX6_lightsKept 243 = .ok (.invokevirtual 334, 3) := dk_182 1 78 (dk_at dksX6_lightsKept_10 9 rfl rfl)
theorem dX6_lightsKept_246 : decode cX6_lightsKept 246 = .ok (.ifCond .eq 36, 3) := dk_153 0 36 (dk_at dksX6_lightsKept_10 12 rfl rfl)
theorem dX6_lightsKept_249 : decode cX6_lightsKept 249 = .ok (.aload_n 0, 1) := dk_42 (dk_at dksX6_lightsKept_10 15 rfl rfl)
theorem dX6_lightsKept_250 : decode cX6_lightsKept 250 = .ok (.getfield 24, 3) := dk_180 0 24 (dk_at dksX6_lightsKept_10 16 rfl rfl)
theorem dX6_lightsKept_253 : decode cX6_lightsKept 253 = .ok (.bipush 20, 2) := dk_16 20 (dk_at dksX6_lightsKept_10 19 rfl rfl)
theorem dX6_lightsKept_255 : decode cX6_lightsKept 255 = .ok (.iload 5, 2) := dk_21 5 (dk_at dksX6_lightsKept_10 21 rfl rfl)
theorem dX6_lightsKept_257 : decode cX6_lightsKept 257 = .ok (.iadd, 1) := dk_96 (dk_at dksX6_lightsKept_10 23 rfl rfl)
theorem dX6_lightsKept_258 : decode cX6_lightsKept 258 = .ok (.iconst 2, 1) := dk_5 (dk_at dksX6_lightsKept_11 0 rfl rfl)
theorem dX6_lightsKept_259 : decode cX6_lightsKept 259 = .ok (.aload_n 0, 1) := dk_42 (dk_at dksX6_lightsKept_11 1 rfl rfl)
theorem dX6_lightsKept_260 : decode cX6_lightsKept 260 = .ok (.getfield 24, 3) := dk_180 0 24 (dk_at dksX6_lightsKept_11 2 rfl rfl)
theorem dX6_lightsKept_263 : decode cX6_lightsKept 263 = .ok (.bipush 20, 2) := dk_16 20 (dk_at dksX6_lightsKept_11 5 rfl rfl)
theorem dX6_lightsKept_265 : decode cX6_lightsKept 265 = .ok (.iload 5, 2) := dk_21 5 (dk_at dksX6_lightsKept_11 7 rfl rfl)
theorem dX6_lightsKept_267 : decode cX6_lightsKept 267 = .ok (.iadd, 1) := dk_96 (dk_at dksX6_lightsKept_11 9 rfl rfl)
theorem dX6_lightsKept_268 : decode cX6_lightsKept 268 = .ok (.iaload, 1) := dk_46 (dk_at dksX6_lightsKept_11 10 rfl rfl)
theorem dX6_lightsKept_269 : decode cX6_lightsKept 269 = .ok (.aload_n 0, 1) := dk_42 (dk_at dksX6_lightsKept_11 11 rfl rfl)
theorem dX6_lightsKept_270 : decode cX6_lightsKept 270 = .ok (.iload 4, 2) := dk_21 4 (dk_at dksX6_lightsKept_11 12 rfl rfl)
theorem dX6_lightsKept_272 : decode cX6_lightsKept 272 = .ok (.iload 5, 2) := dk_21 5 (dk_at dksX6_lightsKept_11 14 rfl rfl)
theorem dX6_lightsKept_274 : decode cX6_lightsKept 274 = .ok (.invokevirtual 319, 3) := dk_182 1 63 (dk_at dksX6_lightsKept_11 16 rfl rfl)
theorem dX6_lightsKept_277 : decode cX6_lightsKept 277 = .ok (.iadd, 1) := dk_96 (dk_at dksX6_lightsKept_11 19 rfl rfl)
theorem dX6_lightsKept_278 : decode cX6_lightsKept 278 = .ok (.invokestatic 337, 3) := dk_184 1 81 (dk_at dksX6_lightsKept_11 20 rfl rfl)
theorem dX6_lightsKept_281 : decode cX6_lightsKept 281 = .ok (.iastore, 1) := dk_79 (dk_at dksX6_lightsKept_11 23 rfl rfl)
theorem dX6_lightsKept_282 : decode cX6_lightsKept 282 = .ok (.iinc 5 1, 3) := dk_132 5 1 (dk_at dksX6_lightsKept_12 0 rfl rfl)
theorem dX6_lightsKept_285 : decode cX6_lightsKept 285 = .ok (.goto (-78), 3) := dk_167 255 178 (dk_at dksX6_lightsKept_12 3 rfl rfl)
theorem dX6_lightsKept_288 : decode cX6_lightsKept 288 = .ok (.iinc 4 1, 3) := dk_132 4 1 (dk_at dksX6_lightsKept_12 6 rfl rfl)
theorem dX6_lightsKept_291 : decode cX6_lightsKept 291 = .ok (.goto (-96), 3) := dk_167 255 160 (dk_at dksX6_lightsKept_12 9 rfl rfl)
theorem dX6_lightsKept_294 : decode cX6_lightsKept 294 = .ok (.aload_n 0, 1) := dk_42 (dk_at dksX6_lightsKept_12 12 rfl rfl)
theorem dX6_lightsKept_295 : decode cX6_lightsKept 295 = .ok (.getfield 24, 3) := dk_180 0 24 (dk_at dksX6_lightsKept_12 13 rfl rfl)
theorem dX6_lightsKept_298 : decode cX6_lightsKept 298 = .ok (.bipush 30, 2) := dk_16 30 (dk_at dksX6_lightsKept_12 16 rfl rfl)
theorem dX6_lightsKept_300 : decode cX6_lightsKept 300 = .ok (.dup2, 1) := dk_92 (dk_at dksX6_lightsKept_12 18 rfl rfl)
theorem dX6_lightsKept_301 : decode cX6_lightsKept 301 = .ok (.iaload, 1) := dk_46 (dk_at dksX6_lightsKept_12 19 rfl rfl)
theorem dX6_lightsKept_302 : decode cX6_lightsKept 302 = .ok (.iconst 1, 1) := dk_4 (dk_at dksX6_lightsKept_12 20 rfl rfl)
theorem dX6_lightsKept_303 : decode cX6_lightsKept 303 = .ok (.iadd, 1) := dk_96 (dk_at dksX6_lightsKept_12 21 rfl rfl)
theorem dX6_lightsKept_304 : decode cX6_lightsKept 304 = .ok (.iastore, 1) := dk_79 (dk_at dksX6_lightsKept_12 22 rfl rfl)
theorem dX6_lightsKept_305 : decode cX6_lightsKept 305 = .ok (.aload_n 0, 1) := dk_42 (dk_at dksX6_lightsKept_12 23 rfl rfl)
theorem dX6_lightsKept_306 : decode cX6_lightsKept 306 = .ok (.invokevirtual 340, 3) := dk_182 1 84 (dk_at dksX6_lightsKept_13 0 rfl rfl)
theorem dX6_lightsKept_309 : decode cX6_lightsKept 309 = .ok (.iload_n 2, 1) := dk_28 (dk_at dksX6_lightsKept_13 3 rfl rfl)
theorem dX6_lightsKept_310 : decode cX6_lightsKept 310 = .ok (.ireturn, 1) := dk_172 (dk_at dksX6_lightsKept_13 4 rfl rfl)
abbrev cX6_isIn : ByteArray := prog_29_method_5_code
def yX6_isIn : MethodName := ⟨RX6, "isIn", "(II)Z"⟩
def dkwX6_isIn_0 : List UInt8 := [26, 27, 122, 4, 126, 4, 160, 0, 7, 4, 167, 0, 4, 3, 172]
abbrev dktX6_isIn_0 : List UInt8 := dkwX6_isIn_0 ++ []
theorem dksX6_isIn_0 : cX6_isIn.data.toList.drop 0 = dktX6_isIn_0 := by decide +kernel
theorem dX6_isIn_0 : decode cX6_isIn 0 = .ok (.iload_n 0, 1) := dk_26 (dk_at dksX6_isIn_0 0 rfl rfl)
theorem dX6_isIn_1 : decode cX6_isIn 1 = .ok (.iload_n 1, 1) := dk_27 (dk_at dksX6_isIn_0 1 rfl rfl)
theorem dX6_isIn_2 : decode cX6_isIn 2 = .ok (.ishr, 1) := dk_122 (dk_at dksX6_isIn_0 2 rfl rfl)
theorem dX6_isIn_3 : decode cX6_isIn 3 = .ok (.iconst 1, 1) := dk_4 (dk_at dksX6_isIn_0 3 rfl rfl)
theorem dX6_isIn_4 : decode cX6_isIn 4 = .ok (.iand, 1) := dk_126 (dk_at dksX6_isIn_0 4 rfl rfl)
theorem dX6_isIn_5 : decode cX6_isIn 5 = .ok (.iconst 1, 1) := dk_4 (dk_at dksX6_isIn_0 5 rfl rfl)
theorem dX6_isIn_6 : decode cX6_isIn 6 = .ok (.if_icmp .ne 7, 3) := dk_160 0 7 (dk_at dksX6_isIn_0 6 rfl rfl)
theorem dX6_isIn_9 : decode cX6_isIn 9 = .ok (.iconst 1, 1) := dk_4 (dk_at dksX6_isIn_0 9 rfl rfl)
theorem dX6_isIn_10 : decode cX6_isIn 10 = .ok (.goto 4, 3) := dk_167 0 4 (dk_at dksX6_isIn_0 10 rfl rfl)
theorem dX6_isIn_13 : decode cX6_isIn 13 = .ok (.iconst 0, 1) := dk_3 (dk_at dksX6_isIn_0 13 rfl rfl)
theorem dX6_isIn_14 : decode cX6_isIn 14 = .ok (.ireturn, 1) := dk_172 (dk_at dksX6_isIn_0 14 rfl rfl)
abbrev cX6_mayLight : ByteArray := prog_29_method_79_code
def yX6_mayLight : MethodName := ⟨RX6, "mayLight", "(I)Z"⟩
def dkwX6_mayLight_2 : List UInt8 := [182, 1, 36, 182, 1, 59, 154, 0, 7, 4, 167, 0, 4, 3, 172]
abbrev dktX6_mayLight_2 : List UInt8 := dkwX6_mayLight_2 ++ []
def dkwX6_mayLight_1 : List UInt8 := [180, 0, 24, 16, 20, 27, 96, 46, 42, 180, 0, 24, 16, 33, 46, 42, 42, 180, 0, 24, 16, 33, 46]
abbrev dktX6_mayLight_1 : List UInt8 := dkwX6_mayLight_1 ++ dktX6_mayLight_2
def dkwX6_mayLight_0 : List UInt8 := [42, 180, 0, 24, 3, 27, 96, 46, 5, 160, 0, 50, 42, 27, 182, 0, 138, 158, 0, 42, 42, 27, 42]
abbrev dktX6_mayLight_0 : List UInt8 := dkwX6_mayLight_0 ++ dktX6_mayLight_1
theorem dksX6_mayLight_0 : cX6_mayLight.data.toList.drop 0 = dktX6_mayLight_0 := by decide +kernel
theorem dksX6_mayLight_1 : cX6_mayLight.data.toList.drop 23 = dktX6_mayLight_1 := dk_seg dksX6_mayLight_0 23 rfl rfl
theorem dksX6_mayLight_2 : cX6_mayLight.data.toList.drop 46 = dktX6_mayLight_2 := dk_seg dksX6_mayLight_1 23 rfl rfl
theorem dX6_mayLight_0 : decode cX6_mayLight 0 = .ok (.aload_n 0, 1) := dk_42 (dk_at dksX6_mayLight_0 0 rfl rfl)
theorem dX6_mayLight_1 : decode cX6_mayLight 1 = .ok (.getfield 24, 3) := dk_180 0 24 (dk_at dksX6_mayLight_0 1 rfl rfl)
theorem dX6_mayLight_4 : decode cX6_mayLight 4 = .ok (.iconst 0, 1) := dk_3 (dk_at dksX6_mayLight_0 4 rfl rfl)
theorem dX6_mayLight_5 : decode cX6_mayLight 5 = .ok (.iload_n 1, 1) := dk_27 (dk_at dksX6_mayLight_0 5 rfl rfl)
theorem dX6_mayLight_6 : decode cX6_mayLight 6 = .ok (.iadd, 1) := dk_96 (dk_at dksX6_mayLight_0 6 rfl rfl)
theorem dX6_mayLight_7 : decode cX6_mayLight 7 = .ok (.iaload, 1) := dk_46 (dk_at dksX6_mayLight_0 7 rfl rfl)
theorem dX6_mayLight_8 : decode cX6_mayLight 8 = .ok (.iconst 2, 1) := dk_5 (dk_at dksX6_mayLight_0 8 rfl rfl)
theorem dX6_mayLight_9 : decode cX6_mayLight 9 = .ok (.if_icmp .ne 50, 3) := dk_160 0 50 (dk_at dksX6_mayLight_0 9 rfl rfl)
theorem dX6_mayLight_12 : decode cX6_mayLight 12 = .ok (.aload_n 0, 1) := dk_42 (dk_at dksX6_mayLight_0 12 rfl rfl)
theorem dX6_mayLight_13 : decode cX6_mayLight 13 = .ok (.iload_n 1, 1) := dk_27 (dk_at dksX6_mayLight_0 13 rfl rfl)
theorem dX6_mayLight_14 : decode cX6_mayLight 14 = .ok (.invokevirtual 138, 3) := dk_182 0 138 (dk_at dksX6_mayLight_0 14 rfl rfl)
theorem dX6_mayLight_17 : decode cX6_mayLight 17 = .ok (.ifCond .le 42, 3) := dk_158 0 42 (dk_at dksX6_mayLight_0 17 rfl rfl)
theorem dX6_mayLight_20 : decode cX6_mayLight 20 = .ok (.aload_n 0, 1) := dk_42 (dk_at dksX6_mayLight_0 20 rfl rfl)
theorem dX6_mayLight_21 : decode cX6_mayLight 21 = .ok (.iload_n 1, 1) := dk_27 (dk_at dksX6_mayLight_0 21 rfl rfl)
theorem dX6_mayLight_22 : decode cX6_mayLight 22 = .ok (.aload_n 0, 1) := dk_42 (dk_at dksX6_mayLight_0 22 rfl rfl)
theorem dX6_mayLight_23 : decode cX6_mayLight 23 = .ok (.getfield 24, 3) := dk_180 0 24 (dk_at dksX6_mayLight_1 0 rfl rfl)
theorem dX6_mayLight_26 : decode cX6_mayLight 26 = .ok (.bipush 20, 2) := dk_16 20 (dk_at dksX6_mayLight_1 3 rfl rfl)
theorem dX6_mayLight_28 : decode cX6_mayLight 28 = .ok (.iload_n 1, 1) := dk_27 (dk_at dksX6_mayLight_1 5 rfl rfl)
theorem dX6_mayLight_29 : decode cX6_mayLight 29 = .ok (.iadd, 1) := dk_96 (dk_at dksX6_mayLight_1 6 rfl rfl)
theorem dX6_mayLight_30 : decode cX6_mayLight 30 = .ok (.iaload, 1) := dk_46 (dk_at dksX6_mayLight_1 7 rfl rfl)
theorem dX6_mayLight_31 : decode cX6_mayLight 31 = .ok (.aload_n 0, 1) := dk_42 (dk_at dksX6_mayLight_1 8 rfl rfl)
theorem dX6_mayLight_32 : decode cX6_mayLight 32 = .ok (.getfield 24, 3) := dk_180 0 24 (dk_at dksX6_mayLight_1 9 rfl rfl)
theorem dX6_mayLight_35 : decode cX6_mayLight 35 = .ok (.bipush 33, 2) := dk_16 33 (dk_at dksX6_mayLight_1 12 rfl rfl)
theorem dX6_mayLight_37 : decode cX6_mayLight 37 = .ok (.iaload, 1) := dk_46 (dk_at dksX6_mayLight_1 14 rfl rfl)
theorem dX6_mayLight_38 : decode cX6_mayLight 38 = .ok (.aload_n 0, 1) := dk_42 (dk_at dksX6_mayLight_1 15 rfl rfl)
theorem dX6_mayLight_39 : decode cX6_mayLight 39 = .ok (.aload_n 0, 1) := dk_42 (dk_at dksX6_mayLight_1 16 rfl rfl)
theorem dX6_mayLight_40 : decode cX6_mayLight 40 = .ok (.getfield 24, 3) := dk_180 0 24 (dk_at dksX6_mayLight_1 17 rfl rfl)
theorem dX6_mayLight_43 : decode cX6_mayLight 43 = .ok (.bipush 33, 2) := dk_16 33 (dk_at dksX6_mayLight_1 20 rfl rfl)
theorem dX6_mayLight_45 : decode cX6_mayLight 45 = .ok (.iaload, 1) := dk_46 (dk_at dksX6_mayLight_1 22 rfl rfl)
theorem dX6_mayLight_46 : decode cX6_mayLight 46 = .ok (.invokevirtual 292, 3) := dk_182 1 36 (dk_at dksX6_mayLight_2 0 rfl rfl)
theorem dX6_mayLight_49 : decode cX6_mayLight 49 = .ok (.invokevirtual 315, 3) := dk_182 1 59 (dk_at dksX6_mayLight_2 3 rfl rfl)
theorem dX6_mayLight_52 : decode cX6_mayLight 52 = .ok (.ifCond .ne 7, 3) := dk_154 0 7 (dk_at dksX6_mayLight_2 6 rfl rfl)
theorem dX6_mayLight_55 : decode cX6_mayLight 55 = .ok (.iconst 1, 1) := dk_4 (dk_at dksX6_mayLight_2 9 rfl rfl)
theorem dX6_mayLight_56 : decode cX6_mayLight 56 = .ok (.goto 4, 3) := dk_167 0 4 (dk_at dksX6_mayLight_2 10 rfl rfl)
theorem dX6_mayLight_59 : decode cX6_mayLight 59 = .ok (.iconst 0, 1) := dk_3 (dk_at dksX6_mayLight_2 13 rfl rfl)
theorem dX6_mayLight_60 : decode cX6_mayLight 60 = .ok (.ireturn, 1) := dk_172 (dk_at dksX6_mayLight_2 14 rfl rfl)
abbrev cX6_needOn : ByteArray := prog_29_method_81_code
def yX6_needOn : MethodName := ⟨RX6, "needOn", "(I)I"⟩
def dkwX6_needOn_0 : List UInt8 := [26, 4, 160, 0, 7, 7, 167, 0, 4, 5, 172]
abbrev dktX6_needOn_0 : List UInt8 := dkwX6_needOn_0 ++ []
theorem dksX6_needOn_0 : cX6_needOn.data.toList.drop 0 = dktX6_needOn_0 := by decide +kernel
theorem dX6_needOn_0 : decode cX6_needOn 0 = .ok (.iload_n 0, 1) := dk_26 (dk_at dksX6_needOn_0 0 rfl rfl)
theorem dX6_needOn_1 : decode cX6_needOn 1 = .ok (.iconst 1, 1) := dk_4 (dk_at dksX6_needOn_0 1 rfl rfl)
theorem dX6_needOn_2 : decode cX6_needOn 2 = .ok (.if_icmp .ne 7, 3) := dk_160 0 7 (dk_at dksX6_needOn_0 2 rfl rfl)
theorem dX6_needOn_5 : decode cX6_needOn 5 = .ok (.iconst 4, 1) := dk_7 (dk_at dksX6_needOn_0 5 rfl rfl)
theorem dX6_needOn_6 : decode cX6_needOn 6 = .ok (.goto 4, 3) := dk_167 0 4 (dk_at dksX6_needOn_0 6 rfl rfl)
theorem dX6_needOn_9 : decode cX6_needOn 9 = .ok (.iconst 2, 1) := dk_5 (dk_at dksX6_needOn_0 9 rfl rfl)
theorem dX6_needOn_10 : decode cX6_needOn 10 = .ok (.ireturn, 1) := dk_172 (dk_at dksX6_needOn_0 10 rfl rfl)
abbrev cX6_doTalk : ByteArray := prog_29_method_22_code
def yX6_doTalk : MethodName := ⟨RX6, "doTalk", "(II)Z"⟩
def dkwX6_doTalk_0 : List UInt8 := [42, 180, 0, 24, 16, 54, 16, 10, 27, 104, 96, 28, 96, 46, 4, 160, 0, 7, 4, 167, 0, 4, 3, 172]
abbrev dktX6_doTalk_0 : List UInt8 := dkwX6_doTalk_0 ++ []
theorem dksX6_doTalk_0 : cX6_doTalk.data.toList.drop 0 = dktX6_doTalk_0 := by decide +kernel
theorem dX6_doTalk_0 : decode cX6_doTalk 0 = .ok (.aload_n 0, 1) := dk_42 (dk_at dksX6_doTalk_0 0 rfl rfl)
theorem dX6_doTalk_1 : decode cX6_doTalk 1 = .ok (.getfield 24, 3) := dk_180 0 24 (dk_at dksX6_doTalk_0 1 rfl rfl)
theorem dX6_doTalk_4 : decode cX6_doTalk 4 = .ok (.bipush 54, 2) := dk_16 54 (dk_at dksX6_doTalk_0 4 rfl rfl)
theorem dX6_doTalk_6 : decode cX6_doTalk 6 = .ok (.bipush 10, 2) := dk_16 10 (dk_at dksX6_doTalk_0 6 rfl rfl)
theorem dX6_doTalk_8 : decode cX6_doTalk 8 = .ok (.iload_n 1, 1) := dk_27 (dk_at dksX6_doTalk_0 8 rfl rfl)
theorem dX6_doTalk_9 : decode cX6_doTalk 9 = .ok (.imul, 1) := dk_104 (dk_at dksX6_doTalk_0 9 rfl rfl)
theorem dX6_doTalk_10 : decode cX6_doTalk 10 = .ok (.iadd, 1) := dk_96 (dk_at dksX6_doTalk_0 10 rfl rfl)
theorem dX6_doTalk_11 : decode cX6_doTalk 11 = .ok (.iload_n 2, 1) := dk_28 (dk_at dksX6_doTalk_0 11 rfl rfl)
theorem dX6_doTalk_12 : decode cX6_doTalk 12 = .ok (.iadd, 1) := dk_96 (dk_at dksX6_doTalk_0 12 rfl rfl)
theorem dX6_doTalk_13 : decode cX6_doTalk 13 = .ok (.iaload, 1) := dk_46 (dk_at dksX6_doTalk_0 13 rfl rfl)
theorem dX6_doTalk_14 : decode cX6_doTalk 14 = .ok (.iconst 1, 1) := dk_4 (dk_at dksX6_doTalk_0 14 rfl rfl)
theorem dX6_doTalk_15 : decode cX6_doTalk 15 = .ok (.if_icmp .ne 7, 3) := dk_160 0 7 (dk_at dksX6_doTalk_0 15 rfl rfl)
theorem dX6_doTalk_18 : decode cX6_doTalk 18 = .ok (.iconst 1, 1) := dk_4 (dk_at dksX6_doTalk_0 18 rfl rfl)
theorem dX6_doTalk_19 : decode cX6_doTalk 19 = .ok (.goto 4, 3) := dk_167 0 4 (dk_at dksX6_doTalk_0 19 rfl rfl)
theorem dX6_doTalk_22 : decode cX6_doTalk 22 = .ok (.iconst 0, 1) := dk_3 (dk_at dksX6_doTalk_0 22 rfl rfl)
theorem dX6_doTalk_23 : decode cX6_doTalk 23 = .ok (.ireturn, 1) := dk_172 (dk_at dksX6_doTalk_0 23 rfl rfl)
abbrev cX6_lesser : ByteArray := prog_29_method_7_code
def yX6_lesser : MethodName := ⟨RX6, "lesser", "(II)I"⟩
def dkwX6_lesser_0 : List UInt8 := [26, 27, 162, 0, 7, 26, 167, 0, 4, 27, 172]
abbrev dktX6_lesser_0 : List UInt8 := dkwX6_lesser_0 ++ []
theorem dksX6_lesser_0 : cX6_lesser.data.toList.drop 0 = dktX6_lesser_0 := by decide +kernel
theorem dX6_lesser_0 : decode cX6_lesser 0 = .ok (.iload_n 0, 1) := dk_26 (dk_at dksX6_lesser_0 0 rfl rfl)
theorem dX6_lesser_1 : decode cX6_lesser 1 = .ok (.iload_n 1, 1) := dk_27 (dk_at dksX6_lesser_0 1 rfl rfl)
theorem dX6_lesser_2 : decode cX6_lesser 2 = .ok (.if_icmp .ge 7, 3) := dk_162 0 7 (dk_at dksX6_lesser_0 2 rfl rfl)
theorem dX6_lesser_5 : decode cX6_lesser 5 = .ok (.iload_n 0, 1) := dk_26 (dk_at dksX6_lesser_0 5 rfl rfl)
theorem dX6_lesser_6 : decode cX6_lesser 6 = .ok (.goto 4, 3) := dk_167 0 4 (dk_at dksX6_lesser_0 6 rfl rfl)
theorem dX6_lesser_9 : decode cX6_lesser 9 = .ok (.iload_n 1, 1) := dk_27 (dk_at dksX6_lesser_0 9 rfl rfl)
theorem dX6_lesser_10 : decode cX6_lesser 10 = .ok (.ireturn, 1) := dk_172 (dk_at dksX6_lesser_0 10 rfl rfl)
abbrev cX6_passesNight : ByteArray := prog_29_method_78_code
def yX6_passesNight : MethodName := ⟨RX6, "passesNight", "()V"⟩
def dkwX6_passesNight_5 : List UInt8 := [79, 132, 1, 1, 167, 255, 192, 177]
abbrev dktX6_passesNight_5 : List UInt8 := dkwX6_passesNight_5 ++ []
def dkwX6_passesNight_4 : List UInt8 := [164, 0, 6, 167, 0, 22, 42, 180, 0, 24, 3, 27, 96, 5, 79, 42, 180, 0, 24, 16, 10, 27, 96, 2]
abbrev dktX6_passesNight_4 : List UInt8 := dkwX6_passesNight_4 ++ dktX6_passesNight_5
def dkwX6_passesNight_3 : List UInt8 := [3, 27, 96, 46, 4, 160, 0, 44, 42, 180, 0, 24, 16, 10, 27, 96, 46, 42, 180, 0, 24, 16, 33, 46]
abbrev dktX6_passesNight_3 : List UInt8 := dkwX6_passesNight_3 ++ dktX6_passesNight_4
def dkwX6_passesNight_2 : List UInt8 := [180, 0, 24, 16, 33, 92, 46, 4, 96, 79, 3, 60, 27, 42, 182, 0, 116, 162, 0, 62, 42, 180, 0, 24]
abbrev dktX6_passesNight_2 : List UInt8 := dkwX6_passesNight_2 ++ dktX6_passesNight_3
def dkwX6_passesNight_1 : List UInt8 := [96, 46, 5, 160, 0, 11, 42, 27, 182, 1, 56, 167, 0, 4, 3, 96, 79, 132, 1, 1, 167, 255, 214, 42]
abbrev dktX6_passesNight_1 : List UInt8 := dkwX6_passesNight_1 ++ dktX6_passesNight_2
def dkwX6_passesNight_0 : List UInt8 := [3, 60, 27, 42, 182, 0, 116, 162, 0, 40, 42, 180, 0, 24, 16, 32, 92, 46, 42, 180, 0, 24, 3, 27]
abbrev dktX6_passesNight_0 : List UInt8 := dkwX6_passesNight_0 ++ dktX6_passesNight_1
theorem dksX6_passesNight_0 : cX6_passesNight.data.toList.drop 0 = dktX6_passesNight_0 := by decide +kernel
theorem dksX6_passesNight_1 : cX6_passesNight.data.toList.drop 24 = dktX6_passesNight_1 := dk_seg dksX6_passesNight_0 24 rfl rfl
theorem dksX6_passesNight_2 : cX6_passesNight.data.toList.drop 48 = dktX6_passesNight_2 := dk_seg dksX6_passesNight_1 24 rfl rfl
theorem dksX6_passesNight_3 : cX6_passesNight.data.toList.drop 72 = dktX6_passesNight_3 := dk_seg dksX6_passesNight_2 24 rfl rfl
theorem dksX6_passesNight_4 : cX6_passesNight.data.toList.drop 96 = dktX6_passesNight_4 := dk_seg dksX6_passesNight_3 24 rfl rfl
theorem dksX6_passesNight_5 : cX6_passesNight.data.toList.drop 120 = dktX6_passesNight_5 := dk_seg dksX6_passesNight_4 24 rfl rfl
theorem dX6_passesNight_0 : decode cX6_passesNight 0 = .ok (.iconst 0, 1) := dk_3 (dk_at dksX6_passesNight_0 0 rfl rfl)
theorem dX6_passesNight_1 : decode cX6_passesNight 1 = .ok (.istore_n 1, 1) := dk_60 (dk_at dksX6_passesNight_0 1 rfl rfl)
theorem dX6_passesNight_2 : decode cX6_passesNight 2 = .ok (.iload_n 1, 1) := dk_27 (dk_at dksX6_passesNight_0 2 rfl rfl)
theorem dX6_passesNight_3 : decode cX6_passesNight 3 = .ok (.aload_n 0, 1) := dk_42 (dk_at dksX6_passesNight_0 3 rfl rfl)
theorem dX6_passesNight_4 : decode cX6_passesNight 4 = .ok (.invokevirtual 116, 3) := dk_182 0 116 (dk_at dksX6_passesNight_0 4 rfl rfl)
theorem dX6_passesNight_7 : decode cX6_passesNight 7 = .ok (.if_icmp .ge 40, 3) := dk_162 0 40 (dk_at dksX6_passesNight_0 7 rfl rfl)
theorem dX6_passesNight_10 : decode cX6_passesNight 10 = .ok (.aload_n 0, 1) := dk_42 (dk_at dksX6_passesNight_0 10 rfl rfl)
theorem dX6_passesNight_11 : decode cX6_passesNight 11 = .ok (.getfield 24, 3) := dk_180 0 24 (dk_at dksX6_passesNight_0 11 rfl rfl)
theorem dX6_passesNight_14 : decode cX6_passesNight 14 = .ok (.bipush 32, 2) := dk_16 32 (dk_at dksX6_passesNight_0 14 rfl rfl)
theorem dX6_passesNight_16 : decode cX6_passesNight 16 = .ok (.dup2, 1) := dk_92 (dk_at dksX6_passesNight_0 16 rfl rfl)
theorem dX6_passesNight_17 : decode cX6_passesNight 17 = .ok (.iaload, 1) := dk_46 (dk_at dksX6_passesNight_0 17 rfl rfl)
theorem dX6_passesNight_18 : decode cX6_passesNight 18 = .ok (.aload_n 0, 1) := dk_42 (dk_at dksX6_passesNight_0 18 rfl rfl)
theorem dX6_passesNight_19 : decode cX6_passesNight 19 = .ok (.getfield 24, 3) := dk_180 0 24 (dk_at dksX6_passesNight_0 19 rfl rfl)
theorem dX6_passesNight_22 : decode cX6_passesNight 22 = .ok (.iconst 0, 1) := dk_3 (dk_at dksX6_passesNight_0 22 rfl rfl)
theorem dX6_passesNight_23 : decode cX6_passesNight 23 = .ok (.iload_n 1, 1) := dk_27 (dk_at dksX6_passesNight_0 23 rfl rfl)
theorem dX6_passesNight_24 : decode cX6_passesNight 24 = .ok (.iadd, 1) := dk_96 (dk_at dksX6_passesNight_1 0 rfl rfl)
theorem dX6_passesNight_25 : decode cX6_passesNight 25 = .ok (.iaload, 1) := dk_46 (dk_at dksX6_passesNight_1 1 rfl rfl)
theorem dX6_passesNight_26 : decode cX6_passesNight 26 = .ok (.iconst 2, 1) := dk_5 (dk_at dksX6_passesNight_1 2 rfl rfl)
theorem dX6_passesNight_27 : decode cX6_passesNight 27 = .ok (.if_icmp .ne 11, 3) := dk_160 0 11 (dk_at dksX6_passesNight_1 3 rfl rfl)
theorem dX6_passesNight_30 : decode cX6_passesNight 30 = .ok (.aload_n 0, 1) := dk_42 (dk_at dksX6_passesNight_1 6 rfl rfl)
theorem dX6_passesNight_31 : decode cX6_passesNight 31 = .ok (.iload_n 1, 1) := dk_27 (dk_at dksX6_passesNight_1 7 rfl rfl)
theorem dX6_passesNight_32 : decode cX6_passesNight 32 = .ok (.invokevirtual 312, 3) := dk_182 1 56 (dk_at dksX6_passesNight_1 8 rfl rfl)
theorem dX6_passesNight_35 : decode cX6_passesNight 35 = .ok (.goto 4, 3) := dk_167 0 4 (dk_at dksX6_passesNight_1 11 rfl rfl)
theorem dX6_passesNight_38 : decode cX6_passesNight 38 = .ok (.iconst 0, 1) := dk_3 (dk_at dksX6_passesNight_1 14 rfl rfl)
theorem dX6_passesNight_39 : decode cX6_passesNight 39 = .ok (.iadd, 1) := dk_96 (dk_at dksX6_passesNight_1 15 rfl rfl)
theorem dX6_passesNight_40 : decode cX6_passesNight 40 = .ok (.iastore, 1) := dk_79 (dk_at dksX6_passesNight_1 16 rfl rfl)
theorem dX6_passesNight_41 : decode cX6_passesNight 41 = .ok (.iinc 1 1, 3) := dk_132 1 1 (dk_at dksX6_passesNight_1 17 rfl rfl)
theorem dX6_passesNight_44 : decode cX6_passesNight 44 = .ok (.goto (-42), 3) := dk_167 255 214 (dk_at dksX6_passesNight_1 20 rfl rfl)
theorem dX6_passesNight_47 : decode cX6_passesNight 47 = .ok (.aload_n 0, 1) := dk_42 (dk_at dksX6_passesNight_1 23 rfl rfl)
theorem dX6_passesNight_48 : decode cX6_passesNight 48 = .ok (.getfield 24, 3) := dk_180 0 24 (dk_at dksX6_passesNight_2 0 rfl rfl)
theorem dX6_passesNight_51 : decode cX6_passesNight 51 = .ok (.bipush 33, 2) := dk_16 33 (dk_at dksX6_passesNight_2 3 rfl rfl)
theorem dX6_passesNight_53 : decode cX6_passesNight 53 = .ok (.dup2, 1) := dk_92 (dk_at dksX6_passesNight_2 5 rfl rfl)
theorem dX6_passesNight_54 : decode cX6_passesNight 54 = .ok (.iaload, 1) := dk_46 (dk_at dksX6_passesNight_2 6 rfl rfl)
theorem dX6_passesNight_55 : decode cX6_passesNight 55 = .ok (.iconst 1, 1) := dk_4 (dk_at dksX6_passesNight_2 7 rfl rfl)
theorem dX6_passesNight_56 : decode cX6_passesNight 56 = .ok (.iadd, 1) := dk_96 (dk_at dksX6_passesNight_2 8 rfl rfl)
theorem dX6_passesNight_57 : decode cX6_passesNight 57 = .ok (.iastore, 1) := dk_79 (dk_at dksX6_passesNight_2 9 rfl rfl)
theorem dX6_passesNight_58 : decode cX6_passesNight 58 = .ok (.iconst 0, 1) := dk_3 (dk_at dksX6_passesNight_2 10 rfl rfl)
theorem dX6_passesNight_59 : decode cX6_passesNight 59 = .ok (.istore_n 1, 1) := dk_60 (dk_at dksX6_passesNight_2 11 rfl rfl)
theorem dX6_passesNight_60 : decode cX6_passesNight 60 = .ok (.iload_n 1, 1) := dk_27 (dk_at dksX6_passesNight_2 12 rfl rfl)
theorem dX6_passesNight_61 : decode cX6_passesNight 61 = .ok (.aload_n 0, 1) := dk_42 (dk_at dksX6_passesNight_2 13 rfl rfl)
theorem dX6_passesNight_62 : decode cX6_passesNight 62 = .ok (.invokevirtual 116, 3) := dk_182 0 116 (dk_at dksX6_passesNight_2 14 rfl rfl)
theorem dX6_passesNight_65 : decode cX6_passesNight 65 = .ok (.if_icmp .ge 62, 3) := dk_162 0 62 (dk_at dksX6_passesNight_2 17 rfl rfl)
theorem dX6_passesNight_68 : decode cX6_passesNight 68 = .ok (.aload_n 0, 1) := dk_42 (dk_at dksX6_passesNight_2 20 rfl rfl)
theorem dX6_passesNight_69 : decode cX6_passesNight 69 = .ok (.getfield 24, 3) := dk_180 0 24 (dk_at dksX6_passesNight_2 21 rfl rfl)
theorem dX6_passesNight_72 : decode cX6_passesNight 72 = .ok (.iconst 0, 1) := dk_3 (dk_at dksX6_passesNight_3 0 rfl rfl)
theorem dX6_passesNight_73 : decode cX6_passesNight 73 = .ok (.iload_n 1, 1) := dk_27 (dk_at dksX6_passesNight_3 1 rfl rfl)
theorem dX6_passesNight_74 : decode cX6_passesNight 74 = .ok (.iadd, 1) := dk_96 (dk_at dksX6_passesNight_3 2 rfl rfl)
theorem dX6_passesNight_75 : decode cX6_passesNight 75 = .ok (.iaload, 1) := dk_46 (dk_at dksX6_passesNight_3 3 rfl rfl)
theorem dX6_passesNight_76 : decode cX6_passesNight 76 = .ok (.iconst 1, 1) := dk_4 (dk_at dksX6_passesNight_3 4 rfl rfl)
theorem dX6_passesNight_77 : decode cX6_passesNight 77 = .ok (.if_icmp .ne 44, 3) := dk_160 0 44 (dk_at dksX6_passesNight_3 5 rfl rfl)
theorem dX6_passesNight_80 : decode cX6_passesNight 80 = .ok (.aload_n 0, 1) := dk_42 (dk_at dksX6_passesNight_3 8 rfl rfl)
theorem dX6_passesNight_81 : decode cX6_passesNight 81 = .ok (.getfield 24, 3) := dk_180 0 24 (dk_at dksX6_passesNight_3 9 rfl rfl)
theorem dX6_passesNight_84 : decode cX6_passesNight 84 = .ok (.bipush 10, 2) := dk_16 10 (dk_at dksX6_passesNight_3 12 rfl rfl)
theorem dX6_passesNight_86 : decode cX6_passesNight 86 = .ok (.iload_n 1, 1) := dk_27 (dk_at dksX6_passesNight_3 14 rfl rfl)
theorem dX6_passesNight_87 : decode cX6_passesNight 87 = .ok (.iadd, 1) := dk_96 (dk_at dksX6_passesNight_3 15 rfl rfl)
theorem dX6_passesNight_88 : decode cX6_passesNight 88 = .ok (.iaload, 1) := dk_46 (dk_at dksX6_passesNight_3 16 rfl rfl)
theorem dX6_passesNight_89 : decode cX6_passesNight 89 = .ok (.aload_n 0, 1) := dk_42 (dk_at dksX6_passesNight_3 17 rfl rfl)
theorem dX6_passesNight_90 : decode cX6_passesNight 90 = .ok (.getfield 24, 3) := dk_180 0 24 (dk_at dksX6_passesNight_3 18 rfl rfl)
theorem dX6_passesNight_93 : decode cX6_passesNight 93 = .ok (.bipush 33, 2) := dk_16 33 (dk_at dksX6_passesNight_3 21 rfl rfl)
theorem dX6_passesNight_95 : decode cX6_passesNight 95 = .ok (.iaload, 1) := dk_46 (dk_at dksX6_passesNight_3 23 rfl rfl)
theorem dX6_passesNight_96 : decode cX6_passesNight 96 = .ok (.if_icmp .le 6, 3) := dk_164 0 6 (dk_at dksX6_passesNight_4 0 rfl rfl)
theorem dX6_passesNight_99 : decode cX6_passesNight 99 = .ok (.goto 22, 3) := dk_167 0 22 (dk_at dksX6_passesNight_4 3 rfl rfl)
theorem dX6_passesNight_102 : decode cX6_passesNight 102 = .ok (.aload_n 0, 1) := dk_42 (dk_at dksX6_passesNight_4 6 rfl rfl)
theorem dX6_passesNight_103 : decode cX6_passesNight 103 = .ok (.getfield 24, 3) := dk_180 0 24 (dk_at dksX6_passesNight_4 7 rfl rfl)
theorem dX6_passesNight_106 : decode cX6_passesNight 106 = .ok (.iconst 0, 1) := dk_3 (dk_at dksX6_passesNight_4 10 rfl rfl)
theorem dX6_passesNight_107 : decode cX6_passesNight 107 = .ok (.iload_n 1, 1) := dk_27 (dk_at dksX6_passesNight_4 11 rfl rfl)
theorem dX6_passesNight_108 : decode cX6_passesNight 108 = .ok (.iadd, 1) := dk_96 (dk_at dksX6_passesNight_4 12 rfl rfl)
theorem dX6_passesNight_109 : decode cX6_passesNight 109 = .ok (.iconst 2, 1) := dk_5 (dk_at dksX6_passesNight_4 13 rfl rfl)
theorem dX6_passesNight_110 : decode cX6_passesNight 110 = .ok (.iastore, 1) := dk_79 (dk_at dksX6_passesNight_4 14 rfl rfl)
theorem dX6_passesNight_111 : decode cX6_passesNight 111 = .ok (.aload_n 0, 1) := dk_42 (dk_at dksX6_passesNight_4 15 rfl rfl)
theorem dX6_passesNight_112 : decode cX6_passesNight 112 = .ok (.getfield 24, 3) := dk_180 0 24 (dk_at dksX6_passesNight_4 16 rfl rfl)
theorem dX6_passesNight_115 : decode cX6_passesNight 115 = .ok (.bipush 10, 2) := dk_16 10 (dk_at dksX6_passesNight_4 19 rfl rfl)
theorem dX6_passesNight_117 : decode cX6_passesNight 117 = .ok (.iload_n 1, 1) := dk_27 (dk_at dksX6_passesNight_4 21 rfl rfl)
theorem dX6_passesNight_118 : decode cX6_passesNight 118 = .ok (.iadd, 1) := dk_96 (dk_at dksX6_passesNight_4 22 rfl rfl)
theorem dX6_passesNight_119 : decode cX6_passesNight 119 = .ok (.iconst (-1), 1) := dk_2 (dk_at dksX6_passesNight_4 23 rfl rfl)
theorem dX6_passesNight_120 : decode cX6_passesNight 120 = .ok (.iastore, 1) := dk_79 (dk_at dksX6_passesNight_5 0 rfl rfl)
theorem dX6_passesNight_121 : decode cX6_passesNight 121 = .ok (.iinc 1 1, 3) := dk_132 1 1 (dk_at dksX6_passesNight_5 1 rfl rfl)
theorem dX6_passesNight_124 : decode cX6_passesNight 124 = .ok (.goto (-64), 3) := dk_167 255 192 (dk_at dksX6_passesNight_5 4 rfl rfl)
theorem dX6_passesNight_127 : decode cX6_passesNight 127 = .ok (.return_, 1) := dk_177 (dk_at dksX6_passesNight_5 7 rfl rfl)
abbrev cX6_dark : ByteArray := prog_29_method_86_code
def yX6_dark : MethodName := ⟨RX6, "dark", "()I"⟩
def dkwX6_dark_0 : List UInt8 := [42, 42, 182, 1, 96, 182, 1, 90, 172]
abbrev dktX6_dark_0 : List UInt8 := dkwX6_dark_0 ++ []
theorem dksX6_dark_0 : cX6_dark.data.toList.drop 0 = dktX6_dark_0 := by decide +kernel
theorem dX6_dark_0 : decode cX6_dark 0 = .ok (.aload_n 0, 1) := dk_42 (dk_at dksX6_dark_0 0 rfl rfl)
theorem dX6_dark_1 : decode cX6_dark 1 = .ok (.aload_n 0, 1) := dk_42 (dk_at dksX6_dark_0 1 rfl rfl)
theorem dX6_dark_2 : decode cX6_dark 2 = .ok (.invokevirtual 352, 3) := dk_182 1 96 (dk_at dksX6_dark_0 2 rfl rfl)
theorem dX6_dark_5 : decode cX6_dark 5 = .ok (.invokevirtual 346, 3) := dk_182 1 90 (dk_at dksX6_dark_0 5 rfl rfl)
theorem dX6_dark_8 : decode cX6_dark 8 = .ok (.ireturn, 1) := dk_172 (dk_at dksX6_dark_0 8 rfl rfl)
abbrev cX6_darkKept : ByteArray := prog_29_method_82_code
def yX6_darkKept : MethodName := ⟨RX6, "darkKept", "()I"⟩
def dkwX6_darkKept_1 : List UInt8 := [180, 0, 24, 16, 31, 92, 46, 4, 96, 79, 42, 182, 1, 84, 42, 180, 0, 24, 16, 31, 46, 172]
abbrev dktX6_darkKept_1 : List UInt8 := dkwX6_darkKept_1 ++ []
def dkwX6_darkKept_0 : List UInt8 := [42, 180, 0, 24, 16, 33, 46, 17, 3, 231, 160, 0, 6, 16, 253, 172, 42, 5, 182, 1, 66, 42]
abbrev dktX6_darkKept_0 : List UInt8 := dkwX6_darkKept_0 ++ dktX6_darkKept_1
theorem dksX6_darkKept_0 : cX6_darkKept.data.toList.drop 0 = dktX6_darkKept_0 := by decide +kernel
theorem dksX6_darkKept_1 : cX6_darkKept.data.toList.drop 22 = dktX6_darkKept_1 := dk_seg dksX6_darkKept_0 22 rfl rfl
theorem dX6_darkKept_0 : decode cX6_darkKept 0 = .ok (.aload_n 0, 1) := dk_42 (dk_at dksX6_darkKept_0 0 rfl rfl)
theorem dX6_darkKept_1 : decode cX6_darkKept 1 = .ok (.getfield 24, 3) := dk_180 0 24 (dk_at dksX6_darkKept_0 1 rfl rfl)
theorem dX6_darkKept_4 : decode cX6_darkKept 4 = .ok (.bipush 33, 2) := dk_16 33 (dk_at dksX6_darkKept_0 4 rfl rfl)
theorem dX6_darkKept_6 : decode cX6_darkKept 6 = .ok (.iaload, 1) := dk_46 (dk_at dksX6_darkKept_0 6 rfl rfl)
theorem dX6_darkKept_7 : decode cX6_darkKept 7 = .ok (.sipush 999, 3) := dk_17 3 231 (dk_at dksX6_darkKept_0 7 rfl rfl)
theorem dX6_darkKept_10 : decode cX6_darkKept 10 = .ok (.if_icmp .ne 6, 3) := dk_160 0 6 (dk_at dksX6_darkKept_0 10 rfl rfl)
theorem dX6_darkKept_13 : decode cX6_darkKept 13 = .ok (.bipush (-3), 2) := dk_16 253 (dk_at dksX6_darkKept_0 13 rfl rfl)
theorem dX6_darkKept_15 : decode cX6_darkKept 15 = .ok (.ireturn, 1) := dk_172 (dk_at dksX6_darkKept_0 15 rfl rfl)
theorem dX6_darkKept_16 : decode cX6_darkKept 16 = .ok (.aload_n 0, 1) := dk_42 (dk_at dksX6_darkKept_0 16 rfl rfl)
theorem dX6_darkKept_17 : decode cX6_darkKept 17 = .ok (.iconst 2, 1) := dk_5 (dk_at dksX6_darkKept_0 17 rfl rfl)
theorem dX6_darkKept_18 : decode cX6_darkKept 18 = .ok (.invokevirtual 322, 3) := dk_182 1 66 (dk_at dksX6_darkKept_0 18 rfl rfl)
theorem dX6_darkKept_21 : decode cX6_darkKept 21 = .ok (.aload_n 0, 1) := dk_42 (dk_at dksX6_darkKept_0 21 rfl rfl)
theorem dX6_darkKept_22 : decode cX6_darkKept 22 = .ok (.getfield 24, 3) := dk_180 0 24 (dk_at dksX6_darkKept_1 0 rfl rfl)
theorem dX6_darkKept_25 : decode cX6_darkKept 25 = .ok (.bipush 31, 2) := dk_16 31 (dk_at dksX6_darkKept_1 3 rfl rfl)
theorem dX6_darkKept_27 : decode cX6_darkKept 27 = .ok (.dup2, 1) := dk_92 (dk_at dksX6_darkKept_1 5 rfl rfl)
theorem dX6_darkKept_28 : decode cX6_darkKept 28 = .ok (.iaload, 1) := dk_46 (dk_at dksX6_darkKept_1 6 rfl rfl)
theorem dX6_darkKept_29 : decode cX6_darkKept 29 = .ok (.iconst 1, 1) := dk_4 (dk_at dksX6_darkKept_1 7 rfl rfl)
theorem dX6_darkKept_30 : decode cX6_darkKept 30 = .ok (.iadd, 1) := dk_96 (dk_at dksX6_darkKept_1 8 rfl rfl)
theorem dX6_darkKept_31 : decode cX6_darkKept 31 = .ok (.iastore, 1) := dk_79 (dk_at dksX6_darkKept_1 9 rfl rfl)
theorem dX6_darkKept_32 : decode cX6_darkKept 32 = .ok (.aload_n 0, 1) := dk_42 (dk_at dksX6_darkKept_1 10 rfl rfl)
theorem dX6_darkKept_33 : decode cX6_darkKept 33 = .ok (.invokevirtual 340, 3) := dk_182 1 84 (dk_at dksX6_darkKept_1 11 rfl rfl)
theorem dX6_darkKept_36 : decode cX6_darkKept 36 = .ok (.aload_n 0, 1) := dk_42 (dk_at dksX6_darkKept_1 14 rfl rfl)
theorem dX6_darkKept_37 : decode cX6_darkKept 37 = .ok (.getfield 24, 3) := dk_180 0 24 (dk_at dksX6_darkKept_1 15 rfl rfl)
theorem dX6_darkKept_40 : decode cX6_darkKept 40 = .ok (.bipush 31, 2) := dk_16 31 (dk_at dksX6_darkKept_1 18 rfl rfl)
theorem dX6_darkKept_42 : decode cX6_darkKept 42 = .ok (.iaload, 1) := dk_46 (dk_at dksX6_darkKept_1 20 rfl rfl)
theorem dX6_darkKept_43 : decode cX6_darkKept 43 = .ok (.ireturn, 1) := dk_172 (dk_at dksX6_darkKept_1 21 rfl rfl)
abbrev cX6_last : ByteArray := prog_29_method_96_code
def yX6_last : MethodName := ⟨RX6, "last", "(I)I"⟩
def dkwX6_last_4 : List UInt8 := [132, 4, 1, 167, 255, 194]
abbrev dktX6_last_4 : List UInt8 := dkwX6_last_4 ++ []
def dkwX6_last_3 : List UInt8 := [21, 5, 182, 1, 123, 54, 5, 167, 255, 224, 21, 4, 27, 160, 0, 6, 21, 5, 172, 29, 21, 5, 128, 62]
abbrev dktX6_last_3 : List UInt8 := dkwX6_last_3 ++ dktX6_last_4
def dkwX6_last_2 : List UInt8 := [21, 4, 4, 96, 29, 21, 5, 128, 182, 1, 126, 28, 21, 4, 100, 4, 100, 162, 0, 17, 42, 21, 4, 29]
abbrev dktX6_last_2 : List UInt8 := dkwX6_last_2 ++ dktX6_last_3
def dkwX6_last_1 : List UInt8 := [27, 2, 160, 0, 5, 28, 172, 3, 62, 3, 54, 4, 42, 21, 4, 29, 3, 182, 1, 123, 54, 5, 42]
abbrev dktX6_last_1 : List UInt8 := dkwX6_last_1 ++ dktX6_last_2
def dkwX6_last_0 : List UInt8 := [42, 182, 1, 129, 42, 3, 3, 182, 1, 126, 61, 27, 2, 28, 4, 100, 184, 0, 106, 154, 0, 5, 2, 172]
abbrev dktX6_last_0 : List UInt8 := dkwX6_last_0 ++ dktX6_last_1
theorem dksX6_last_0 : cX6_last.data.toList.drop 0 = dktX6_last_0 := by decide +kernel
theorem dksX6_last_1 : cX6_last.data.toList.drop 24 = dktX6_last_1 := dk_seg dksX6_last_0 24 rfl rfl
theorem dksX6_last_2 : cX6_last.data.toList.drop 47 = dktX6_last_2 := dk_seg dksX6_last_1 23 rfl rfl
theorem dksX6_last_3 : cX6_last.data.toList.drop 71 = dktX6_last_3 := dk_seg dksX6_last_2 24 rfl rfl
theorem dksX6_last_4 : cX6_last.data.toList.drop 95 = dktX6_last_4 := dk_seg dksX6_last_3 24 rfl rfl
theorem dX6_last_0 : decode cX6_last 0 = .ok (.aload_n 0, 1) := dk_42 (dk_at dksX6_last_0 0 rfl rfl)
theorem dX6_last_1 : decode cX6_last 1 = .ok (.invokevirtual 385, 3) := dk_182 1 129 (dk_at dksX6_last_0 1 rfl rfl)
theorem dX6_last_4 : decode cX6_last 4 = .ok (.aload_n 0, 1) := dk_42 (dk_at dksX6_last_0 4 rfl rfl)
theorem dX6_last_5 : decode cX6_last 5 = .ok (.iconst 0, 1) := dk_3 (dk_at dksX6_last_0 5 rfl rfl)
theorem dX6_last_6 : decode cX6_last 6 = .ok (.iconst 0, 1) := dk_3 (dk_at dksX6_last_0 6 rfl rfl)
theorem dX6_last_7 : decode cX6_last 7 = .ok (.invokevirtual 382, 3) := dk_182 1 126 (dk_at dksX6_last_0 7 rfl rfl)
theorem dX6_last_10 : decode cX6_last 10 = .ok (.istore_n 2, 1) := dk_61 (dk_at dksX6_last_0 10 rfl rfl)
theorem dX6_last_11 : decode cX6_last 11 = .ok (.iload_n 1, 1) := dk_27 (dk_at dksX6_last_0 11 rfl rfl)
theorem dX6_last_12 : decode cX6_last 12 = .ok (.iconst (-1), 1) := dk_2 (dk_at dksX6_last_0 12 rfl rfl)
theorem dX6_last_13 : decode cX6_last 13 = .ok (.iload_n 2, 1) := dk_28 (dk_at dksX6_last_0 13 rfl rfl)
theorem dX6_last_14 : decode cX6_last 14 = .ok (.iconst 1, 1) := dk_4 (dk_at dksX6_last_0 14 rfl rfl)
theorem dX6_last_15 : decode cX6_last 15 = .ok (.isub, 1) := dk_100 (dk_at dksX6_last_0 15 rfl rfl)
theorem dX6_last_16 : decode cX6_last 16 = .ok (.invokestatic 106, 3) := dk_184 0 106 (dk_at dksX6_last_0 16 rfl rfl)
theorem dX6_last_19 : decode cX6_last 19 = .ok (.ifCond .ne 5, 3) := dk_154 0 5 (dk_at dksX6_last_0 19 rfl rfl)
theorem dX6_last_22 : decode cX6_last 22 = .ok (.iconst (-1), 1) := dk_2 (dk_at dksX6_last_0 22 rfl rfl)
theorem dX6_last_23 : decode cX6_last 23 = .ok (.ireturn, 1) := dk_172 (dk_at dksX6_last_0 23 rfl rfl)
theorem dX6_last_24 : decode cX6_last 24 = .ok (.iload_n 1, 1) := dk_27 (dk_at dksX6_last_1 0 rfl rfl)
theorem dX6_last_25 : decode cX6_last 25 = .ok (.iconst (-1), 1) := dk_2 (dk_at dksX6_last_1 1 rfl rfl)
theorem dX6_last_26 : decode cX6_last 26 = .ok (.if_icmp .ne 5, 3) := dk_160 0 5 (dk_at dksX6_last_1 2 rfl rfl)
theorem dX6_last_29 : decode cX6_last 29 = .ok (.iload_n 2, 1) := dk_28 (dk_at dksX6_last_1 5 rfl rfl)
theorem dX6_last_30 : decode cX6_last 30 = .ok (.ireturn, 1) := dk_172 (dk_at dksX6_last_1 6 rfl rfl)
theorem dX6_last_31 : decode cX6_last 31 = .ok (.iconst 0, 1) := dk_3 (dk_at dksX6_last_1 7 rfl rfl)
theorem dX6_last_32 : decode cX6_last 32 = .ok (.istore_n 3, 1) := dk_62 (dk_at dksX6_last_1 8 rfl rfl)
theorem dX6_last_33 : decode cX6_last 33 = .ok (.iconst 0, 1) := dk_3 (dk_at dksX6_last_1 9 rfl rfl)
theorem dX6_last_34 : decode cX6_last 34 = .ok (.istore 4, 2) := dk_54 4 (dk_at dksX6_last_1 10 rfl rfl)
theorem dX6_last_36 : decode cX6_last 36 = .ok (.aload_n 0, 1) := dk_42 (dk_at dksX6_last_1 12 rfl rfl)
theorem dX6_last_37 : decode cX6_last 37 = .ok (.iload 4, 2) := dk_21 4 (dk_at dksX6_last_1 13 rfl rfl)
theorem dX6_last_39 : decode cX6_last 39 = .ok (.iload_n 3, 1) := dk_29 (dk_at dksX6_last_1 15 rfl rfl)
theorem dX6_last_40 : decode cX6_last 40 = .ok (.iconst 0, 1) := dk_3 (dk_at dksX6_last_1 16 rfl rfl)
theorem dX6_last_41 : decode cX6_last 41 = .ok (.invokevirtual 379, 3) := dk_182 1 123 (dk_at dksX6_last_1 17 rfl rfl)
theorem dX6_last_44 : decode cX6_last 44 = .ok (.istore 5, 2) := dk_54 5 (dk_at dksX6_last_1 20 rfl rfl)
theorem dX6_last_46 : decode cX6_last 46 = .ok (.aload_n 0, 1) := dk_42 (dk_at dksX6_last_1 22 rfl rfl)
theorem dX6_last_47 : decode cX6_last 47 = .ok (.iload 4, 2) := dk_21 4 (dk_at dksX6_last_2 0 rfl rfl)
theorem dX6_last_49 : decode cX6_last 49 = .ok (.iconst 1, 1) := dk_4 (dk_at dksX6_last_2 2 rfl rfl)
theorem dX6_last_50 : decode cX6_last 50 = .ok (.iadd, 1) := dk_96 (dk_at dksX6_last_2 3 rfl rfl)
theorem dX6_last_51 : decode cX6_last 51 = .ok (.iload_n 3, 1) := dk_29 (dk_at dksX6_last_2 4 rfl rfl)
theorem dX6_last_52 : decode cX6_last 52 = .ok (.iload 5, 2) := dk_21 5 (dk_at dksX6_last_2 5 rfl rfl)
theorem dX6_last_54 : decode cX6_last 54 = .ok (.ior, 1) := dk_128 (dk_at dksX6_last_2 7 rfl rfl)
theorem dX6_last_55 : decode cX6_last 55 = .ok (.invokevirtual 382, 3) := dk_182 1 126 (dk_at dksX6_last_2 8 rfl rfl)
theorem dX6_last_58 : decode cX6_last 58 = .ok (.iload_n 2, 1) := dk_28 (dk_at dksX6_last_2 11 rfl rfl)
theorem dX6_last_59 : decode cX6_last 59 = .ok (.iload 4, 2) := dk_21 4 (dk_at dksX6_last_2 12 rfl rfl)
theorem dX6_last_61 : decode cX6_last 61 = .ok (.isub, 1) := dk_100 (dk_at dksX6_last_2 14 rfl rfl)
theorem dX6_last_62 : decode cX6_last 62 = .ok (.iconst 1, 1) := dk_4 (dk_at dksX6_last_2 15 rfl rfl)
theorem dX6_last_63 : decode cX6_last 63 = .ok (.isub, 1) := dk_100 (dk_at dksX6_last_2 16 rfl rfl)
theorem dX6_last_64 : decode cX6_last 64 = .ok (.if_icmp .ge 17, 3) := dk_162 0 17 (dk_at dksX6_last_2 17 rfl rfl)
theorem dX6_last_67 : decode cX6_last 67 = .ok (.aload_n 0, 1) := dk_42 (dk_at dksX6_last_2 20 rfl rfl)
theorem dX6_last_68 : decode cX6_last 68 = .ok (.iload 4, 2) := dk_21 4 (dk_at dksX6_last_2 21 rfl rfl)
theorem dX6_last_70 : decode cX6_last 70 = .ok (.iload_n 3, 1) := dk_29 (dk_at dksX6_last_2 23 rfl rfl)
theorem dX6_last_71 : decode cX6_last 71 = .ok (.iload 5, 2) := dk_21 5 (dk_at dksX6_last_3 0 rfl rfl)
theorem dX6_last_73 : decode cX6_last 73 = .ok (.invokevirtual 379, 3) := dk_182 1 123 (dk_at dksX6_last_3 2 rfl rfl)
theorem dX6_last_76 : decode cX6_last 76 = .ok (.istore 5, 2) := dk_54 5 (dk_at dksX6_last_3 5 rfl rfl)
theorem dX6_last_78 : decode cX6_last 78 = .ok (.goto (-32), 3) := dk_167 255 224 (dk_at dksX6_last_3 7 rfl rfl)
theorem dX6_last_81 : decode cX6_last 81 = .ok (.iload 4, 2) := dk_21 4 (dk_at dksX6_last_3 10 rfl rfl)
theorem dX6_last_83 : decode cX6_last 83 = .ok (.iload_n 1, 1) := dk_27 (dk_at dksX6_last_3 12 rfl rfl)
theorem dX6_last_84 : decode cX6_last 84 = .ok (.if_icmp .ne 6, 3) := dk_160 0 6 (dk_at dksX6_last_3 13 rfl rfl)
theorem dX6_last_87 : decode cX6_last 87 = .ok (.iload 5, 2) := dk_21 5 (dk_at dksX6_last_3 16 rfl rfl)
theorem dX6_last_89 : decode cX6_last 89 = .ok (.ireturn, 1) := dk_172 (dk_at dksX6_last_3 18 rfl rfl)
theorem dX6_last_90 : decode cX6_last 90 = .ok (.iload_n 3, 1) := dk_29 (dk_at dksX6_last_3 19 rfl rfl)
theorem dX6_last_91 : decode cX6_last 91 = .ok (.iload 5, 2) := dk_21 5 (dk_at dksX6_last_3 20 rfl rfl)
theorem dX6_last_93 : decode cX6_last 93 = .ok (.ior, 1) := dk_128 (dk_at dksX6_last_3 22 rfl rfl)
theorem dX6_last_94 : decode cX6_last 94 = .ok (.istore_n 3, 1) := dk_62 (dk_at dksX6_last_3 23 rfl rfl)
theorem dX6_last_95 : decode cX6_last 95 = .ok (.iinc 4 1, 3) := dk_132 4 1 (dk_at dksX6_last_4 0 rfl rfl)
theorem dX6_last_98 : decode cX6_last 98 = .ok (.goto (-62), 3) := dk_167 255 194 (dk_at dksX6_last_4 3 rfl rfl)
abbrev cX6_looks : ByteArray := prog_29_method_87_code
def yX6_looks : MethodName := ⟨RX6, "looks", "()V"⟩
def dkwX6_looks_7 : List UInt8 := [177]
abbrev dktX6_looks_7 : List UInt8 := dkwX6_looks_7 ++ []
def dkwX6_looks_6 : List UInt8 := [182, 1, 63, 167, 0, 4, 3, 79, 132, 3, 1, 167, 255, 210, 132, 1, 1, 167, 255, 131, 42, 182, 1, 105]
abbrev dktX6_looks_6 : List UInt8 := dkwX6_looks_6 ++ dktX6_looks_7
def dkwX6_looks_5 : List UInt8 := [16, 10, 27, 104, 29, 96, 27, 29, 159, 0, 21, 42, 27, 29, 182, 1, 78, 153, 0, 12, 42, 27, 29]
abbrev dktX6_looks_5 : List UInt8 := dkwX6_looks_5 ++ dktX6_looks_6
def dkwX6_looks_4 : List UInt8 := [27, 182, 1, 50, 167, 0, 5, 18, 160, 79, 3, 62, 29, 42, 182, 0, 116, 162, 0, 44, 42, 180, 0, 71]
abbrev dktX6_looks_4 : List UInt8 := dkwX6_looks_4 ++ dktX6_looks_5
def dkwX6_looks_3 : List UInt8 := [180, 0, 24, 16, 10, 27, 96, 46, 42, 180, 0, 24, 16, 33, 46, 100, 167, 0, 17, 28, 154, 0, 11, 42]
abbrev dktX6_looks_3 : List UInt8 := dkwX6_looks_3 ++ dktX6_looks_4
def dkwX6_looks_2 : List UInt8 := [96, 46, 61, 42, 180, 0, 68, 27, 28, 5, 160, 0, 7, 3, 167, 0, 42, 28, 4, 160, 0, 23, 42]
abbrev dktX6_looks_2 : List UInt8 := dkwX6_looks_2 ++ dktX6_looks_3
def dkwX6_looks_1 : List UInt8 := [3, 84, 132, 1, 1, 167, 255, 239, 3, 60, 27, 42, 182, 0, 116, 162, 0, 123, 42, 180, 0, 24, 3, 27]
abbrev dktX6_looks_1 : List UInt8 := dkwX6_looks_1 ++ dktX6_looks_2
def dkwX6_looks_0 : List UInt8 := [42, 3, 181, 1, 99, 42, 3, 181, 1, 102, 3, 60, 27, 17, 1, 74, 162, 0, 16, 42, 180, 0, 74, 27]
abbrev dktX6_looks_0 : List UInt8 := dkwX6_looks_0 ++ dktX6_looks_1
theorem dksX6_looks_0 : cX6_looks.data.toList.drop 0 = dktX6_looks_0 := by decide +kernel
theorem dksX6_looks_1 : cX6_looks.data.toList.drop 24 = dktX6_looks_1 := dk_seg dksX6_looks_0 24 rfl rfl
theorem dksX6_looks_2 : cX6_looks.data.toList.drop 48 = dktX6_looks_2 := dk_seg dksX6_looks_1 24 rfl rfl
theorem dksX6_looks_3 : cX6_looks.data.toList.drop 71 = dktX6_looks_3 := dk_seg dksX6_looks_2 23 rfl rfl
theorem dksX6_looks_4 : cX6_looks.data.toList.drop 95 = dktX6_looks_4 := dk_seg dksX6_looks_3 24 rfl rfl
theorem dksX6_looks_5 : cX6_looks.data.toList.drop 119 = dktX6_looks_5 := dk_seg dksX6_looks_4 24 rfl rfl
theorem dksX6_looks_6 : cX6_looks.data.toList.drop 142 = dktX6_looks_6 := dk_seg dksX6_looks_5 23 rfl rfl
theorem dksX6_looks_7 : cX6_looks.data.toList.drop 166 = dktX6_looks_7 := dk_seg dksX6_looks_6 24 rfl rfl
theorem dX6_looks_0 : decode cX6_looks 0 = .ok (.aload_n 0, 1) := dk_42 (dk_at dksX6_looks_0 0 rfl rfl)
theorem dX6_looks_1 : decode cX6_looks 1 = .ok (.iconst 0, 1) := dk_3 (dk_at dksX6_looks_0 1 rfl rfl)
theorem dX6_looks_2 : decode cX6_looks 2 = .ok (.putfield 355, 3) := dk_181 1 99 (dk_at dksX6_looks_0 2 rfl rfl)
theorem dX6_looks_5 : decode cX6_looks 5 = .ok (.aload_n 0, 1) := dk_42 (dk_at dksX6_looks_0 5 rfl rfl)
theorem dX6_looks_6 : decode cX6_looks 6 = .ok (.iconst 0, 1) := dk_3 (dk_at dksX6_looks_0 6 rfl rfl)
theorem dX6_looks_7 : decode cX6_looks 7 = .ok (.putfield 358, 3) := dk_181 1 102 (dk_at dksX6_looks_0 7 rfl rfl)
theorem dX6_looks_10 : decode cX6_looks 10 = .ok (.iconst 0, 1) := dk_3 (dk_at dksX6_looks_0 10 rfl rfl)
theorem dX6_looks_11 : decode cX6_looks 11 = .ok (.istore_n 1, 1) := dk_60 (dk_at dksX6_looks_0 11 rfl rfl)
theorem dX6_looks_12 : decode cX6_looks 12 = .ok (.iload_n 1, 1) := dk_27 (dk_at dksX6_looks_0 12 rfl rfl)
theorem dX6_looks_13 : decode cX6_looks 13 = .ok (.sipush 330, 3) := dk_17 1 74 (dk_at dksX6_looks_0 13 rfl rfl)
theorem dX6_looks_16 : decode cX6_looks 16 = .ok (.if_icmp .ge 16, 3) := dk_162 0 16 (dk_at dksX6_looks_0 16 rfl rfl)
theorem dX6_looks_19 : decode cX6_looks 19 = .ok (.aload_n 0, 1) := dk_42 (dk_at dksX6_looks_0 19 rfl rfl)
theorem dX6_looks_20 : decode cX6_looks 20 = .ok (.getfield 74, 3) := dk_180 0 74 (dk_at dksX6_looks_0 20 rfl rfl)
theorem dX6_looks_23 : decode cX6_looks 23 = .ok (.iload_n 1, 1) := dk_27 (dk_at dksX6_looks_0 23 rfl rfl)
theorem dX6_looks_24 : decode cX6_looks 24 = .ok (.iconst 0, 1) := dk_3 (dk_at dksX6_looks_1 0 rfl rfl)
theorem dX6_looks_25 : decode cX6_looks 25 = .ok (.bastore, 1) := dk_84 (dk_at dksX6_looks_1 1 rfl rfl)
theorem dX6_looks_26 : decode cX6_looks 26 = .ok (.iinc 1 1, 3) := dk_132 1 1 (dk_at dksX6_looks_1 2 rfl rfl)
theorem dX6_looks_29 : decode cX6_looks 29 = .ok (.goto (-17), 3) := dk_167 255 239 (dk_at dksX6_looks_1 5 rfl rfl)
theorem dX6_looks_32 : decode cX6_looks 32 = .ok (.iconst 0, 1) := dk_3 (dk_at dksX6_looks_1 8 rfl rfl)
theorem dX6_looks_33 : decode cX6_looks 33 = .ok (.istore_n 1, 1) := dk_60 (dk_at dksX6_looks_1 9 rfl rfl)
theorem dX6_looks_34 : decode cX6_looks 34 = .ok (.iload_n 1, 1) := dk_27 (dk_at dksX6_looks_1 10 rfl rfl)
theorem dX6_looks_35 : decode cX6_looks 35 = .ok (.aload_n 0, 1) := dk_42 (dk_at dksX6_looks_1 11 rfl rfl)
theorem dX6_looks_36 : decode cX6_looks 36 = .ok (.invokevirtual 116, 3) := dk_182 0 116 (dk_at dksX6_looks_1 12 rfl rfl)
theorem dX6_looks_39 : decode cX6_looks 39 = .ok (.if_icmp .ge 123, 3) := dk_162 0 123 (dk_at dksX6_looks_1 15 rfl rfl)
theorem dX6_looks_42 : decode cX6_looks 42 = .ok (.aload_n 0, 1) := dk_42 (dk_at dksX6_looks_1 18 rfl rfl)
theorem dX6_looks_43 : decode cX6_looks 43 = .ok (.getfield 24, 3) := dk_180 0 24 (dk_at dksX6_looks_1 19 rfl rfl)
theorem dX6_looks_46 : decode cX6_looks 46 = .ok (.iconst 0, 1) := dk_3 (dk_at dksX6_looks_1 22 rfl rfl)
theorem dX6_looks_47 : decode cX6_looks 47 = .ok (.iload_n 1, 1) := dk_27 (dk_at dksX6_looks_1 23 rfl rfl)
theorem dX6_looks_48 : decode cX6_looks 48 = .ok (.iadd, 1) := dk_96 (dk_at dksX6_looks_2 0 rfl rfl)
theorem dX6_looks_49 : decode cX6_looks 49 = .ok (.iaload, 1) := dk_46 (dk_at dksX6_looks_2 1 rfl rfl)
theorem dX6_looks_50 : decode cX6_looks 50 = .ok (.istore_n 2, 1) := dk_61 (dk_at dksX6_looks_2 2 rfl rfl)
theorem dX6_looks_51 : decode cX6_looks 51 = .ok (.aload_n 0, 1) := dk_42 (dk_at dksX6_looks_2 3 rfl rfl)
theorem dX6_looks_52 : decode cX6_looks 52 = .ok (.getfield 68, 3) := dk_180 0 68 (dk_at dksX6_looks_2 4 rfl rfl)
theorem dX6_looks_55 : decode cX6_looks 55 = .ok (.iload_n 1, 1) := dk_27 (dk_at dksX6_looks_2 7 rfl rfl)
theorem dX6_looks_56 : decode cX6_looks 56 = .ok (.iload_n 2, 1) := dk_28 (dk_at dksX6_looks_2 8 rfl rfl)
theorem dX6_looks_57 : decode cX6_looks 57 = .ok (.iconst 2, 1) := dk_5 (dk_at dksX6_looks_2 9 rfl rfl)
theorem dX6_looks_58 : decode cX6_looks 58 = .ok (.if_icmp .ne 7, 3) := dk_160 0 7 (dk_at dksX6_looks_2 10 rfl rfl)
theorem dX6_looks_61 : decode cX6_looks 61 = .ok (.iconst 0, 1) := dk_3 (dk_at dksX6_looks_2 13 rfl rfl)
theorem dX6_looks_62 : decode cX6_looks 62 = .ok (.goto 42, 3) := dk_167 0 42 (dk_at dksX6_looks_2 14 rfl rfl)
theorem dX6_looks_65 : decode cX6_looks 65 = .ok (.iload_n 2, 1) := dk_28 (dk_at dksX6_looks_2 17 rfl rfl)
theorem dX6_looks_66 : decode cX6_looks 66 = .ok (.iconst 1, 1) := dk_4 (dk_at dksX6_looks_2 18 rfl rfl)
theorem dX6_looks_67 : decode cX6_looks 67 = .ok (.if_icmp .ne 23, 3) := dk_160 0 23 (dk_at dksX6_looks_2 19 rfl rfl)
theorem dX6_looks_70 : decode cX6_looks 70 = .ok (.aload_n 0, 1) := dk_42 (dk_at dksX6_looks_2 22 rfl rfl)
theorem dX6_looks_71 : decode cX6_looks 71 = .ok (.getfield 24, 3) := dk_180 0 24 (dk_at dksX6_looks_3 0 rfl rfl)
theorem dX6_looks_74 : decode cX6_looks 74 = .ok (.bipush 10, 2) := dk_16 10 (dk_at dksX6_looks_3 3 rfl rfl)
theorem dX6_looks_76 : decode cX6_looks 76 = .ok (.iload_n 1, 1) := dk_27 (dk_at dksX6_looks_3 5 rfl rfl)
theorem dX6_looks_77 : decode cX6_looks 77 = .ok (.iadd, 1) := dk_96 (dk_at dksX6_looks_3 6 rfl rfl)
theorem dX6_looks_78 : decode cX6_looks 78 = .ok (.iaload, 1) := dk_46 (dk_at dksX6_looks_3 7 rfl rfl)
theorem dX6_looks_79 : decode cX6_looks 79 = .ok (.aload_n 0, 1) := dk_42 (dk_at dksX6_looks_3 8 rfl rfl)
theorem dX6_looks_80 : decode cX6_looks 80 = .ok (.getfield 24, 3) := dk_180 0 24 (dk_at dksX6_looks_3 9 rfl rfl)
theorem dX6_looks_83 : decode cX6_looks 83 = .ok (.bipush 33, 2) := dk_16 33 (dk_at dksX6_looks_3 12 rfl rfl)
theorem dX6_looks_85 : decode cX6_looks 85 = .ok (.iaload, 1) := dk_46 (dk_at dksX6_looks_3 14 rfl rfl)
theorem dX6_looks_86 : decode cX6_looks 86 = .ok (.isub, 1) := dk_100 (dk_at dksX6_looks_3 15 rfl rfl)
theorem dX6_looks_87 : decode cX6_looks 87 = .ok (.goto 17, 3) := dk_167 0 17 (dk_at dksX6_looks_3 16 rfl rfl)
theorem dX6_looks_90 : decode cX6_looks 90 = .ok (.iload_n 2, 1) := dk_28 (dk_at dksX6_looks_3 19 rfl rfl)
theorem dX6_looks_91 : decode cX6_looks 91 = .ok (.ifCond .ne 11, 3) := dk_154 0 11 (dk_at dksX6_looks_3 20 rfl rfl)
theorem dX6_looks_94 : decode cX6_looks 94 = .ok (.aload_n 0, 1) := dk_42 (dk_at dksX6_looks_3 23 rfl rfl)
theorem dX6_looks_95 : decode cX6_looks 95 = .ok (.iload_n 1, 1) := dk_27 (dk_at dksX6_looks_4 0 rfl rfl)
theorem dX6_looks_96 : decode cX6_looks 96 = .ok (.invokevirtual 306, 3) := dk_182 1 50 (dk_at dksX6_looks_4 1 rfl rfl)
theorem dX6_looks_99 : decode cX6_looks 99 = .ok (.goto 5, 3) := dk_167 0 5 (dk_at dksX6_looks_4 4 rfl rfl)
theorem dX6_looks_102 : decode cX6_looks 102 = .ok (.ldc 160, 2) := dk_18 160 (dk_at dksX6_looks_4 7 rfl rfl)
theorem dX6_looks_104 : decode cX6_looks 104 = .ok (.iastore, 1) := dk_79 (dk_at dksX6_looks_4 9 rfl rfl)
theorem dX6_looks_105 : decode cX6_looks 105 = .ok (.iconst 0, 1) := dk_3 (dk_at dksX6_looks_4 10 rfl rfl)
theorem dX6_looks_106 : decode cX6_looks 106 = .ok (.istore_n 3, 1) := dk_62 (dk_at dksX6_looks_4 11 rfl rfl)
theorem dX6_looks_107 : decode cX6_looks 107 = .ok (.iload_n 3, 1) := dk_29 (dk_at dksX6_looks_4 12 rfl rfl)
theorem dX6_looks_108 : decode cX6_looks 108 = .ok (.aload_n 0, 1) := dk_42 (dk_at dksX6_looks_4 13 rfl rfl)
theorem dX6_looks_109 : decode cX6_looks 109 = .ok (.invokevirtual 116, 3) := dk_182 0 116 (dk_at dksX6_looks_4 14 rfl rfl)
theorem dX6_looks_112 : decode cX6_looks 112 = .ok (.if_icmp .ge 44, 3) := dk_162 0 44 (dk_at dksX6_looks_4 17 rfl rfl)
theorem dX6_looks_115 : decode cX6_looks 115 = .ok (.aload_n 0, 1) := dk_42 (dk_at dksX6_looks_4 20 rfl rfl)
theorem dX6_looks_116 : decode cX6_looks 116 = .ok (.getfield 71, 3) := dk_180 0 71 (dk_at dksX6_looks_4 21 rfl rfl)
theorem dX6_looks_119 : decode cX6_looks 119 = .ok (.bipush 10, 2) := dk_16 10 (dk_at dksX6_looks_5 0 rfl rfl)
theorem dX6_looks_121 : decode cX6_looks 121 = .ok (.iload_n 1, 1) := dk_27 (dk_at dksX6_looks_5 2 rfl rfl)
theorem dX6_looks_122 : decode cX6_looks 122 = .ok (.imul, 1) := dk_104 (dk_at dksX6_looks_5 3 rfl rfl)
theorem dX6_looks_123 : decode cX6_looks 123 = .ok (.iload_n 3, 1) := dk_29 (dk_at dksX6_looks_5 4 rfl rfl)
theorem dX6_looks_124 : decode cX6_looks 124 = .ok (.iadd, 1) := dk_96 (dk_at dksX6_looks_5 5 rfl rfl)
theorem dX6_looks_125 : decode cX6_looks 125 = .ok (.iload_n 1, 1) := dk_27 (dk_at dksX6_looks_5 6 rfl rfl)
theorem dX6_looks_126 : decode cX6_looks 126 = .ok (.iload_n 3, 1) := dk_29 (dk_at dksX6_looks_5 7 rfl rfl)
theorem dX6_looks_127 : decode cX6_looks 127 = .ok (.if_icmp .eq 21, 3) := dk_159 0 21 (dk_at dksX6_looks_5 8 rfl rfl)
theorem dX6_looks_130 : decode cX6_looks 130 = .ok (.aload_n 0, 1) := dk_42 (dk_at dksX6_looks_5 11 rfl rfl)
theorem dX6_looks_131 : decode cX6_looks 131 = .ok (.iload_n 1, 1) := dk_27 (dk_at dksX6_looks_5 12 rfl rfl)
theorem dX6_looks_132 : decode cX6_looks 132 = .ok (.iload_n 3, 1) := dk_29 (dk_at dksX6_looks_5 13 rfl rfl)
theorem dX6_looks_133 : decode cX6_looks 133 = .ok (.invokevirtual 334, 3) := dk_182 1 78 (dk_at dksX6_looks_5 14 rfl rfl)
theorem dX6_looks_136 : decode cX6_looks 136 = .ok (.ifCond .eq 12, 3) := dk_153 0 12 (dk_at dksX6_looks_5 17 rfl rfl)
theorem dX6_looks_139 : decode cX6_looks 139 = .ok (.aload_n 0, 1) := dk_42 (dk_at dksX6_looks_5 20 rfl rfl)
theorem dX6_looks_140 : decode cX6_looks 140 = .ok (.iload_n 1, 1) := dk_27 (dk_at dksX6_looks_5 21 rfl rfl)
theorem dX6_looks_141 : decode cX6_looks 141 = .ok (.iload_n 3, 1) := dk_29 (dk_at dksX6_looks_5 22 rfl rfl)
theorem dX6_looks_142 : decode cX6_looks 142 = .ok (.invokevirtual 319, 3) := dk_182 1 63 (dk_at dksX6_looks_6 0 rfl rfl)
theorem dX6_looks_145 : decode cX6_looks 145 = .ok (.goto 4, 3) := dk_167 0 4 (dk_at dksX6_looks_6 3 rfl rfl)
theorem dX6_looks_148 : decode cX6_looks 148 = .ok (.iconst 0, 1) := dk_3 (dk_at dksX6_looks_6 6 rfl rfl)
theorem dX6_looks_149 : decode cX6_looks 149 = .ok (.iastore, 1) := dk_79 (dk_at dksX6_looks_6 7 rfl rfl)
theorem dX6_looks_150 : decode cX6_looks 150 = .ok (.iinc 3 1, 3) := dk_132 3 1 (dk_at dksX6_looks_6 8 rfl rfl)
theorem dX6_looks_153 : decode cX6_looks 153 = .ok (.goto (-46), 3) := dk_167 255 210 (dk_at dksX6_looks_6 11 rfl rfl)
theorem dX6_looks_156 : decode cX6_looks 156 = .ok (.iinc 1 1, 3) := dk_132 1 1 (dk_at dksX6_looks_6 14 rfl rfl)
theorem dX6_looks_159 : decode cX6_looks 159 = .ok (.goto (-125), 3) := dk_167 255 131 (dk_at dksX6_looks_6 17 rfl rfl)
theorem dX6_looks_162 : decode cX6_looks 162 = .ok (.aload_n 0, 1) := dk_42 (dk_at dksX6_looks_6 20 rfl rfl)
theorem dX6_looks_163 : decode cX6_looks 163 = .ok (.invokevirtual 361, 3) := dk_182 1 105 (dk_at dksX6_looks_6 21 rfl rfl)
theorem dX6_looks_166 : decode cX6_looks 166 = .ok (.return_, 1) := dk_177 (dk_at dksX6_looks_7 0 rfl rfl)
abbrev cX6_forgets : ByteArray := prog_29_method_88_code
def yX6_forgets : MethodName := ⟨RX6, "forgets", "()V"⟩
def dkwX6_forgets_0 : List UInt8 := [3, 60, 27, 17, 44, 0, 162, 0, 16, 42, 180, 0, 80, 27, 2, 84, 132, 1, 1, 167, 255, 239, 177]
abbrev dktX6_forgets_0 : List UInt8 := dkwX6_forgets_0 ++ []
theorem dksX6_forgets_0 : cX6_forgets.data.toList.drop 0 = dktX6_forgets_0 := by decide +kernel
theorem dX6_forgets_0 : decode cX6_forgets 0 = .ok (.iconst 0, 1) := dk_3 (dk_at dksX6_forgets_0 0 rfl rfl)
theorem dX6_forgets_1 : decode cX6_forgets 1 = .ok (.istore_n 1, 1) := dk_60 (dk_at dksX6_forgets_0 1 rfl rfl)
theorem dX6_forgets_2 : decode cX6_forgets 2 = .ok (.iload_n 1, 1) := dk_27 (dk_at dksX6_forgets_0 2 rfl rfl)
theorem dX6_forgets_3 : decode cX6_forgets 3 = .ok (.sipush 11264, 3) := dk_17 44 0 (dk_at dksX6_forgets_0 3 rfl rfl)
theorem dX6_forgets_6 : decode cX6_forgets 6 = .ok (.if_icmp .ge 16, 3) := dk_162 0 16 (dk_at dksX6_forgets_0 6 rfl rfl)
theorem dX6_forgets_9 : decode cX6_forgets 9 = .ok (.aload_n 0, 1) := dk_42 (dk_at dksX6_forgets_0 9 rfl rfl)
theorem dX6_forgets_10 : decode cX6_forgets 10 = .ok (.getfield 80, 3) := dk_180 0 80 (dk_at dksX6_forgets_0 10 rfl rfl)
theorem dX6_forgets_13 : decode cX6_forgets 13 = .ok (.iload_n 1, 1) := dk_27 (dk_at dksX6_forgets_0 13 rfl rfl)
theorem dX6_forgets_14 : decode cX6_forgets 14 = .ok (.iconst (-1), 1) := dk_2 (dk_at dksX6_forgets_0 14 rfl rfl)
theorem dX6_forgets_15 : decode cX6_forgets 15 = .ok (.bastore, 1) := dk_84 (dk_at dksX6_forgets_0 15 rfl rfl)
theorem dX6_forgets_16 : decode cX6_forgets 16 = .ok (.iinc 1 1, 3) := dk_132 1 1 (dk_at dksX6_forgets_0 16 rfl rfl)
theorem dX6_forgets_19 : decode cX6_forgets 19 = .ok (.goto (-17), 3) := dk_167 255 239 (dk_at dksX6_forgets_0 19 rfl rfl)
theorem dX6_forgets_22 : decode cX6_forgets 22 = .ok (.return_, 1) := dk_177 (dk_at dksX6_forgets_0 22 rfl rfl)
abbrev cX6_longestFrom : ByteArray := prog_29_method_95_code
def yX6_longestFrom : MethodName := ⟨RX6, "longestFrom", "(II)I"⟩
def dkwX6_longestFrom_4 : List UInt8 := [167, 255, 209, 42, 180, 0, 80, 29, 21, 4, 145, 84, 21, 4, 172]
abbrev dktX6_longestFrom_4 : List UInt8 := dkwX6_longestFrom_4 ++ []
def dkwX6_longestFrom_3 : List UInt8 := [164, 0, 8, 21, 6, 167, 0, 5, 21, 4, 54, 4, 42, 27, 28, 21, 5, 182, 1, 123, 54, 5]
abbrev dktX6_longestFrom_3 : List UInt8 := dkwX6_longestFrom_3 ++ dktX6_longestFrom_4
def dkwX6_longestFrom_2 : List UInt8 := [2, 159, 0, 47, 4, 42, 27, 4, 96, 28, 21, 5, 128, 182, 1, 126, 96, 54, 6, 21, 6, 21, 4]
abbrev dktX6_longestFrom_2 : List UInt8 := dkwX6_longestFrom_2 ++ dktX6_longestFrom_3
def dkwX6_longestFrom_1 : List UInt8 := [159, 0, 10, 42, 180, 0, 80, 29, 51, 172, 3, 54, 4, 42, 27, 28, 3, 182, 1, 123, 54, 5, 21, 5]
abbrev dktX6_longestFrom_1 : List UInt8 := dkwX6_longestFrom_1 ++ dktX6_longestFrom_2
def dkwX6_longestFrom_0 : List UInt8 := [27, 16, 10, 164, 0, 5, 3, 172, 17, 4, 0, 27, 104, 28, 96, 62, 42, 180, 0, 80, 29, 51, 2]
abbrev dktX6_longestFrom_0 : List UInt8 := dkwX6_longestFrom_0 ++ dktX6_longestFrom_1
theorem dksX6_longestFrom_0 : cX6_longestFrom.data.toList.drop 0 = dktX6_longestFrom_0 := by decide +kernel
theorem dksX6_longestFrom_1 : cX6_longestFrom.data.toList.drop 23 = dktX6_longestFrom_1 := dk_seg dksX6_longestFrom_0 23 rfl rfl
theorem dksX6_longestFrom_2 : cX6_longestFrom.data.toList.drop 47 = dktX6_longestFrom_2 := dk_seg dksX6_longestFrom_1 24 rfl rfl
theorem dksX6_longestFrom_3 : cX6_longestFrom.data.toList.drop 70 = dktX6_longestFrom_3 := dk_seg dksX6_longestFrom_2 23 rfl rfl
theorem dksX6_longestFrom_4 : cX6_longestFrom.data.toList.drop 92 = dktX6_longestFrom_4 := dk_seg dksX6_longestFrom_3 22 rfl rfl
theorem dX6_longestFrom_0 : decode cX6_longestFrom 0 = .ok (.iload_n 1, 1) := dk_27 (dk_at dksX6_longestFrom_0 0 rfl rfl)
theorem dX6_longestFrom_1 : decode cX6_longestFrom 1 = .ok (.bipush 10, 2) := dk_16 10 (dk_at dksX6_longestFrom_0 1 rfl rfl)
theorem dX6_longestFrom_3 : decode cX6_longestFrom 3 = .ok (.if_icmp .le 5, 3) := dk_164 0 5 (dk_at dksX6_longestFrom_0 3 rfl rfl)
theorem dX6_longestFrom_6 : decode cX6_longestFrom 6 = .ok (.iconst 0, 1) := dk_3 (dk_at dksX6_longestFrom_0 6 rfl rfl)
theorem dX6_longestFrom_7 : decode cX6_longestFrom 7 = .ok (.ireturn, 1) := dk_172 (dk_at dksX6_longestFrom_0 7 rfl rfl)
theorem dX6_longestFrom_8 : decode cX6_longestFrom 8 = .ok (.sipush 1024, 3) := dk_17 4 0 (dk_at dksX6_longestFrom_0 8 rfl rfl)
theorem dX6_longestFrom_11 : decode cX6_longestFrom 11 = .ok (.iload_n 1, 1) := dk_27 (dk_at dksX6_longestFrom_0 11 rfl rfl)
theorem dX6_longestFrom_12 : decode cX6_longestFrom 12 = .ok (.imul, 1) := dk_104 (dk_at dksX6_longestFrom_0 12 rfl rfl)
theorem dX6_longestFrom_13 : decode cX6_longestFrom 13 = .ok (.iload_n 2, 1) := dk_28 (dk_at dksX6_longestFrom_0 13 rfl rfl)
theorem dX6_longestFrom_14 : decode cX6_longestFrom 14 = .ok (.iadd, 1) := dk_96 (dk_at dksX6_longestFrom_0 14 rfl rfl)
theorem dX6_longestFrom_15 : decode cX6_longestFrom 15 = .ok (.istore_n 3, 1) := dk_62 (dk_at dksX6_longestFrom_0 15 rfl rfl)
theorem dX6_longestFrom_16 : decode cX6_longestFrom 16 = .ok (.aload_n 0, 1) := dk_42 (dk_at dksX6_longestFrom_0 16 rfl rfl)
theorem dX6_longestFrom_17 : decode cX6_longestFrom 17 = .ok (.getfield 80, 3) := dk_180 0 80 (dk_at dksX6_longestFrom_0 17 rfl rfl)
theorem dX6_longestFrom_20 : decode cX6_longestFrom 20 = .ok (.iload_n 3, 1) := dk_29 (dk_at dksX6_longestFrom_0 20 rfl rfl)
theorem dX6_longestFrom_21 : decode cX6_longestFrom 21 = .ok (.baload, 1) := dk_51 (dk_at dksX6_longestFrom_0 21 rfl rfl)
theorem dX6_longestFrom_22 : decode cX6_longestFrom 22 = .ok (.iconst (-1), 1) := dk_2 (dk_at dksX6_longestFrom_0 22 rfl rfl)
theorem dX6_longestFrom_23 : decode cX6_longestFrom 23 = .ok (.if_icmp .eq 10, 3) := dk_159 0 10 (dk_at dksX6_longestFrom_1 0 rfl rfl)
theorem dX6_longestFrom_26 : decode cX6_longestFrom 26 = .ok (.aload_n 0, 1) := dk_42 (dk_at dksX6_longestFrom_1 3 rfl rfl)
theorem dX6_longestFrom_27 : decode cX6_longestFrom 27 = .ok (.getfield 80, 3) := dk_180 0 80 (dk_at dksX6_longestFrom_1 4 rfl rfl)
theorem dX6_longestFrom_30 : decode cX6_longestFrom 30 = .ok (.iload_n 3, 1) := dk_29 (dk_at dksX6_longestFrom_1 7 rfl rfl)
theorem dX6_longestFrom_31 : decode cX6_longestFrom 31 = .ok (.baload, 1) := dk_51 (dk_at dksX6_longestFrom_1 8 rfl rfl)
theorem dX6_longestFrom_32 : decode cX6_longestFrom 32 = .ok (.ireturn, 1) := dk_172 (dk_at dksX6_longestFrom_1 9 rfl rfl)
theorem dX6_longestFrom_33 : decode cX6_longestFrom 33 = .ok (.iconst 0, 1) := dk_3 (dk_at dksX6_longestFrom_1 10 rfl rfl)
theorem dX6_longestFrom_34 : decode cX6_longestFrom 34 = .ok (.istore 4, 2) := dk_54 4 (dk_at dksX6_longestFrom_1 11 rfl rfl)
theorem dX6_longestFrom_36 : decode cX6_longestFrom 36 = .ok (.aload_n 0, 1) := dk_42 (dk_at dksX6_longestFrom_1 13 rfl rfl)
theorem dX6_longestFrom_37 : decode cX6_longestFrom 37 = .ok (.iload_n 1, 1) := dk_27 (dk_at dksX6_longestFrom_1 14 rfl rfl)
theorem dX6_longestFrom_38 : decode cX6_longestFrom 38 = .ok (.iload_n 2, 1) := dk_28 (dk_at dksX6_longestFrom_1 15 rfl rfl)
theorem dX6_longestFrom_39 : decode cX6_longestFrom 39 = .ok (.iconst 0, 1) := dk_3 (dk_at dksX6_longestFrom_1 16 rfl rfl)
theorem dX6_longestFrom_40 : decode cX6_longestFrom 40 = .ok (.invokevirtual 379, 3) := dk_182 1 123 (dk_at dksX6_longestFrom_1 17 rfl rfl)
theorem dX6_longestFrom_43 : decode cX6_longestFrom 43 = .ok (.istore 5, 2) := dk_54 5 (dk_at dksX6_longestFrom_1 20 rfl rfl)
theorem dX6_longestFrom_45 : decode cX6_longestFrom 45 = .ok (.iload 5, 2) := dk_21 5 (dk_at dksX6_longestFrom_1 22 rfl rfl)
theorem dX6_longestFrom_47 : decode cX6_longestFrom 47 = .ok (.iconst (-1), 1) := dk_2 (dk_at dksX6_longestFrom_2 0 rfl rfl)
theorem dX6_longestFrom_48 : decode cX6_longestFrom 48 = .ok (.if_icmp .eq 47, 3) := dk_159 0 47 (dk_at dksX6_longestFrom_2 1 rfl rfl)
theorem dX6_longestFrom_51 : decode cX6_longestFrom 51 = .ok (.iconst 1, 1) := dk_4 (dk_at dksX6_longestFrom_2 4 rfl rfl)
theorem dX6_longestFrom_52 : decode cX6_longestFrom 52 = .ok (.aload_n 0, 1) := dk_42 (dk_at dksX6_longestFrom_2 5 rfl rfl)
theorem dX6_longestFrom_53 : decode cX6_longestFrom 53 = .ok (.iload_n 1, 1) := dk_27 (dk_at dksX6_longestFrom_2 6 rfl rfl)
theorem dX6_longestFrom_54 : decode cX6_longestFrom 54 = .ok (.iconst 1, 1) := dk_4 (dk_at dksX6_longestFrom_2 7 rfl rfl)
theorem dX6_longestFrom_55 : decode cX6_longestFrom 55 = .ok (.iadd, 1) := dk_96 (dk_at dksX6_longestFrom_2 8 rfl rfl)
theorem dX6_longestFrom_56 : decode cX6_longestFrom 56 = .ok (.iload_n 2, 1) := dk_28 (dk_at dksX6_longestFrom_2 9 rfl rfl)
theorem dX6_longestFrom_57 : decode cX6_longestFrom 57 = .ok (.iload 5, 2) := dk_21 5 (dk_at dksX6_longestFrom_2 10 rfl rfl)
theorem dX6_longestFrom_59 : decode cX6_longestFrom 59 = .ok (.ior, 1) := dk_128 (dk_at dksX6_longestFrom_2 12 rfl rfl)
theorem dX6_longestFrom_60 : decode cX6_longestFrom 60 = .ok (.invokevirtual 382, 3) := dk_182 1 126 (dk_at dksX6_longestFrom_2 13 rfl rfl)
theorem dX6_longestFrom_63 : decode cX6_longestFrom 63 = .ok (.iadd, 1) := dk_96 (dk_at dksX6_longestFrom_2 16 rfl rfl)
theorem dX6_longestFrom_64 : decode cX6_longestFrom 64 = .ok (.istore 6, 2) := dk_54 6 (dk_at dksX6_longestFrom_2 17 rfl rfl)
theorem dX6_longestFrom_66 : decode cX6_longestFrom 66 = .ok (.iload 6, 2) := dk_21 6 (dk_at dksX6_longestFrom_2 19 rfl rfl)
theorem dX6_longestFrom_68 : decode cX6_longestFrom 68 = .ok (.iload 4, 2) := dk_21 4 (dk_at dksX6_longestFrom_2 21 rfl rfl)
theorem dX6_longestFrom_70 : decode cX6_longestFrom 70 = .ok (.if_icmp .le 8, 3) := dk_164 0 8 (dk_at dksX6_longestFrom_3 0 rfl rfl)
theorem dX6_longestFrom_73 : decode cX6_longestFrom 73 = .ok (.iload 6, 2) := dk_21 6 (dk_at dksX6_longestFrom_3 3 rfl rfl)
theorem dX6_longestFrom_75 : decode cX6_longestFrom 75 = .ok (.goto 5, 3) := dk_167 0 5 (dk_at dksX6_longestFrom_3 5 rfl rfl)
theorem dX6_longestFrom_78 : decode cX6_longestFrom 78 = .ok (.iload 4, 2) := dk_21 4 (dk_at dksX6_longestFrom_3 8 rfl rfl)
theorem dX6_longestFrom_80 : decode cX6_longestFrom 80 = .ok (.istore 4, 2) := dk_54 4 (dk_at dksX6_longestFrom_3 10 rfl rfl)
theorem dX6_longestFrom_82 : decode cX6_longestFrom 82 = .ok (.aload_n 0, 1) := dk_42 (dk_at dksX6_longestFrom_3 12 rfl rfl)
theorem dX6_longestFrom_83 : decode cX6_longestFrom 83 = .ok (.iload_n 1, 1) := dk_27 (dk_at dksX6_longestFrom_3 13 rfl rfl)
theorem dX6_longestFrom_84 : decode cX6_longestFrom 84 = .ok (.iload_n 2, 1) := dk_28 (dk_at dksX6_longestFrom_3 14 rfl rfl)
theorem dX6_longestFrom_85 : decode cX6_longestFrom 85 = .ok (.iload 5, 2) := dk_21 5 (dk_at dksX6_longestFrom_3 15 rfl rfl)
theorem dX6_longestFrom_87 : decode cX6_longestFrom 87 = .ok (.invokevirtual 379, 3) := dk_182 1 123 (dk_at dksX6_longestFrom_3 17 rfl rfl)
theorem dX6_longestFrom_90 : decode cX6_longestFrom 90 = .ok (.istore 5, 2) := dk_54 5 (dk_at dksX6_longestFrom_3 20 rfl rfl)
theorem dX6_longestFrom_92 : decode cX6_longestFrom 92 = .ok (.goto (-47), 3) := dk_167 255 209 (dk_at dksX6_longestFrom_4 0 rfl rfl)
theorem dX6_longestFrom_95 : decode cX6_longestFrom 95 = .ok (.aload_n 0, 1) := dk_42 (dk_at dksX6_longestFrom_4 3 rfl rfl)
theorem dX6_longestFrom_96 : decode cX6_longestFrom 96 = .ok (.getfield 80, 3) := dk_180 0 80 (dk_at dksX6_longestFrom_4 4 rfl rfl)
theorem dX6_longestFrom_99 : decode cX6_longestFrom 99 = .ok (.iload_n 3, 1) := dk_29 (dk_at dksX6_longestFrom_4 7 rfl rfl)
theorem dX6_longestFrom_100 : decode cX6_longestFrom 100 = .ok (.iload 4, 2) := dk_21 4 (dk_at dksX6_longestFrom_4 8 rfl rfl)
theorem dX6_longestFrom_102 : decode cX6_longestFrom 102 = .ok (.i2b, 1) := dk_145 (dk_at dksX6_longestFrom_4 10 rfl rfl)
theorem dX6_longestFrom_103 : decode cX6_longestFrom 103 = .ok (.bastore, 1) := dk_84 (dk_at dksX6_longestFrom_4 11 rfl rfl)
theorem dX6_longestFrom_104 : decode cX6_longestFrom 104 = .ok (.iload 4, 2) := dk_21 4 (dk_at dksX6_longestFrom_4 12 rfl rfl)
theorem dX6_longestFrom_106 : decode cX6_longestFrom 106 = .ok (.ireturn, 1) := dk_172 (dk_at dksX6_longestFrom_4 14 rfl rfl)
abbrev cX6_crewIn : ByteArray := prog_29_method_94_code
def yX6_crewIn : MethodName := ⟨RX6, "crewIn", "(III)I"⟩
def dkwX6_crewIn_1 : List UInt8 := [29, 21, 4, 184, 1, 75, 182, 1, 120, 172]
abbrev dktX6_crewIn_1 : List UInt8 := dkwX6_crewIn_1 ++ []
def dkwX6_crewIn_0 : List UInt8 := [42, 42, 180, 0, 24, 16, 33, 46, 27, 96, 182, 1, 36, 54, 4, 42, 27, 28, 21, 4, 182, 1, 117, 42]
abbrev dktX6_crewIn_0 : List UInt8 := dkwX6_crewIn_0 ++ dktX6_crewIn_1
theorem dksX6_crewIn_0 : cX6_crewIn.data.toList.drop 0 = dktX6_crewIn_0 := by decide +kernel
theorem dksX6_crewIn_1 : cX6_crewIn.data.toList.drop 24 = dktX6_crewIn_1 := dk_seg dksX6_crewIn_0 24 rfl rfl
theorem dX6_crewIn_0 : decode cX6_crewIn 0 = .ok (.aload_n 0, 1) := dk_42 (dk_at dksX6_crewIn_0 0 rfl rfl)
theorem dX6_crewIn_1 : decode cX6_crewIn 1 = .ok (.aload_n 0, 1) := dk_42 (dk_at dksX6_crewIn_0 1 rfl rfl)
theorem dX6_crewIn_2 : decode cX6_crewIn 2 = .ok (.getfield 24, 3) := dk_180 0 24 (dk_at dksX6_crewIn_0 2 rfl rfl)
theorem dX6_crewIn_5 : decode cX6_crewIn 5 = .ok (.bipush 33, 2) := dk_16 33 (dk_at dksX6_crewIn_0 5 rfl rfl)
theorem dX6_crewIn_7 : decode cX6_crewIn 7 = .ok (.iaload, 1) := dk_46 (dk_at dksX6_crewIn_0 7 rfl rfl)
theorem dX6_crewIn_8 : decode cX6_crewIn 8 = .ok (.iload_n 1, 1) := dk_27 (dk_at dksX6_crewIn_0 8 rfl rfl)
theorem dX6_crewIn_9 : decode cX6_crewIn 9 = .ok (.iadd, 1) := dk_96 (dk_at dksX6_crewIn_0 9 rfl rfl)
theorem dX6_crewIn_10 : decode cX6_crewIn 10 = .ok (.invokevirtual 292, 3) := dk_182 1 36 (dk_at dksX6_crewIn_0 10 rfl rfl)
theorem dX6_crewIn_13 : decode cX6_crewIn 13 = .ok (.istore 4, 2) := dk_54 4 (dk_at dksX6_crewIn_0 13 rfl rfl)
theorem dX6_crewIn_15 : decode cX6_crewIn 15 = .ok (.aload_n 0, 1) := dk_42 (dk_at dksX6_crewIn_0 15 rfl rfl)
theorem dX6_crewIn_16 : decode cX6_crewIn 16 = .ok (.iload_n 1, 1) := dk_27 (dk_at dksX6_crewIn_0 16 rfl rfl)
theorem dX6_crewIn_17 : decode cX6_crewIn 17 = .ok (.iload_n 2, 1) := dk_28 (dk_at dksX6_crewIn_0 17 rfl rfl)
theorem dX6_crewIn_18 : decode cX6_crewIn 18 = .ok (.iload 4, 2) := dk_21 4 (dk_at dksX6_crewIn_0 18 rfl rfl)
theorem dX6_crewIn_20 : decode cX6_crewIn 20 = .ok (.invokevirtual 373, 3) := dk_182 1 117 (dk_at dksX6_crewIn_0 20 rfl rfl)
theorem dX6_crewIn_23 : decode cX6_crewIn 23 = .ok (.aload_n 0, 1) := dk_42 (dk_at dksX6_crewIn_0 23 rfl rfl)
theorem dX6_crewIn_24 : decode cX6_crewIn 24 = .ok (.iload_n 3, 1) := dk_29 (dk_at dksX6_crewIn_1 0 rfl rfl)
theorem dX6_crewIn_25 : decode cX6_crewIn 25 = .ok (.iload 4, 2) := dk_21 4 (dk_at dksX6_crewIn_1 1 rfl rfl)
theorem dX6_crewIn_27 : decode cX6_crewIn 27 = .ok (.invokestatic 331, 3) := dk_184 1 75 (dk_at dksX6_crewIn_1 3 rfl rfl)
theorem dX6_crewIn_30 : decode cX6_crewIn 30 = .ok (.invokevirtual 376, 3) := dk_182 1 120 (dk_at dksX6_crewIn_1 6 rfl rfl)
theorem dX6_crewIn_33 : decode cX6_crewIn 33 = .ok (.ireturn, 1) := dk_172 (dk_at dksX6_crewIn_1 9 rfl rfl)
abbrev cX6_laysWorths : ByteArray := prog_29_method_91_code
def yX6_laysWorths : MethodName := ⟨RX6, "laysWorths", "(III)V"⟩
def dkwX6_laysWorths_4 : List UInt8 := [42, 180, 0, 77, 21, 4, 5, 21, 5, 100, 79, 132, 4, 1, 167, 255, 149, 177]
abbrev dktX6_laysWorths_4 : List UInt8 := dkwX6_laysWorths_4 ++ []
def dkwX6_laysWorths_3 : List UInt8 := [182, 1, 108, 54, 5, 21, 5, 5, 162, 0, 27, 42, 21, 4, 27, 21, 5, 29, 182, 1, 111, 154, 0, 14]
abbrev dktX6_laysWorths_3 : List UInt8 := dkwX6_laysWorths_3 ++ dktX6_laysWorths_4
def dkwX6_laysWorths_2 : List UInt8 := [27, 163, 0, 58, 42, 180, 0, 24, 3, 21, 4, 96, 46, 6, 160, 0, 6, 167, 0, 42, 42, 21, 4, 28]
abbrev dktX6_laysWorths_2 : List UInt8 := dkwX6_laysWorths_2 ++ dktX6_laysWorths_3
def dkwX6_laysWorths_1 : List UInt8 := [153, 0, 83, 28, 42, 180, 1, 99, 128, 21, 4, 184, 1, 69, 154, 0, 69, 42, 180, 0, 68, 21, 4, 46]
abbrev dktX6_laysWorths_1 : List UInt8 := dkwX6_laysWorths_1 ++ dktX6_laysWorths_2
def dkwX6_laysWorths_0 : List UInt8 := [3, 54, 4, 21, 4, 16, 10, 162, 0, 106, 42, 180, 0, 77, 21, 4, 3, 79, 42, 21, 4, 182, 0, 128]
abbrev dktX6_laysWorths_0 : List UInt8 := dkwX6_laysWorths_0 ++ dktX6_laysWorths_1
theorem dksX6_laysWorths_0 : cX6_laysWorths.data.toList.drop 0 = dktX6_laysWorths_0 := by decide +kernel
theorem dksX6_laysWorths_1 : cX6_laysWorths.data.toList.drop 24 = dktX6_laysWorths_1 := dk_seg dksX6_laysWorths_0 24 rfl rfl
theorem dksX6_laysWorths_2 : cX6_laysWorths.data.toList.drop 48 = dktX6_laysWorths_2 := dk_seg dksX6_laysWorths_1 24 rfl rfl
theorem dksX6_laysWorths_3 : cX6_laysWorths.data.toList.drop 72 = dktX6_laysWorths_3 := dk_seg dksX6_laysWorths_2 24 rfl rfl
theorem dksX6_laysWorths_4 : cX6_laysWorths.data.toList.drop 96 = dktX6_laysWorths_4 := dk_seg dksX6_laysWorths_3 24 rfl rfl
theorem dX6_laysWorths_0 : decode cX6_laysWorths 0 = .ok (.iconst 0, 1) := dk_3 (dk_at dksX6_laysWorths_0 0 rfl rfl)
theorem dX6_laysWorths_1 : decode cX6_laysWorths 1 = .ok (.istore 4, 2) := dk_54 4 (dk_at dksX6_laysWorths_0 1 rfl rfl)
theorem dX6_laysWorths_3 : decode cX6_laysWorths 3 = .ok (.iload 4, 2) := dk_21 4 (dk_at dksX6_laysWorths_0 3 rfl rfl)
theorem dX6_laysWorths_5 : decode cX6_laysWorths 5 = .ok (.bipush 10, 2) := dk_16 10 (dk_at dksX6_laysWorths_0 5 rfl rfl)
theorem dX6_laysWorths_7 : decode cX6_laysWorths 7 = .ok (.if_icmp .ge 106, 3) := dk_162 0 106 (dk_at dksX6_laysWorths_0 7 rfl rfl)
theorem dX6_laysWorths_10 : decode cX6_laysWorths 10 = .ok (.aload_n 0, 1) := dk_42 (dk_at dksX6_laysWorths_0 10 rfl rfl)
theorem dX6_laysWorths_11 : decode cX6_laysWorths 11 = .ok (.getfield 77, 3) := dk_180 0 77 (dk_at dksX6_laysWorths_0 11 rfl rfl)
theorem dX6_laysWorths_14 : decode cX6_laysWorths 14 = .ok (.iload 4, 2) := dk_21 4 (dk_at dksX6_laysWorths_0 14 rfl rfl)
theorem dX6_laysWorths_16 : decode cX6_laysWorths 16 = .ok (.iconst 0, 1) := dk_3 (dk_at dksX6_laysWorths_0 16 rfl rfl)
theorem dX6_laysWorths_17 : decode cX6_laysWorths 17 = .ok (.iastore, 1) := dk_79 (dk_at dksX6_laysWorths_0 17 rfl rfl)
theorem dX6_laysWorths_18 : decode cX6_laysWorths 18 = .ok (.aload_n 0, 1) := dk_42 (dk_at dksX6_laysWorths_0 18 rfl rfl)
theorem dX6_laysWorths_19 : decode cX6_laysWorths 19 = .ok (.iload 4, 2) := dk_21 4 (dk_at dksX6_laysWorths_0 19 rfl rfl)
theorem dX6_laysWorths_21 : decode cX6_laysWorths 21 = .ok (.invokevirtual 128, 3) := dk_182 0 128 (dk_at dksX6_laysWorths_0 21 rfl rfl)
theorem dX6_laysWorths_24 : decode cX6_laysWorths 24 = .ok (.ifCond .eq 83, 3) := dk_153 0 83 (dk_at dksX6_laysWorths_1 0 rfl rfl)
theorem dX6_laysWorths_27 : decode cX6_laysWorths 27 = .ok (.iload_n 2, 1) := dk_28 (dk_at dksX6_laysWorths_1 3 rfl rfl)
theorem dX6_laysWorths_28 : decode cX6_laysWorths 28 = .ok (.aload_n 0, 1) := dk_42 (dk_at dksX6_laysWorths_1 4 rfl rfl)
theorem dX6_laysWorths_29 : decode cX6_laysWorths 29 = .ok (.getfield 355, 3) := dk_180 1 99 (dk_at dksX6_laysWorths_1 5 rfl rfl)
theorem dX6_laysWorths_32 : decode cX6_laysWorths 32 = .ok (.ior, 1) := dk_128 (dk_at dksX6_laysWorths_1 8 rfl rfl)
theorem dX6_laysWorths_33 : decode cX6_laysWorths 33 = .ok (.iload 4, 2) := dk_21 4 (dk_at dksX6_laysWorths_1 9 rfl rfl)
theorem dX6_laysWorths_35 : decode cX6_laysWorths 35 = .ok (.invokestatic 325, 3) := dk_184 1 69 (dk_at dksX6_laysWorths_1 11 rfl rfl)
theorem dX6_laysWorths_38 : decode cX6_laysWorths 38 = .ok (.ifCond .ne 69, 3) := dk_154 0 69 (dk_at dksX6_laysWorths_1 14 rfl rfl)
theorem dX6_laysWorths_41 : decode cX6_laysWorths 41 = .ok (.aload_n 0, 1) := dk_42 (dk_at dksX6_laysWorths_1 17 rfl rfl)
theorem dX6_laysWorths_42 : decode cX6_laysWorths 42 = .ok (.getfield 68, 3) := dk_180 0 68 (dk_at dksX6_laysWorths_1 18 rfl rfl)
theorem dX6_laysWorths_45 : decode cX6_laysWorths 45 = .ok (.iload 4, 2) := dk_21 4 (dk_at dksX6_laysWorths_1 21 rfl rfl)
theorem dX6_laysWorths_47 : decode cX6_laysWorths 47 = .ok (.iaload, 1) := dk_46 (dk_at dksX6_laysWorths_1 23 rfl rfl)
theorem dX6_laysWorths_48 : decode cX6_laysWorths 48 = .ok (.iload_n 1, 1) := dk_27 (dk_at dksX6_laysWorths_2 0 rfl rfl)
theorem dX6_laysWorths_49 : decode cX6_laysWorths 49 = .ok (.if_icmp .gt 58, 3) := dk_163 0 58 (dk_at dksX6_laysWorths_2 1 rfl rfl)
theorem dX6_laysWorths_52 : decode cX6_laysWorths 52 = .ok (.aload_n 0, 1) := dk_42 (dk_at dksX6_laysWorths_2 4 rfl rfl)
theorem dX6_laysWorths_53 : decode cX6_laysWorths 53 = .ok (.getfield 24, 3) := dk_180 0 24 (dk_at dksX6_laysWorths_2 5 rfl rfl)
theorem dX6_laysWorths_56 : decode cX6_laysWorths 56 = .ok (.iconst 0, 1) := dk_3 (dk_at dksX6_laysWorths_2 8 rfl rfl)
theorem dX6_laysWorths_57 : decode cX6_laysWorths 57 = .ok (.iload 4, 2) := dk_21 4 (dk_at dksX6_laysWorths_2 9 rfl rfl)
theorem dX6_laysWorths_59 : decode cX6_laysWorths 59 = .ok (.iadd, 1) := dk_96 (dk_at dksX6_laysWorths_2 11 rfl rfl)
theorem dX6_laysWorths_60 : decode cX6_laysWorths 60 = .ok (.iaload, 1) := dk_46 (dk_at dksX6_laysWorths_2 12 rfl rfl)
theorem dX6_laysWorths_61 : decode cX6_laysWorths 61 = .ok (.iconst 3, 1) := dk_6 (dk_at dksX6_laysWorths_2 13 rfl rfl)
theorem dX6_laysWorths_62 : decode cX6_laysWorths 62 = .ok (.if_icmp .ne 6, 3) := dk_160 0 6 (dk_at dksX6_laysWorths_2 14 rfl rfl)
theorem dX6_laysWorths_65 : decode cX6_laysWorths 65 = .ok (.goto 42, 3) := dk_167 0 42 (dk_at dksX6_laysWorths_2 17 rfl rfl)
theorem dX6_laysWorths_68 : decode cX6_laysWorths 68 = .ok (.aload_n 0, 1) := dk_42 (dk_at dksX6_laysWorths_2 20 rfl rfl)
theorem dX6_laysWorths_69 : decode cX6_laysWorths 69 = .ok (.iload 4, 2) := dk_21 4 (dk_at dksX6_laysWorths_2 21 rfl rfl)
theorem dX6_laysWorths_71 : decode cX6_laysWorths 71 = .ok (.iload_n 2, 1) := dk_28 (dk_at dksX6_laysWorths_2 23 rfl rfl)
theorem dX6_laysWorths_72 : decode cX6_laysWorths 72 = .ok (.invokevirtual 364, 3) := dk_182 1 108 (dk_at dksX6_laysWorths_3 0 rfl rfl)
theorem dX6_laysWorths_75 : decode cX6_laysWorths 75 = .ok (.istore 5, 2) := dk_54 5 (dk_at dksX6_laysWorths_3 3 rfl rfl)
theorem dX6_laysWorths_77 : decode cX6_laysWorths 77 = .ok (.iload 5, 2) := dk_21 5 (dk_at dksX6_laysWorths_3 5 rfl rfl)
theorem dX6_laysWorths_79 : decode cX6_laysWorths 79 = .ok (.iconst 2, 1) := dk_5 (dk_at dksX6_laysWorths_3 7 rfl rfl)
theorem dX6_laysWorths_80 : decode cX6_laysWorths 80 = .ok (.if_icmp .ge 27, 3) := dk_162 0 27 (dk_at dksX6_laysWorths_3 8 rfl rfl)
theorem dX6_laysWorths_83 : decode cX6_laysWorths 83 = .ok (.aload_n 0, 1) := dk_42 (dk_at dksX6_laysWorths_3 11 rfl rfl)
theorem dX6_laysWorths_84 : decode cX6_laysWorths 84 = .ok (.iload 4, 2) := dk_21 4 (dk_at dksX6_laysWorths_3 12 rfl rfl)
theorem dX6_laysWorths_86 : decode cX6_laysWorths 86 = .ok (.iload_n 1, 1) := dk_27 (dk_at dksX6_laysWorths_3 14 rfl rfl)
theorem dX6_laysWorths_87 : decode cX6_laysWorths 87 = .ok (.iload 5, 2) := dk_21 5 (dk_at dksX6_laysWorths_3 15 rfl rfl)
theorem dX6_laysWorths_89 : decode cX6_laysWorths 89 = .ok (.iload_n 3, 1) := dk_29 (dk_at dksX6_laysWorths_3 17 rfl rfl)
theorem dX6_laysWorths_90 : decode cX6_laysWorths 90 = .ok (.invokevirtual 367, 3) := dk_182 1 111 (dk_at dksX6_laysWorths_3 18 rfl rfl)
theorem dX6_laysWorths_93 : decode cX6_laysWorths 93 = .ok (.ifCond .ne 14, 3) := dk_154 0 14 (dk_at dksX6_laysWorths_3 21 rfl rfl)
theorem dX6_laysWorths_96 : decode cX6_laysWorths 96 = .ok (.aload_n 0, 1) := dk_42 (dk_at dksX6_laysWorths_4 0 rfl rfl)
theorem dX6_laysWorths_97 : decode cX6_laysWorths 97 = .ok (.getfield 77, 3) := dk_180 0 77 (dk_at dksX6_laysWorths_4 1 rfl rfl)
theorem dX6_laysWorths_100 : decode cX6_laysWorths 100 = .ok (.iload 4, 2) := dk_21 4 (dk_at dksX6_laysWorths_4 4 rfl rfl)
theorem dX6_laysWorths_102 : decode cX6_laysWorths 102 = .ok (.iconst 2, 1) := dk_5 (dk_at dksX6_laysWorths_4 6 rfl rfl)
theorem dX6_laysWorths_103 : decode cX6_laysWorths 103 = .ok (.iload 5, 2) := dk_21 5 (dk_at dksX6_laysWorths_4 7 rfl rfl)
theorem dX6_laysWorths_105 : decode cX6_laysWorths 105 = .ok (.isub, 1) := dk_100 (dk_at dksX6_laysWorths_4 9 rfl rfl)
theorem dX6_laysWorths_106 : decode cX6_laysWorths 106 = .ok (.iastore, 1) := dk_79 (dk_at dksX6_laysWorths_4 10 rfl rfl)
theorem dX6_laysWorths_107 : decode cX6_laysWorths 107 = .ok (.iinc 4 1, 3) := dk_132 4 1 (dk_at dksX6_laysWorths_4 11 rfl rfl)
theorem dX6_laysWorths_110 : decode cX6_laysWorths 110 = .ok (.goto (-107), 3) := dk_167 255 149 (dk_at dksX6_laysWorths_4 14 rfl rfl)
theorem dX6_laysWorths_113 : decode cX6_laysWorths 113 = .ok (.return_, 1) := dk_177 (dk_at dksX6_laysWorths_4 17 rfl rfl)
abbrev cX6_heardBy : ByteArray := prog_29_method_89_code
def yX6_heardBy : MethodName := ⟨RX6, "heardBy", "(II)I"⟩
def dkwX6_heardBy_3 : List UInt8 := [96, 62, 132, 4, 1, 167, 255, 192, 5, 29, 184, 1, 81, 172]
abbrev dktX6_heardBy_3 : List UInt8 := dkwX6_heardBy_3 ++ []
def dkwX6_heardBy_2 : List UInt8 := [180, 1, 102, 21, 4, 184, 1, 69, 154, 0, 18, 29, 42, 180, 0, 71, 16, 10, 21, 4, 104, 27, 96, 46]
abbrev dktX6_heardBy_2 : List UInt8 := dkwX6_heardBy_2 ++ dktX6_heardBy_3
def dkwX6_heardBy_1 : List UInt8 := [162, 0, 56, 42, 180, 1, 102, 27, 184, 1, 69, 154, 0, 45, 28, 21, 4, 184, 1, 69, 153, 0, 30, 42]
abbrev dktX6_heardBy_1 : List UInt8 := dkwX6_heardBy_1 ++ dktX6_heardBy_2
def dkwX6_heardBy_0 : List UInt8 := [42, 180, 0, 24, 16, 20, 27, 96, 46, 62, 3, 54, 4, 21, 4, 42, 182, 0, 116, 162, 0, 61, 29, 5]
abbrev dktX6_heardBy_0 : List UInt8 := dkwX6_heardBy_0 ++ dktX6_heardBy_1
theorem dksX6_heardBy_0 : cX6_heardBy.data.toList.drop 0 = dktX6_heardBy_0 := by decide +kernel
theorem dksX6_heardBy_1 : cX6_heardBy.data.toList.drop 24 = dktX6_heardBy_1 := dk_seg dksX6_heardBy_0 24 rfl rfl
theorem dksX6_heardBy_2 : cX6_heardBy.data.toList.drop 48 = dktX6_heardBy_2 := dk_seg dksX6_heardBy_1 24 rfl rfl
theorem dksX6_heardBy_3 : cX6_heardBy.data.toList.drop 72 = dktX6_heardBy_3 := dk_seg dksX6_heardBy_2 24 rfl rfl
theorem dX6_heardBy_0 : decode cX6_heardBy 0 = .ok (.aload_n 0, 1) := dk_42 (dk_at dksX6_heardBy_0 0 rfl rfl)
theorem dX6_heardBy_1 : decode cX6_heardBy 1 = .ok (.getfield 24, 3) := dk_180 0 24 (dk_at dksX6_heardBy_0 1 rfl rfl)
theorem dX6_heardBy_4 : decode cX6_heardBy 4 = .ok (.bipush 20, 2) := dk_16 20 (dk_at dksX6_heardBy_0 4 rfl rfl)
theorem dX6_heardBy_6 : decode cX6_heardBy 6 = .ok (.iload_n 1, 1) := dk_27 (dk_at dksX6_heardBy_0 6 rfl rfl)
theorem dX6_heardBy_7 : decode cX6_heardBy 7 = .ok (.iadd, 1) := dk_96 (dk_at dksX6_heardBy_0 7 rfl rfl)
theorem dX6_heardBy_8 : decode cX6_heardBy 8 = .ok (.iaload, 1) := dk_46 (dk_at dksX6_heardBy_0 8 rfl rfl)
theorem dX6_heardBy_9 : decode cX6_heardBy 9 = .ok (.istore_n 3, 1) := dk_62 (dk_at dksX6_heardBy_0 9 rfl rfl)
theorem dX6_heardBy_10 : decode cX6_heardBy 10 = .ok (.iconst 0, 1) := dk_3 (dk_at dksX6_heardBy_0 10 rfl rfl)
theorem dX6_heardBy_11 : decode cX6_heardBy 11 = .ok (.istore 4, 2) := dk_54 4 (dk_at dksX6_heardBy_0 11 rfl rfl)
theorem dX6_heardBy_13 : decode cX6_heardBy 13 = .ok (.iload 4, 2) := dk_21 4 (dk_at dksX6_heardBy_0 13 rfl rfl)
theorem dX6_heardBy_15 : decode cX6_heardBy 15 = .ok (.aload_n 0, 1) := dk_42 (dk_at dksX6_heardBy_0 15 rfl rfl)
theorem dX6_heardBy_16 : decode cX6_heardBy 16 = .ok (.invokevirtual 116, 3) := dk_182 0 116 (dk_at dksX6_heardBy_0 16 rfl rfl)
theorem dX6_heardBy_19 : decode cX6_heardBy 19 = .ok (.if_icmp .ge 61, 3) := dk_162 0 61 (dk_at dksX6_heardBy_0 19 rfl rfl)
theorem dX6_heardBy_22 : decode cX6_heardBy 22 = .ok (.iload_n 3, 1) := dk_29 (dk_at dksX6_heardBy_0 22 rfl rfl)
theorem dX6_heardBy_23 : decode cX6_heardBy 23 = .ok (.iconst 2, 1) := dk_5 (dk_at dksX6_heardBy_0 23 rfl rfl)
theorem dX6_heardBy_24 : decode cX6_heardBy 24 = .ok (.if_icmp .ge 56, 3) := dk_162 0 56 (dk_at dksX6_heardBy_1 0 rfl rfl)
theorem dX6_heardBy_27 : decode cX6_heardBy 27 = .ok (.aload_n 0, 1) := dk_42 (dk_at dksX6_heardBy_1 3 rfl rfl)
theorem dX6_heardBy_28 : decode cX6_heardBy 28 = .ok (.getfield 358, 3) := dk_180 1 102 (dk_at dksX6_heardBy_1 4 rfl rfl)
theorem dX6_heardBy_31 : decode cX6_heardBy 31 = .ok (.iload_n 1, 1) := dk_27 (dk_at dksX6_heardBy_1 7 rfl rfl)
theorem dX6_heardBy_32 : decode cX6_heardBy 32 = .ok (.invokestatic 325, 3) := dk_184 1 69 (dk_at dksX6_heardBy_1 8 rfl rfl)
theorem dX6_heardBy_35 : decode cX6_heardBy 35 = .ok (.ifCond .ne 45, 3) := dk_154 0 45 (dk_at dksX6_heardBy_1 11 rfl rfl)
theorem dX6_heardBy_38 : decode cX6_heardBy 38 = .ok (.iload_n 2, 1) := dk_28 (dk_at dksX6_heardBy_1 14 rfl rfl)
theorem dX6_heardBy_39 : decode cX6_heardBy 39 = .ok (.iload 4, 2) := dk_21 4 (dk_at dksX6_heardBy_1 15 rfl rfl)
theorem dX6_heardBy_41 : decode cX6_heardBy 41 = .ok (.invokestatic 325, 3) := dk_184 1 69 (dk_at dksX6_heardBy_1 17 rfl rfl)
theorem dX6_heardBy_44 : decode cX6_heardBy 44 = .ok (.ifCond .eq 30, 3) := dk_153 0 30 (dk_at dksX6_heardBy_1 20 rfl rfl)
theorem dX6_heardBy_47 : decode cX6_heardBy 47 = .ok (.aload_n 0, 1) := dk_42 (dk_at dksX6_heardBy_1 23 rfl rfl)
theorem dX6_heardBy_48 : decode cX6_heardBy 48 = .ok (.getfield 358, 3) := dk_180 1 102 (dk_at dksX6_heardBy_2 0 rfl rfl)
theorem dX6_heardBy_51 : decode cX6_heardBy 51 = .ok (.iload 4, 2) := dk_21 4 (dk_at dksX6_heardBy_2 3 rfl rfl)
theorem dX6_heardBy_53 : decode cX6_heardBy 53 = .ok (.invokestatic 325, 3) := dk_184 1 69 (dk_at dksX6_heardBy_2 5 rfl rfl)
theorem dX6_heardBy_56 : decode cX6_heardBy 56 = .ok (.ifCond .ne 18, 3) := dk_154 0 18 (dk_at dksX6_heardBy_2 8 rfl rfl)
theorem dX6_heardBy_59 : decode cX6_heardBy 59 = .ok (.iload_n 3, 1) := dk_29 (dk_at dksX6_heardBy_2 11 rfl rfl)
theorem dX6_heardBy_60 : decode cX6_heardBy 60 = .ok (.aload_n 0, 1) := dk_42 (dk_at dksX6_heardBy_2 12 rfl rfl)
theorem dX6_heardBy_61 : decode cX6_heardBy 61 = .ok (.getfield 71, 3) := dk_180 0 71 (dk_at dksX6_heardBy_2 13 rfl rfl)
theorem dX6_heardBy_64 : decode cX6_heardBy 64 = .ok (.bipush 10, 2) := dk_16 10 (dk_at dksX6_heardBy_2 16 rfl rfl)
theorem dX6_heardBy_66 : decode cX6_heardBy 66 = .ok (.iload 4, 2) := dk_21 4 (dk_at dksX6_heardBy_2 18 rfl rfl)
theorem dX6_heardBy_68 : decode cX6_heardBy 68 = .ok (.imul, 1) := dk_104 (dk_at dksX6_heardBy_2 20 rfl rfl)
theorem dX6_heardBy_69 : decode cX6_heardBy 69 = .ok (.iload_n 1, 1) := dk_27 (dk_at dksX6_heardBy_2 21 rfl rfl)
theorem dX6_heardBy_70 : decode cX6_heardBy 70 = .ok (.iadd, 1) := dk_96 (dk_at dksX6_heardBy_2 22 rfl rfl)
theorem dX6_heardBy_71 : decode cX6_heardBy 71 = .ok (.iaload, 1) := dk_46 (dk_at dksX6_heardBy_2 23 rfl rfl)
theorem dX6_heardBy_72 : decode cX6_heardBy 72 = .ok (.iadd, 1) := dk_96 (dk_at dksX6_heardBy_3 0 rfl rfl)
theorem dX6_heardBy_73 : decode cX6_heardBy 73 = .ok (.istore_n 3, 1) := dk_62 (dk_at dksX6_heardBy_3 1 rfl rfl)
theorem dX6_heardBy_74 : decode cX6_heardBy 74 = .ok (.iinc 4 1, 3) := dk_132 4 1 (dk_at dksX6_heardBy_3 2 rfl rfl)
theorem dX6_heardBy_77 : decode cX6_heardBy 77 = .ok (.goto (-64), 3) := dk_167 255 192 (dk_at dksX6_heardBy_3 5 rfl rfl)
theorem dX6_heardBy_80 : decode cX6_heardBy 80 = .ok (.iconst 2, 1) := dk_5 (dk_at dksX6_heardBy_3 8 rfl rfl)
theorem dX6_heardBy_81 : decode cX6_heardBy 81 = .ok (.iload_n 3, 1) := dk_29 (dk_at dksX6_heardBy_3 9 rfl rfl)
theorem dX6_heardBy_82 : decode cX6_heardBy 82 = .ok (.invokestatic 337, 3) := dk_184 1 81 (dk_at dksX6_heardBy_3 10 rfl rfl)
theorem dX6_heardBy_85 : decode cX6_heardBy 85 = .ok (.ireturn, 1) := dk_172 (dk_at dksX6_heardBy_3 13 rfl rfl)
abbrev cX6_isBarredOn : ByteArray := prog_29_method_90_code
def yX6_isBarredOn : MethodName := ⟨RX6, "isBarredOn", "(IIII)Z"⟩
def dkwX6_isBarredOn_3 : List UInt8 := [167, 0, 4, 3, 172]
abbrev dktX6_isBarredOn_3 : List UInt8 := dkwX6_isBarredOn_3 ++ []
def dkwX6_isBarredOn_2 : List UInt8 := [153, 0, 7, 5, 167, 0, 4, 4, 145, 84, 42, 180, 0, 74, 21, 5, 51, 5, 160, 0, 7, 4]
abbrev dktX6_isBarredOn_2 : List UInt8 := dkwX6_isBarredOn_2 ++ dktX6_isBarredOn_3
def dkwX6_isBarredOn_1 : List UInt8 := [180, 0, 74, 21, 5, 42, 27, 29, 42, 180, 0, 24, 16, 33, 46, 28, 96, 21, 4, 182, 1, 59]
abbrev dktX6_isBarredOn_1 : List UInt8 := dkwX6_isBarredOn_1 ++ dktX6_isBarredOn_2
def dkwX6_isBarredOn_0 : List UInt8 := [27, 16, 11, 104, 28, 96, 6, 104, 29, 96, 54, 5, 42, 180, 0, 74, 21, 5, 51, 154, 0, 36, 42]
abbrev dktX6_isBarredOn_0 : List UInt8 := dkwX6_isBarredOn_0 ++ dktX6_isBarredOn_1
theorem dksX6_isBarredOn_0 : cX6_isBarredOn.data.toList.drop 0 = dktX6_isBarredOn_0 := by decide +kernel
theorem dksX6_isBarredOn_1 : cX6_isBarredOn.data.toList.drop 23 = dktX6_isBarredOn_1 := dk_seg dksX6_isBarredOn_0 23 rfl rfl
theorem dksX6_isBarredOn_2 : cX6_isBarredOn.data.toList.drop 45 = dktX6_isBarredOn_2 := dk_seg dksX6_isBarredOn_1 22 rfl rfl
theorem dksX6_isBarredOn_3 : cX6_isBarredOn.data.toList.drop 67 = dktX6_isBarredOn_3 := dk_seg dksX6_isBarredOn_2 22 rfl rfl
theorem dX6_isBarredOn_0 : decode cX6_isBarredOn 0 = .ok (.iload_n 1, 1) := dk_27 (dk_at dksX6_isBarredOn_0 0 rfl rfl)
theorem dX6_isBarredOn_1 : decode cX6_isBarredOn 1 = .ok (.bipush 11, 2) := dk_16 11 (dk_at dksX6_isBarredOn_0 1 rfl rfl)
theorem dX6_isBarredOn_3 : decode cX6_isBarredOn 3 = .ok (.imul, 1) := dk_104 (dk_at dksX6_isBarredOn_0 3 rfl rfl)
theorem dX6_isBarredOn_4 : decode cX6_isBarredOn 4 = .ok (.iload_n 2, 1) := dk_28 (dk_at dksX6_isBarredOn_0 4 rfl rfl)
theorem dX6_isBarredOn_5 : decode cX6_isBarredOn 5 = .ok (.iadd, 1) := dk_96 (dk_at dksX6_isBarredOn_0 5 rfl rfl)
theorem dX6_isBarredOn_6 : decode cX6_isBarredOn 6 = .ok (.iconst 3, 1) := dk_6 (dk_at dksX6_isBarredOn_0 6 rfl rfl)
theorem dX6_isBarredOn_7 : decode cX6_isBarredOn 7 = .ok (.imul, 1) := dk_104 (dk_at dksX6_isBarredOn_0 7 rfl rfl)
theorem dX6_isBarredOn_8 : decode cX6_isBarredOn 8 = .ok (.iload_n 3, 1) := dk_29 (dk_at dksX6_isBarredOn_0 8 rfl rfl)
theorem dX6_isBarredOn_9 : decode cX6_isBarredOn 9 = .ok (.iadd, 1) := dk_96 (dk_at dksX6_isBarredOn_0 9 rfl rfl)
theorem dX6_isBarredOn_10 : decode cX6_isBarredOn 10 = .ok (.istore 5, 2) := dk_54 5 (dk_at dksX6_isBarredOn_0 10 rfl rfl)
theorem dX6_isBarredOn_12 : decode cX6_isBarredOn 12 = .ok (.aload_n 0, 1) := dk_42 (dk_at dksX6_isBarredOn_0 12 rfl rfl)
theorem dX6_isBarredOn_13 : decode cX6_isBarredOn 13 = .ok (.getfield 74, 3) := dk_180 0 74 (dk_at dksX6_isBarredOn_0 13 rfl rfl)
theorem dX6_isBarredOn_16 : decode cX6_isBarredOn 16 = .ok (.iload 5, 2) := dk_21 5 (dk_at dksX6_isBarredOn_0 16 rfl rfl)
theorem dX6_isBarredOn_18 : decode cX6_isBarredOn 18 = .ok (.baload, 1) := dk_51 (dk_at dksX6_isBarredOn_0 18 rfl rfl)
theorem dX6_isBarredOn_19 : decode cX6_isBarredOn 19 = .ok (.ifCond .ne 36, 3) := dk_154 0 36 (dk_at dksX6_isBarredOn_0 19 rfl rfl)
theorem dX6_isBarredOn_22 : decode cX6_isBarredOn 22 = .ok (.aload_n 0, 1) := dk_42 (dk_at dksX6_isBarredOn_0 22 rfl rfl)
theorem dX6_isBarredOn_23 : decode cX6_isBarredOn 23 = .ok (.getfield 74, 3) := dk_180 0 74 (dk_at dksX6_isBarredOn_1 0 rfl rfl)
theorem dX6_isBarredOn_26 : decode cX6_isBarredOn 26 = .ok (.iload 5, 2) := dk_21 5 (dk_at dksX6_isBarredOn_1 3 rfl rfl)
theorem dX6_isBarredOn_28 : decode cX6_isBarredOn 28 = .ok (.aload_n 0, 1) := dk_42 (dk_at dksX6_isBarredOn_1 5 rfl rfl)
theorem dX6_isBarredOn_29 : decode cX6_isBarredOn 29 = .ok (.iload_n 1, 1) := dk_27 (dk_at dksX6_isBarredOn_1 6 rfl rfl)
theorem dX6_isBarredOn_30 : decode cX6_isBarredOn 30 = .ok (.iload_n 3, 1) := dk_29 (dk_at dksX6_isBarredOn_1 7 rfl rfl)
theorem dX6_isBarredOn_31 : decode cX6_isBarredOn 31 = .ok (.aload_n 0, 1) := dk_42 (dk_at dksX6_isBarredOn_1 8 rfl rfl)
theorem dX6_isBarredOn_32 : decode cX6_isBarredOn 32 = .ok (.getfield 24, 3) := dk_180 0 24 (dk_at dksX6_isBarredOn_1 9 rfl rfl)
theorem dX6_isBarredOn_35 : decode cX6_isBarredOn 35 = .ok (.bipush 33, 2) := dk_16 33 (dk_at dksX6_isBarredOn_1 12 rfl rfl)
theorem dX6_isBarredOn_37 : decode cX6_isBarredOn 37 = .ok (.iaload, 1) := dk_46 (dk_at dksX6_isBarredOn_1 14 rfl rfl)
theorem dX6_isBarredOn_38 : decode cX6_isBarredOn 38 = .ok (.iload_n 2, 1) := dk_28 (dk_at dksX6_isBarredOn_1 15 rfl rfl)
theorem dX6_isBarredOn_39 : decode cX6_isBarredOn 39 = .ok (.iadd, 1) := dk_96 (dk_at dksX6_isBarredOn_1 16 rfl rfl)
theorem dX6_isBarredOn_40 : decode cX6_isBarredOn 40 = .ok (.iload 4, 2) := dk_21 4 (dk_at dksX6_isBarredOn_1 17 rfl rfl)
theorem dX6_isBarredOn_42 : decode cX6_isBarredOn 42 = .ok (.invokevirtual 315, 3) := dk_182 1 59 (dk_at dksX6_isBarredOn_1 19 rfl rfl)
theorem dX6_isBarredOn_45 : decode cX6_isBarredOn 45 = .ok (.ifCond .eq 7, 3) := dk_153 0 7 (dk_at dksX6_isBarredOn_2 0 rfl rfl)
theorem dX6_isBarredOn_48 : decode cX6_isBarredOn 48 = .ok (.iconst 2, 1) := dk_5 (dk_at dksX6_isBarredOn_2 3 rfl rfl)
theorem dX6_isBarredOn_49 : decode cX6_isBarredOn 49 = .ok (.goto 4, 3) := dk_167 0 4 (dk_at dksX6_isBarredOn_2 4 rfl rfl)
theorem dX6_isBarredOn_52 : decode cX6_isBarredOn 52 = .ok (.iconst 1, 1) := dk_4 (dk_at dksX6_isBarredOn_2 7 rfl rfl)
theorem dX6_isBarredOn_53 : decode cX6_isBarredOn 53 = .ok (.i2b, 1) := dk_145 (dk_at dksX6_isBarredOn_2 8 rfl rfl)
theorem dX6_isBarredOn_54 : decode cX6_isBarredOn 54 = .ok (.bastore, 1) := dk_84 (dk_at dksX6_isBarredOn_2 9 rfl rfl)
theorem dX6_isBarredOn_55 : decode cX6_isBarredOn 55 = .ok (.aload_n 0, 1) := dk_42 (dk_at dksX6_isBarredOn_2 10 rfl rfl)
theorem dX6_isBarredOn_56 : decode cX6_isBarredOn 56 = .ok (.getfield 74, 3) := dk_180 0 74 (dk_at dksX6_isBarredOn_2 11 rfl rfl)
theorem dX6_isBarredOn_59 : decode cX6_isBarredOn 59 = .ok (.iload 5, 2) := dk_21 5 (dk_at dksX6_isBarredOn_2 14 rfl rfl)
theorem dX6_isBarredOn_61 : decode cX6_isBarredOn 61 = .ok (.baload, 1) := dk_51 (dk_at dksX6_isBarredOn_2 16 rfl rfl)
theorem dX6_isBarredOn_62 : decode cX6_isBarredOn 62 = .ok (.iconst 2, 1) := dk_5 (dk_at dksX6_isBarredOn_2 17 rfl rfl)
theorem dX6_isBarredOn_63 : decode cX6_isBarredOn 63 = .ok (.if_icmp .ne 7, 3) := dk_160 0 7 (dk_at dksX6_isBarredOn_2 18 rfl rfl)
theorem dX6_isBarredOn_66 : decode cX6_isBarredOn 66 = .ok (.iconst 1, 1) := dk_4 (dk_at dksX6_isBarredOn_2 21 rfl rfl)
theorem dX6_isBarredOn_67 : decode cX6_isBarredOn 67 = .ok (.goto 4, 3) := dk_167 0 4 (dk_at dksX6_isBarredOn_3 0 rfl rfl)
theorem dX6_isBarredOn_70 : decode cX6_isBarredOn 70 = .ok (.iconst 0, 1) := dk_3 (dk_at dksX6_isBarredOn_3 3 rfl rfl)
theorem dX6_isBarredOn_71 : decode cX6_isBarredOn 71 = .ok (.ireturn, 1) := dk_172 (dk_at dksX6_isBarredOn_3 4 rfl rfl)
abbrev cX6_crewBehind : ByteArray := prog_29_method_93_code
def yX6_crewBehind : MethodName := ⟨RX6, "crewBehind", "(II)I"⟩
def dkwX6_crewBehind_3 : List UInt8 := [172, 132, 4, 1, 167, 255, 225, 2, 172]
abbrev dktX6_crewBehind_3 : List UInt8 := dkwX6_crewBehind_3 ++ []
def dkwX6_crewBehind_2 : List UInt8 := [163, 0, 31, 21, 4, 29, 2, 130, 126, 154, 0, 16, 42, 21, 4, 28, 182, 1, 114, 153, 0, 6, 21, 4]
abbrev dktX6_crewBehind_2 : List UInt8 := dkwX6_crewBehind_2 ++ dktX6_crewBehind_3
def dkwX6_crewBehind_1 : List UInt8 := [21, 4, 120, 167, 0, 4, 3, 128, 62, 132, 4, 1, 167, 255, 225, 27, 4, 96, 54, 4, 21, 4, 29]
abbrev dktX6_crewBehind_1 : List UInt8 := dkwX6_crewBehind_1 ++ dktX6_crewBehind_2
def dkwX6_crewBehind_0 : List UInt8 := [3, 62, 3, 54, 4, 21, 4, 16, 10, 162, 0, 30, 29, 42, 180, 0, 77, 21, 4, 46, 158, 0, 10, 4]
abbrev dktX6_crewBehind_0 : List UInt8 := dkwX6_crewBehind_0 ++ dktX6_crewBehind_1
theorem dksX6_crewBehind_0 : cX6_crewBehind.data.toList.drop 0 = dktX6_crewBehind_0 := by decide +kernel
theorem dksX6_crewBehind_1 : cX6_crewBehind.data.toList.drop 24 = dktX6_crewBehind_1 := dk_seg dksX6_crewBehind_0 24 rfl rfl
theorem dksX6_crewBehind_2 : cX6_crewBehind.data.toList.drop 47 = dktX6_crewBehind_2 := dk_seg dksX6_crewBehind_1 23 rfl rfl
theorem dksX6_crewBehind_3 : cX6_crewBehind.data.toList.drop 71 = dktX6_crewBehind_3 := dk_seg dksX6_crewBehind_2 24 rfl rfl
theorem dX6_crewBehind_0 : decode cX6_crewBehind 0 = .ok (.iconst 0, 1) := dk_3 (dk_at dksX6_crewBehind_0 0 rfl rfl)
theorem dX6_crewBehind_1 : decode cX6_crewBehind 1 = .ok (.istore_n 3, 1) := dk_62 (dk_at dksX6_crewBehind_0 1 rfl rfl)
theorem dX6_crewBehind_2 : decode cX6_crewBehind 2 = .ok (.iconst 0, 1) := dk_3 (dk_at dksX6_crewBehind_0 2 rfl rfl)
theorem dX6_crewBehind_3 : decode cX6_crewBehind 3 = .ok (.istore 4, 2) := dk_54 4 (dk_at dksX6_crewBehind_0 3 rfl rfl)
theorem dX6_crewBehind_5 : decode cX6_crewBehind 5 = .ok (.iload 4, 2) := dk_21 4 (dk_at dksX6_crewBehind_0 5 rfl rfl)
theorem dX6_crewBehind_7 : decode cX6_crewBehind 7 = .ok (.bipush 10, 2) := dk_16 10 (dk_at dksX6_crewBehind_0 7 rfl rfl)
theorem dX6_crewBehind_9 : decode cX6_crewBehind 9 = .ok (.if_icmp .ge 30, 3) := dk_162 0 30 (dk_at dksX6_crewBehind_0 9 rfl rfl)
theorem dX6_crewBehind_12 : decode cX6_crewBehind 12 = .ok (.iload_n 3, 1) := dk_29 (dk_at dksX6_crewBehind_0 12 rfl rfl)
theorem dX6_crewBehind_13 : decode cX6_crewBehind 13 = .ok (.aload_n 0, 1) := dk_42 (dk_at dksX6_crewBehind_0 13 rfl rfl)
theorem dX6_crewBehind_14 : decode cX6_crewBehind 14 = .ok (.getfield 77, 3) := dk_180 0 77 (dk_at dksX6_crewBehind_0 14 rfl rfl)
theorem dX6_crewBehind_17 : decode cX6_crewBehind 17 = .ok (.iload 4, 2) := dk_21 4 (dk_at dksX6_crewBehind_0 17 rfl rfl)
theorem dX6_crewBehind_19 : decode cX6_crewBehind 19 = .ok (.iaload, 1) := dk_46 (dk_at dksX6_crewBehind_0 19 rfl rfl)
theorem dX6_crewBehind_20 : decode cX6_crewBehind 20 = .ok (.ifCond .le 10, 3) := dk_158 0 10 (dk_at dksX6_crewBehind_0 20 rfl rfl)
theorem dX6_crewBehind_23 : decode cX6_crewBehind 23 = .ok (.iconst 1, 1) := dk_4 (dk_at dksX6_crewBehind_0 23 rfl rfl)
theorem dX6_crewBehind_24 : decode cX6_crewBehind 24 = .ok (.iload 4, 2) := dk_21 4 (dk_at dksX6_crewBehind_1 0 rfl rfl)
theorem dX6_crewBehind_26 : decode cX6_crewBehind 26 = .ok (.ishl, 1) := dk_120 (dk_at dksX6_crewBehind_1 2 rfl rfl)
theorem dX6_crewBehind_27 : decode cX6_crewBehind 27 = .ok (.goto 4, 3) := dk_167 0 4 (dk_at dksX6_crewBehind_1 3 rfl rfl)
theorem dX6_crewBehind_30 : decode cX6_crewBehind 30 = .ok (.iconst 0, 1) := dk_3 (dk_at dksX6_crewBehind_1 6 rfl rfl)
theorem dX6_crewBehind_31 : decode cX6_crewBehind 31 = .ok (.ior, 1) := dk_128 (dk_at dksX6_crewBehind_1 7 rfl rfl)
theorem dX6_crewBehind_32 : decode cX6_crewBehind 32 = .ok (.istore_n 3, 1) := dk_62 (dk_at dksX6_crewBehind_1 8 rfl rfl)
theorem dX6_crewBehind_33 : decode cX6_crewBehind 33 = .ok (.iinc 4 1, 3) := dk_132 4 1 (dk_at dksX6_crewBehind_1 9 rfl rfl)
theorem dX6_crewBehind_36 : decode cX6_crewBehind 36 = .ok (.goto (-31), 3) := dk_167 255 225 (dk_at dksX6_crewBehind_1 12 rfl rfl)
theorem dX6_crewBehind_39 : decode cX6_crewBehind 39 = .ok (.iload_n 1, 1) := dk_27 (dk_at dksX6_crewBehind_1 15 rfl rfl)
theorem dX6_crewBehind_40 : decode cX6_crewBehind 40 = .ok (.iconst 1, 1) := dk_4 (dk_at dksX6_crewBehind_1 16 rfl rfl)
theorem dX6_crewBehind_41 : decode cX6_crewBehind 41 = .ok (.iadd, 1) := dk_96 (dk_at dksX6_crewBehind_1 17 rfl rfl)
theorem dX6_crewBehind_42 : decode cX6_crewBehind 42 = .ok (.istore 4, 2) := dk_54 4 (dk_at dksX6_crewBehind_1 18 rfl rfl)
theorem dX6_crewBehind_44 : decode cX6_crewBehind 44 = .ok (.iload 4, 2) := dk_21 4 (dk_at dksX6_crewBehind_1 20 rfl rfl)
theorem dX6_crewBehind_46 : decode cX6_crewBehind 46 = .ok (.iload_n 3, 1) := dk_29 (dk_at dksX6_crewBehind_1 22 rfl rfl)
theorem dX6_crewBehind_47 : decode cX6_crewBehind 47 = .ok (.if_icmp .gt 31, 3) := dk_163 0 31 (dk_at dksX6_crewBehind_2 0 rfl rfl)
theorem dX6_crewBehind_50 : decode cX6_crewBehind 50 = .ok (.iload 4, 2) := dk_21 4 (dk_at dksX6_crewBehind_2 3 rfl rfl)
theorem dX6_crewBehind_52 : decode cX6_crewBehind 52 = .ok (.iload_n 3, 1) := dk_29 (dk_at dksX6_crewBehind_2 5 rfl rfl)
theorem dX6_crewBehind_53 : decode cX6_crewBehind 53 = .ok (.iconst (-1), 1) := dk_2 (dk_at dksX6_crewBehind_2 6 rfl rfl)
theorem dX6_crewBehind_54 : decode cX6_crewBehind 54 = .ok (.ixor, 1) := dk_130 (dk_at dksX6_crewBehind_2 7 rfl rfl)
theorem dX6_crewBehind_55 : decode cX6_crewBehind 55 = .ok (.iand, 1) := dk_126 (dk_at dksX6_crewBehind_2 8 rfl rfl)
theorem dX6_crewBehind_56 : decode cX6_crewBehind 56 = .ok (.ifCond .ne 16, 3) := dk_154 0 16 (dk_at dksX6_crewBehind_2 9 rfl rfl)
theorem dX6_crewBehind_59 : decode cX6_crewBehind 59 = .ok (.aload_n 0, 1) := dk_42 (dk_at dksX6_crewBehind_2 12 rfl rfl)
theorem dX6_crewBehind_60 : decode cX6_crewBehind 60 = .ok (.iload 4, 2) := dk_21 4 (dk_at dksX6_crewBehind_2 13 rfl rfl)
theorem dX6_crewBehind_62 : decode cX6_crewBehind 62 = .ok (.iload_n 2, 1) := dk_28 (dk_at dksX6_crewBehind_2 15 rfl rfl)
theorem dX6_crewBehind_63 : decode cX6_crewBehind 63 = .ok (.invokevirtual 370, 3) := dk_182 1 114 (dk_at dksX6_crewBehind_2 16 rfl rfl)
theorem dX6_crewBehind_66 : decode cX6_crewBehind 66 = .ok (.ifCond .eq 6, 3) := dk_153 0 6 (dk_at dksX6_crewBehind_2 19 rfl rfl)
theorem dX6_crewBehind_69 : decode cX6_crewBehind 69 = .ok (.iload 4, 2) := dk_21 4 (dk_at dksX6_crewBehind_2 22 rfl rfl)
theorem dX6_crewBehind_71 : decode cX6_crewBehind 71 = .ok (.ireturn, 1) := dk_172 (dk_at dksX6_crewBehind_3 0 rfl rfl)
theorem dX6_crewBehind_72 : decode cX6_crewBehind 72 = .ok (.iinc 4 1, 3) := dk_132 4 1 (dk_at dksX6_crewBehind_3 1 rfl rfl)
theorem dX6_crewBehind_75 : decode cX6_crewBehind 75 = .ok (.goto (-31), 3) := dk_167 255 225 (dk_at dksX6_crewBehind_3 4 rfl rfl)
theorem dX6_crewBehind_78 : decode cX6_crewBehind 78 = .ok (.iconst (-1), 1) := dk_2 (dk_at dksX6_crewBehind_3 7 rfl rfl)
theorem dX6_crewBehind_79 : decode cX6_crewBehind 79 = .ok (.ireturn, 1) := dk_172 (dk_at dksX6_crewBehind_3 8 rfl rfl)
abbrev cX6_isCrew : ByteArray := prog_29_method_92_code
def yX6_isCrew : MethodName := ⟨RX6, "isCrew", "(II)Z"⟩
def dkwX6_isCrew_3 : List UInt8 := [167, 255, 198, 29, 28, 161, 0, 15, 29, 21, 4, 100, 28, 162, 0, 7, 4, 167, 0, 4, 3, 172]
abbrev dktX6_isCrew_3 : List UInt8 := dkwX6_isCrew_3 ++ []
def dkwX6_isCrew_2 : List UInt8 := [21, 5, 46, 96, 62, 21, 4, 42, 180, 0, 77, 21, 5, 46, 184, 1, 81, 54, 4, 132, 5, 1]
abbrev dktX6_isCrew_2 : List UInt8 := dkwX6_isCrew_2 ++ dktX6_isCrew_3
def dkwX6_isCrew_1 : List UInt8 := [154, 0, 6, 167, 0, 39, 42, 180, 0, 77, 21, 5, 46, 154, 0, 5, 3, 172, 29, 42, 180, 0, 77]
abbrev dktX6_isCrew_1 : List UInt8 := dkwX6_isCrew_1 ++ dktX6_isCrew_2
def dkwX6_isCrew_0 : List UInt8 := [3, 62, 18, 160, 54, 4, 3, 54, 5, 21, 5, 16, 10, 162, 0, 57, 27, 21, 5, 184, 1, 69]
abbrev dktX6_isCrew_0 : List UInt8 := dkwX6_isCrew_0 ++ dktX6_isCrew_1
theorem dksX6_isCrew_0 : cX6_isCrew.data.toList.drop 0 = dktX6_isCrew_0 := by decide +kernel
theorem dksX6_isCrew_1 : cX6_isCrew.data.toList.drop 22 = dktX6_isCrew_1 := dk_seg dksX6_isCrew_0 22 rfl rfl
theorem dksX6_isCrew_2 : cX6_isCrew.data.toList.drop 45 = dktX6_isCrew_2 := dk_seg dksX6_isCrew_1 23 rfl rfl
theorem dksX6_isCrew_3 : cX6_isCrew.data.toList.drop 67 = dktX6_isCrew_3 := dk_seg dksX6_isCrew_2 22 rfl rfl
theorem dX6_isCrew_0 : decode cX6_isCrew 0 = .ok (.iconst 0, 1) := dk_3 (dk_at dksX6_isCrew_0 0 rfl rfl)
theorem dX6_isCrew_1 : decode cX6_isCrew 1 = .ok (.istore_n 3, 1) := dk_62 (dk_at dksX6_isCrew_0 1 rfl rfl)
theorem dX6_isCrew_2 : decode cX6_isCrew 2 = .ok (.ldc 160, 2) := dk_18 160 (dk_at dksX6_isCrew_0 2 rfl rfl)
theorem dX6_isCrew_4 : decode cX6_isCrew 4 = .ok (.istore 4, 2) := dk_54 4 (dk_at dksX6_isCrew_0 4 rfl rfl)
theorem dX6_isCrew_6 : decode cX6_isCrew 6 = .ok (.iconst 0, 1) := dk_3 (dk_at dksX6_isCrew_0 6 rfl rfl)
theorem dX6_isCrew_7 : decode cX6_isCrew 7 = .ok (.istore 5, 2) := dk_54 5 (dk_at dksX6_isCrew_0 7 rfl rfl)
theorem dX6_isCrew_9 : decode cX6_isCrew 9 = .ok (.iload 5, 2) := dk_21 5 (dk_at dksX6_isCrew_0 9 rfl rfl)
theorem dX6_isCrew_11 : decode cX6_isCrew 11 = .ok (.bipush 10, 2) := dk_16 10 (dk_at dksX6_isCrew_0 11 rfl rfl)
theorem dX6_isCrew_13 : decode cX6_isCrew 13 = .ok (.if_icmp .ge 57, 3) := dk_162 0 57 (dk_at dksX6_isCrew_0 13 rfl rfl)
theorem dX6_isCrew_16 : decode cX6_isCrew 16 = .ok (.iload_n 1, 1) := dk_27 (dk_at dksX6_isCrew_0 16 rfl rfl)
theorem dX6_isCrew_17 : decode cX6_isCrew 17 = .ok (.iload 5, 2) := dk_21 5 (dk_at dksX6_isCrew_0 17 rfl rfl)
theorem dX6_isCrew_19 : decode cX6_isCrew 19 = .ok (.invokestatic 325, 3) := dk_184 1 69 (dk_at dksX6_isCrew_0 19 rfl rfl)
theorem dX6_isCrew_22 : decode cX6_isCrew 22 = .ok (.ifCond .ne 6, 3) := dk_154 0 6 (dk_at dksX6_isCrew_1 0 rfl rfl)
theorem dX6_isCrew_25 : decode cX6_isCrew 25 = .ok (.goto 39, 3) := dk_167 0 39 (dk_at dksX6_isCrew_1 3 rfl rfl)
theorem dX6_isCrew_28 : decode cX6_isCrew 28 = .ok (.aload_n 0, 1) := dk_42 (dk_at dksX6_isCrew_1 6 rfl rfl)
theorem dX6_isCrew_29 : decode cX6_isCrew 29 = .ok (.getfield 77, 3) := dk_180 0 77 (dk_at dksX6_isCrew_1 7 rfl rfl)
theorem dX6_isCrew_32 : decode cX6_isCrew 32 = .ok (.iload 5, 2) := dk_21 5 (dk_at dksX6_isCrew_1 10 rfl rfl)
theorem dX6_isCrew_34 : decode cX6_isCrew 34 = .ok (.iaload, 1) := dk_46 (dk_at dksX6_isCrew_1 12 rfl rfl)
theorem dX6_isCrew_35 : decode cX6_isCrew 35 = .ok (.ifCond .ne 5, 3) := dk_154 0 5 (dk_at dksX6_isCrew_1 13 rfl rfl)
theorem dX6_isCrew_38 : decode cX6_isCrew 38 = .ok (.iconst 0, 1) := dk_3 (dk_at dksX6_isCrew_1 16 rfl rfl)
theorem dX6_isCrew_39 : decode cX6_isCrew 39 = .ok (.ireturn, 1) := dk_172 (dk_at dksX6_isCrew_1 17 rfl rfl)
theorem dX6_isCrew_40 : decode cX6_isCrew 40 = .ok (.iload_n 3, 1) := dk_29 (dk_at dksX6_isCrew_1 18 rfl rfl)
theorem dX6_isCrew_41 : decode cX6_isCrew 41 = .ok (.aload_n 0, 1) := dk_42 (dk_at dksX6_isCrew_1 19 rfl rfl)
theorem dX6_isCrew_42 : decode cX6_isCrew 42 = .ok (.getfield 77, 3) := dk_180 0 77 (dk_at dksX6_isCrew_1 20 rfl rfl)
theorem dX6_isCrew_45 : decode cX6_isCrew 45 = .ok (.iload 5, 2) := dk_21 5 (dk_at dksX6_isCrew_2 0 rfl rfl)
theorem dX6_isCrew_47 : decode cX6_isCrew 47 = .ok (.iaload, 1) := dk_46 (dk_at dksX6_isCrew_2 2 rfl rfl)
theorem dX6_isCrew_48 : decode cX6_isCrew 48 = .ok (.iadd, 1) := dk_96 (dk_at dksX6_isCrew_2 3 rfl rfl)
theorem dX6_isCrew_49 : decode cX6_isCrew 49 = .ok (.istore_n 3, 1) := dk_62 (dk_at dksX6_isCrew_2 4 rfl rfl)
theorem dX6_isCrew_50 : decode cX6_isCrew 50 = .ok (.iload 4, 2) := dk_21 4 (dk_at dksX6_isCrew_2 5 rfl rfl)
theorem dX6_isCrew_52 : decode cX6_isCrew 52 = .ok (.aload_n 0, 1) := dk_42 (dk_at dksX6_isCrew_2 7 rfl rfl)
theorem dX6_isCrew_53 : decode cX6_isCrew 53 = .ok (.getfield 77, 3) := dk_180 0 77 (dk_at dksX6_isCrew_2 8 rfl rfl)
theorem dX6_isCrew_56 : decode cX6_isCrew 56 = .ok (.iload 5, 2) := dk_21 5 (dk_at dksX6_isCrew_2 11 rfl rfl)
theorem dX6_isCrew_58 : decode cX6_isCrew 58 = .ok (.iaload, 1) := dk_46 (dk_at dksX6_isCrew_2 13 rfl rfl)
theorem dX6_isCrew_59 : decode cX6_isCrew 59 = .ok (.invokestatic 337, 3) := dk_184 1 81 (dk_at dksX6_isCrew_2 14 rfl rfl)
theorem dX6_isCrew_62 : decode cX6_isCrew 62 = .ok (.istore 4, 2) := dk_54 4 (dk_at dksX6_isCrew_2 17 rfl rfl)
theorem dX6_isCrew_64 : decode cX6_isCrew 64 = .ok (.iinc 5 1, 3) := dk_132 5 1 (dk_at dksX6_isCrew_2 19 rfl rfl)
theorem dX6_isCrew_67 : decode cX6_isCrew 67 = .ok (.goto (-58), 3) := dk_167 255 198 (dk_at dksX6_isCrew_3 0 rfl rfl)
theorem dX6_isCrew_70 : decode cX6_isCrew 70 = .ok (.iload_n 3, 1) := dk_29 (dk_at dksX6_isCrew_3 3 rfl rfl)
theorem dX6_isCrew_71 : decode cX6_isCrew 71 = .ok (.iload_n 2, 1) := dk_28 (dk_at dksX6_isCrew_3 4 rfl rfl)
theorem dX6_isCrew_72 : decode cX6_isCrew 72 = .ok (.if_icmp .lt 15, 3) := dk_161 0 15 (dk_at dksX6_isCrew_3 5 rfl rfl)
theorem dX6_isCrew_75 : decode cX6_isCrew 75 = .ok (.iload_n 3, 1) := dk_29 (dk_at dksX6_isCrew_3 8 rfl rfl)
theorem dX6_isCrew_76 : decode cX6_isCrew 76 = .ok (.iload 4, 2) := dk_21 4 (dk_at dksX6_isCrew_3 9 rfl rfl)
theorem dX6_isCrew_78 : decode cX6_isCrew 78 = .ok (.isub, 1) := dk_100 (dk_at dksX6_isCrew_3 11 rfl rfl)
theorem dX6_isCrew_79 : decode cX6_isCrew 79 = .ok (.iload_n 2, 1) := dk_28 (dk_at dksX6_isCrew_3 12 rfl rfl)
theorem dX6_isCrew_80 : decode cX6_isCrew 80 = .ok (.if_icmp .ge 7, 3) := dk_162 0 7 (dk_at dksX6_isCrew_3 13 rfl rfl)
theorem dX6_isCrew_83 : decode cX6_isCrew 83 = .ok (.iconst 1, 1) := dk_4 (dk_at dksX6_isCrew_3 16 rfl rfl)
theorem dX6_isCrew_84 : decode cX6_isCrew 84 = .ok (.goto 4, 3) := dk_167 0 4 (dk_at dksX6_isCrew_3 17 rfl rfl)
theorem dX6_isCrew_87 : decode cX6_isCrew 87 = .ok (.iconst 0, 1) := dk_3 (dk_at dksX6_isCrew_3 20 rfl rfl)
theorem dX6_isCrew_88 : decode cX6_isCrew 88 = .ok (.ireturn, 1) := dk_172 (dk_at dksX6_isCrew_3 21 rfl rfl)
abbrev cX6_cheap : ByteArray := prog_29_method_99_code
def yX6_cheap : MethodName := ⟨RX6, "cheap", "(II)I"⟩
def dkwX6_cheap_8 : List UInt8 := [21, 5, 28, 160, 0, 6, 21, 7, 172, 21, 4, 21, 7, 128, 54, 4, 132, 5, 1, 167, 255, 174]
abbrev dktX6_cheap_8 : List UInt8 := dkwX6_cheap_8 ++ []
def dkwX6_cheap_7 : List UInt8 := [182, 1, 135, 96, 21, 6, 159, 0, 18, 42, 21, 5, 21, 4, 21, 7, 182, 1, 123, 54, 7, 167, 255, 218]
abbrev dktX6_cheap_7 : List UInt8 := dkwX6_cheap_7 ++ dktX6_cheap_8
def dkwX6_cheap_6 : List UInt8 := [3, 182, 1, 123, 54, 7, 42, 21, 5, 4, 96, 21, 4, 21, 7, 128, 27, 182, 1, 132, 42, 21, 7]
abbrev dktX6_cheap_6 : List UInt8 := dkwX6_cheap_6 ++ dktX6_cheap_7
def dkwX6_cheap_5 : List UInt8 := [29, 172, 3, 54, 4, 3, 54, 5, 42, 21, 5, 21, 4, 27, 182, 1, 132, 54, 6, 42, 21, 5, 21, 4]
abbrev dktX6_cheap_5 : List UInt8 := dkwX6_cheap_5 ++ dktX6_cheap_6
def dkwX6_cheap_4 : List UInt8 := [167, 255, 213, 42, 3, 3, 27, 182, 1, 132, 62, 29, 18, 160, 161, 0, 5, 2, 172, 28, 2, 160, 0, 5]
abbrev dktX6_cheap_4 : List UInt8 := dkwX6_cheap_4 ++ dktX6_cheap_5
def dkwX6_cheap_3 : List UInt8 := [42, 180, 0, 24, 3, 29, 96, 46, 154, 0, 11, 42, 29, 182, 1, 53, 167, 0, 4, 3, 79, 132, 3, 1]
abbrev dktX6_cheap_3 : List UInt8 := dkwX6_cheap_3 ++ dktX6_cheap_4
def dkwX6_cheap_2 : List UInt8 := [167, 255, 239, 3, 62, 29, 16, 10, 162, 0, 43, 42, 180, 0, 90, 29, 42, 29, 182, 0, 128, 153, 0, 22]
abbrev dktX6_cheap_2 : List UInt8 := dkwX6_cheap_2 ++ dktX6_cheap_3
def dkwX6_cheap_1 : List UInt8 := [182, 1, 129, 3, 62, 29, 17, 44, 0, 162, 0, 16, 42, 180, 0, 83, 29, 2, 79, 132, 3, 1]
abbrev dktX6_cheap_1 : List UInt8 := dkwX6_cheap_1 ++ dktX6_cheap_2
def dkwX6_cheap_0 : List UInt8 := [27, 4, 16, 10, 184, 0, 106, 153, 0, 14, 28, 2, 27, 4, 100, 184, 0, 106, 154, 0, 5, 2, 172, 42]
abbrev dktX6_cheap_0 : List UInt8 := dkwX6_cheap_0 ++ dktX6_cheap_1
theorem dksX6_cheap_0 : cX6_cheap.data.toList.drop 0 = dktX6_cheap_0 := by decide +kernel
theorem dksX6_cheap_1 : cX6_cheap.data.toList.drop 24 = dktX6_cheap_1 := dk_seg dksX6_cheap_0 24 rfl rfl
theorem dksX6_cheap_2 : cX6_cheap.data.toList.drop 46 = dktX6_cheap_2 := dk_seg dksX6_cheap_1 22 rfl rfl
theorem dksX6_cheap_3 : cX6_cheap.data.toList.drop 70 = dktX6_cheap_3 := dk_seg dksX6_cheap_2 24 rfl rfl
theorem dksX6_cheap_4 : cX6_cheap.data.toList.drop 94 = dktX6_cheap_4 := dk_seg dksX6_cheap_3 24 rfl rfl
theorem dksX6_cheap_5 : cX6_cheap.data.toList.drop 118 = dktX6_cheap_5 := dk_seg dksX6_cheap_4 24 rfl rfl
theorem dksX6_cheap_6 : cX6_cheap.data.toList.drop 142 = dktX6_cheap_6 := dk_seg dksX6_cheap_5 24 rfl rfl
theorem dksX6_cheap_7 : cX6_cheap.data.toList.drop 165 = dktX6_cheap_7 := dk_seg dksX6_cheap_6 23 rfl rfl
theorem dksX6_cheap_8 : cX6_cheap.data.toList.drop 189 = dktX6_cheap_8 := dk_seg dksX6_cheap_7 24 rfl rfl
theorem dX6_cheap_0 : decode cX6_cheap 0 = .ok (.iload_n 1, 1) := dk_27 (dk_at dksX6_cheap_0 0 rfl rfl)
theorem dX6_cheap_1 : decode cX6_cheap 1 = .ok (.iconst 1, 1) := dk_4 (dk_at dksX6_cheap_0 1 rfl rfl)
theorem dX6_cheap_2 : decode cX6_cheap 2 = .ok (.bipush 10, 2) := dk_16 10 (dk_at dksX6_cheap_0 2 rfl rfl)
theorem dX6_cheap_4 : decode cX6_cheap 4 = .ok (.invokestatic 106, 3) := dk_184 0 106 (dk_at dksX6_cheap_0 4 rfl rfl)
theorem dX6_cheap_7 : decode cX6_cheap 7 = .ok (.ifCond .eq 14, 3) := dk_153 0 14 (dk_at dksX6_cheap_0 7 rfl rfl)
theorem dX6_cheap_10 : decode cX6_cheap 10 = .ok (.iload_n 2, 1) := dk_28 (dk_at dksX6_cheap_0 10 rfl rfl)
theorem dX6_cheap_11 : decode cX6_cheap 11 = .ok (.iconst (-1), 1) := dk_2 (dk_at dksX6_cheap_0 11 rfl rfl)
theorem dX6_cheap_12 : decode cX6_cheap 12 = .ok (.iload_n 1, 1) := dk_27 (dk_at dksX6_cheap_0 12 rfl rfl)
theorem dX6_cheap_13 : decode cX6_cheap 13 = .ok (.iconst 1, 1) := dk_4 (dk_at dksX6_cheap_0 13 rfl rfl)
theorem dX6_cheap_14 : decode cX6_cheap 14 = .ok (.isub, 1) := dk_100 (dk_at dksX6_cheap_0 14 rfl rfl)
theorem dX6_cheap_15 : decode cX6_cheap 15 = .ok (.invokestatic 106, 3) := dk_184 0 106 (dk_at dksX6_cheap_0 15 rfl rfl)
theorem dX6_cheap_18 : decode cX6_cheap 18 = .ok (.ifCond .ne 5, 3) := dk_154 0 5 (dk_at dksX6_cheap_0 18 rfl rfl)
theorem dX6_cheap_21 : decode cX6_cheap 21 = .ok (.iconst (-1), 1) := dk_2 (dk_at dksX6_cheap_0 21 rfl rfl)
theorem dX6_cheap_22 : decode cX6_cheap 22 = .ok (.ireturn, 1) := dk_172 (dk_at dksX6_cheap_0 22 rfl rfl)
theorem dX6_cheap_23 : decode cX6_cheap 23 = .ok (.aload_n 0, 1) := dk_42 (dk_at dksX6_cheap_0 23 rfl rfl)
theorem dX6_cheap_24 : decode cX6_cheap 24 = .ok (.invokevirtual 385, 3) := dk_182 1 129 (dk_at dksX6_cheap_1 0 rfl rfl)
theorem dX6_cheap_27 : decode cX6_cheap 27 = .ok (.iconst 0, 1) := dk_3 (dk_at dksX6_cheap_1 3 rfl rfl)
theorem dX6_cheap_28 : decode cX6_cheap 28 = .ok (.istore_n 3, 1) := dk_62 (dk_at dksX6_cheap_1 4 rfl rfl)
theorem dX6_cheap_29 : decode cX6_cheap 29 = .ok (.iload_n 3, 1) := dk_29 (dk_at dksX6_cheap_1 5 rfl rfl)
theorem dX6_cheap_30 : decode cX6_cheap 30 = .ok (.sipush 11264, 3) := dk_17 44 0 (dk_at dksX6_cheap_1 6 rfl rfl)
theorem dX6_cheap_33 : decode cX6_cheap 33 = .ok (.if_icmp .ge 16, 3) := dk_162 0 16 (dk_at dksX6_cheap_1 9 rfl rfl)
theorem dX6_cheap_36 : decode cX6_cheap 36 = .ok (.aload_n 0, 1) := dk_42 (dk_at dksX6_cheap_1 12 rfl rfl)
theorem dX6_cheap_37 : decode cX6_cheap 37 = .ok (.getfield 83, 3) := dk_180 0 83 (dk_at dksX6_cheap_1 13 rfl rfl)
theorem dX6_cheap_40 : decode cX6_cheap 40 = .ok (.iload_n 3, 1) := dk_29 (dk_at dksX6_cheap_1 16 rfl rfl)
theorem dX6_cheap_41 : decode cX6_cheap 41 = .ok (.iconst (-1), 1) := dk_2 (dk_at dksX6_cheap_1 17 rfl rfl)
theorem dX6_cheap_42 : decode cX6_cheap 42 = .ok (.iastore, 1) := dk_79 (dk_at dksX6_cheap_1 18 rfl rfl)
theorem dX6_cheap_43 : decode cX6_cheap 43 = .ok (.iinc 3 1, 3) := dk_132 3 1 (dk_at dksX6_cheap_1 19 rfl rfl)
theorem dX6_cheap_46 : decode cX6_cheap 46 = .ok (.goto (-17), 3) := dk_167 255 239 (dk_at dksX6_cheap_2 0 rfl rfl)
theorem dX6_cheap_49 : decode cX6_cheap 49 = .ok (.iconst 0, 1) := dk_3 (dk_at dksX6_cheap_2 3 rfl rfl)
theorem dX6_cheap_50 : decode cX6_cheap 50 = .ok (.istore_n 3, 1) := dk_62 (dk_at dksX6_cheap_2 4 rfl rfl)
theorem dX6_cheap_51 : decode cX6_cheap 51 = .ok (.iload_n 3, 1) := dk_29 (dk_at dksX6_cheap_2 5 rfl rfl)
theorem dX6_cheap_52 : decode cX6_cheap 52 = .ok (.bipush 10, 2) := dk_16 10 (dk_at dksX6_cheap_2 6 rfl rfl)
theorem dX6_cheap_54 : decode cX6_cheap 54 = .ok (.if_icmp .ge 43, 3) := dk_162 0 43 (dk_at dksX6_cheap_2 8 rfl rfl)
theorem dX6_cheap_57 : decode cX6_cheap 57 = .ok (.aload_n 0, 1) := dk_42 (dk_at dksX6_cheap_2 11 rfl rfl)
theorem dX6_cheap_58 : decode cX6_cheap 58 = .ok (.getfield 90, 3) := dk_180 0 90 (dk_at dksX6_cheap_2 12 rfl rfl)
theorem dX6_cheap_61 : decode cX6_cheap 61 = .ok (.iload_n 3, 1) := dk_29 (dk_at dksX6_cheap_2 15 rfl rfl)
theorem dX6_cheap_62 : decode cX6_cheap 62 = .ok (.aload_n 0, 1) := dk_42 (dk_at dksX6_cheap_2 16 rfl rfl)
theorem dX6_cheap_63 : decode cX6_cheap 63 = .ok (.iload_n 3, 1) := dk_29 (dk_at dksX6_cheap_2 17 rfl rfl)
theorem dX6_cheap_64 : decode cX6_cheap 64 = .ok (.invokevirtual 128, 3) := dk_182 0 128 (dk_at dksX6_cheap_2 18 rfl rfl)
theorem dX6_cheap_67 : decode cX6_cheap 67 = .ok (.ifCond .eq 22, 3) := dk_153 0 22 (dk_at dksX6_cheap_2 21 rfl rfl)
theorem dX6_cheap_70 : decode cX6_cheap 70 = .ok (.aload_n 0, 1) := dk_42 (dk_at dksX6_cheap_3 0 rfl rfl)
theorem dX6_cheap_71 : decode cX6_cheap 71 = .ok (.getfield 24, 3) := dk_180 0 24 (dk_at dksX6_cheap_3 1 rfl rfl)
theorem dX6_cheap_74 : decode cX6_cheap 74 = .ok (.iconst 0, 1) := dk_3 (dk_at dksX6_cheap_3 4 rfl rfl)
theorem dX6_cheap_75 : decode cX6_cheap 75 = .ok (.iload_n 3, 1) := dk_29 (dk_at dksX6_cheap_3 5 rfl rfl)
theorem dX6_cheap_76 : decode cX6_cheap 76 = .ok (.iadd, 1) := dk_96 (dk_at dksX6_cheap_3 6 rfl rfl)
theorem dX6_cheap_77 : decode cX6_cheap 77 = .ok (.iaload, 1) := dk_46 (dk_at dksX6_cheap_3 7 rfl rfl)
theorem dX6_cheap_78 : decode cX6_cheap 78 = .ok (.ifCond .ne 11, 3) := dk_154 0 11 (dk_at dksX6_cheap_3 8 rfl rfl)
theorem dX6_cheap_81 : decode cX6_cheap 81 = .ok (.aload_n 0, 1) := dk_42 (dk_at dksX6_cheap_3 11 rfl rfl)
theorem dX6_cheap_82 : decode cX6_cheap 82 = .ok (.iload_n 3, 1) := dk_29 (dk_at dksX6_cheap_3 12 rfl rfl)
theorem dX6_cheap_83 : decode cX6_cheap 83 = .ok (.invokevirtual 309, 3) := dk_182 1 53 (dk_at dksX6_cheap_3 13 rfl rfl)
theorem dX6_cheap_86 : decode cX6_cheap 86 = .ok (.goto 4, 3) := dk_167 0 4 (dk_at dksX6_cheap_3 16 rfl rfl)
theorem dX6_cheap_89 : decode cX6_cheap 89 = .ok (.iconst 0, 1) := dk_3 (dk_at dksX6_cheap_3 19 rfl rfl)
theorem dX6_cheap_90 : decode cX6_cheap 90 = .ok (.iastore, 1) := dk_79 (dk_at dksX6_cheap_3 20 rfl rfl)
theorem dX6_cheap_91 : decode cX6_cheap 91 = .ok (.iinc 3 1, 3) := dk_132 3 1 (dk_at dksX6_cheap_3 21 rfl rfl)
theorem dX6_cheap_94 : decode cX6_cheap 94 = .ok (.goto (-43), 3) := dk_167 255 213 (dk_at dksX6_cheap_4 0 rfl rfl)
theorem dX6_cheap_97 : decode cX6_cheap 97 = .ok (.aload_n 0, 1) := dk_42 (dk_at dksX6_cheap_4 3 rfl rfl)
theorem dX6_cheap_98 : decode cX6_cheap 98 = .ok (.iconst 0, 1) := dk_3 (dk_at dksX6_cheap_4 4 rfl rfl)
theorem dX6_cheap_99 : decode cX6_cheap 99 = .ok (.iconst 0, 1) := dk_3 (dk_at dksX6_cheap_4 5 rfl rfl)
theorem dX6_cheap_100 : decode cX6_cheap 100 = .ok (.iload_n 1, 1) := dk_27 (dk_at dksX6_cheap_4 6 rfl rfl)
theorem dX6_cheap_101 : decode cX6_cheap 101 = .ok (.invokevirtual 388, 3) := dk_182 1 132 (dk_at dksX6_cheap_4 7 rfl rfl)
theorem dX6_cheap_104 : decode cX6_cheap 104 = .ok (.istore_n 3, 1) := dk_62 (dk_at dksX6_cheap_4 10 rfl rfl)
theorem dX6_cheap_105 : decode cX6_cheap 105 = .ok (.iload_n 3, 1) := dk_29 (dk_at dksX6_cheap_4 11 rfl rfl)
theorem dX6_cheap_106 : decode cX6_cheap 106 = .ok (.ldc 160, 2) := dk_18 160 (dk_at dksX6_cheap_4 12 rfl rfl)
theorem dX6_cheap_108 : decode cX6_cheap 108 = .ok (.if_icmp .lt 5, 3) := dk_161 0 5 (dk_at dksX6_cheap_4 14 rfl rfl)
theorem dX6_cheap_111 : decode cX6_cheap 111 = .ok (.iconst (-1), 1) := dk_2 (dk_at dksX6_cheap_4 17 rfl rfl)
theorem dX6_cheap_112 : decode cX6_cheap 112 = .ok (.ireturn, 1) := dk_172 (dk_at dksX6_cheap_4 18 rfl rfl)
theorem dX6_cheap_113 : decode cX6_cheap 113 = .ok (.iload_n 2, 1) := dk_28 (dk_at dksX6_cheap_4 19 rfl rfl)
theorem dX6_cheap_114 : decode cX6_cheap 114 = .ok (.iconst (-1), 1) := dk_2 (dk_at dksX6_cheap_4 20 rfl rfl)
theorem dX6_cheap_115 : decode cX6_cheap 115 = .ok (.if_icmp .ne 5, 3) := dk_160 0 5 (dk_at dksX6_cheap_4 21 rfl rfl)
theorem dX6_cheap_118 : decode cX6_cheap 118 = .ok (.iload_n 3, 1) := dk_29 (dk_at dksX6_cheap_5 0 rfl rfl)
theorem dX6_cheap_119 : decode cX6_cheap 119 = .ok (.ireturn, 1) := dk_172 (dk_at dksX6_cheap_5 1 rfl rfl)
theorem dX6_cheap_120 : decode cX6_cheap 120 = .ok (.iconst 0, 1) := dk_3 (dk_at dksX6_cheap_5 2 rfl rfl)
theorem dX6_cheap_121 : decode cX6_cheap 121 = .ok (.istore 4, 2) := dk_54 4 (dk_at dksX6_cheap_5 3 rfl rfl)
theorem dX6_cheap_123 : decode cX6_cheap 123 = .ok (.iconst 0, 1) := dk_3 (dk_at dksX6_cheap_5 5 rfl rfl)
theorem dX6_cheap_124 : decode cX6_cheap 124 = .ok (.istore 5, 2) := dk_54 5 (dk_at dksX6_cheap_5 6 rfl rfl)
theorem dX6_cheap_126 : decode cX6_cheap 126 = .ok (.aload_n 0, 1) := dk_42 (dk_at dksX6_cheap_5 8 rfl rfl)
theorem dX6_cheap_127 : decode cX6_cheap 127 = .ok (.iload 5, 2) := dk_21 5 (dk_at dksX6_cheap_5 9 rfl rfl)
theorem dX6_cheap_129 : decode cX6_cheap 129 = .ok (.iload 4, 2) := dk_21 4 (dk_at dksX6_cheap_5 11 rfl rfl)
theorem dX6_cheap_131 : decode cX6_cheap 131 = .ok (.iload_n 1, 1) := dk_27 (dk_at dksX6_cheap_5 13 rfl rfl)
theorem dX6_cheap_132 : decode cX6_cheap 132 = .ok (.invokevirtual 388, 3) := dk_182 1 132 (dk_at dksX6_cheap_5 14 rfl rfl)
theorem dX6_cheap_135 : decode cX6_cheap 135 = .ok (.istore 6, 2) := dk_54 6 (dk_at dksX6_cheap_5 17 rfl rfl)
theorem dX6_cheap_137 : decode cX6_cheap 137 = .ok (.aload_n 0, 1) := dk_42 (dk_at dksX6_cheap_5 19 rfl rfl)
theorem dX6_cheap_138 : decode cX6_cheap 138 = .ok (.iload 5, 2) := dk_21 5 (dk_at dksX6_cheap_5 20 rfl rfl)
theorem dX6_cheap_140 : decode cX6_cheap 140 = .ok (.iload 4, 2) := dk_21 4 (dk_at dksX6_cheap_5 22 rfl rfl)
theorem dX6_cheap_142 : decode cX6_cheap 142 = .ok (.iconst 0, 1) := dk_3 (dk_at dksX6_cheap_6 0 rfl rfl)
theorem dX6_cheap_143 : decode cX6_cheap 143 = .ok (.invokevirtual 379, 3) := dk_182 1 123 (dk_at dksX6_cheap_6 1 rfl rfl)
theorem dX6_cheap_146 : decode cX6_cheap 146 = .ok (.istore 7, 2) := dk_54 7 (dk_at dksX6_cheap_6 4 rfl rfl)
theorem dX6_cheap_148 : decode cX6_cheap 148 = .ok (.aload_n 0, 1) := dk_42 (dk_at dksX6_cheap_6 6 rfl rfl)
theorem dX6_cheap_149 : decode cX6_cheap 149 = .ok (.iload 5, 2) := dk_21 5 (dk_at dksX6_cheap_6 7 rfl rfl)
theorem dX6_cheap_151 : decode cX6_cheap 151 = .ok (.iconst 1, 1) := dk_4 (dk_at dksX6_cheap_6 9 rfl rfl)
theorem dX6_cheap_152 : decode cX6_cheap 152 = .ok (.iadd, 1) := dk_96 (dk_at dksX6_cheap_6 10 rfl rfl)
theorem dX6_cheap_153 : decode cX6_cheap 153 = .ok (.iload 4, 2) := dk_21 4 (dk_at dksX6_cheap_6 11 rfl rfl)
theorem dX6_cheap_155 : decode cX6_cheap 155 = .ok (.iload 7, 2) := dk_21 7 (dk_at dksX6_cheap_6 13 rfl rfl)
theorem dX6_cheap_157 : decode cX6_cheap 157 = .ok (.ior, 1) := dk_128 (dk_at dksX6_cheap_6 15 rfl rfl)
theorem dX6_cheap_158 : decode cX6_cheap 158 = .ok (.iload_n 1, 1) := dk_27 (dk_at dksX6_cheap_6 16 rfl rfl)
theorem dX6_cheap_159 : decode cX6_cheap 159 = .ok (.invokevirtual 388, 3) := dk_182 1 132 (dk_at dksX6_cheap_6 17 rfl rfl)
theorem dX6_cheap_162 : decode cX6_cheap 162 = .ok (.aload_n 0, 1) := dk_42 (dk_at dksX6_cheap_6 20 rfl rfl)
theorem dX6_cheap_163 : decode cX6_cheap 163 = .ok (.iload 7, 2) := dk_21 7 (dk_at dksX6_cheap_6 21 rfl rfl)
theorem dX6_cheap_165 : decode cX6_cheap 165 = .ok (.invokevirtual 391, 3) := dk_182 1 135 (dk_at dksX6_cheap_7 0 rfl rfl)
theorem dX6_cheap_168 : decode cX6_cheap 168 = .ok (.iadd, 1) := dk_96 (dk_at dksX6_cheap_7 3 rfl rfl)
theorem dX6_cheap_169 : decode cX6_cheap 169 = .ok (.iload 6, 2) := dk_21 6 (dk_at dksX6_cheap_7 4 rfl rfl)
theorem dX6_cheap_171 : decode cX6_cheap 171 = .ok (.if_icmp .eq 18, 3) := dk_159 0 18 (dk_at dksX6_cheap_7 6 rfl rfl)
theorem dX6_cheap_174 : decode cX6_cheap 174 = .ok (.aload_n 0, 1) := dk_42 (dk_at dksX6_cheap_7 9 rfl rfl)
theorem dX6_cheap_175 : decode cX6_cheap 175 = .ok (.iload 5, 2) := dk_21 5 (dk_at dksX6_cheap_7 10 rfl rfl)
theorem dX6_cheap_177 : decode cX6_cheap 177 = .ok (.iload 4, 2) := dk_21 4 (dk_at dksX6_cheap_7 12 rfl rfl)
theorem dX6_cheap_179 : decode cX6_cheap 179 = .ok (.iload 7, 2) := dk_21 7 (dk_at dksX6_cheap_7 14 rfl rfl)
theorem dX6_cheap_181 : decode cX6_cheap 181 = .ok (.invokevirtual 379, 3) := dk_182 1 123 (dk_at dksX6_cheap_7 16 rfl rfl)
theorem dX6_cheap_184 : decode cX6_cheap 184 = .ok (.istore 7, 2) := dk_54 7 (dk_at dksX6_cheap_7 19 rfl rfl)
theorem dX6_cheap_186 : decode cX6_cheap 186 = .ok (.goto (-38), 3) := dk_167 255 218 (dk_at dksX6_cheap_7 21 rfl rfl)
theorem dX6_cheap_189 : decode cX6_cheap 189 = .ok (.iload 5, 2) := dk_21 5 (dk_at dksX6_cheap_8 0 rfl rfl)
theorem dX6_cheap_191 : decode cX6_cheap 191 = .ok (.iload_n 2, 1) := dk_28 (dk_at dksX6_cheap_8 2 rfl rfl)
theorem dX6_cheap_192 : decode cX6_cheap 192 = .ok (.if_icmp .ne 6, 3) := dk_160 0 6 (dk_at dksX6_cheap_8 3 rfl rfl)
theorem dX6_cheap_195 : decode cX6_cheap 195 = .ok (.iload 7, 2) := dk_21 7 (dk_at dksX6_cheap_8 6 rfl rfl)
theorem dX6_cheap_197 : decode cX6_cheap 197 = .ok (.ireturn, 1) := dk_172 (dk_at dksX6_cheap_8 8 rfl rfl)
theorem dX6_cheap_198 : decode cX6_cheap 198 = .ok (.iload 4, 2) := dk_21 4 (dk_at dksX6_cheap_8 9 rfl rfl)
theorem dX6_cheap_200 : decode cX6_cheap 200 = .ok (.iload 7, 2) := dk_21 7 (dk_at dksX6_cheap_8 11 rfl rfl)
theorem dX6_cheap_202 : decode cX6_cheap 202 = .ok (.ior, 1) := dk_128 (dk_at dksX6_cheap_8 13 rfl rfl)
theorem dX6_cheap_203 : decode cX6_cheap 203 = .ok (.istore 4, 2) := dk_54 4 (dk_at dksX6_cheap_8 14 rfl rfl)
theorem dX6_cheap_205 : decode cX6_cheap 205 = .ok (.iinc 5 1, 3) := dk_132 5 1 (dk_at dksX6_cheap_8 16 rfl rfl)
theorem dX6_cheap_208 : decode cX6_cheap 208 = .ok (.goto (-82), 3) := dk_167 255 174 (dk_at dksX6_cheap_8 19 rfl rfl)
abbrev cX6_cheapestFrom : ByteArray := prog_29_method_98_code
def yX6_cheapestFrom : MethodName := ⟨RX6, "cheapestFrom", "(III)I"⟩
def dkwX6_cheapestFrom_4 : List UInt8 := [180, 0, 83, 21, 4, 21, 5, 79, 21, 5, 172]
abbrev dktX6_cheapestFrom_4 : List UInt8 := dkwX6_cheapestFrom_4 ++ []
def dkwX6_cheapestFrom_3 : List UInt8 := [182, 1, 135, 96, 184, 1, 81, 54, 5, 42, 27, 28, 21, 6, 182, 1, 123, 54, 6, 167, 255, 214, 42]
abbrev dktX6_cheapestFrom_3 : List UInt8 := dkwX6_cheapestFrom_3 ++ dktX6_cheapestFrom_4
def dkwX6_cheapestFrom_2 : List UInt8 := [21, 6, 2, 159, 0, 42, 21, 5, 42, 27, 4, 96, 28, 21, 6, 128, 29, 182, 1, 132, 42, 21, 6]
abbrev dktX6_cheapestFrom_2 : List UInt8 := dkwX6_cheapestFrom_2 ++ dktX6_cheapestFrom_3
def dkwX6_cheapestFrom_1 : List UInt8 := [159, 0, 11, 42, 180, 0, 83, 21, 4, 46, 172, 18, 160, 54, 5, 42, 27, 28, 3, 182, 1, 123, 54, 6]
abbrev dktX6_cheapestFrom_1 : List UInt8 := dkwX6_cheapestFrom_1 ++ dktX6_cheapestFrom_2
def dkwX6_cheapestFrom_0 : List UInt8 := [27, 29, 160, 0, 5, 3, 172, 17, 4, 0, 27, 104, 28, 96, 54, 4, 42, 180, 0, 83, 21, 4, 46, 2]
abbrev dktX6_cheapestFrom_0 : List UInt8 := dkwX6_cheapestFrom_0 ++ dktX6_cheapestFrom_1
theorem dksX6_cheapestFrom_0 : cX6_cheapestFrom.data.toList.drop 0 = dktX6_cheapestFrom_0 := by decide +kernel
theorem dksX6_cheapestFrom_1 : cX6_cheapestFrom.data.toList.drop 24 = dktX6_cheapestFrom_1 := dk_seg dksX6_cheapestFrom_0 24 rfl rfl
theorem dksX6_cheapestFrom_2 : cX6_cheapestFrom.data.toList.drop 48 = dktX6_cheapestFrom_2 := dk_seg dksX6_cheapestFrom_1 24 rfl rfl
theorem dksX6_cheapestFrom_3 : cX6_cheapestFrom.data.toList.drop 71 = dktX6_cheapestFrom_3 := dk_seg dksX6_cheapestFrom_2 23 rfl rfl
theorem dksX6_cheapestFrom_4 : cX6_cheapestFrom.data.toList.drop 94 = dktX6_cheapestFrom_4 := dk_seg dksX6_cheapestFrom_3 23 rfl rfl
theorem dX6_cheapestFrom_0 : decode cX6_cheapestFrom 0 = .ok (.iload_n 1, 1) := dk_27 (dk_at dksX6_cheapestFrom_0 0 rfl rfl)
theorem dX6_cheapestFrom_1 : decode cX6_cheapestFrom 1 = .ok (.iload_n 3, 1) := dk_29 (dk_at dksX6_cheapestFrom_0 1 rfl rfl)
theorem dX6_cheapestFrom_2 : decode cX6_cheapestFrom 2 = .ok (.if_icmp .ne 5, 3) := dk_160 0 5 (dk_at dksX6_cheapestFrom_0 2 rfl rfl)
theorem dX6_cheapestFrom_5 : decode cX6_cheapestFrom 5 = .ok (.iconst 0, 1) := dk_3 (dk_at dksX6_cheapestFrom_0 5 rfl rfl)
theorem dX6_cheapestFrom_6 : decode cX6_cheapestFrom 6 = .ok (.ireturn, 1) := dk_172 (dk_at dksX6_cheapestFrom_0 6 rfl rfl)
theorem dX6_cheapestFrom_7 : decode cX6_cheapestFrom 7 = .ok (.sipush 1024, 3) := dk_17 4 0 (dk_at dksX6_cheapestFrom_0 7 rfl rfl)
theorem dX6_cheapestFrom_10 : decode cX6_cheapestFrom 10 = .ok (.iload_n 1, 1) := dk_27 (dk_at dksX6_cheapestFrom_0 10 rfl rfl)
theorem dX6_cheapestFrom_11 : decode cX6_cheapestFrom 11 = .ok (.imul, 1) := dk_104 (dk_at dksX6_cheapestFrom_0 11 rfl rfl)
theorem dX6_cheapestFrom_12 : decode cX6_cheapestFrom 12 = .ok (.iload_n 2, 1) := dk_28 (dk_at dksX6_cheapestFrom_0 12 rfl rfl)
theorem dX6_cheapestFrom_13 : decode cX6_cheapestFrom 13 = .ok (.iadd, 1) := dk_96 (dk_at dksX6_cheapestFrom_0 13 rfl rfl)
theorem dX6_cheapestFrom_14 : decode cX6_cheapestFrom 14 = .ok (.istore 4, 2) := dk_54 4 (dk_at dksX6_cheapestFrom_0 14 rfl rfl)
theorem dX6_cheapestFrom_16 : decode cX6_cheapestFrom 16 = .ok (.aload_n 0, 1) := dk_42 (dk_at dksX6_cheapestFrom_0 16 rfl rfl)
theorem dX6_cheapestFrom_17 : decode cX6_cheapestFrom 17 = .ok (.getfield 83, 3) := dk_180 0 83 (dk_at dksX6_cheapestFrom_0 17 rfl rfl)
theorem dX6_cheapestFrom_20 : decode cX6_cheapestFrom 20 = .ok (.iload 4, 2) := dk_21 4 (dk_at dksX6_cheapestFrom_0 20 rfl rfl)
theorem dX6_cheapestFrom_22 : decode cX6_cheapestFrom 22 = .ok (.iaload, 1) := dk_46 (dk_at dksX6_cheapestFrom_0 22 rfl rfl)
theorem dX6_cheapestFrom_23 : decode cX6_cheapestFrom 23 = .ok (.iconst (-1), 1) := dk_2 (dk_at dksX6_cheapestFrom_0 23 rfl rfl)
theorem dX6_cheapestFrom_24 : decode cX6_cheapestFrom 24 = .ok (.if_icmp .eq 11, 3) := dk_159 0 11 (dk_at dksX6_cheapestFrom_1 0 rfl rfl)
theorem dX6_cheapestFrom_27 : decode cX6_cheapestFrom 27 = .ok (.aload_n 0, 1) := dk_42 (dk_at dksX6_cheapestFrom_1 3 rfl rfl)
theorem dX6_cheapestFrom_28 : decode cX6_cheapestFrom 28 = .ok (.getfield 83, 3) := dk_180 0 83 (dk_at dksX6_cheapestFrom_1 4 rfl rfl)
theorem dX6_cheapestFrom_31 : decode cX6_cheapestFrom 31 = .ok (.iload 4, 2) := dk_21 4 (dk_at dksX6_cheapestFrom_1 7 rfl rfl)
theorem dX6_cheapestFrom_33 : decode cX6_cheapestFrom 33 = .ok (.iaload, 1) := dk_46 (dk_at dksX6_cheapestFrom_1 9 rfl rfl)
theorem dX6_cheapestFrom_34 : decode cX6_cheapestFrom 34 = .ok (.ireturn, 1) := dk_172 (dk_at dksX6_cheapestFrom_1 10 rfl rfl)
theorem dX6_cheapestFrom_35 : decode cX6_cheapestFrom 35 = .ok (.ldc 160, 2) := dk_18 160 (dk_at dksX6_cheapestFrom_1 11 rfl rfl)
theorem dX6_cheapestFrom_37 : decode cX6_cheapestFrom 37 = .ok (.istore 5, 2) := dk_54 5 (dk_at dksX6_cheapestFrom_1 13 rfl rfl)
theorem dX6_cheapestFrom_39 : decode cX6_cheapestFrom 39 = .ok (.aload_n 0, 1) := dk_42 (dk_at dksX6_cheapestFrom_1 15 rfl rfl)
theorem dX6_cheapestFrom_40 : decode cX6_cheapestFrom 40 = .ok (.iload_n 1, 1) := dk_27 (dk_at dksX6_cheapestFrom_1 16 rfl rfl)
theorem dX6_cheapestFrom_41 : decode cX6_cheapestFrom 41 = .ok (.iload_n 2, 1) := dk_28 (dk_at dksX6_cheapestFrom_1 17 rfl rfl)
theorem dX6_cheapestFrom_42 : decode cX6_cheapestFrom 42 = .ok (.iconst 0, 1) := dk_3 (dk_at dksX6_cheapestFrom_1 18 rfl rfl)
theorem dX6_cheapestFrom_43 : decode cX6_cheapestFrom 43 = .ok (.invokevirtual 379, 3) := dk_182 1 123 (dk_at dksX6_cheapestFrom_1 19 rfl rfl)
theorem dX6_cheapestFrom_46 : decode cX6_cheapestFrom 46 = .ok (.istore 6, 2) := dk_54 6 (dk_at dksX6_cheapestFrom_1 22 rfl rfl)
theorem dX6_cheapestFrom_48 : decode cX6_cheapestFrom 48 = .ok (.iload 6, 2) := dk_21 6 (dk_at dksX6_cheapestFrom_2 0 rfl rfl)
theorem dX6_cheapestFrom_50 : decode cX6_cheapestFrom 50 = .ok (.iconst (-1), 1) := dk_2 (dk_at dksX6_cheapestFrom_2 2 rfl rfl)
theorem dX6_cheapestFrom_51 : decode cX6_cheapestFrom 51 = .ok (.if_icmp .eq 42, 3) := dk_159 0 42 (dk_at dksX6_cheapestFrom_2 3 rfl rfl)
theorem dX6_cheapestFrom_54 : decode cX6_cheapestFrom 54 = .ok (.iload 5, 2) := dk_21 5 (dk_at dksX6_cheapestFrom_2 6 rfl rfl)
theorem dX6_cheapestFrom_56 : decode cX6_cheapestFrom 56 = .ok (.aload_n 0, 1) := dk_42 (dk_at dksX6_cheapestFrom_2 8 rfl rfl)
theorem dX6_cheapestFrom_57 : decode cX6_cheapestFrom 57 = .ok (.iload_n 1, 1) := dk_27 (dk_at dksX6_cheapestFrom_2 9 rfl rfl)
theorem dX6_cheapestFrom_58 : decode cX6_cheapestFrom 58 = .ok (.iconst 1, 1) := dk_4 (dk_at dksX6_cheapestFrom_2 10 rfl rfl)
theorem dX6_cheapestFrom_59 : decode cX6_cheapestFrom 59 = .ok (.iadd, 1) := dk_96 (dk_at dksX6_cheapestFrom_2 11 rfl rfl)
theorem dX6_cheapestFrom_60 : decode cX6_cheapestFrom 60 = .ok (.iload_n 2, 1) := dk_28 (dk_at dksX6_cheapestFrom_2 12 rfl rfl)
theorem dX6_cheapestFrom_61 : decode cX6_cheapestFrom 61 = .ok (.iload 6, 2) := dk_21 6 (dk_at dksX6_cheapestFrom_2 13 rfl rfl)
theorem dX6_cheapestFrom_63 : decode cX6_cheapestFrom 63 = .ok (.ior, 1) := dk_128 (dk_at dksX6_cheapestFrom_2 15 rfl rfl)
theorem dX6_cheapestFrom_64 : decode cX6_cheapestFrom 64 = .ok (.iload_n 3, 1) := dk_29 (dk_at dksX6_cheapestFrom_2 16 rfl rfl)
theorem dX6_cheapestFrom_65 : decode cX6_cheapestFrom 65 = .ok (.invokevirtual 388, 3) := dk_182 1 132 (dk_at dksX6_cheapestFrom_2 17 rfl rfl)
theorem dX6_cheapestFrom_68 : decode cX6_cheapestFrom 68 = .ok (.aload_n 0, 1) := dk_42 (dk_at dksX6_cheapestFrom_2 20 rfl rfl)
theorem dX6_cheapestFrom_69 : decode cX6_cheapestFrom 69 = .ok (.iload 6, 2) := dk_21 6 (dk_at dksX6_cheapestFrom_2 21 rfl rfl)
theorem dX6_cheapestFrom_71 : decode cX6_cheapestFrom 71 = .ok (.invokevirtual 391, 3) := dk_182 1 135 (dk_at dksX6_cheapestFrom_3 0 rfl rfl)
theorem dX6_cheapestFrom_74 : decode cX6_cheapestFrom 74 = .ok (.iadd, 1) := dk_96 (dk_at dksX6_cheapestFrom_3 3 rfl rfl)
theorem dX6_cheapestFrom_75 : decode cX6_cheapestFrom 75 = .ok (.invokestatic 337, 3) := dk_184 1 81 (dk_at dksX6_cheapestFrom_3 4 rfl rfl)
theorem dX6_cheapestFrom_78 : decode cX6_cheapestFrom 78 = .ok (.istore 5, 2) := dk_54 5 (dk_at dksX6_cheapestFrom_3 7 rfl rfl)
theorem dX6_cheapestFrom_80 : decode cX6_cheapestFrom 80 = .ok (.aload_n 0, 1) := dk_42 (dk_at dksX6_cheapestFrom_3 9 rfl rfl)
theorem dX6_cheapestFrom_81 : decode cX6_cheapestFrom 81 = .ok (.iload_n 1, 1) := dk_27 (dk_at dksX6_cheapestFrom_3 10 rfl rfl)
theorem dX6_cheapestFrom_82 : decode cX6_cheapestFrom 82 = .ok (.iload_n 2, 1) := dk_28 (dk_at dksX6_cheapestFrom_3 11 rfl rfl)
theorem dX6_cheapestFrom_83 : decode cX6_cheapestFrom 83 = .ok (.iload 6, 2) := dk_21 6 (dk_at dksX6_cheapestFrom_3 12 rfl rfl)
theorem dX6_cheapestFrom_85 : decode cX6_cheapestFrom 85 = .ok (.invokevirtual 379, 3) := dk_182 1 123 (dk_at dksX6_cheapestFrom_3 14 rfl rfl)
theorem dX6_cheapestFrom_88 : decode cX6_cheapestFrom 88 = .ok (.istore 6, 2) := dk_54 6 (dk_at dksX6_cheapestFrom_3 17 rfl rfl)
theorem dX6_cheapestFrom_90 : decode cX6_cheapestFrom 90 = .ok (.goto (-42), 3) := dk_167 255 214 (dk_at dksX6_cheapestFrom_3 19 rfl rfl)
theorem dX6_cheapestFrom_93 : decode cX6_cheapestFrom 93 = .ok (.aload_n 0, 1) := dk_42 (dk_at dksX6_cheapestFrom_3 22 rfl rfl)
theorem dX6_cheapestFrom_94 : decode cX6_cheapestFrom 94 = .ok (.getfield 83, 3) := dk_180 0 83 (dk_at dksX6_cheapestFrom_4 0 rfl rfl)
theorem dX6_cheapestFrom_97 : decode cX6_cheapestFrom 97 = .ok (.iload 4, 2) := dk_21 4 (dk_at dksX6_cheapestFrom_4 3 rfl rfl)
theorem dX6_cheapestFrom_99 : decode cX6_cheapestFrom 99 = .ok (.iload 5, 2) := dk_21 5 (dk_at dksX6_cheapestFrom_4 5 rfl rfl)
theorem dX6_cheapestFrom_101 : decode cX6_cheapestFrom 101 = .ok (.iastore, 1) := dk_79 (dk_at dksX6_cheapestFrom_4 7 rfl rfl)
theorem dX6_cheapestFrom_102 : decode cX6_cheapestFrom 102 = .ok (.iload 5, 2) := dk_21 5 (dk_at dksX6_cheapestFrom_4 8 rfl rfl)
theorem dX6_cheapestFrom_104 : decode cX6_cheapestFrom 104 = .ok (.ireturn, 1) := dk_172 (dk_at dksX6_cheapestFrom_4 10 rfl rfl)
abbrev cX6_priceOf : ByteArray := prog_29_method_97_code
def yX6_priceOf : MethodName := ⟨RX6, "priceOf", "(I)I"⟩
def dkwX6_priceOf_1 : List UInt8 := [46, 167, 0, 4, 3, 96, 61, 132, 3, 1, 167, 255, 226, 28, 172]
abbrev dktX6_priceOf_1 : List UInt8 := dkwX6_priceOf_1 ++ []
def dkwX6_priceOf_0 : List UInt8 := [3, 61, 3, 62, 29, 16, 10, 162, 0, 30, 28, 27, 29, 184, 1, 69, 153, 0, 12, 42, 180, 0, 90, 29]
abbrev dktX6_priceOf_0 : List UInt8 := dkwX6_priceOf_0 ++ dktX6_priceOf_1
theorem dksX6_priceOf_0 : cX6_priceOf.data.toList.drop 0 = dktX6_priceOf_0 := by decide +kernel
theorem dksX6_priceOf_1 : cX6_priceOf.data.toList.drop 24 = dktX6_priceOf_1 := dk_seg dksX6_priceOf_0 24 rfl rfl
theorem dX6_priceOf_0 : decode cX6_priceOf 0 = .ok (.iconst 0, 1) := dk_3 (dk_at dksX6_priceOf_0 0 rfl rfl)
theorem dX6_priceOf_1 : decode cX6_priceOf 1 = .ok (.istore_n 2, 1) := dk_61 (dk_at dksX6_priceOf_0 1 rfl rfl)
theorem dX6_priceOf_2 : decode cX6_priceOf 2 = .ok (.iconst 0, 1) := dk_3 (dk_at dksX6_priceOf_0 2 rfl rfl)
theorem dX6_priceOf_3 : decode cX6_priceOf 3 = .ok (.istore_n 3, 1) := dk_62 (dk_at dksX6_priceOf_0 3 rfl rfl)
theorem dX6_priceOf_4 : decode cX6_priceOf 4 = .ok (.iload_n 3, 1) := dk_29 (dk_at dksX6_priceOf_0 4 rfl rfl)
theorem dX6_priceOf_5 : decode cX6_priceOf 5 = .ok (.bipush 10, 2) := dk_16 10 (dk_at dksX6_priceOf_0 5 rfl rfl)
theorem dX6_priceOf_7 : decode cX6_priceOf 7 = .ok (.if_icmp .ge 30, 3) := dk_162 0 30 (dk_at dksX6_priceOf_0 7 rfl rfl)
theorem dX6_priceOf_10 : decode cX6_priceOf 10 = .ok (.iload_n 2, 1) := dk_28 (dk_at dksX6_priceOf_0 10 rfl rfl)
theorem dX6_priceOf_11 : decode cX6_priceOf 11 = .ok (.iload_n 1, 1) := dk_27 (dk_at dksX6_priceOf_0 11 rfl rfl)
theorem dX6_priceOf_12 : decode cX6_priceOf 12 = .ok (.iload_n 3, 1) := dk_29 (dk_at dksX6_priceOf_0 12 rfl rfl)
theorem dX6_priceOf_13 : decode cX6_priceOf 13 = .ok (.invokestatic 325, 3) := dk_184 1 69 (dk_at dksX6_priceOf_0 13 rfl rfl)
theorem dX6_priceOf_16 : decode cX6_priceOf 16 = .ok (.ifCond .eq 12, 3) := dk_153 0 12 (dk_at dksX6_priceOf_0 16 rfl rfl)
theorem dX6_priceOf_19 : decode cX6_priceOf 19 = .ok (.aload_n 0, 1) := dk_42 (dk_at dksX6_priceOf_0 19 rfl rfl)
theorem dX6_priceOf_20 : decode cX6_priceOf 20 = .ok (.getfield 90, 3) := dk_180 0 90 (dk_at dksX6_priceOf_0 20 rfl rfl)
theorem dX6_priceOf_23 : decode cX6_priceOf 23 = .ok (.iload_n 3, 1) := dk_29 (dk_at dksX6_priceOf_0 23 rfl rfl)
theorem dX6_priceOf_24 : decode cX6_priceOf 24 = .ok (.iaload, 1) := dk_46 (dk_at dksX6_priceOf_1 0 rfl rfl)
theorem dX6_priceOf_25 : decode cX6_priceOf 25 = .ok (.goto 4, 3) := dk_167 0 4 (dk_at dksX6_priceOf_1 1 rfl rfl)
theorem dX6_priceOf_28 : decode cX6_priceOf 28 = .ok (.iconst 0, 1) := dk_3 (dk_at dksX6_priceOf_1 4 rfl rfl)
theorem dX6_priceOf_29 : decode cX6_priceOf 29 = .ok (.iadd, 1) := dk_96 (dk_at dksX6_priceOf_1 5 rfl rfl)
theorem dX6_priceOf_30 : decode cX6_priceOf 30 = .ok (.istore_n 2, 1) := dk_61 (dk_at dksX6_priceOf_1 6 rfl rfl)
theorem dX6_priceOf_31 : decode cX6_priceOf 31 = .ok (.iinc 3 1, 3) := dk_132 3 1 (dk_at dksX6_priceOf_1 7 rfl rfl)
theorem dX6_priceOf_34 : decode cX6_priceOf 34 = .ok (.goto (-30), 3) := dk_167 255 226 (dk_at dksX6_priceOf_1 10 rfl rfl)
theorem dX6_priceOf_37 : decode cX6_priceOf 37 = .ok (.iload_n 2, 1) := dk_28 (dk_at dksX6_priceOf_1 13 rfl rfl)
theorem dX6_priceOf_38 : decode cX6_priceOf 38 = .ok (.ireturn, 1) := dk_172 (dk_at dksX6_priceOf_1 14 rfl rfl)
abbrev cX6_ways : ByteArray := prog_29_method_101_code
def yX6_ways : MethodName := ⟨RX6, "ways", "(I)J"⟩
def dkwX6_ways_2 : List UInt8 := [182, 1, 138, 173]
abbrev dktX6_ways_2 : List UInt8 := dkwX6_ways_2 ++ []
def dkwX6_ways_1 : List UInt8 := [162, 0, 18, 42, 180, 0, 86, 28, 20, 1, 22, 80, 132, 2, 1, 167, 255, 237, 42, 3, 3, 27]
abbrev dktX6_ways_1 : List UInt8 := dkwX6_ways_1 ++ dktX6_ways_2
def dkwX6_ways_0 : List UInt8 := [27, 3, 16, 10, 184, 0, 106, 154, 0, 7, 20, 1, 22, 173, 42, 182, 1, 129, 3, 61, 28, 17, 44, 0]
abbrev dktX6_ways_0 : List UInt8 := dkwX6_ways_0 ++ dktX6_ways_1
theorem dksX6_ways_0 : cX6_ways.data.toList.drop 0 = dktX6_ways_0 := by decide +kernel
theorem dksX6_ways_1 : cX6_ways.data.toList.drop 24 = dktX6_ways_1 := dk_seg dksX6_ways_0 24 rfl rfl
theorem dksX6_ways_2 : cX6_ways.data.toList.drop 46 = dktX6_ways_2 := dk_seg dksX6_ways_1 22 rfl rfl
theorem dX6_ways_0 : decode cX6_ways 0 = .ok (.iload_n 1, 1) := dk_27 (dk_at dksX6_ways_0 0 rfl rfl)
theorem dX6_ways_1 : decode cX6_ways 1 = .ok (.iconst 0, 1) := dk_3 (dk_at dksX6_ways_0 1 rfl rfl)
theorem dX6_ways_2 : decode cX6_ways 2 = .ok (.bipush 10, 2) := dk_16 10 (dk_at dksX6_ways_0 2 rfl rfl)
theorem dX6_ways_4 : decode cX6_ways 4 = .ok (.invokestatic 106, 3) := dk_184 0 106 (dk_at dksX6_ways_0 4 rfl rfl)
theorem dX6_ways_7 : decode cX6_ways 7 = .ok (.ifCond .ne 7, 3) := dk_154 0 7 (dk_at dksX6_ways_0 7 rfl rfl)
theorem dX6_ways_10 : decode cX6_ways 10 = .ok (.ldc2_w 278, 3) := dk_20 1 22 (dk_at dksX6_ways_0 10 rfl rfl)
theorem dX6_ways_13 : decode cX6_ways 13 = .ok (.lreturn, 1) := dk_173 (dk_at dksX6_ways_0 13 rfl rfl)
theorem dX6_ways_14 : decode cX6_ways 14 = .ok (.aload_n 0, 1) := dk_42 (dk_at dksX6_ways_0 14 rfl rfl)
theorem dX6_ways_15 : decode cX6_ways 15 = .ok (.invokevirtual 385, 3) := dk_182 1 129 (dk_at dksX6_ways_0 15 rfl rfl)
theorem dX6_ways_18 : decode cX6_ways 18 = .ok (.iconst 0, 1) := dk_3 (dk_at dksX6_ways_0 18 rfl rfl)
theorem dX6_ways_19 : decode cX6_ways 19 = .ok (.istore_n 2, 1) := dk_61 (dk_at dksX6_ways_0 19 rfl rfl)
theorem dX6_ways_20 : decode cX6_ways 20 = .ok (.iload_n 2, 1) := dk_28 (dk_at dksX6_ways_0 20 rfl rfl)
theorem dX6_ways_21 : decode cX6_ways 21 = .ok (.sipush 11264, 3) := dk_17 44 0 (dk_at dksX6_ways_0 21 rfl rfl)
theorem dX6_ways_24 : decode cX6_ways 24 = .ok (.if_icmp .ge 18, 3) := dk_162 0 18 (dk_at dksX6_ways_1 0 rfl rfl)
theorem dX6_ways_27 : decode cX6_ways 27 = .ok (.aload_n 0, 1) := dk_42 (dk_at dksX6_ways_1 3 rfl rfl)
theorem dX6_ways_28 : decode cX6_ways 28 = .ok (.getfield 86, 3) := dk_180 0 86 (dk_at dksX6_ways_1 4 rfl rfl)
theorem dX6_ways_31 : decode cX6_ways 31 = .ok (.iload_n 2, 1) := dk_28 (dk_at dksX6_ways_1 7 rfl rfl)
theorem dX6_ways_32 : decode cX6_ways 32 = .ok (.ldc2_w 278, 3) := dk_20 1 22 (dk_at dksX6_ways_1 8 rfl rfl)
theorem dX6_ways_35 : decode cX6_ways 35 = .ok (.lastore, 1) := dk_80 (dk_at dksX6_ways_1 11 rfl rfl)
theorem dX6_ways_36 : decode cX6_ways 36 = .ok (.iinc 2 1, 3) := dk_132 2 1 (dk_at dksX6_ways_1 12 rfl rfl)
theorem dX6_ways_39 : decode cX6_ways 39 = .ok (.goto (-19), 3) := dk_167 255 237 (dk_at dksX6_ways_1 15 rfl rfl)
theorem dX6_ways_42 : decode cX6_ways 42 = .ok (.aload_n 0, 1) := dk_42 (dk_at dksX6_ways_1 18 rfl rfl)
theorem dX6_ways_43 : decode cX6_ways 43 = .ok (.iconst 0, 1) := dk_3 (dk_at dksX6_ways_1 19 rfl rfl)
theorem dX6_ways_44 : decode cX6_ways 44 = .ok (.iconst 0, 1) := dk_3 (dk_at dksX6_ways_1 20 rfl rfl)
theorem dX6_ways_45 : decode cX6_ways 45 = .ok (.iload_n 1, 1) := dk_27 (dk_at dksX6_ways_1 21 rfl rfl)
theorem dX6_ways_46 : decode cX6_ways 46 = .ok (.invokevirtual 394, 3) := dk_182 1 138 (dk_at dksX6_ways_2 0 rfl rfl)
theorem dX6_ways_49 : decode cX6_ways 49 = .ok (.lreturn, 1) := dk_173 (dk_at dksX6_ways_2 3 rfl rfl)
abbrev cX6_rowsFrom : ByteArray := prog_29_method_100_code
def yX6_rowsFrom : MethodName := ⟨RX6, "rowsFrom", "(III)J"⟩
def dkwX6_rowsFrom_3 : List UInt8 := [27, 28, 21, 7, 182, 1, 123, 54, 7, 167, 255, 223, 42, 180, 0, 86, 21, 4, 22, 5, 80, 22, 5, 173]
abbrev dktX6_rowsFrom_3 : List UInt8 := dkwX6_rowsFrom_3 ++ []
def dkwX6_rowsFrom_2 : List UInt8 := [21, 7, 2, 159, 0, 33, 22, 5, 42, 27, 4, 96, 28, 21, 7, 128, 29, 182, 1, 138, 97, 55, 5, 42]
abbrev dktX6_rowsFrom_2 : List UInt8 := dkwX6_rowsFrom_2 ++ dktX6_rowsFrom_3
def dkwX6_rowsFrom_1 : List UInt8 := [148, 155, 0, 11, 42, 180, 0, 86, 21, 4, 47, 173, 9, 55, 5, 42, 27, 28, 3, 182, 1, 123, 54, 7]
abbrev dktX6_rowsFrom_1 : List UInt8 := dkwX6_rowsFrom_1 ++ dktX6_rowsFrom_2
def dkwX6_rowsFrom_0 : List UInt8 := [27, 29, 160, 0, 5, 10, 173, 17, 4, 0, 27, 104, 28, 96, 54, 4, 42, 180, 0, 86, 21, 4, 47, 9]
abbrev dktX6_rowsFrom_0 : List UInt8 := dkwX6_rowsFrom_0 ++ dktX6_rowsFrom_1
theorem dksX6_rowsFrom_0 : cX6_rowsFrom.data.toList.drop 0 = dktX6_rowsFrom_0 := by decide +kernel
theorem dksX6_rowsFrom_1 : cX6_rowsFrom.data.toList.drop 24 = dktX6_rowsFrom_1 := dk_seg dksX6_rowsFrom_0 24 rfl rfl
theorem dksX6_rowsFrom_2 : cX6_rowsFrom.data.toList.drop 48 = dktX6_rowsFrom_2 := dk_seg dksX6_rowsFrom_1 24 rfl rfl
theorem dksX6_rowsFrom_3 : cX6_rowsFrom.data.toList.drop 72 = dktX6_rowsFrom_3 := dk_seg dksX6_rowsFrom_2 24 rfl rfl
theorem dX6_rowsFrom_0 : decode cX6_rowsFrom 0 = .ok (.iload_n 1, 1) := dk_27 (dk_at dksX6_rowsFrom_0 0 rfl rfl)
theorem dX6_rowsFrom_1 : decode cX6_rowsFrom 1 = .ok (.iload_n 3, 1) := dk_29 (dk_at dksX6_rowsFrom_0 1 rfl rfl)
theorem dX6_rowsFrom_2 : decode cX6_rowsFrom 2 = .ok (.if_icmp .ne 5, 3) := dk_160 0 5 (dk_at dksX6_rowsFrom_0 2 rfl rfl)
theorem dX6_rowsFrom_5 : decode cX6_rowsFrom 5 = .ok (.lconst 1, 1) := dk_10 (dk_at dksX6_rowsFrom_0 5 rfl rfl)
theorem dX6_rowsFrom_6 : decode cX6_rowsFrom 6 = .ok (.lreturn, 1) := dk_173 (dk_at dksX6_rowsFrom_0 6 rfl rfl)
theorem dX6_rowsFrom_7 : decode cX6_rowsFrom 7 = .ok (.sipush 1024, 3) := dk_17 4 0 (dk_at dksX6_rowsFrom_0 7 rfl rfl)
theorem dX6_rowsFrom_10 : decode cX6_rowsFrom 10 = .ok (.iload_n 1, 1) := dk_27 (dk_at dksX6_rowsFrom_0 10 rfl rfl)
theorem dX6_rowsFrom_11 : decode cX6_rowsFrom 11 = .ok (.imul, 1) := dk_104 (dk_at dksX6_rowsFrom_0 11 rfl rfl)
theorem dX6_rowsFrom_12 : decode cX6_rowsFrom 12 = .ok (.iload_n 2, 1) := dk_28 (dk_at dksX6_rowsFrom_0 12 rfl rfl)
theorem dX6_rowsFrom_13 : decode cX6_rowsFrom 13 = .ok (.iadd, 1) := dk_96 (dk_at dksX6_rowsFrom_0 13 rfl rfl)
theorem dX6_rowsFrom_14 : decode cX6_rowsFrom 14 = .ok (.istore 4, 2) := dk_54 4 (dk_at dksX6_rowsFrom_0 14 rfl rfl)
theorem dX6_rowsFrom_16 : decode cX6_rowsFrom 16 = .ok (.aload_n 0, 1) := dk_42 (dk_at dksX6_rowsFrom_0 16 rfl rfl)
theorem dX6_rowsFrom_17 : decode cX6_rowsFrom 17 = .ok (.getfield 86, 3) := dk_180 0 86 (dk_at dksX6_rowsFrom_0 17 rfl rfl)
theorem dX6_rowsFrom_20 : decode cX6_rowsFrom 20 = .ok (.iload 4, 2) := dk_21 4 (dk_at dksX6_rowsFrom_0 20 rfl rfl)
theorem dX6_rowsFrom_22 : decode cX6_rowsFrom 22 = .ok (.laload, 1) := dk_47 (dk_at dksX6_rowsFrom_0 22 rfl rfl)
theorem dX6_rowsFrom_23 : decode cX6_rowsFrom 23 = .ok (.lconst 0, 1) := dk_9 (dk_at dksX6_rowsFrom_0 23 rfl rfl)
theorem dX6_rowsFrom_24 : decode cX6_rowsFrom 24 = .ok (.lcmp, 1) := dk_148 (dk_at dksX6_rowsFrom_1 0 rfl rfl)
theorem dX6_rowsFrom_25 : decode cX6_rowsFrom 25 = .ok (.ifCond .lt 11, 3) := dk_155 0 11 (dk_at dksX6_rowsFrom_1 1 rfl rfl)
theorem dX6_rowsFrom_28 : decode cX6_rowsFrom 28 = .ok (.aload_n 0, 1) := dk_42 (dk_at dksX6_rowsFrom_1 4 rfl rfl)
theorem dX6_rowsFrom_29 : decode cX6_rowsFrom 29 = .ok (.getfield 86, 3) := dk_180 0 86 (dk_at dksX6_rowsFrom_1 5 rfl rfl)
theorem dX6_rowsFrom_32 : decode cX6_rowsFrom 32 = .ok (.iload 4, 2) := dk_21 4 (dk_at dksX6_rowsFrom_1 8 rfl rfl)
theorem dX6_rowsFrom_34 : decode cX6_rowsFrom 34 = .ok (.laload, 1) := dk_47 (dk_at dksX6_rowsFrom_1 10 rfl rfl)
theorem dX6_rowsFrom_35 : decode cX6_rowsFrom 35 = .ok (.lreturn, 1) := dk_173 (dk_at dksX6_rowsFrom_1 11 rfl rfl)
theorem dX6_rowsFrom_36 : decode cX6_rowsFrom 36 = .ok (.lconst 0, 1) := dk_9 (dk_at dksX6_rowsFrom_1 12 rfl rfl)
theorem dX6_rowsFrom_37 : decode cX6_rowsFrom 37 = .ok (.lstore 5, 2) := dk_55 5 (dk_at dksX6_rowsFrom_1 13 rfl rfl)
theorem dX6_rowsFrom_39 : decode cX6_rowsFrom 39 = .ok (.aload_n 0, 1) := dk_42 (dk_at dksX6_rowsFrom_1 15 rfl rfl)
theorem dX6_rowsFrom_40 : decode cX6_rowsFrom 40 = .ok (.iload_n 1, 1) := dk_27 (dk_at dksX6_rowsFrom_1 16 rfl rfl)
theorem dX6_rowsFrom_41 : decode cX6_rowsFrom 41 = .ok (.iload_n 2, 1) := dk_28 (dk_at dksX6_rowsFrom_1 17 rfl rfl)
theorem dX6_rowsFrom_42 : decode cX6_rowsFrom 42 = .ok (.iconst 0, 1) := dk_3 (dk_at dksX6_rowsFrom_1 18 rfl rfl)
theorem dX6_rowsFrom_43 : decode cX6_rowsFrom 43 = .ok (.invokevirtual 379, 3) := dk_182 1 123 (dk_at dksX6_rowsFrom_1 19 rfl rfl)
theorem dX6_rowsFrom_46 : decode cX6_rowsFrom 46 = .ok (.istore 7, 2) := dk_54 7 (dk_at dksX6_rowsFrom_1 22 rfl rfl)
theorem dX6_rowsFrom_48 : decode cX6_rowsFrom 48 = .ok (.iload 7, 2) := dk_21 7 (dk_at dksX6_rowsFrom_2 0 rfl rfl)
theorem dX6_rowsFrom_50 : decode cX6_rowsFrom 50 = .ok (.iconst (-1), 1) := dk_2 (dk_at dksX6_rowsFrom_2 2 rfl rfl)
theorem dX6_rowsFrom_51 : decode cX6_rowsFrom 51 = .ok (.if_icmp .eq 33, 3) := dk_159 0 33 (dk_at dksX6_rowsFrom_2 3 rfl rfl)
theorem dX6_rowsFrom_54 : decode cX6_rowsFrom 54 = .ok (.lload 5, 2) := dk_22 5 (dk_at dksX6_rowsFrom_2 6 rfl rfl)
theorem dX6_rowsFrom_56 : decode cX6_rowsFrom 56 = .ok (.aload_n 0, 1) := dk_42 (dk_at dksX6_rowsFrom_2 8 rfl rfl)
theorem dX6_rowsFrom_57 : decode cX6_rowsFrom 57 = .ok (.iload_n 1, 1) := dk_27 (dk_at dksX6_rowsFrom_2 9 rfl rfl)
theorem dX6_rowsFrom_58 : decode cX6_rowsFrom 58 = .ok (.iconst 1, 1) := dk_4 (dk_at dksX6_rowsFrom_2 10 rfl rfl)
theorem dX6_rowsFrom_59 : decode cX6_rowsFrom 59 = .ok (.iadd, 1) := dk_96 (dk_at dksX6_rowsFrom_2 11 rfl rfl)
theorem dX6_rowsFrom_60 : decode cX6_rowsFrom 60 = .ok (.iload_n 2, 1) := dk_28 (dk_at dksX6_rowsFrom_2 12 rfl rfl)
theorem dX6_rowsFrom_61 : decode cX6_rowsFrom 61 = .ok (.iload 7, 2) := dk_21 7 (dk_at dksX6_rowsFrom_2 13 rfl rfl)
theorem dX6_rowsFrom_63 : decode cX6_rowsFrom 63 = .ok (.ior, 1) := dk_128 (dk_at dksX6_rowsFrom_2 15 rfl rfl)
theorem dX6_rowsFrom_64 : decode cX6_rowsFrom 64 = .ok (.iload_n 3, 1) := dk_29 (dk_at dksX6_rowsFrom_2 16 rfl rfl)
theorem dX6_rowsFrom_65 : decode cX6_rowsFrom 65 = .ok (.invokevirtual 394, 3) := dk_182 1 138 (dk_at dksX6_rowsFrom_2 17 rfl rfl)
theorem dX6_rowsFrom_68 : decode cX6_rowsFrom 68 = .ok (.ladd, 1) := dk_97 (dk_at dksX6_rowsFrom_2 20 rfl rfl)
theorem dX6_rowsFrom_69 : decode cX6_rowsFrom 69 = .ok (.lstore 5, 2) := dk_55 5 (dk_at dksX6_rowsFrom_2 21 rfl rfl)
theorem dX6_rowsFrom_71 : decode cX6_rowsFrom 71 = .ok (.aload_n 0, 1) := dk_42 (dk_at dksX6_rowsFrom_2 23 rfl rfl)
theorem dX6_rowsFrom_72 : decode cX6_rowsFrom 72 = .ok (.iload_n 1, 1) := dk_27 (dk_at dksX6_rowsFrom_3 0 rfl rfl)
theorem dX6_rowsFrom_73 : decode cX6_rowsFrom 73 = .ok (.iload_n 2, 1) := dk_28 (dk_at dksX6_rowsFrom_3 1 rfl rfl)
theorem dX6_rowsFrom_74 : decode cX6_rowsFrom 74 = .ok (.iload 7, 2) := dk_21 7 (dk_at dksX6_rowsFrom_3 2 rfl rfl)
theorem dX6_rowsFrom_76 : decode cX6_rowsFrom 76 = .ok (.invokevirtual 379, 3) := dk_182 1 123 (dk_at dksX6_rowsFrom_3 4 rfl rfl)
theorem dX6_rowsFrom_79 : decode cX6_rowsFrom 79 = .ok (.istore 7, 2) := dk_54 7 (dk_at dksX6_rowsFrom_3 7 rfl rfl)
theorem dX6_rowsFrom_81 : decode cX6_rowsFrom 81 = .ok (.goto (-33), 3) := dk_167 255 223 (dk_at dksX6_rowsFrom_3 9 rfl rfl)
theorem dX6_rowsFrom_84 : decode cX6_rowsFrom 84 = .ok (.aload_n 0, 1) := dk_42 (dk_at dksX6_rowsFrom_3 12 rfl rfl)
theorem dX6_rowsFrom_85 : decode cX6_rowsFrom 85 = .ok (.getfield 86, 3) := dk_180 0 86 (dk_at dksX6_rowsFrom_3 13 rfl rfl)
theorem dX6_rowsFrom_88 : decode cX6_rowsFrom 88 = .ok (.iload 4, 2) := dk_21 4 (dk_at dksX6_rowsFrom_3 16 rfl rfl)
theorem dX6_rowsFrom_90 : decode cX6_rowsFrom 90 = .ok (.lload 5, 2) := dk_22 5 (dk_at dksX6_rowsFrom_3 18 rfl rfl)
theorem dX6_rowsFrom_92 : decode cX6_rowsFrom 92 = .ok (.lastore, 1) := dk_80 (dk_at dksX6_rowsFrom_3 20 rfl rfl)
theorem dX6_rowsFrom_93 : decode cX6_rowsFrom 93 = .ok (.lload 5, 2) := dk_22 5 (dk_at dksX6_rowsFrom_3 21 rfl rfl)
theorem dX6_rowsFrom_95 : decode cX6_rowsFrom 95 = .ok (.lreturn, 1) := dk_173 (dk_at dksX6_rowsFrom_3 23 rfl rfl)
abbrev cX6_late : ByteArray := prog_29_method_102_code
def yX6_late : MethodName := ⟨RX6, "late", "(I)I"⟩
def dkwX6_late_8 : List UInt8 := [167, 255, 132, 132, 4, 1, 167, 255, 117, 29, 172]
abbrev dktX6_late_8 : List UInt8 := dkwX6_late_8 ++ []
def dkwX6_late_7 : List UInt8 := [167, 0, 4, 29, 62, 42, 21, 4, 21, 5, 21, 6, 182, 1, 123, 54, 6, 167, 255, 177, 132, 5, 1]
abbrev dktX6_late_7 : List UInt8 := dkwX6_late_7 ++ dktX6_late_8
def dkwX6_late_6 : List UInt8 := [4, 96, 104, 21, 5, 21, 6, 128, 96, 4, 84, 21, 6, 27, 184, 1, 69, 153, 0, 8, 21, 4]
abbrev dktX6_late_6 : List UInt8 := dkwX6_late_6 ++ dktX6_late_7
def dkwX6_late_5 : List UInt8 := [182, 1, 126, 28, 21, 4, 100, 4, 100, 162, 0, 6, 167, 0, 39, 42, 180, 0, 93, 17, 4, 0, 21, 4]
abbrev dktX6_late_5 : List UInt8 := dkwX6_late_5 ++ dktX6_late_6
def dkwX6_late_4 : List UInt8 := [21, 5, 3, 182, 1, 123, 54, 6, 21, 6, 2, 159, 0, 79, 42, 21, 4, 4, 96, 21, 5, 21, 6, 128]
abbrev dktX6_late_4 : List UInt8 := dkwX6_late_4 ++ dktX6_late_5
def dkwX6_late_3 : List UInt8 := [42, 180, 0, 93, 17, 4, 0, 21, 4, 104, 21, 5, 96, 51, 154, 0, 6, 167, 0, 96, 42, 21, 4]
abbrev dktX6_late_3 : List UInt8 := dkwX6_late_3 ++ dktX6_late_4
def dkwX6_late_2 : List UInt8 := [4, 84, 2, 62, 3, 54, 4, 21, 4, 28, 162, 0, 139, 3, 54, 5, 21, 5, 17, 4, 0, 162, 0, 122]
abbrev dktX6_late_2 : List UInt8 := dkwX6_late_2 ++ dktX6_late_3
def dkwX6_late_1 : List UInt8 := [17, 44, 0, 162, 0, 16, 42, 180, 0, 93, 29, 3, 84, 132, 3, 1, 167, 255, 239, 42, 180, 0, 93, 3]
abbrev dktX6_late_1 : List UInt8 := dkwX6_late_1 ++ dktX6_late_2
def dkwX6_late_0 : List UInt8 := [42, 27, 182, 0, 128, 154, 0, 5, 2, 172, 42, 182, 1, 129, 42, 3, 3, 182, 1, 126, 61, 3, 62, 29]
abbrev dktX6_late_0 : List UInt8 := dkwX6_late_0 ++ dktX6_late_1
theorem dksX6_late_0 : cX6_late.data.toList.drop 0 = dktX6_late_0 := by decide +kernel
theorem dksX6_late_1 : cX6_late.data.toList.drop 24 = dktX6_late_1 := dk_seg dksX6_late_0 24 rfl rfl
theorem dksX6_late_2 : cX6_late.data.toList.drop 48 = dktX6_late_2 := dk_seg dksX6_late_1 24 rfl rfl
theorem dksX6_late_3 : cX6_late.data.toList.drop 72 = dktX6_late_3 := dk_seg dksX6_late_2 24 rfl rfl
theorem dksX6_late_4 : cX6_late.data.toList.drop 95 = dktX6_late_4 := dk_seg dksX6_late_3 23 rfl rfl
theorem dksX6_late_5 : cX6_late.data.toList.drop 119 = dktX6_late_5 := dk_seg dksX6_late_4 24 rfl rfl
theorem dksX6_late_6 : cX6_late.data.toList.drop 143 = dktX6_late_6 := dk_seg dksX6_late_5 24 rfl rfl
theorem dksX6_late_7 : cX6_late.data.toList.drop 165 = dktX6_late_7 := dk_seg dksX6_late_6 22 rfl rfl
theorem dksX6_late_8 : cX6_late.data.toList.drop 188 = dktX6_late_8 := dk_seg dksX6_late_7 23 rfl rfl
theorem dX6_late_0 : decode cX6_late 0 = .ok (.aload_n 0, 1) := dk_42 (dk_at dksX6_late_0 0 rfl rfl)
theorem dX6_late_1 : decode cX6_late 1 = .ok (.iload_n 1, 1) := dk_27 (dk_at dksX6_late_0 1 rfl rfl)
theorem dX6_late_2 : decode cX6_late 2 = .ok (.invokevirtual 128, 3) := dk_182 0 128 (dk_at dksX6_late_0 2 rfl rfl)
theorem dX6_late_5 : decode cX6_late 5 = .ok (.ifCond .ne 5, 3) := dk_154 0 5 (dk_at dksX6_late_0 5 rfl rfl)
theorem dX6_late_8 : decode cX6_late 8 = .ok (.iconst (-1), 1) := dk_2 (dk_at dksX6_late_0 8 rfl rfl)
theorem dX6_late_9 : decode cX6_late 9 = .ok (.ireturn, 1) := dk_172 (dk_at dksX6_late_0 9 rfl rfl)
theorem dX6_late_10 : decode cX6_late 10 = .ok (.aload_n 0, 1) := dk_42 (dk_at dksX6_late_0 10 rfl rfl)
theorem dX6_late_11 : decode cX6_late 11 = .ok (.invokevirtual 385, 3) := dk_182 1 129 (dk_at dksX6_late_0 11 rfl rfl)
theorem dX6_late_14 : decode cX6_late 14 = .ok (.aload_n 0, 1) := dk_42 (dk_at dksX6_late_0 14 rfl rfl)
theorem dX6_late_15 : decode cX6_late 15 = .ok (.iconst 0, 1) := dk_3 (dk_at dksX6_late_0 15 rfl rfl)
theorem dX6_late_16 : decode cX6_late 16 = .ok (.iconst 0, 1) := dk_3 (dk_at dksX6_late_0 16 rfl rfl)
theorem dX6_late_17 : decode cX6_late 17 = .ok (.invokevirtual 382, 3) := dk_182 1 126 (dk_at dksX6_late_0 17 rfl rfl)
theorem dX6_late_20 : decode cX6_late 20 = .ok (.istore_n 2, 1) := dk_61 (dk_at dksX6_late_0 20 rfl rfl)
theorem dX6_late_21 : decode cX6_late 21 = .ok (.iconst 0, 1) := dk_3 (dk_at dksX6_late_0 21 rfl rfl)
theorem dX6_late_22 : decode cX6_late 22 = .ok (.istore_n 3, 1) := dk_62 (dk_at dksX6_late_0 22 rfl rfl)
theorem dX6_late_23 : decode cX6_late 23 = .ok (.iload_n 3, 1) := dk_29 (dk_at dksX6_late_0 23 rfl rfl)
theorem dX6_late_24 : decode cX6_late 24 = .ok (.sipush 11264, 3) := dk_17 44 0 (dk_at dksX6_late_1 0 rfl rfl)
theorem dX6_late_27 : decode cX6_late 27 = .ok (.if_icmp .ge 16, 3) := dk_162 0 16 (dk_at dksX6_late_1 3 rfl rfl)
theorem dX6_late_30 : decode cX6_late 30 = .ok (.aload_n 0, 1) := dk_42 (dk_at dksX6_late_1 6 rfl rfl)
theorem dX6_late_31 : decode cX6_late 31 = .ok (.getfield 93, 3) := dk_180 0 93 (dk_at dksX6_late_1 7 rfl rfl)
theorem dX6_late_34 : decode cX6_late 34 = .ok (.iload_n 3, 1) := dk_29 (dk_at dksX6_late_1 10 rfl rfl)
theorem dX6_late_35 : decode cX6_late 35 = .ok (.iconst 0, 1) := dk_3 (dk_at dksX6_late_1 11 rfl rfl)
theorem dX6_late_36 : decode cX6_late 36 = .ok (.bastore, 1) := dk_84 (dk_at dksX6_late_1 12 rfl rfl)
theorem dX6_late_37 : decode cX6_late 37 = .ok (.iinc 3 1, 3) := dk_132 3 1 (dk_at dksX6_late_1 13 rfl rfl)
theorem dX6_late_40 : decode cX6_late 40 = .ok (.goto (-17), 3) := dk_167 255 239 (dk_at dksX6_late_1 16 rfl rfl)
theorem dX6_late_43 : decode cX6_late 43 = .ok (.aload_n 0, 1) := dk_42 (dk_at dksX6_late_1 19 rfl rfl)
theorem dX6_late_44 : decode cX6_late 44 = .ok (.getfield 93, 3) := dk_180 0 93 (dk_at dksX6_late_1 20 rfl rfl)
theorem dX6_late_47 : decode cX6_late 47 = .ok (.iconst 0, 1) := dk_3 (dk_at dksX6_late_1 23 rfl rfl)
theorem dX6_late_48 : decode cX6_late 48 = .ok (.iconst 1, 1) := dk_4 (dk_at dksX6_late_2 0 rfl rfl)
theorem dX6_late_49 : decode cX6_late 49 = .ok (.bastore, 1) := dk_84 (dk_at dksX6_late_2 1 rfl rfl)
theorem dX6_late_50 : decode cX6_late 50 = .ok (.iconst (-1), 1) := dk_2 (dk_at dksX6_late_2 2 rfl rfl)
theorem dX6_late_51 : decode cX6_late 51 = .ok (.istore_n 3, 1) := dk_62 (dk_at dksX6_late_2 3 rfl rfl)
theorem dX6_late_52 : decode cX6_late 52 = .ok (.iconst 0, 1) := dk_3 (dk_at dksX6_late_2 4 rfl rfl)
theorem dX6_late_53 : decode cX6_late 53 = .ok (.istore 4, 2) := dk_54 4 (dk_at dksX6_late_2 5 rfl rfl)
theorem dX6_late_55 : decode cX6_late 55 = .ok (.iload 4, 2) := dk_21 4 (dk_at dksX6_late_2 7 rfl rfl)
theorem dX6_late_57 : decode cX6_late 57 = .ok (.iload_n 2, 1) := dk_28 (dk_at dksX6_late_2 9 rfl rfl)
theorem dX6_late_58 : decode cX6_late 58 = .ok (.if_icmp .ge 139, 3) := dk_162 0 139 (dk_at dksX6_late_2 10 rfl rfl)
theorem dX6_late_61 : decode cX6_late 61 = .ok (.iconst 0, 1) := dk_3 (dk_at dksX6_late_2 13 rfl rfl)
theorem dX6_late_62 : decode cX6_late 62 = .ok (.istore 5, 2) := dk_54 5 (dk_at dksX6_late_2 14 rfl rfl)
theorem dX6_late_64 : decode cX6_late 64 = .ok (.iload 5, 2) := dk_21 5 (dk_at dksX6_late_2 16 rfl rfl)
theorem dX6_late_66 : decode cX6_late 66 = .ok (.sipush 1024, 3) := dk_17 4 0 (dk_at dksX6_late_2 18 rfl rfl)
theorem dX6_late_69 : decode cX6_late 69 = .ok (.if_icmp .ge 122, 3) := dk_162 0 122 (dk_at dksX6_late_2 21 rfl rfl)
theorem dX6_late_72 : decode cX6_late 72 = .ok (.aload_n 0, 1) := dk_42 (dk_at dksX6_late_3 0 rfl rfl)
theorem dX6_late_73 : decode cX6_late 73 = .ok (.getfield 93, 3) := dk_180 0 93 (dk_at dksX6_late_3 1 rfl rfl)
theorem dX6_late_76 : decode cX6_late 76 = .ok (.sipush 1024, 3) := dk_17 4 0 (dk_at dksX6_late_3 4 rfl rfl)
theorem dX6_late_79 : decode cX6_late 79 = .ok (.iload 4, 2) := dk_21 4 (dk_at dksX6_late_3 7 rfl rfl)
theorem dX6_late_81 : decode cX6_late 81 = .ok (.imul, 1) := dk_104 (dk_at dksX6_late_3 9 rfl rfl)
theorem dX6_late_82 : decode cX6_late 82 = .ok (.iload 5, 2) := dk_21 5 (dk_at dksX6_late_3 10 rfl rfl)
theorem dX6_late_84 : decode cX6_late 84 = .ok (.iadd, 1) := dk_96 (dk_at dksX6_late_3 12 rfl rfl)
theorem dX6_late_85 : decode cX6_late 85 = .ok (.baload, 1) := dk_51 (dk_at dksX6_late_3 13 rfl rfl)
theorem dX6_late_86 : decode cX6_late 86 = .ok (.ifCond .ne 6, 3) := dk_154 0 6 (dk_at dksX6_late_3 14 rfl rfl)
theorem dX6_late_89 : decode cX6_late 89 = .ok (.goto 96, 3) := dk_167 0 96 (dk_at dksX6_late_3 17 rfl rfl)
theorem dX6_late_92 : decode cX6_late 92 = .ok (.aload_n 0, 1) := dk_42 (dk_at dksX6_late_3 20 rfl rfl)
theorem dX6_late_93 : decode cX6_late 93 = .ok (.iload 4, 2) := dk_21 4 (dk_at dksX6_late_3 21 rfl rfl)
theorem dX6_late_95 : decode cX6_late 95 = .ok (.iload 5, 2) := dk_21 5 (dk_at dksX6_late_4 0 rfl rfl)
theorem dX6_late_97 : decode cX6_late 97 = .ok (.iconst 0, 1) := dk_3 (dk_at dksX6_late_4 2 rfl rfl)
theorem dX6_late_98 : decode cX6_late 98 = .ok (.invokevirtual 379, 3) := dk_182 1 123 (dk_at dksX6_late_4 3 rfl rfl)
theorem dX6_late_101 : decode cX6_late 101 = .ok (.istore 6, 2) := dk_54 6 (dk_at dksX6_late_4 6 rfl rfl)
theorem dX6_late_103 : decode cX6_late 103 = .ok (.iload 6, 2) := dk_21 6 (dk_at dksX6_late_4 8 rfl rfl)
theorem dX6_late_105 : decode cX6_late 105 = .ok (.iconst (-1), 1) := dk_2 (dk_at dksX6_late_4 10 rfl rfl)
theorem dX6_late_106 : decode cX6_late 106 = .ok (.if_icmp .eq 79, 3) := dk_159 0 79 (dk_at dksX6_late_4 11 rfl rfl)
theorem dX6_late_109 : decode cX6_late 109 = .ok (.aload_n 0, 1) := dk_42 (dk_at dksX6_late_4 14 rfl rfl)
theorem dX6_late_110 : decode cX6_late 110 = .ok (.iload 4, 2) := dk_21 4 (dk_at dksX6_late_4 15 rfl rfl)
theorem dX6_late_112 : decode cX6_late 112 = .ok (.iconst 1, 1) := dk_4 (dk_at dksX6_late_4 17 rfl rfl)
theorem dX6_late_113 : decode cX6_late 113 = .ok (.iadd, 1) := dk_96 (dk_at dksX6_late_4 18 rfl rfl)
theorem dX6_late_114 : decode cX6_late 114 = .ok (.iload 5, 2) := dk_21 5 (dk_at dksX6_late_4 19 rfl rfl)
theorem dX6_late_116 : decode cX6_late 116 = .ok (.iload 6, 2) := dk_21 6 (dk_at dksX6_late_4 21 rfl rfl)
theorem dX6_late_118 : decode cX6_late 118 = .ok (.ior, 1) := dk_128 (dk_at dksX6_late_4 23 rfl rfl)
theorem dX6_late_119 : decode cX6_late 119 = .ok (.invokevirtual 382, 3) := dk_182 1 126 (dk_at dksX6_late_5 0 rfl rfl)
theorem dX6_late_122 : decode cX6_late 122 = .ok (.iload_n 2, 1) := dk_28 (dk_at dksX6_late_5 3 rfl rfl)
theorem dX6_late_123 : decode cX6_late 123 = .ok (.iload 4, 2) := dk_21 4 (dk_at dksX6_late_5 4 rfl rfl)
theorem dX6_late_125 : decode cX6_late 125 = .ok (.isub, 1) := dk_100 (dk_at dksX6_late_5 6 rfl rfl)
theorem dX6_late_126 : decode cX6_late 126 = .ok (.iconst 1, 1) := dk_4 (dk_at dksX6_late_5 7 rfl rfl)
theorem dX6_late_127 : decode cX6_late 127 = .ok (.isub, 1) := dk_100 (dk_at dksX6_late_5 8 rfl rfl)
theorem dX6_late_128 : decode cX6_late 128 = .ok (.if_icmp .ge 6, 3) := dk_162 0 6 (dk_at dksX6_late_5 9 rfl rfl)
theorem dX6_late_131 : decode cX6_late 131 = .ok (.goto 39, 3) := dk_167 0 39 (dk_at dksX6_late_5 12 rfl rfl)
theorem dX6_late_134 : decode cX6_late 134 = .ok (.aload_n 0, 1) := dk_42 (dk_at dksX6_late_5 15 rfl rfl)
theorem dX6_late_135 : decode cX6_late 135 = .ok (.getfield 93, 3) := dk_180 0 93 (dk_at dksX6_late_5 16 rfl rfl)
theorem dX6_late_138 : decode cX6_late 138 = .ok (.sipush 1024, 3) := dk_17 4 0 (dk_at dksX6_late_5 19 rfl rfl)
theorem dX6_late_141 : decode cX6_late 141 = .ok (.iload 4, 2) := dk_21 4 (dk_at dksX6_late_5 22 rfl rfl)
theorem dX6_late_143 : decode cX6_late 143 = .ok (.iconst 1, 1) := dk_4 (dk_at dksX6_late_6 0 rfl rfl)
theorem dX6_late_144 : decode cX6_late 144 = .ok (.iadd, 1) := dk_96 (dk_at dksX6_late_6 1 rfl rfl)
theorem dX6_late_145 : decode cX6_late 145 = .ok (.imul, 1) := dk_104 (dk_at dksX6_late_6 2 rfl rfl)
theorem dX6_late_146 : decode cX6_late 146 = .ok (.iload 5, 2) := dk_21 5 (dk_at dksX6_late_6 3 rfl rfl)
theorem dX6_late_148 : decode cX6_late 148 = .ok (.iload 6, 2) := dk_21 6 (dk_at dksX6_late_6 5 rfl rfl)
theorem dX6_late_150 : decode cX6_late 150 = .ok (.ior, 1) := dk_128 (dk_at dksX6_late_6 7 rfl rfl)
theorem dX6_late_151 : decode cX6_late 151 = .ok (.iadd, 1) := dk_96 (dk_at dksX6_late_6 8 rfl rfl)
theorem dX6_late_152 : decode cX6_late 152 = .ok (.iconst 1, 1) := dk_4 (dk_at dksX6_late_6 9 rfl rfl)
theorem dX6_late_153 : decode cX6_late 153 = .ok (.bastore, 1) := dk_84 (dk_at dksX6_late_6 10 rfl rfl)
theorem dX6_late_154 : decode cX6_late 154 = .ok (.iload 6, 2) := dk_21 6 (dk_at dksX6_late_6 11 rfl rfl)
theorem dX6_late_156 : decode cX6_late 156 = .ok (.iload_n 1, 1) := dk_27 (dk_at dksX6_late_6 13 rfl rfl)
theorem dX6_late_157 : decode cX6_late 157 = .ok (.invokestatic 325, 3) := dk_184 1 69 (dk_at dksX6_late_6 14 rfl rfl)
theorem dX6_late_160 : decode cX6_late 160 = .ok (.ifCond .eq 8, 3) := dk_153 0 8 (dk_at dksX6_late_6 17 rfl rfl)
theorem dX6_late_163 : decode cX6_late 163 = .ok (.iload 4, 2) := dk_21 4 (dk_at dksX6_late_6 20 rfl rfl)
theorem dX6_late_165 : decode cX6_late 165 = .ok (.goto 4, 3) := dk_167 0 4 (dk_at dksX6_late_7 0 rfl rfl)
theorem dX6_late_168 : decode cX6_late 168 = .ok (.iload_n 3, 1) := dk_29 (dk_at dksX6_late_7 3 rfl rfl)
theorem dX6_late_169 : decode cX6_late 169 = .ok (.istore_n 3, 1) := dk_62 (dk_at dksX6_late_7 4 rfl rfl)
theorem dX6_late_170 : decode cX6_late 170 = .ok (.aload_n 0, 1) := dk_42 (dk_at dksX6_late_7 5 rfl rfl)
theorem dX6_late_171 : decode cX6_late 171 = .ok (.iload 4, 2) := dk_21 4 (dk_at dksX6_late_7 6 rfl rfl)
theorem dX6_late_173 : decode cX6_late 173 = .ok (.iload 5, 2) := dk_21 5 (dk_at dksX6_late_7 8 rfl rfl)
theorem dX6_late_175 : decode cX6_late 175 = .ok (.iload 6, 2) := dk_21 6 (dk_at dksX6_late_7 10 rfl rfl)
theorem dX6_late_177 : decode cX6_late 177 = .ok (.invokevirtual 379, 3) := dk_182 1 123 (dk_at dksX6_late_7 12 rfl rfl)
theorem dX6_late_180 : decode cX6_late 180 = .ok (.istore 6, 2) := dk_54 6 (dk_at dksX6_late_7 15 rfl rfl)
theorem dX6_late_182 : decode cX6_late 182 = .ok (.goto (-79), 3) := dk_167 255 177 (dk_at dksX6_late_7 17 rfl rfl)
theorem dX6_late_185 : decode cX6_late 185 = .ok (.iinc 5 1, 3) := dk_132 5 1 (dk_at dksX6_late_7 20 rfl rfl)
theorem dX6_late_188 : decode cX6_late 188 = .ok (.goto (-124), 3) := dk_167 255 132 (dk_at dksX6_late_8 0 rfl rfl)
theorem dX6_late_191 : decode cX6_late 191 = .ok (.iinc 4 1, 3) := dk_132 4 1 (dk_at dksX6_late_8 3 rfl rfl)
theorem dX6_late_194 : decode cX6_late 194 = .ok (.goto (-139), 3) := dk_167 255 117 (dk_at dksX6_late_8 6 rfl rfl)
theorem dX6_late_197 : decode cX6_late 197 = .ok (.iload_n 3, 1) := dk_29 (dk_at dksX6_late_8 9 rfl rfl)
theorem dX6_late_198 : decode cX6_late 198 = .ok (.ireturn, 1) := dk_172 (dk_at dksX6_late_8 10 rfl rfl)
abbrev cX6_swaps : ByteArray := prog_29_method_106_code
def yX6_swaps : MethodName := ⟨RX6, "swaps", "(I)I"⟩
def dkwX6_swaps_6 : List UInt8 := [132, 5, 1, 167, 255, 176]
abbrev dktX6_swaps_6 : List UInt8 := dkwX6_swaps_6 ++ []
def dkwX6_swaps_5 : List UInt8 := [21, 5, 27, 160, 0, 6, 21, 6, 172, 29, 21, 6, 128, 62, 42, 21, 6, 182, 1, 142, 54, 4]
abbrev dktX6_swaps_5 : List UInt8 := dkwX6_swaps_5 ++ dktX6_swaps_6
def dkwX6_swaps_4 : List UInt8 := [21, 5, 100, 4, 100, 162, 0, 19, 42, 21, 5, 29, 21, 4, 21, 6, 182, 1, 145, 54, 6, 167, 255, 216]
abbrev dktX6_swaps_4 : List UInt8 := dkwX6_swaps_4 ++ dktX6_swaps_5
def dkwX6_swaps_3 : List UInt8 := [182, 1, 145, 54, 6, 42, 21, 5, 4, 96, 29, 21, 6, 128, 42, 21, 6, 182, 1, 142, 182, 1, 149, 28]
abbrev dktX6_swaps_3 : List UInt8 := dkwX6_swaps_3 ++ dktX6_swaps_4
def dkwX6_swaps_2 : List UInt8 := [27, 2, 160, 0, 5, 28, 172, 3, 62, 3, 54, 4, 3, 54, 5, 42, 21, 5, 29, 21, 4, 3]
abbrev dktX6_swaps_2 : List UInt8 := dkwX6_swaps_2 ++ dktX6_swaps_3
def dkwX6_swaps_1 : List UInt8 := [167, 255, 240, 42, 3, 3, 3, 182, 1, 149, 61, 27, 2, 28, 4, 100, 184, 0, 106, 154, 0, 5, 2, 172]
abbrev dktX6_swaps_1 : List UInt8 := dkwX6_swaps_1 ++ dktX6_swaps_2
def dkwX6_swaps_0 : List UInt8 := [42, 182, 1, 129, 3, 61, 28, 18, 96, 162, 0, 16, 42, 180, 0, 97, 28, 2, 84, 132, 2, 1]
abbrev dktX6_swaps_0 : List UInt8 := dkwX6_swaps_0 ++ dktX6_swaps_1
theorem dksX6_swaps_0 : cX6_swaps.data.toList.drop 0 = dktX6_swaps_0 := by decide +kernel
theorem dksX6_swaps_1 : cX6_swaps.data.toList.drop 22 = dktX6_swaps_1 := dk_seg dksX6_swaps_0 22 rfl rfl
theorem dksX6_swaps_2 : cX6_swaps.data.toList.drop 46 = dktX6_swaps_2 := dk_seg dksX6_swaps_1 24 rfl rfl
theorem dksX6_swaps_3 : cX6_swaps.data.toList.drop 68 = dktX6_swaps_3 := dk_seg dksX6_swaps_2 22 rfl rfl
theorem dksX6_swaps_4 : cX6_swaps.data.toList.drop 92 = dktX6_swaps_4 := dk_seg dksX6_swaps_3 24 rfl rfl
theorem dksX6_swaps_5 : cX6_swaps.data.toList.drop 116 = dktX6_swaps_5 := dk_seg dksX6_swaps_4 24 rfl rfl
theorem dksX6_swaps_6 : cX6_swaps.data.toList.drop 138 = dktX6_swaps_6 := dk_seg dksX6_swaps_5 22 rfl rfl
theorem dX6_swaps_0 : decode cX6_swaps 0 = .ok (.aload_n 0, 1) := dk_42 (dk_at dksX6_swaps_0 0 rfl rfl)
theorem dX6_swaps_1 : decode cX6_swaps 1 = .ok (.invokevirtual 385, 3) := dk_182 1 129 (dk_at dksX6_swaps_0 1 rfl rfl)
theorem dX6_swaps_4 : decode cX6_swaps 4 = .ok (.iconst 0, 1) := dk_3 (dk_at dksX6_swaps_0 4 rfl rfl)
theorem dX6_swaps_5 : decode cX6_swaps 5 = .ok (.istore_n 2, 1) := dk_61 (dk_at dksX6_swaps_0 5 rfl rfl)
theorem dX6_swaps_6 : decode cX6_swaps 6 = .ok (.iload_n 2, 1) := dk_28 (dk_at dksX6_swaps_0 6 rfl rfl)
theorem dX6_swaps_7 : decode cX6_swaps 7 = .ok (.ldc 96, 2) := dk_18 96 (dk_at dksX6_swaps_0 7 rfl rfl)
theorem dX6_swaps_9 : decode cX6_swaps 9 = .ok (.if_icmp .ge 16, 3) := dk_162 0 16 (dk_at dksX6_swaps_0 9 rfl rfl)
theorem dX6_swaps_12 : decode cX6_swaps 12 = .ok (.aload_n 0, 1) := dk_42 (dk_at dksX6_swaps_0 12 rfl rfl)
theorem dX6_swaps_13 : decode cX6_swaps 13 = .ok (.getfield 97, 3) := dk_180 0 97 (dk_at dksX6_swaps_0 13 rfl rfl)
theorem dX6_swaps_16 : decode cX6_swaps 16 = .ok (.iload_n 2, 1) := dk_28 (dk_at dksX6_swaps_0 16 rfl rfl)
theorem dX6_swaps_17 : decode cX6_swaps 17 = .ok (.iconst (-1), 1) := dk_2 (dk_at dksX6_swaps_0 17 rfl rfl)
theorem dX6_swaps_18 : decode cX6_swaps 18 = .ok (.bastore, 1) := dk_84 (dk_at dksX6_swaps_0 18 rfl rfl)
theorem dX6_swaps_19 : decode cX6_swaps 19 = .ok (.iinc 2 1, 3) := dk_132 2 1 (dk_at dksX6_swaps_0 19 rfl rfl)
theorem dX6_swaps_22 : decode cX6_swaps 22 = .ok (.goto (-16), 3) := dk_167 255 240 (dk_at dksX6_swaps_1 0 rfl rfl)
theorem dX6_swaps_25 : decode cX6_swaps 25 = .ok (.aload_n 0, 1) := dk_42 (dk_at dksX6_swaps_1 3 rfl rfl)
theorem dX6_swaps_26 : decode cX6_swaps 26 = .ok (.iconst 0, 1) := dk_3 (dk_at dksX6_swaps_1 4 rfl rfl)
theorem dX6_swaps_27 : decode cX6_swaps 27 = .ok (.iconst 0, 1) := dk_3 (dk_at dksX6_swaps_1 5 rfl rfl)
theorem dX6_swaps_28 : decode cX6_swaps 28 = .ok (.iconst 0, 1) := dk_3 (dk_at dksX6_swaps_1 6 rfl rfl)
theorem dX6_swaps_29 : decode cX6_swaps 29 = .ok (.invokevirtual 405, 3) := dk_182 1 149 (dk_at dksX6_swaps_1 7 rfl rfl)
theorem dX6_swaps_32 : decode cX6_swaps 32 = .ok (.istore_n 2, 1) := dk_61 (dk_at dksX6_swaps_1 10 rfl rfl)
theorem dX6_swaps_33 : decode cX6_swaps 33 = .ok (.iload_n 1, 1) := dk_27 (dk_at dksX6_swaps_1 11 rfl rfl)
theorem dX6_swaps_34 : decode cX6_swaps 34 = .ok (.iconst (-1), 1) := dk_2 (dk_at dksX6_swaps_1 12 rfl rfl)
theorem dX6_swaps_35 : decode cX6_swaps 35 = .ok (.iload_n 2, 1) := dk_28 (dk_at dksX6_swaps_1 13 rfl rfl)
theorem dX6_swaps_36 : decode cX6_swaps 36 = .ok (.iconst 1, 1) := dk_4 (dk_at dksX6_swaps_1 14 rfl rfl)
theorem dX6_swaps_37 : decode cX6_swaps 37 = .ok (.isub, 1) := dk_100 (dk_at dksX6_swaps_1 15 rfl rfl)
theorem dX6_swaps_38 : decode cX6_swaps 38 = .ok (.invokestatic 106, 3) := dk_184 0 106 (dk_at dksX6_swaps_1 16 rfl rfl)
theorem dX6_swaps_41 : decode cX6_swaps 41 = .ok (.ifCond .ne 5, 3) := dk_154 0 5 (dk_at dksX6_swaps_1 19 rfl rfl)
theorem dX6_swaps_44 : decode cX6_swaps 44 = .ok (.iconst (-1), 1) := dk_2 (dk_at dksX6_swaps_1 22 rfl rfl)
theorem dX6_swaps_45 : decode cX6_swaps 45 = .ok (.ireturn, 1) := dk_172 (dk_at dksX6_swaps_1 23 rfl rfl)
theorem dX6_swaps_46 : decode cX6_swaps 46 = .ok (.iload_n 1, 1) := dk_27 (dk_at dksX6_swaps_2 0 rfl rfl)
theorem dX6_swaps_47 : decode cX6_swaps 47 = .ok (.iconst (-1), 1) := dk_2 (dk_at dksX6_swaps_2 1 rfl rfl)
theorem dX6_swaps_48 : decode cX6_swaps 48 = .ok (.if_icmp .ne 5, 3) := dk_160 0 5 (dk_at dksX6_swaps_2 2 rfl rfl)
theorem dX6_swaps_51 : decode cX6_swaps 51 = .ok (.iload_n 2, 1) := dk_28 (dk_at dksX6_swaps_2 5 rfl rfl)
theorem dX6_swaps_52 : decode cX6_swaps 52 = .ok (.ireturn, 1) := dk_172 (dk_at dksX6_swaps_2 6 rfl rfl)
theorem dX6_swaps_53 : decode cX6_swaps 53 = .ok (.iconst 0, 1) := dk_3 (dk_at dksX6_swaps_2 7 rfl rfl)
theorem dX6_swaps_54 : decode cX6_swaps 54 = .ok (.istore_n 3, 1) := dk_62 (dk_at dksX6_swaps_2 8 rfl rfl)
theorem dX6_swaps_55 : decode cX6_swaps 55 = .ok (.iconst 0, 1) := dk_3 (dk_at dksX6_swaps_2 9 rfl rfl)
theorem dX6_swaps_56 : decode cX6_swaps 56 = .ok (.istore 4, 2) := dk_54 4 (dk_at dksX6_swaps_2 10 rfl rfl)
theorem dX6_swaps_58 : decode cX6_swaps 58 = .ok (.iconst 0, 1) := dk_3 (dk_at dksX6_swaps_2 12 rfl rfl)
theorem dX6_swaps_59 : decode cX6_swaps 59 = .ok (.istore 5, 2) := dk_54 5 (dk_at dksX6_swaps_2 13 rfl rfl)
theorem dX6_swaps_61 : decode cX6_swaps 61 = .ok (.aload_n 0, 1) := dk_42 (dk_at dksX6_swaps_2 15 rfl rfl)
theorem dX6_swaps_62 : decode cX6_swaps 62 = .ok (.iload 5, 2) := dk_21 5 (dk_at dksX6_swaps_2 16 rfl rfl)
theorem dX6_swaps_64 : decode cX6_swaps 64 = .ok (.iload_n 3, 1) := dk_29 (dk_at dksX6_swaps_2 18 rfl rfl)
theorem dX6_swaps_65 : decode cX6_swaps 65 = .ok (.iload 4, 2) := dk_21 4 (dk_at dksX6_swaps_2 19 rfl rfl)
theorem dX6_swaps_67 : decode cX6_swaps 67 = .ok (.iconst 0, 1) := dk_3 (dk_at dksX6_swaps_2 21 rfl rfl)
theorem dX6_swaps_68 : decode cX6_swaps 68 = .ok (.invokevirtual 401, 3) := dk_182 1 145 (dk_at dksX6_swaps_3 0 rfl rfl)
theorem dX6_swaps_71 : decode cX6_swaps 71 = .ok (.istore 6, 2) := dk_54 6 (dk_at dksX6_swaps_3 3 rfl rfl)
theorem dX6_swaps_73 : decode cX6_swaps 73 = .ok (.aload_n 0, 1) := dk_42 (dk_at dksX6_swaps_3 5 rfl rfl)
theorem dX6_swaps_74 : decode cX6_swaps 74 = .ok (.iload 5, 2) := dk_21 5 (dk_at dksX6_swaps_3 6 rfl rfl)
theorem dX6_swaps_76 : decode cX6_swaps 76 = .ok (.iconst 1, 1) := dk_4 (dk_at dksX6_swaps_3 8 rfl rfl)
theorem dX6_swaps_77 : decode cX6_swaps 77 = .ok (.iadd, 1) := dk_96 (dk_at dksX6_swaps_3 9 rfl rfl)
theorem dX6_swaps_78 : decode cX6_swaps 78 = .ok (.iload_n 3, 1) := dk_29 (dk_at dksX6_swaps_3 10 rfl rfl)
theorem dX6_swaps_79 : decode cX6_swaps 79 = .ok (.iload 6, 2) := dk_21 6 (dk_at dksX6_swaps_3 11 rfl rfl)
theorem dX6_swaps_81 : decode cX6_swaps 81 = .ok (.ior, 1) := dk_128 (dk_at dksX6_swaps_3 13 rfl rfl)
theorem dX6_swaps_82 : decode cX6_swaps 82 = .ok (.aload_n 0, 1) := dk_42 (dk_at dksX6_swaps_3 14 rfl rfl)
theorem dX6_swaps_83 : decode cX6_swaps 83 = .ok (.iload 6, 2) := dk_21 6 (dk_at dksX6_swaps_3 15 rfl rfl)
theorem dX6_swaps_85 : decode cX6_swaps 85 = .ok (.invokevirtual 398, 3) := dk_182 1 142 (dk_at dksX6_swaps_3 17 rfl rfl)
theorem dX6_swaps_88 : decode cX6_swaps 88 = .ok (.invokevirtual 405, 3) := dk_182 1 149 (dk_at dksX6_swaps_3 20 rfl rfl)
theorem dX6_swaps_91 : decode cX6_swaps 91 = .ok (.iload_n 2, 1) := dk_28 (dk_at dksX6_swaps_3 23 rfl rfl)
theorem dX6_swaps_92 : decode cX6_swaps 92 = .ok (.iload 5, 2) := dk_21 5 (dk_at dksX6_swaps_4 0 rfl rfl)
theorem dX6_swaps_94 : decode cX6_swaps 94 = .ok (.isub, 1) := dk_100 (dk_at dksX6_swaps_4 2 rfl rfl)
theorem dX6_swaps_95 : decode cX6_swaps 95 = .ok (.iconst 1, 1) := dk_4 (dk_at dksX6_swaps_4 3 rfl rfl)
theorem dX6_swaps_96 : decode cX6_swaps 96 = .ok (.isub, 1) := dk_100 (dk_at dksX6_swaps_4 4 rfl rfl)
theorem dX6_swaps_97 : decode cX6_swaps 97 = .ok (.if_icmp .ge 19, 3) := dk_162 0 19 (dk_at dksX6_swaps_4 5 rfl rfl)
theorem dX6_swaps_100 : decode cX6_swaps 100 = .ok (.aload_n 0, 1) := dk_42 (dk_at dksX6_swaps_4 8 rfl rfl)
theorem dX6_swaps_101 : decode cX6_swaps 101 = .ok (.iload 5, 2) := dk_21 5 (dk_at dksX6_swaps_4 9 rfl rfl)
theorem dX6_swaps_103 : decode cX6_swaps 103 = .ok (.iload_n 3, 1) := dk_29 (dk_at dksX6_swaps_4 11 rfl rfl)
theorem dX6_swaps_104 : decode cX6_swaps 104 = .ok (.iload 4, 2) := dk_21 4 (dk_at dksX6_swaps_4 12 rfl rfl)
theorem dX6_swaps_106 : decode cX6_swaps 106 = .ok (.iload 6, 2) := dk_21 6 (dk_at dksX6_swaps_4 14 rfl rfl)
theorem dX6_swaps_108 : decode cX6_swaps 108 = .ok (.invokevirtual 401, 3) := dk_182 1 145 (dk_at dksX6_swaps_4 16 rfl rfl)
theorem dX6_swaps_111 : decode cX6_swaps 111 = .ok (.istore 6, 2) := dk_54 6 (dk_at dksX6_swaps_4 19 rfl rfl)
theorem dX6_swaps_113 : decode cX6_swaps 113 = .ok (.goto (-40), 3) := dk_167 255 216 (dk_at dksX6_swaps_4 21 rfl rfl)
theorem dX6_swaps_116 : decode cX6_swaps 116 = .ok (.iload 5, 2) := dk_21 5 (dk_at dksX6_swaps_5 0 rfl rfl)
theorem dX6_swaps_118 : decode cX6_swaps 118 = .ok (.iload_n 1, 1) := dk_27 (dk_at dksX6_swaps_5 2 rfl rfl)
theorem dX6_swaps_119 : decode cX6_swaps 119 = .ok (.if_icmp .ne 6, 3) := dk_160 0 6 (dk_at dksX6_swaps_5 3 rfl rfl)
theorem dX6_swaps_122 : decode cX6_swaps 122 = .ok (.iload 6, 2) := dk_21 6 (dk_at dksX6_swaps_5 6 rfl rfl)
theorem dX6_swaps_124 : decode cX6_swaps 124 = .ok (.ireturn, 1) := dk_172 (dk_at dksX6_swaps_5 8 rfl rfl)
theorem dX6_swaps_125 : decode cX6_swaps 125 = .ok (.iload_n 3, 1) := dk_29 (dk_at dksX6_swaps_5 9 rfl rfl)
theorem dX6_swaps_126 : decode cX6_swaps 126 = .ok (.iload 6, 2) := dk_21 6 (dk_at dksX6_swaps_5 10 rfl rfl)
theorem dX6_swaps_128 : decode cX6_swaps 128 = .ok (.ior, 1) := dk_128 (dk_at dksX6_swaps_5 12 rfl rfl)
theorem dX6_swaps_129 : decode cX6_swaps 129 = .ok (.istore_n 3, 1) := dk_62 (dk_at dksX6_swaps_5 13 rfl rfl)
theorem dX6_swaps_130 : decode cX6_swaps 130 = .ok (.aload_n 0, 1) := dk_42 (dk_at dksX6_swaps_5 14 rfl rfl)
theorem dX6_swaps_131 : decode cX6_swaps 131 = .ok (.iload 6, 2) := dk_21 6 (dk_at dksX6_swaps_5 15 rfl rfl)
theorem dX6_swaps_133 : decode cX6_swaps 133 = .ok (.invokevirtual 398, 3) := dk_182 1 142 (dk_at dksX6_swaps_5 17 rfl rfl)
theorem dX6_swaps_136 : decode cX6_swaps 136 = .ok (.istore 4, 2) := dk_54 4 (dk_at dksX6_swaps_5 20 rfl rfl)
theorem dX6_swaps_138 : decode cX6_swaps 138 = .ok (.iinc 5 1, 3) := dk_132 5 1 (dk_at dksX6_swaps_6 0 rfl rfl)
theorem dX6_swaps_141 : decode cX6_swaps 141 = .ok (.goto (-80), 3) := dk_167 255 176 (dk_at dksX6_swaps_6 3 rfl rfl)
abbrev cX6_turnsFrom : ByteArray := prog_29_method_105_code
def yX6_turnsFrom : MethodName := ⟨RX6, "turnsFrom", "(III)I"⟩
def dkwX6_turnsFrom_5 : List UInt8 := [21, 5, 145, 84, 21, 5, 172]
abbrev dktX6_turnsFrom_5 : List UInt8 := dkwX6_turnsFrom_5 ++ []
def dkwX6_turnsFrom_4 : List UInt8 := [21, 5, 54, 5, 42, 27, 28, 29, 21, 6, 182, 1, 145, 54, 6, 167, 255, 202, 42, 180, 0, 97, 21, 4]
abbrev dktX6_turnsFrom_4 : List UInt8 := dkwX6_turnsFrom_4 ++ dktX6_turnsFrom_5
def dkwX6_turnsFrom_3 : List UInt8 := [21, 6, 182, 1, 142, 182, 1, 149, 96, 54, 7, 21, 7, 21, 5, 164, 0, 8, 21, 7, 167, 0, 5]
abbrev dktX6_turnsFrom_3 : List UInt8 := dkwX6_turnsFrom_3 ++ dktX6_turnsFrom_4
def dkwX6_turnsFrom_2 : List UInt8 := [29, 3, 182, 1, 145, 54, 6, 21, 6, 2, 159, 0, 54, 4, 42, 27, 4, 96, 28, 21, 6, 128, 42]
abbrev dktX6_turnsFrom_2 : List UInt8 := dkwX6_turnsFrom_2 ++ dktX6_turnsFrom_3
def dkwX6_turnsFrom_1 : List UInt8 := [180, 0, 97, 21, 4, 51, 2, 159, 0, 11, 42, 180, 0, 97, 21, 4, 51, 172, 3, 54, 5, 42, 27, 28]
abbrev dktX6_turnsFrom_1 : List UInt8 := dkwX6_turnsFrom_1 ++ dktX6_turnsFrom_2
def dkwX6_turnsFrom_0 : List UInt8 := [27, 16, 10, 164, 0, 5, 3, 172, 17, 4, 0, 27, 104, 28, 96, 16, 16, 104, 29, 96, 54, 4, 42]
abbrev dktX6_turnsFrom_0 : List UInt8 := dkwX6_turnsFrom_0 ++ dktX6_turnsFrom_1
theorem dksX6_turnsFrom_0 : cX6_turnsFrom.data.toList.drop 0 = dktX6_turnsFrom_0 := by decide +kernel
theorem dksX6_turnsFrom_1 : cX6_turnsFrom.data.toList.drop 23 = dktX6_turnsFrom_1 := dk_seg dksX6_turnsFrom_0 23 rfl rfl
theorem dksX6_turnsFrom_2 : cX6_turnsFrom.data.toList.drop 47 = dktX6_turnsFrom_2 := dk_seg dksX6_turnsFrom_1 24 rfl rfl
theorem dksX6_turnsFrom_3 : cX6_turnsFrom.data.toList.drop 70 = dktX6_turnsFrom_3 := dk_seg dksX6_turnsFrom_2 23 rfl rfl
theorem dksX6_turnsFrom_4 : cX6_turnsFrom.data.toList.drop 93 = dktX6_turnsFrom_4 := dk_seg dksX6_turnsFrom_3 23 rfl rfl
theorem dksX6_turnsFrom_5 : cX6_turnsFrom.data.toList.drop 117 = dktX6_turnsFrom_5 := dk_seg dksX6_turnsFrom_4 24 rfl rfl
theorem dX6_turnsFrom_0 : decode cX6_turnsFrom 0 = .ok (.iload_n 1, 1) := dk_27 (dk_at dksX6_turnsFrom_0 0 rfl rfl)
theorem dX6_turnsFrom_1 : decode cX6_turnsFrom 1 = .ok (.bipush 10, 2) := dk_16 10 (dk_at dksX6_turnsFrom_0 1 rfl rfl)
theorem dX6_turnsFrom_3 : decode cX6_turnsFrom 3 = .ok (.if_icmp .le 5, 3) := dk_164 0 5 (dk_at dksX6_turnsFrom_0 3 rfl rfl)
theorem dX6_turnsFrom_6 : decode cX6_turnsFrom 6 = .ok (.iconst 0, 1) := dk_3 (dk_at dksX6_turnsFrom_0 6 rfl rfl)
theorem dX6_turnsFrom_7 : decode cX6_turnsFrom 7 = .ok (.ireturn, 1) := dk_172 (dk_at dksX6_turnsFrom_0 7 rfl rfl)
theorem dX6_turnsFrom_8 : decode cX6_turnsFrom 8 = .ok (.sipush 1024, 3) := dk_17 4 0 (dk_at dksX6_turnsFrom_0 8 rfl rfl)
theorem dX6_turnsFrom_11 : decode cX6_turnsFrom 11 = .ok (.iload_n 1, 1) := dk_27 (dk_at dksX6_turnsFrom_0 11 rfl rfl)
theorem dX6_turnsFrom_12 : decode cX6_turnsFrom 12 = .ok (.imul, 1) := dk_104 (dk_at dksX6_turnsFrom_0 12 rfl rfl)
theorem dX6_turnsFrom_13 : decode cX6_turnsFrom 13 = .ok (.iload_n 2, 1) := dk_28 (dk_at dksX6_turnsFrom_0 13 rfl rfl)
theorem dX6_turnsFrom_14 : decode cX6_turnsFrom 14 = .ok (.iadd, 1) := dk_96 (dk_at dksX6_turnsFrom_0 14 rfl rfl)
theorem dX6_turnsFrom_15 : decode cX6_turnsFrom 15 = .ok (.bipush 16, 2) := dk_16 16 (dk_at dksX6_turnsFrom_0 15 rfl rfl)
theorem dX6_turnsFrom_17 : decode cX6_turnsFrom 17 = .ok (.imul, 1) := dk_104 (dk_at dksX6_turnsFrom_0 17 rfl rfl)
theorem dX6_turnsFrom_18 : decode cX6_turnsFrom 18 = .ok (.iload_n 3, 1) := dk_29 (dk_at dksX6_turnsFrom_0 18 rfl rfl)
theorem dX6_turnsFrom_19 : decode cX6_turnsFrom 19 = .ok (.iadd, 1) := dk_96 (dk_at dksX6_turnsFrom_0 19 rfl rfl)
theorem dX6_turnsFrom_20 : decode cX6_turnsFrom 20 = .ok (.istore 4, 2) := dk_54 4 (dk_at dksX6_turnsFrom_0 20 rfl rfl)
theorem dX6_turnsFrom_22 : decode cX6_turnsFrom 22 = .ok (.aload_n 0, 1) := dk_42 (dk_at dksX6_turnsFrom_0 22 rfl rfl)
theorem dX6_turnsFrom_23 : decode cX6_turnsFrom 23 = .ok (.getfield 97, 3) := dk_180 0 97 (dk_at dksX6_turnsFrom_1 0 rfl rfl)
theorem dX6_turnsFrom_26 : decode cX6_turnsFrom 26 = .ok (.iload 4, 2) := dk_21 4 (dk_at dksX6_turnsFrom_1 3 rfl rfl)
theorem dX6_turnsFrom_28 : decode cX6_turnsFrom 28 = .ok (.baload, 1) := dk_51 (dk_at dksX6_turnsFrom_1 5 rfl rfl)
theorem dX6_turnsFrom_29 : decode cX6_turnsFrom 29 = .ok (.iconst (-1), 1) := dk_2 (dk_at dksX6_turnsFrom_1 6 rfl rfl)
theorem dX6_turnsFrom_30 : decode cX6_turnsFrom 30 = .ok (.if_icmp .eq 11, 3) := dk_159 0 11 (dk_at dksX6_turnsFrom_1 7 rfl rfl)
theorem dX6_turnsFrom_33 : decode cX6_turnsFrom 33 = .ok (.aload_n 0, 1) := dk_42 (dk_at dksX6_turnsFrom_1 10 rfl rfl)
theorem dX6_turnsFrom_34 : decode cX6_turnsFrom 34 = .ok (.getfield 97, 3) := dk_180 0 97 (dk_at dksX6_turnsFrom_1 11 rfl rfl)
theorem dX6_turnsFrom_37 : decode cX6_turnsFrom 37 = .ok (.iload 4, 2) := dk_21 4 (dk_at dksX6_turnsFrom_1 14 rfl rfl)
theorem dX6_turnsFrom_39 : decode cX6_turnsFrom 39 = .ok (.baload, 1) := dk_51 (dk_at dksX6_turnsFrom_1 16 rfl rfl)
theorem dX6_turnsFrom_40 : decode cX6_turnsFrom 40 = .ok (.ireturn, 1) := dk_172 (dk_at dksX6_turnsFrom_1 17 rfl rfl)
theorem dX6_turnsFrom_41 : decode cX6_turnsFrom 41 = .ok (.iconst 0, 1) := dk_3 (dk_at dksX6_turnsFrom_1 18 rfl rfl)
theorem dX6_turnsFrom_42 : decode cX6_turnsFrom 42 = .ok (.istore 5, 2) := dk_54 5 (dk_at dksX6_turnsFrom_1 19 rfl rfl)
theorem dX6_turnsFrom_44 : decode cX6_turnsFrom 44 = .ok (.aload_n 0, 1) := dk_42 (dk_at dksX6_turnsFrom_1 21 rfl rfl)
theorem dX6_turnsFrom_45 : decode cX6_turnsFrom 45 = .ok (.iload_n 1, 1) := dk_27 (dk_at dksX6_turnsFrom_1 22 rfl rfl)
theorem dX6_turnsFrom_46 : decode cX6_turnsFrom 46 = .ok (.iload_n 2, 1) := dk_28 (dk_at dksX6_turnsFrom_1 23 rfl rfl)
theorem dX6_turnsFrom_47 : decode cX6_turnsFrom 47 = .ok (.iload_n 3, 1) := dk_29 (dk_at dksX6_turnsFrom_2 0 rfl rfl)
theorem dX6_turnsFrom_48 : decode cX6_turnsFrom 48 = .ok (.iconst 0, 1) := dk_3 (dk_at dksX6_turnsFrom_2 1 rfl rfl)
theorem dX6_turnsFrom_49 : decode cX6_turnsFrom 49 = .ok (.invokevirtual 401, 3) := dk_182 1 145 (dk_at dksX6_turnsFrom_2 2 rfl rfl)
theorem dX6_turnsFrom_52 : decode cX6_turnsFrom 52 = .ok (.istore 6, 2) := dk_54 6 (dk_at dksX6_turnsFrom_2 5 rfl rfl)
theorem dX6_turnsFrom_54 : decode cX6_turnsFrom 54 = .ok (.iload 6, 2) := dk_21 6 (dk_at dksX6_turnsFrom_2 7 rfl rfl)
theorem dX6_turnsFrom_56 : decode cX6_turnsFrom 56 = .ok (.iconst (-1), 1) := dk_2 (dk_at dksX6_turnsFrom_2 9 rfl rfl)
theorem dX6_turnsFrom_57 : decode cX6_turnsFrom 57 = .ok (.if_icmp .eq 54, 3) := dk_159 0 54 (dk_at dksX6_turnsFrom_2 10 rfl rfl)
theorem dX6_turnsFrom_60 : decode cX6_turnsFrom 60 = .ok (.iconst 1, 1) := dk_4 (dk_at dksX6_turnsFrom_2 13 rfl rfl)
theorem dX6_turnsFrom_61 : decode cX6_turnsFrom 61 = .ok (.aload_n 0, 1) := dk_42 (dk_at dksX6_turnsFrom_2 14 rfl rfl)
theorem dX6_turnsFrom_62 : decode cX6_turnsFrom 62 = .ok (.iload_n 1, 1) := dk_27 (dk_at dksX6_turnsFrom_2 15 rfl rfl)
theorem dX6_turnsFrom_63 : decode cX6_turnsFrom 63 = .ok (.iconst 1, 1) := dk_4 (dk_at dksX6_turnsFrom_2 16 rfl rfl)
theorem dX6_turnsFrom_64 : decode cX6_turnsFrom 64 = .ok (.iadd, 1) := dk_96 (dk_at dksX6_turnsFrom_2 17 rfl rfl)
theorem dX6_turnsFrom_65 : decode cX6_turnsFrom 65 = .ok (.iload_n 2, 1) := dk_28 (dk_at dksX6_turnsFrom_2 18 rfl rfl)
theorem dX6_turnsFrom_66 : decode cX6_turnsFrom 66 = .ok (.iload 6, 2) := dk_21 6 (dk_at dksX6_turnsFrom_2 19 rfl rfl)
theorem dX6_turnsFrom_68 : decode cX6_turnsFrom 68 = .ok (.ior, 1) := dk_128 (dk_at dksX6_turnsFrom_2 21 rfl rfl)
theorem dX6_turnsFrom_69 : decode cX6_turnsFrom 69 = .ok (.aload_n 0, 1) := dk_42 (dk_at dksX6_turnsFrom_2 22 rfl rfl)
theorem dX6_turnsFrom_70 : decode cX6_turnsFrom 70 = .ok (.iload 6, 2) := dk_21 6 (dk_at dksX6_turnsFrom_3 0 rfl rfl)
theorem dX6_turnsFrom_72 : decode cX6_turnsFrom 72 = .ok (.invokevirtual 398, 3) := dk_182 1 142 (dk_at dksX6_turnsFrom_3 2 rfl rfl)
theorem dX6_turnsFrom_75 : decode cX6_turnsFrom 75 = .ok (.invokevirtual 405, 3) := dk_182 1 149 (dk_at dksX6_turnsFrom_3 5 rfl rfl)
theorem dX6_turnsFrom_78 : decode cX6_turnsFrom 78 = .ok (.iadd, 1) := dk_96 (dk_at dksX6_turnsFrom_3 8 rfl rfl)
theorem dX6_turnsFrom_79 : decode cX6_turnsFrom 79 = .ok (.istore 7, 2) := dk_54 7 (dk_at dksX6_turnsFrom_3 9 rfl rfl)
theorem dX6_turnsFrom_81 : decode cX6_turnsFrom 81 = .ok (.iload 7, 2) := dk_21 7 (dk_at dksX6_turnsFrom_3 11 rfl rfl)
theorem dX6_turnsFrom_83 : decode cX6_turnsFrom 83 = .ok (.iload 5, 2) := dk_21 5 (dk_at dksX6_turnsFrom_3 13 rfl rfl)
theorem dX6_turnsFrom_85 : decode cX6_turnsFrom 85 = .ok (.if_icmp .le 8, 3) := dk_164 0 8 (dk_at dksX6_turnsFrom_3 15 rfl rfl)
theorem dX6_turnsFrom_88 : decode cX6_turnsFrom 88 = .ok (.iload 7, 2) := dk_21 7 (dk_at dksX6_turnsFrom_3 18 rfl rfl)
theorem dX6_turnsFrom_90 : decode cX6_turnsFrom 90 = .ok (.goto 5, 3) := dk_167 0 5 (dk_at dksX6_turnsFrom_3 20 rfl rfl)
theorem dX6_turnsFrom_93 : decode cX6_turnsFrom 93 = .ok (.iload 5, 2) := dk_21 5 (dk_at dksX6_turnsFrom_4 0 rfl rfl)
theorem dX6_turnsFrom_95 : decode cX6_turnsFrom 95 = .ok (.istore 5, 2) := dk_54 5 (dk_at dksX6_turnsFrom_4 2 rfl rfl)
theorem dX6_turnsFrom_97 : decode cX6_turnsFrom 97 = .ok (.aload_n 0, 1) := dk_42 (dk_at dksX6_turnsFrom_4 4 rfl rfl)
theorem dX6_turnsFrom_98 : decode cX6_turnsFrom 98 = .ok (.iload_n 1, 1) := dk_27 (dk_at dksX6_turnsFrom_4 5 rfl rfl)
theorem dX6_turnsFrom_99 : decode cX6_turnsFrom 99 = .ok (.iload_n 2, 1) := dk_28 (dk_at dksX6_turnsFrom_4 6 rfl rfl)
theorem dX6_turnsFrom_100 : decode cX6_turnsFrom 100 = .ok (.iload_n 3, 1) := dk_29 (dk_at dksX6_turnsFrom_4 7 rfl rfl)
theorem dX6_turnsFrom_101 : decode cX6_turnsFrom 101 = .ok (.iload 6, 2) := dk_21 6 (dk_at dksX6_turnsFrom_4 8 rfl rfl)
theorem dX6_turnsFrom_103 : decode cX6_turnsFrom 103 = .ok (.invokevirtual 401, 3) := dk_182 1 145 (dk_at dksX6_turnsFrom_4 10 rfl rfl)
theorem dX6_turnsFrom_106 : decode cX6_turnsFrom 106 = .ok (.istore 6, 2) := dk_54 6 (dk_at dksX6_turnsFrom_4 13 rfl rfl)
theorem dX6_turnsFrom_108 : decode cX6_turnsFrom 108 = .ok (.goto (-54), 3) := dk_167 255 202 (dk_at dksX6_turnsFrom_4 15 rfl rfl)
theorem dX6_turnsFrom_111 : decode cX6_turnsFrom 111 = .ok (.aload_n 0, 1) := dk_42 (dk_at dksX6_turnsFrom_4 18 rfl rfl)
theorem dX6_turnsFrom_112 : decode cX6_turnsFrom 112 = .ok (.getfield 97, 3) := dk_180 0 97 (dk_at dksX6_turnsFrom_4 19 rfl rfl)
theorem dX6_turnsFrom_115 : decode cX6_turnsFrom 115 = .ok (.iload 4, 2) := dk_21 4 (dk_at dksX6_turnsFrom_4 22 rfl rfl)
theorem dX6_turnsFrom_117 : decode cX6_turnsFrom 117 = .ok (.iload 5, 2) := dk_21 5 (dk_at dksX6_turnsFrom_5 0 rfl rfl)
theorem dX6_turnsFrom_119 : decode cX6_turnsFrom 119 = .ok (.i2b, 1) := dk_145 (dk_at dksX6_turnsFrom_5 2 rfl rfl)
theorem dX6_turnsFrom_120 : decode cX6_turnsFrom 120 = .ok (.bastore, 1) := dk_84 (dk_at dksX6_turnsFrom_5 3 rfl rfl)
theorem dX6_turnsFrom_121 : decode cX6_turnsFrom 121 = .ok (.iload 5, 2) := dk_21 5 (dk_at dksX6_turnsFrom_5 4 rfl rfl)
theorem dX6_turnsFrom_123 : decode cX6_turnsFrom 123 = .ok (.ireturn, 1) := dk_172 (dk_at dksX6_turnsFrom_5 6 rfl rfl)
abbrev cX6_turnBehind : ByteArray := prog_29_method_104_code
def yX6_turnBehind : MethodName := ⟨RX6, "turnBehind", "(IIII)I"⟩
def dkwX6_turnBehind_1 : List UInt8 := [153, 0, 16, 42, 27, 28, 21, 5, 182, 1, 123, 54, 5, 167, 255, 229, 21, 5, 172]
abbrev dktX6_turnBehind_1 : List UInt8 := dkwX6_turnBehind_1 ++ []
def dkwX6_turnBehind_0 : List UInt8 := [42, 27, 28, 21, 4, 182, 1, 123, 54, 5, 21, 5, 2, 159, 0, 27, 42, 21, 5, 182, 1, 142, 29, 126]
abbrev dktX6_turnBehind_0 : List UInt8 := dkwX6_turnBehind_0 ++ dktX6_turnBehind_1
theorem dksX6_turnBehind_0 : cX6_turnBehind.data.toList.drop 0 = dktX6_turnBehind_0 := by decide +kernel
theorem dksX6_turnBehind_1 : cX6_turnBehind.data.toList.drop 24 = dktX6_turnBehind_1 := dk_seg dksX6_turnBehind_0 24 rfl rfl
theorem dX6_turnBehind_0 : decode cX6_turnBehind 0 = .ok (.aload_n 0, 1) := dk_42 (dk_at dksX6_turnBehind_0 0 rfl rfl)
theorem dX6_turnBehind_1 : decode cX6_turnBehind 1 = .ok (.iload_n 1, 1) := dk_27 (dk_at dksX6_turnBehind_0 1 rfl rfl)
theorem dX6_turnBehind_2 : decode cX6_turnBehind 2 = .ok (.iload_n 2, 1) := dk_28 (dk_at dksX6_turnBehind_0 2 rfl rfl)
theorem dX6_turnBehind_3 : decode cX6_turnBehind 3 = .ok (.iload 4, 2) := dk_21 4 (dk_at dksX6_turnBehind_0 3 rfl rfl)
theorem dX6_turnBehind_5 : decode cX6_turnBehind 5 = .ok (.invokevirtual 379, 3) := dk_182 1 123 (dk_at dksX6_turnBehind_0 5 rfl rfl)
theorem dX6_turnBehind_8 : decode cX6_turnBehind 8 = .ok (.istore 5, 2) := dk_54 5 (dk_at dksX6_turnBehind_0 8 rfl rfl)
theorem dX6_turnBehind_10 : decode cX6_turnBehind 10 = .ok (.iload 5, 2) := dk_21 5 (dk_at dksX6_turnBehind_0 10 rfl rfl)
theorem dX6_turnBehind_12 : decode cX6_turnBehind 12 = .ok (.iconst (-1), 1) := dk_2 (dk_at dksX6_turnBehind_0 12 rfl rfl)
theorem dX6_turnBehind_13 : decode cX6_turnBehind 13 = .ok (.if_icmp .eq 27, 3) := dk_159 0 27 (dk_at dksX6_turnBehind_0 13 rfl rfl)
theorem dX6_turnBehind_16 : decode cX6_turnBehind 16 = .ok (.aload_n 0, 1) := dk_42 (dk_at dksX6_turnBehind_0 16 rfl rfl)
theorem dX6_turnBehind_17 : decode cX6_turnBehind 17 = .ok (.iload 5, 2) := dk_21 5 (dk_at dksX6_turnBehind_0 17 rfl rfl)
theorem dX6_turnBehind_19 : decode cX6_turnBehind 19 = .ok (.invokevirtual 398, 3) := dk_182 1 142 (dk_at dksX6_turnBehind_0 19 rfl rfl)
theorem dX6_turnBehind_22 : decode cX6_turnBehind 22 = .ok (.iload_n 3, 1) := dk_29 (dk_at dksX6_turnBehind_0 22 rfl rfl)
theorem dX6_turnBehind_23 : decode cX6_turnBehind 23 = .ok (.iand, 1) := dk_126 (dk_at dksX6_turnBehind_0 23 rfl rfl)
theorem dX6_turnBehind_24 : decode cX6_turnBehind 24 = .ok (.ifCond .eq 16, 3) := dk_153 0 16 (dk_at dksX6_turnBehind_1 0 rfl rfl)
theorem dX6_turnBehind_27 : decode cX6_turnBehind 27 = .ok (.aload_n 0, 1) := dk_42 (dk_at dksX6_turnBehind_1 3 rfl rfl)
theorem dX6_turnBehind_28 : decode cX6_turnBehind 28 = .ok (.iload_n 1, 1) := dk_27 (dk_at dksX6_turnBehind_1 4 rfl rfl)
theorem dX6_turnBehind_29 : decode cX6_turnBehind 29 = .ok (.iload_n 2, 1) := dk_28 (dk_at dksX6_turnBehind_1 5 rfl rfl)
theorem dX6_turnBehind_30 : decode cX6_turnBehind 30 = .ok (.iload 5, 2) := dk_21 5 (dk_at dksX6_turnBehind_1 6 rfl rfl)
theorem dX6_turnBehind_32 : decode cX6_turnBehind 32 = .ok (.invokevirtual 379, 3) := dk_182 1 123 (dk_at dksX6_turnBehind_1 8 rfl rfl)
theorem dX6_turnBehind_35 : decode cX6_turnBehind 35 = .ok (.istore 5, 2) := dk_54 5 (dk_at dksX6_turnBehind_1 11 rfl rfl)
theorem dX6_turnBehind_37 : decode cX6_turnBehind 37 = .ok (.goto (-27), 3) := dk_167 255 229 (dk_at dksX6_turnBehind_1 13 rfl rfl)
theorem dX6_turnBehind_40 : decode cX6_turnBehind 40 = .ok (.iload 5, 2) := dk_21 5 (dk_at dksX6_turnBehind_1 16 rfl rfl)
theorem dX6_turnBehind_42 : decode cX6_turnBehind 42 = .ok (.ireturn, 1) := dk_172 (dk_at dksX6_turnBehind_1 18 rfl rfl)
abbrev cX6_landsOf : ByteArray := prog_29_method_103_code
def yX6_landsOf : MethodName := ⟨RX6, "landsOf", "(I)I"⟩
def dkwX6_landsOf_1 : List UInt8 := [182, 0, 135, 120, 167, 0, 4, 3, 128, 61, 132, 3, 1, 167, 255, 223, 28, 172]
abbrev dktX6_landsOf_1 : List UInt8 := dkwX6_landsOf_1 ++ []
def dkwX6_landsOf_0 : List UInt8 := [3, 61, 3, 62, 29, 42, 182, 0, 116, 162, 0, 31, 28, 27, 29, 184, 1, 69, 153, 0, 13, 4, 42, 29]
abbrev dktX6_landsOf_0 : List UInt8 := dkwX6_landsOf_0 ++ dktX6_landsOf_1
theorem dksX6_landsOf_0 : cX6_landsOf.data.toList.drop 0 = dktX6_landsOf_0 := by decide +kernel
theorem dksX6_landsOf_1 : cX6_landsOf.data.toList.drop 24 = dktX6_landsOf_1 := dk_seg dksX6_landsOf_0 24 rfl rfl
theorem dX6_landsOf_0 : decode cX6_landsOf 0 = .ok (.iconst 0, 1) := dk_3 (dk_at dksX6_landsOf_0 0 rfl rfl)
theorem dX6_landsOf_1 : decode cX6_landsOf 1 = .ok (.istore_n 2, 1) := dk_61 (dk_at dksX6_landsOf_0 1 rfl rfl)
theorem dX6_landsOf_2 : decode cX6_landsOf 2 = .ok (.iconst 0, 1) := dk_3 (dk_at dksX6_landsOf_0 2 rfl rfl)
theorem dX6_landsOf_3 : decode cX6_landsOf 3 = .ok (.istore_n 3, 1) := dk_62 (dk_at dksX6_landsOf_0 3 rfl rfl)
theorem dX6_landsOf_4 : decode cX6_landsOf 4 = .ok (.iload_n 3, 1) := dk_29 (dk_at dksX6_landsOf_0 4 rfl rfl)
theorem dX6_landsOf_5 : decode cX6_landsOf 5 = .ok (.aload_n 0, 1) := dk_42 (dk_at dksX6_landsOf_0 5 rfl rfl)
theorem dX6_landsOf_6 : decode cX6_landsOf 6 = .ok (.invokevirtual 116, 3) := dk_182 0 116 (dk_at dksX6_landsOf_0 6 rfl rfl)
theorem dX6_landsOf_9 : decode cX6_landsOf 9 = .ok (.if_icmp .ge 31, 3) := dk_162 0 31 (dk_at dksX6_landsOf_0 9 rfl rfl)
theorem dX6_landsOf_12 : decode cX6_landsOf 12 = .ok (.iload_n 2, 1) := dk_28 (dk_at dksX6_landsOf_0 12 rfl rfl)
theorem dX6_landsOf_13 : decode cX6_landsOf 13 = .ok (.iload_n 1, 1) := dk_27 (dk_at dksX6_landsOf_0 13 rfl rfl)
theorem dX6_landsOf_14 : decode cX6_landsOf 14 = .ok (.iload_n 3, 1) := dk_29 (dk_at dksX6_landsOf_0 14 rfl rfl)
theorem dX6_landsOf_15 : decode cX6_landsOf 15 = .ok (.invokestatic 325, 3) := dk_184 1 69 (dk_at dksX6_landsOf_0 15 rfl rfl)
theorem dX6_landsOf_18 : decode cX6_landsOf 18 = .ok (.ifCond .eq 13, 3) := dk_153 0 13 (dk_at dksX6_landsOf_0 18 rfl rfl)
theorem dX6_landsOf_21 : decode cX6_landsOf 21 = .ok (.iconst 1, 1) := dk_4 (dk_at dksX6_landsOf_0 21 rfl rfl)
theorem dX6_landsOf_22 : decode cX6_landsOf 22 = .ok (.aload_n 0, 1) := dk_42 (dk_at dksX6_landsOf_0 22 rfl rfl)
theorem dX6_landsOf_23 : decode cX6_landsOf 23 = .ok (.iload_n 3, 1) := dk_29 (dk_at dksX6_landsOf_0 23 rfl rfl)
theorem dX6_landsOf_24 : decode cX6_landsOf 24 = .ok (.invokevirtual 135, 3) := dk_182 0 135 (dk_at dksX6_landsOf_1 0 rfl rfl)
theorem dX6_landsOf_27 : decode cX6_landsOf 27 = .ok (.ishl, 1) := dk_120 (dk_at dksX6_landsOf_1 3 rfl rfl)
theorem dX6_landsOf_28 : decode cX6_landsOf 28 = .ok (.goto 4, 3) := dk_167 0 4 (dk_at dksX6_landsOf_1 4 rfl rfl)
theorem dX6_landsOf_31 : decode cX6_landsOf 31 = .ok (.iconst 0, 1) := dk_3 (dk_at dksX6_landsOf_1 7 rfl rfl)
theorem dX6_landsOf_32 : decode cX6_landsOf 32 = .ok (.ior, 1) := dk_128 (dk_at dksX6_landsOf_1 8 rfl rfl)
theorem dX6_landsOf_33 : decode cX6_landsOf 33 = .ok (.istore_n 2, 1) := dk_61 (dk_at dksX6_landsOf_1 9 rfl rfl)
theorem dX6_landsOf_34 : decode cX6_landsOf 34 = .ok (.iinc 3 1, 3) := dk_132 3 1 (dk_at dksX6_landsOf_1 10 rfl rfl)
theorem dX6_landsOf_37 : decode cX6_landsOf 37 = .ok (.goto (-33), 3) := dk_167 255 223 (dk_at dksX6_landsOf_1 13 rfl rfl)
theorem dX6_landsOf_40 : decode cX6_landsOf 40 = .ok (.iload_n 2, 1) := dk_28 (dk_at dksX6_landsOf_1 16 rfl rfl)
theorem dX6_landsOf_41 : decode cX6_landsOf 41 = .ok (.ireturn, 1) := dk_172 (dk_at dksX6_landsOf_1 17 rfl rfl)
abbrev cX6_crews : ByteArray := prog_29_method_107_code
def yX6_crews : MethodName := ⟨RX6, "crews", "(I)I"⟩
def dkwX6_crews_4 : List UInt8 := [21, 4, 28, 182, 1, 120, 54, 4, 167, 255, 230, 27, 2, 160, 0, 7, 29, 167, 0, 4, 2, 172]
abbrev dktX6_crews_4 : List UInt8 := dkwX6_crews_4 ++ []
def dkwX6_crews_3 : List UInt8 := [182, 1, 120, 54, 4, 21, 4, 2, 159, 0, 26, 29, 27, 160, 0, 6, 21, 4, 172, 132, 3, 1, 42]
abbrev dktX6_crews_3 : List UInt8 := dkwX6_crews_3 ++ dktX6_crews_4
def dkwX6_crews_2 : List UInt8 := [153, 0, 11, 42, 29, 182, 0, 138, 167, 0, 4, 3, 79, 132, 3, 1, 167, 255, 216, 3, 62, 42, 3, 28]
abbrev dktX6_crews_2 : List UInt8 := dkwX6_crews_2 ++ dktX6_crews_3
def dkwX6_crews_1 : List UInt8 := [29, 16, 10, 162, 0, 40, 42, 180, 0, 77, 29, 42, 29, 182, 0, 128, 153, 0, 19, 42, 29, 182, 1, 72]
abbrev dktX6_crews_1 : List UInt8 := dkwX6_crews_1 ++ dktX6_crews_2
def dkwX6_crews_0 : List UInt8 := [27, 2, 162, 0, 5, 2, 172, 42, 42, 180, 0, 24, 16, 33, 46, 182, 1, 36, 184, 1, 75, 61, 3, 62]
abbrev dktX6_crews_0 : List UInt8 := dkwX6_crews_0 ++ dktX6_crews_1
theorem dksX6_crews_0 : cX6_crews.data.toList.drop 0 = dktX6_crews_0 := by decide +kernel
theorem dksX6_crews_1 : cX6_crews.data.toList.drop 24 = dktX6_crews_1 := dk_seg dksX6_crews_0 24 rfl rfl
theorem dksX6_crews_2 : cX6_crews.data.toList.drop 48 = dktX6_crews_2 := dk_seg dksX6_crews_1 24 rfl rfl
theorem dksX6_crews_3 : cX6_crews.data.toList.drop 72 = dktX6_crews_3 := dk_seg dksX6_crews_2 24 rfl rfl
theorem dksX6_crews_4 : cX6_crews.data.toList.drop 95 = dktX6_crews_4 := dk_seg dksX6_crews_3 23 rfl rfl
theorem dX6_crews_0 : decode cX6_crews 0 = .ok (.iload_n 1, 1) := dk_27 (dk_at dksX6_crews_0 0 rfl rfl)
theorem dX6_crews_1 : decode cX6_crews 1 = .ok (.iconst (-1), 1) := dk_2 (dk_at dksX6_crews_0 1 rfl rfl)
theorem dX6_crews_2 : decode cX6_crews 2 = .ok (.if_icmp .ge 5, 3) := dk_162 0 5 (dk_at dksX6_crews_0 2 rfl rfl)
theorem dX6_crews_5 : decode cX6_crews 5 = .ok (.iconst (-1), 1) := dk_2 (dk_at dksX6_crews_0 5 rfl rfl)
theorem dX6_crews_6 : decode cX6_crews 6 = .ok (.ireturn, 1) := dk_172 (dk_at dksX6_crews_0 6 rfl rfl)
theorem dX6_crews_7 : decode cX6_crews 7 = .ok (.aload_n 0, 1) := dk_42 (dk_at dksX6_crews_0 7 rfl rfl)
theorem dX6_crews_8 : decode cX6_crews 8 = .ok (.aload_n 0, 1) := dk_42 (dk_at dksX6_crews_0 8 rfl rfl)
theorem dX6_crews_9 : decode cX6_crews 9 = .ok (.getfield 24, 3) := dk_180 0 24 (dk_at dksX6_crews_0 9 rfl rfl)
theorem dX6_crews_12 : decode cX6_crews 12 = .ok (.bipush 33, 2) := dk_16 33 (dk_at dksX6_crews_0 12 rfl rfl)
theorem dX6_crews_14 : decode cX6_crews 14 = .ok (.iaload, 1) := dk_46 (dk_at dksX6_crews_0 14 rfl rfl)
theorem dX6_crews_15 : decode cX6_crews 15 = .ok (.invokevirtual 292, 3) := dk_182 1 36 (dk_at dksX6_crews_0 15 rfl rfl)
theorem dX6_crews_18 : decode cX6_crews 18 = .ok (.invokestatic 331, 3) := dk_184 1 75 (dk_at dksX6_crews_0 18 rfl rfl)
theorem dX6_crews_21 : decode cX6_crews 21 = .ok (.istore_n 2, 1) := dk_61 (dk_at dksX6_crews_0 21 rfl rfl)
theorem dX6_crews_22 : decode cX6_crews 22 = .ok (.iconst 0, 1) := dk_3 (dk_at dksX6_crews_0 22 rfl rfl)
theorem dX6_crews_23 : decode cX6_crews 23 = .ok (.istore_n 3, 1) := dk_62 (dk_at dksX6_crews_0 23 rfl rfl)
theorem dX6_crews_24 : decode cX6_crews 24 = .ok (.iload_n 3, 1) := dk_29 (dk_at dksX6_crews_1 0 rfl rfl)
theorem dX6_crews_25 : decode cX6_crews 25 = .ok (.bipush 10, 2) := dk_16 10 (dk_at dksX6_crews_1 1 rfl rfl)
theorem dX6_crews_27 : decode cX6_crews 27 = .ok (.if_icmp .ge 40, 3) := dk_162 0 40 (dk_at dksX6_crews_1 3 rfl rfl)
theorem dX6_crews_30 : decode cX6_crews 30 = .ok (.aload_n 0, 1) := dk_42 (dk_at dksX6_crews_1 6 rfl rfl)
theorem dX6_crews_31 : decode cX6_crews 31 = .ok (.getfield 77, 3) := dk_180 0 77 (dk_at dksX6_crews_1 7 rfl rfl)
theorem dX6_crews_34 : decode cX6_crews 34 = .ok (.iload_n 3, 1) := dk_29 (dk_at dksX6_crews_1 10 rfl rfl)
theorem dX6_crews_35 : decode cX6_crews 35 = .ok (.aload_n 0, 1) := dk_42 (dk_at dksX6_crews_1 11 rfl rfl)
theorem dX6_crews_36 : decode cX6_crews 36 = .ok (.iload_n 3, 1) := dk_29 (dk_at dksX6_crews_1 12 rfl rfl)
theorem dX6_crews_37 : decode cX6_crews 37 = .ok (.invokevirtual 128, 3) := dk_182 0 128 (dk_at dksX6_crews_1 13 rfl rfl)
theorem dX6_crews_40 : decode cX6_crews 40 = .ok (.ifCond .eq 19, 3) := dk_153 0 19 (dk_at dksX6_crews_1 16 rfl rfl)
theorem dX6_crews_43 : decode cX6_crews 43 = .ok (.aload_n 0, 1) := dk_42 (dk_at dksX6_crews_1 19 rfl rfl)
theorem dX6_crews_44 : decode cX6_crews 44 = .ok (.iload_n 3, 1) := dk_29 (dk_at dksX6_crews_1 20 rfl rfl)
theorem dX6_crews_45 : decode cX6_crews 45 = .ok (.invokevirtual 328, 3) := dk_182 1 72 (dk_at dksX6_crews_1 21 rfl rfl)
theorem dX6_crews_48 : decode cX6_crews 48 = .ok (.ifCond .eq 11, 3) := dk_153 0 11 (dk_at dksX6_crews_2 0 rfl rfl)
theorem dX6_crews_51 : decode cX6_crews 51 = .ok (.aload_n 0, 1) := dk_42 (dk_at dksX6_crews_2 3 rfl rfl)
theorem dX6_crews_52 : decode cX6_crews 52 = .ok (.iload_n 3, 1) := dk_29 (dk_at dksX6_crews_2 4 rfl rfl)
theorem dX6_crews_53 : decode cX6_crews 53 = .ok (.invokevirtual 138, 3) := dk_182 0 138 (dk_at dksX6_crews_2 5 rfl rfl)
theorem dX6_crews_56 : decode cX6_crews 56 = .ok (.goto 4, 3) := dk_167 0 4 (dk_at dksX6_crews_2 8 rfl rfl)
theorem dX6_crews_59 : decode cX6_crews 59 = .ok (.iconst 0, 1) := dk_3 (dk_at dksX6_crews_2 11 rfl rfl)
theorem dX6_crews_60 : decode cX6_crews 60 = .ok (.iastore, 1) := dk_79 (dk_at dksX6_crews_2 12 rfl rfl)
theorem dX6_crews_61 : decode cX6_crews 61 = .ok (.iinc 3 1, 3) := dk_132 3 1 (dk_at dksX6_crews_2 13 rfl rfl)
theorem dX6_crews_64 : decode cX6_crews 64 = .ok (.goto (-40), 3) := dk_167 255 216 (dk_at dksX6_crews_2 16 rfl rfl)
theorem dX6_crews_67 : decode cX6_crews 67 = .ok (.iconst 0, 1) := dk_3 (dk_at dksX6_crews_2 19 rfl rfl)
theorem dX6_crews_68 : decode cX6_crews 68 = .ok (.istore_n 3, 1) := dk_62 (dk_at dksX6_crews_2 20 rfl rfl)
theorem dX6_crews_69 : decode cX6_crews 69 = .ok (.aload_n 0, 1) := dk_42 (dk_at dksX6_crews_2 21 rfl rfl)
theorem dX6_crews_70 : decode cX6_crews 70 = .ok (.iconst 0, 1) := dk_3 (dk_at dksX6_crews_2 22 rfl rfl)
theorem dX6_crews_71 : decode cX6_crews 71 = .ok (.iload_n 2, 1) := dk_28 (dk_at dksX6_crews_2 23 rfl rfl)
theorem dX6_crews_72 : decode cX6_crews 72 = .ok (.invokevirtual 376, 3) := dk_182 1 120 (dk_at dksX6_crews_3 0 rfl rfl)
theorem dX6_crews_75 : decode cX6_crews 75 = .ok (.istore 4, 2) := dk_54 4 (dk_at dksX6_crews_3 3 rfl rfl)
theorem dX6_crews_77 : decode cX6_crews 77 = .ok (.iload 4, 2) := dk_21 4 (dk_at dksX6_crews_3 5 rfl rfl)
theorem dX6_crews_79 : decode cX6_crews 79 = .ok (.iconst (-1), 1) := dk_2 (dk_at dksX6_crews_3 7 rfl rfl)
theorem dX6_crews_80 : decode cX6_crews 80 = .ok (.if_icmp .eq 26, 3) := dk_159 0 26 (dk_at dksX6_crews_3 8 rfl rfl)
theorem dX6_crews_83 : decode cX6_crews 83 = .ok (.iload_n 3, 1) := dk_29 (dk_at dksX6_crews_3 11 rfl rfl)
theorem dX6_crews_84 : decode cX6_crews 84 = .ok (.iload_n 1, 1) := dk_27 (dk_at dksX6_crews_3 12 rfl rfl)
theorem dX6_crews_85 : decode cX6_crews 85 = .ok (.if_icmp .ne 6, 3) := dk_160 0 6 (dk_at dksX6_crews_3 13 rfl rfl)
theorem dX6_crews_88 : decode cX6_crews 88 = .ok (.iload 4, 2) := dk_21 4 (dk_at dksX6_crews_3 16 rfl rfl)
theorem dX6_crews_90 : decode cX6_crews 90 = .ok (.ireturn, 1) := dk_172 (dk_at dksX6_crews_3 18 rfl rfl)
theorem dX6_crews_91 : decode cX6_crews 91 = .ok (.iinc 3 1, 3) := dk_132 3 1 (dk_at dksX6_crews_3 19 rfl rfl)
theorem dX6_crews_94 : decode cX6_crews 94 = .ok (.aload_n 0, 1) := dk_42 (dk_at dksX6_crews_3 22 rfl rfl)
theorem dX6_crews_95 : decode cX6_crews 95 = .ok (.iload 4, 2) := dk_21 4 (dk_at dksX6_crews_4 0 rfl rfl)
theorem dX6_crews_97 : decode cX6_crews 97 = .ok (.iload_n 2, 1) := dk_28 (dk_at dksX6_crews_4 2 rfl rfl)
theorem dX6_crews_98 : decode cX6_crews 98 = .ok (.invokevirtual 376, 3) := dk_182 1 120 (dk_at dksX6_crews_4 3 rfl rfl)
theorem dX6_crews_101 : decode cX6_crews 101 = .ok (.istore 4, 2) := dk_54 4 (dk_at dksX6_crews_4 6 rfl rfl)
theorem dX6_crews_103 : decode cX6_crews 103 = .ok (.goto (-26), 3) := dk_167 255 230 (dk_at dksX6_crews_4 8 rfl rfl)
theorem dX6_crews_106 : decode cX6_crews 106 = .ok (.iload_n 1, 1) := dk_27 (dk_at dksX6_crews_4 11 rfl rfl)
theorem dX6_crews_107 : decode cX6_crews 107 = .ok (.iconst (-1), 1) := dk_2 (dk_at dksX6_crews_4 12 rfl rfl)
theorem dX6_crews_108 : decode cX6_crews 108 = .ok (.if_icmp .ne 7, 3) := dk_160 0 7 (dk_at dksX6_crews_4 13 rfl rfl)
theorem dX6_crews_111 : decode cX6_crews 111 = .ok (.iload_n 3, 1) := dk_29 (dk_at dksX6_crews_4 16 rfl rfl)
theorem dX6_crews_112 : decode cX6_crews 112 = .ok (.goto 4, 3) := dk_167 0 4 (dk_at dksX6_crews_4 17 rfl rfl)
theorem dX6_crews_115 : decode cX6_crews 115 = .ok (.iconst (-1), 1) := dk_2 (dk_at dksX6_crews_4 20 rfl rfl)
theorem dX6_crews_116 : decode cX6_crews 116 = .ok (.ireturn, 1) := dk_172 (dk_at dksX6_crews_4 21 rfl rfl)
abbrev cX6_share : ByteArray := prog_29_method_108_code
def yX6_share : MethodName := ⟨RX6, "share", "(I)I"⟩
def dkwX6_share_3 : List UInt8 := [182, 1, 126, 100, 172]
abbrev dktX6_share_3 : List UInt8 := dkwX6_share_3 ++ []
def dkwX6_share_2 : List UInt8 := [120, 167, 0, 4, 3, 128, 181, 1, 99, 132, 3, 1, 167, 255, 220, 42, 182, 1, 105, 28, 42, 3, 3]
abbrev dktX6_share_2 : List UInt8 := dkwX6_share_2 ++ dktX6_share_3
def dkwX6_share_1 : List UInt8 := [29, 42, 182, 0, 116, 162, 0, 34, 42, 89, 180, 1, 99, 42, 29, 182, 0, 135, 27, 160, 0, 9, 4, 29]
abbrev dktX6_share_1 : List UInt8 := dkwX6_share_1 ++ dktX6_share_2
def dkwX6_share_0 : List UInt8 := [27, 3, 6, 184, 0, 106, 154, 0, 5, 2, 172, 42, 182, 1, 129, 42, 3, 3, 182, 1, 126, 61, 3, 62]
abbrev dktX6_share_0 : List UInt8 := dkwX6_share_0 ++ dktX6_share_1
theorem dksX6_share_0 : cX6_share.data.toList.drop 0 = dktX6_share_0 := by decide +kernel
theorem dksX6_share_1 : cX6_share.data.toList.drop 24 = dktX6_share_1 := dk_seg dksX6_share_0 24 rfl rfl
theorem dksX6_share_2 : cX6_share.data.toList.drop 48 = dktX6_share_2 := dk_seg dksX6_share_1 24 rfl rfl
theorem dksX6_share_3 : cX6_share.data.toList.drop 71 = dktX6_share_3 := dk_seg dksX6_share_2 23 rfl rfl
theorem dX6_share_0 : decode cX6_share 0 = .ok (.iload_n 1, 1) := dk_27 (dk_at dksX6_share_0 0 rfl rfl)
theorem dX6_share_1 : decode cX6_share 1 = .ok (.iconst 0, 1) := dk_3 (dk_at dksX6_share_0 1 rfl rfl)
theorem dX6_share_2 : decode cX6_share 2 = .ok (.iconst 3, 1) := dk_6 (dk_at dksX6_share_0 2 rfl rfl)
theorem dX6_share_3 : decode cX6_share 3 = .ok (.invokestatic 106, 3) := dk_184 0 106 (dk_at dksX6_share_0 3 rfl rfl)
theorem dX6_share_6 : decode cX6_share 6 = .ok (.ifCond .ne 5, 3) := dk_154 0 5 (dk_at dksX6_share_0 6 rfl rfl)
theorem dX6_share_9 : decode cX6_share 9 = .ok (.iconst (-1), 1) := dk_2 (dk_at dksX6_share_0 9 rfl rfl)
theorem dX6_share_10 : decode cX6_share 10 = .ok (.ireturn, 1) := dk_172 (dk_at dksX6_share_0 10 rfl rfl)
theorem dX6_share_11 : decode cX6_share 11 = .ok (.aload_n 0, 1) := dk_42 (dk_at dksX6_share_0 11 rfl rfl)
theorem dX6_share_12 : decode cX6_share 12 = .ok (.invokevirtual 385, 3) := dk_182 1 129 (dk_at dksX6_share_0 12 rfl rfl)
theorem dX6_share_15 : decode cX6_share 15 = .ok (.aload_n 0, 1) := dk_42 (dk_at dksX6_share_0 15 rfl rfl)
theorem dX6_share_16 : decode cX6_share 16 = .ok (.iconst 0, 1) := dk_3 (dk_at dksX6_share_0 16 rfl rfl)
theorem dX6_share_17 : decode cX6_share 17 = .ok (.iconst 0, 1) := dk_3 (dk_at dksX6_share_0 17 rfl rfl)
theorem dX6_share_18 : decode cX6_share 18 = .ok (.invokevirtual 382, 3) := dk_182 1 126 (dk_at dksX6_share_0 18 rfl rfl)
theorem dX6_share_21 : decode cX6_share 21 = .ok (.istore_n 2, 1) := dk_61 (dk_at dksX6_share_0 21 rfl rfl)
theorem dX6_share_22 : decode cX6_share 22 = .ok (.iconst 0, 1) := dk_3 (dk_at dksX6_share_0 22 rfl rfl)
theorem dX6_share_23 : decode cX6_share 23 = .ok (.istore_n 3, 1) := dk_62 (dk_at dksX6_share_0 23 rfl rfl)
theorem dX6_share_24 : decode cX6_share 24 = .ok (.iload_n 3, 1) := dk_29 (dk_at dksX6_share_1 0 rfl rfl)
theorem dX6_share_25 : decode cX6_share 25 = .ok (.aload_n 0, 1) := dk_42 (dk_at dksX6_share_1 1 rfl rfl)
theorem dX6_share_26 : decode cX6_share 26 = .ok (.invokevirtual 116, 3) := dk_182 0 116 (dk_at dksX6_share_1 2 rfl rfl)
theorem dX6_share_29 : decode cX6_share 29 = .ok (.if_icmp .ge 34, 3) := dk_162 0 34 (dk_at dksX6_share_1 5 rfl rfl)
theorem dX6_share_32 : decode cX6_share 32 = .ok (.aload_n 0, 1) := dk_42 (dk_at dksX6_share_1 8 rfl rfl)
theorem dX6_share_33 : decode cX6_share 33 = .ok (.dup, 1) := dk_89 (dk_at dksX6_share_1 9 rfl rfl)
theorem dX6_share_34 : decode cX6_share 34 = .ok (.getfield 355, 3) := dk_180 1 99 (dk_at dksX6_share_1 10 rfl rfl)
theorem dX6_share_37 : decode cX6_share 37 = .ok (.aload_n 0, 1) := dk_42 (dk_at dksX6_share_1 13 rfl rfl)
theorem dX6_share_38 : decode cX6_share 38 = .ok (.iload_n 3, 1) := dk_29 (dk_at dksX6_share_1 14 rfl rfl)
theorem dX6_share_39 : decode cX6_share 39 = .ok (.invokevirtual 135, 3) := dk_182 0 135 (dk_at dksX6_share_1 15 rfl rfl)
theorem dX6_share_42 : decode cX6_share 42 = .ok (.iload_n 1, 1) := dk_27 (dk_at dksX6_share_1 18 rfl rfl)
theorem dX6_share_43 : decode cX6_share 43 = .ok (.if_icmp .ne 9, 3) := dk_160 0 9 (dk_at dksX6_share_1 19 rfl rfl)
theorem dX6_share_46 : decode cX6_share 46 = .ok (.iconst 1, 1) := dk_4 (dk_at dksX6_share_1 22 rfl rfl)
theorem dX6_share_47 : decode cX6_share 47 = .ok (.iload_n 3, 1) := dk_29 (dk_at dksX6_share_1 23 rfl rfl)
theorem dX6_share_48 : decode cX6_share 48 = .ok (.ishl, 1) := dk_120 (dk_at dksX6_share_2 0 rfl rfl)
theorem dX6_share_49 : decode cX6_share 49 = .ok (.goto 4, 3) := dk_167 0 4 (dk_at dksX6_share_2 1 rfl rfl)
theorem dX6_share_52 : decode cX6_share 52 = .ok (.iconst 0, 1) := dk_3 (dk_at dksX6_share_2 4 rfl rfl)
theorem dX6_share_53 : decode cX6_share 53 = .ok (.ior, 1) := dk_128 (dk_at dksX6_share_2 5 rfl rfl)
theorem dX6_share_54 : decode cX6_share 54 = .ok (.putfield 355, 3) := dk_181 1 99 (dk_at dksX6_share_2 6 rfl rfl)
theorem dX6_share_57 : decode cX6_share 57 = .ok (.iinc 3 1, 3) := dk_132 3 1 (dk_at dksX6_share_2 9 rfl rfl)
theorem dX6_share_60 : decode cX6_share 60 = .ok (.goto (-36), 3) := dk_167 255 220 (dk_at dksX6_share_2 12 rfl rfl)
theorem dX6_share_63 : decode cX6_share 63 = .ok (.aload_n 0, 1) := dk_42 (dk_at dksX6_share_2 15 rfl rfl)
theorem dX6_share_64 : decode cX6_share 64 = .ok (.invokevirtual 361, 3) := dk_182 1 105 (dk_at dksX6_share_2 16 rfl rfl)
theorem dX6_share_67 : decode cX6_share 67 = .ok (.iload_n 2, 1) := dk_28 (dk_at dksX6_share_2 19 rfl rfl)
theorem dX6_share_68 : decode cX6_share 68 = .ok (.aload_n 0, 1) := dk_42 (dk_at dksX6_share_2 20 rfl rfl)
theorem dX6_share_69 : decode cX6_share 69 = .ok (.iconst 0, 1) := dk_3 (dk_at dksX6_share_2 21 rfl rfl)
theorem dX6_share_70 : decode cX6_share 70 = .ok (.iconst 0, 1) := dk_3 (dk_at dksX6_share_2 22 rfl rfl)
theorem dX6_share_71 : decode cX6_share 71 = .ok (.invokevirtual 382, 3) := dk_182 1 126 (dk_at dksX6_share_3 0 rfl rfl)
theorem dX6_share_74 : decode cX6_share 74 = .ok (.isub, 1) := dk_100 (dk_at dksX6_share_3 3 rfl rfl)
theorem dX6_share_75 : decode cX6_share 75 = .ok (.ireturn, 1) := dk_172 (dk_at dksX6_share_3 4 rfl rfl)
abbrev cX6_harm : ByteArray := prog_29_method_109_code
def yX6_harm : MethodName := ⟨RX6, "harm", "(I)I"⟩
def dkwX6_harm_3 : List UInt8 := [132, 3, 1, 167, 255, 210, 28, 172]
abbrev dktX6_harm_3 : List UInt8 := dkwX6_harm_3 ++ []
def dkwX6_harm_2 : List UInt8 := [153, 0, 20, 42, 29, 182, 0, 138, 42, 27, 29, 182, 1, 63, 184, 1, 81, 167, 0, 4, 3, 96, 61]
abbrev dktX6_harm_2 : List UInt8 := dkwX6_harm_2 ++ dktX6_harm_3
def dkwX6_harm_1 : List UInt8 := [3, 62, 29, 42, 182, 0, 116, 162, 0, 44, 28, 29, 27, 159, 0, 29, 42, 27, 29, 182, 1, 78]
abbrev dktX6_harm_1 : List UInt8 := dkwX6_harm_1 ++ dktX6_harm_2
def dkwX6_harm_0 : List UInt8 := [42, 27, 182, 0, 128, 153, 0, 15, 42, 180, 0, 24, 3, 27, 96, 46, 6, 160, 0, 5, 2, 172, 3, 61]
abbrev dktX6_harm_0 : List UInt8 := dkwX6_harm_0 ++ dktX6_harm_1
theorem dksX6_harm_0 : cX6_harm.data.toList.drop 0 = dktX6_harm_0 := by decide +kernel
theorem dksX6_harm_1 : cX6_harm.data.toList.drop 24 = dktX6_harm_1 := dk_seg dksX6_harm_0 24 rfl rfl
theorem dksX6_harm_2 : cX6_harm.data.toList.drop 46 = dktX6_harm_2 := dk_seg dksX6_harm_1 22 rfl rfl
theorem dksX6_harm_3 : cX6_harm.data.toList.drop 69 = dktX6_harm_3 := dk_seg dksX6_harm_2 23 rfl rfl
theorem dX6_harm_0 : decode cX6_harm 0 = .ok (.aload_n 0, 1) := dk_42 (dk_at dksX6_harm_0 0 rfl rfl)
theorem dX6_harm_1 : decode cX6_harm 1 = .ok (.iload_n 1, 1) := dk_27 (dk_at dksX6_harm_0 1 rfl rfl)
theorem dX6_harm_2 : decode cX6_harm 2 = .ok (.invokevirtual 128, 3) := dk_182 0 128 (dk_at dksX6_harm_0 2 rfl rfl)
theorem dX6_harm_5 : decode cX6_harm 5 = .ok (.ifCond .eq 15, 3) := dk_153 0 15 (dk_at dksX6_harm_0 5 rfl rfl)
theorem dX6_harm_8 : decode cX6_harm 8 = .ok (.aload_n 0, 1) := dk_42 (dk_at dksX6_harm_0 8 rfl rfl)
theorem dX6_harm_9 : decode cX6_harm 9 = .ok (.getfield 24, 3) := dk_180 0 24 (dk_at dksX6_harm_0 9 rfl rfl)
theorem dX6_harm_12 : decode cX6_harm 12 = .ok (.iconst 0, 1) := dk_3 (dk_at dksX6_harm_0 12 rfl rfl)
theorem dX6_harm_13 : decode cX6_harm 13 = .ok (.iload_n 1, 1) := dk_27 (dk_at dksX6_harm_0 13 rfl rfl)
theorem dX6_harm_14 : decode cX6_harm 14 = .ok (.iadd, 1) := dk_96 (dk_at dksX6_harm_0 14 rfl rfl)
theorem dX6_harm_15 : decode cX6_harm 15 = .ok (.iaload, 1) := dk_46 (dk_at dksX6_harm_0 15 rfl rfl)
theorem dX6_harm_16 : decode cX6_harm 16 = .ok (.iconst 3, 1) := dk_6 (dk_at dksX6_harm_0 16 rfl rfl)
theorem dX6_harm_17 : decode cX6_harm 17 = .ok (.if_icmp .ne 5, 3) := dk_160 0 5 (dk_at dksX6_harm_0 17 rfl rfl)
theorem dX6_harm_20 : decode cX6_harm 20 = .ok (.iconst (-1), 1) := dk_2 (dk_at dksX6_harm_0 20 rfl rfl)
theorem dX6_harm_21 : decode cX6_harm 21 = .ok (.ireturn, 1) := dk_172 (dk_at dksX6_harm_0 21 rfl rfl)
theorem dX6_harm_22 : decode cX6_harm 22 = .ok (.iconst 0, 1) := dk_3 (dk_at dksX6_harm_0 22 rfl rfl)
theorem dX6_harm_23 : decode cX6_harm 23 = .ok (.istore_n 2, 1) := dk_61 (dk_at dksX6_harm_0 23 rfl rfl)
theorem dX6_harm_24 : decode cX6_harm 24 = .ok (.iconst 0, 1) := dk_3 (dk_at dksX6_harm_1 0 rfl rfl)
theorem dX6_harm_25 : decode cX6_harm 25 = .ok (.istore_n 3, 1) := dk_62 (dk_at dksX6_harm_1 1 rfl rfl)
theorem dX6_harm_26 : decode cX6_harm 26 = .ok (.iload_n 3, 1) := dk_29 (dk_at dksX6_harm_1 2 rfl rfl)
theorem dX6_harm_27 : decode cX6_harm 27 = .ok (.aload_n 0, 1) := dk_42 (dk_at dksX6_harm_1 3 rfl rfl)
theorem dX6_harm_28 : decode cX6_harm 28 = .ok (.invokevirtual 116, 3) := dk_182 0 116 (dk_at dksX6_harm_1 4 rfl rfl)
theorem dX6_harm_31 : decode cX6_harm 31 = .ok (.if_icmp .ge 44, 3) := dk_162 0 44 (dk_at dksX6_harm_1 7 rfl rfl)
theorem dX6_harm_34 : decode cX6_harm 34 = .ok (.iload_n 2, 1) := dk_28 (dk_at dksX6_harm_1 10 rfl rfl)
theorem dX6_harm_35 : decode cX6_harm 35 = .ok (.iload_n 3, 1) := dk_29 (dk_at dksX6_harm_1 11 rfl rfl)
theorem dX6_harm_36 : decode cX6_harm 36 = .ok (.iload_n 1, 1) := dk_27 (dk_at dksX6_harm_1 12 rfl rfl)
theorem dX6_harm_37 : decode cX6_harm 37 = .ok (.if_icmp .eq 29, 3) := dk_159 0 29 (dk_at dksX6_harm_1 13 rfl rfl)
theorem dX6_harm_40 : decode cX6_harm 40 = .ok (.aload_n 0, 1) := dk_42 (dk_at dksX6_harm_1 16 rfl rfl)
theorem dX6_harm_41 : decode cX6_harm 41 = .ok (.iload_n 1, 1) := dk_27 (dk_at dksX6_harm_1 17 rfl rfl)
theorem dX6_harm_42 : decode cX6_harm 42 = .ok (.iload_n 3, 1) := dk_29 (dk_at dksX6_harm_1 18 rfl rfl)
theorem dX6_harm_43 : decode cX6_harm 43 = .ok (.invokevirtual 334, 3) := dk_182 1 78 (dk_at dksX6_harm_1 19 rfl rfl)
theorem dX6_harm_46 : decode cX6_harm 46 = .ok (.ifCond .eq 20, 3) := dk_153 0 20 (dk_at dksX6_harm_2 0 rfl rfl)
theorem dX6_harm_49 : decode cX6_harm 49 = .ok (.aload_n 0, 1) := dk_42 (dk_at dksX6_harm_2 3 rfl rfl)
theorem dX6_harm_50 : decode cX6_harm 50 = .ok (.iload_n 3, 1) := dk_29 (dk_at dksX6_harm_2 4 rfl rfl)
theorem dX6_harm_51 : decode cX6_harm 51 = .ok (.invokevirtual 138, 3) := dk_182 0 138 (dk_at dksX6_harm_2 5 rfl rfl)
theorem dX6_harm_54 : decode cX6_harm 54 = .ok (.aload_n 0, 1) := dk_42 (dk_at dksX6_harm_2 8 rfl rfl)
theorem dX6_harm_55 : decode cX6_harm 55 = .ok (.iload_n 1, 1) := dk_27 (dk_at dksX6_harm_2 9 rfl rfl)
theorem dX6_harm_56 : decode cX6_harm 56 = .ok (.iload_n 3, 1) := dk_29 (dk_at dksX6_harm_2 10 rfl rfl)
theorem dX6_harm_57 : decode cX6_harm 57 = .ok (.invokevirtual 319, 3) := dk_182 1 63 (dk_at dksX6_harm_2 11 rfl rfl)
theorem dX6_harm_60 : decode cX6_harm 60 = .ok (.invokestatic 337, 3) := dk_184 1 81 (dk_at dksX6_harm_2 14 rfl rfl)
theorem dX6_harm_63 : decode cX6_harm 63 = .ok (.goto 4, 3) := dk_167 0 4 (dk_at dksX6_harm_2 17 rfl rfl)
theorem dX6_harm_66 : decode cX6_harm 66 = .ok (.iconst 0, 1) := dk_3 (dk_at dksX6_harm_2 20 rfl rfl)
theorem dX6_harm_67 : decode cX6_harm 67 = .ok (.iadd, 1) := dk_96 (dk_at dksX6_harm_2 21 rfl rfl)
theorem dX6_harm_68 : decode cX6_harm 68 = .ok (.istore_n 2, 1) := dk_61 (dk_at dksX6_harm_2 22 rfl rfl)
theorem dX6_harm_69 : decode cX6_harm 69 = .ok (.iinc 3 1, 3) := dk_132 3 1 (dk_at dksX6_harm_3 0 rfl rfl)
theorem dX6_harm_72 : decode cX6_harm 72 = .ok (.goto (-46), 3) := dk_167 255 210 (dk_at dksX6_harm_3 3 rfl rfl)
theorem dX6_harm_75 : decode cX6_harm 75 = .ok (.iload_n 2, 1) := dk_28 (dk_at dksX6_harm_3 6 rfl rfl)
theorem dX6_harm_76 : decode cX6_harm 76 = .ok (.ireturn, 1) := dk_172 (dk_at dksX6_harm_3 7 rfl rfl)
abbrev cX6_hush : ByteArray := prog_29_method_110_code
def yX6_hush : MethodName := ⟨RX6, "hush", "(II)I"⟩
def dkwX6_hush_6 : List UInt8 := [167, 0, 14, 28, 4, 160, 0, 7, 29, 167, 0, 5, 21, 4, 172]
abbrev dktX6_hush_6 : List UInt8 := dkwX6_hush_6 ++ []
def dkwX6_hush_5 : List UInt8 := [132, 5, 1, 167, 255, 171, 29, 2, 160, 0, 7, 2, 167, 0, 25, 28, 154, 0, 10, 29, 184, 1, 152]
abbrev dktX6_hush_5 : List UInt8 := dkwX6_hush_5 ++ dktX6_hush_6
def dkwX6_hush_4 : List UInt8 := [167, 0, 18, 29, 2, 160, 0, 8, 21, 6, 167, 0, 4, 29, 62, 132, 4, 1, 132, 6, 1, 167, 255, 191]
abbrev dktX6_hush_4 : List UInt8 := dkwX6_hush_4 ++ dktX6_hush_5
def dkwX6_hush_3 : List UInt8 := [167, 0, 41, 42, 21, 6, 181, 1, 102, 42, 182, 1, 105, 42, 3, 3, 182, 1, 126, 27, 162, 0, 6]
abbrev dktX6_hush_3 : List UInt8 := dkwX6_hush_3 ++ dktX6_hush_4
def dkwX6_hush_2 : List UInt8 := [54, 6, 21, 6, 4, 42, 182, 0, 116, 120, 162, 0, 60, 21, 6, 184, 1, 152, 21, 5, 159, 0, 6]
abbrev dktX6_hush_2 : List UInt8 := dkwX6_hush_2 ++ dktX6_hush_3
def dkwX6_hush_1 : List UInt8 := [182, 1, 129, 2, 62, 3, 54, 4, 3, 54, 5, 21, 5, 6, 162, 0, 85, 29, 2, 160, 0, 80, 3]
abbrev dktX6_hush_1 : List UInt8 := dkwX6_hush_1 ++ dktX6_hush_2
def dkwX6_hush_0 : List UInt8 := [27, 4, 16, 10, 184, 0, 106, 153, 0, 12, 28, 3, 5, 184, 0, 106, 154, 0, 5, 2, 172, 42]
abbrev dktX6_hush_0 : List UInt8 := dkwX6_hush_0 ++ dktX6_hush_1
theorem dksX6_hush_0 : cX6_hush.data.toList.drop 0 = dktX6_hush_0 := by decide +kernel
theorem dksX6_hush_1 : cX6_hush.data.toList.drop 22 = dktX6_hush_1 := dk_seg dksX6_hush_0 22 rfl rfl
theorem dksX6_hush_2 : cX6_hush.data.toList.drop 45 = dktX6_hush_2 := dk_seg dksX6_hush_1 23 rfl rfl
theorem dksX6_hush_3 : cX6_hush.data.toList.drop 68 = dktX6_hush_3 := dk_seg dksX6_hush_2 23 rfl rfl
theorem dksX6_hush_4 : cX6_hush.data.toList.drop 91 = dktX6_hush_4 := dk_seg dksX6_hush_3 23 rfl rfl
theorem dksX6_hush_5 : cX6_hush.data.toList.drop 115 = dktX6_hush_5 := dk_seg dksX6_hush_4 24 rfl rfl
theorem dksX6_hush_6 : cX6_hush.data.toList.drop 138 = dktX6_hush_6 := dk_seg dksX6_hush_5 23 rfl rfl
theorem dX6_hush_0 : decode cX6_hush 0 = .ok (.iload_n 1, 1) := dk_27 (dk_at dksX6_hush_0 0 rfl rfl)
theorem dX6_hush_1 : decode cX6_hush 1 = .ok (.iconst 1, 1) := dk_4 (dk_at dksX6_hush_0 1 rfl rfl)
theorem dX6_hush_2 : decode cX6_hush 2 = .ok (.bipush 10, 2) := dk_16 10 (dk_at dksX6_hush_0 2 rfl rfl)
theorem dX6_hush_4 : decode cX6_hush 4 = .ok (.invokestatic 106, 3) := dk_184 0 106 (dk_at dksX6_hush_0 4 rfl rfl)
theorem dX6_hush_7 : decode cX6_hush 7 = .ok (.ifCond .eq 12, 3) := dk_153 0 12 (dk_at dksX6_hush_0 7 rfl rfl)
theorem dX6_hush_10 : decode cX6_hush 10 = .ok (.iload_n 2, 1) := dk_28 (dk_at dksX6_hush_0 10 rfl rfl)
theorem dX6_hush_11 : decode cX6_hush 11 = .ok (.iconst 0, 1) := dk_3 (dk_at dksX6_hush_0 11 rfl rfl)
theorem dX6_hush_12 : decode cX6_hush 12 = .ok (.iconst 2, 1) := dk_5 (dk_at dksX6_hush_0 12 rfl rfl)
theorem dX6_hush_13 : decode cX6_hush 13 = .ok (.invokestatic 106, 3) := dk_184 0 106 (dk_at dksX6_hush_0 13 rfl rfl)
theorem dX6_hush_16 : decode cX6_hush 16 = .ok (.ifCond .ne 5, 3) := dk_154 0 5 (dk_at dksX6_hush_0 16 rfl rfl)
theorem dX6_hush_19 : decode cX6_hush 19 = .ok (.iconst (-1), 1) := dk_2 (dk_at dksX6_hush_0 19 rfl rfl)
theorem dX6_hush_20 : decode cX6_hush 20 = .ok (.ireturn, 1) := dk_172 (dk_at dksX6_hush_0 20 rfl rfl)
theorem dX6_hush_21 : decode cX6_hush 21 = .ok (.aload_n 0, 1) := dk_42 (dk_at dksX6_hush_0 21 rfl rfl)
theorem dX6_hush_22 : decode cX6_hush 22 = .ok (.invokevirtual 385, 3) := dk_182 1 129 (dk_at dksX6_hush_1 0 rfl rfl)
theorem dX6_hush_25 : decode cX6_hush 25 = .ok (.iconst (-1), 1) := dk_2 (dk_at dksX6_hush_1 3 rfl rfl)
theorem dX6_hush_26 : decode cX6_hush 26 = .ok (.istore_n 3, 1) := dk_62 (dk_at dksX6_hush_1 4 rfl rfl)
theorem dX6_hush_27 : decode cX6_hush 27 = .ok (.iconst 0, 1) := dk_3 (dk_at dksX6_hush_1 5 rfl rfl)
theorem dX6_hush_28 : decode cX6_hush 28 = .ok (.istore 4, 2) := dk_54 4 (dk_at dksX6_hush_1 6 rfl rfl)
theorem dX6_hush_30 : decode cX6_hush 30 = .ok (.iconst 0, 1) := dk_3 (dk_at dksX6_hush_1 8 rfl rfl)
theorem dX6_hush_31 : decode cX6_hush 31 = .ok (.istore 5, 2) := dk_54 5 (dk_at dksX6_hush_1 9 rfl rfl)
theorem dX6_hush_33 : decode cX6_hush 33 = .ok (.iload 5, 2) := dk_21 5 (dk_at dksX6_hush_1 11 rfl rfl)
theorem dX6_hush_35 : decode cX6_hush 35 = .ok (.iconst 3, 1) := dk_6 (dk_at dksX6_hush_1 13 rfl rfl)
theorem dX6_hush_36 : decode cX6_hush 36 = .ok (.if_icmp .ge 85, 3) := dk_162 0 85 (dk_at dksX6_hush_1 14 rfl rfl)
theorem dX6_hush_39 : decode cX6_hush 39 = .ok (.iload_n 3, 1) := dk_29 (dk_at dksX6_hush_1 17 rfl rfl)
theorem dX6_hush_40 : decode cX6_hush 40 = .ok (.iconst (-1), 1) := dk_2 (dk_at dksX6_hush_1 18 rfl rfl)
theorem dX6_hush_41 : decode cX6_hush 41 = .ok (.if_icmp .ne 80, 3) := dk_160 0 80 (dk_at dksX6_hush_1 19 rfl rfl)
theorem dX6_hush_44 : decode cX6_hush 44 = .ok (.iconst 0, 1) := dk_3 (dk_at dksX6_hush_1 22 rfl rfl)
theorem dX6_hush_45 : decode cX6_hush 45 = .ok (.istore 6, 2) := dk_54 6 (dk_at dksX6_hush_2 0 rfl rfl)
theorem dX6_hush_47 : decode cX6_hush 47 = .ok (.iload 6, 2) := dk_21 6 (dk_at dksX6_hush_2 2 rfl rfl)
theorem dX6_hush_49 : decode cX6_hush 49 = .ok (.iconst 1, 1) := dk_4 (dk_at dksX6_hush_2 4 rfl rfl)
theorem dX6_hush_50 : decode cX6_hush 50 = .ok (.aload_n 0, 1) := dk_42 (dk_at dksX6_hush_2 5 rfl rfl)
theorem dX6_hush_51 : decode cX6_hush 51 = .ok (.invokevirtual 116, 3) := dk_182 0 116 (dk_at dksX6_hush_2 6 rfl rfl)
theorem dX6_hush_54 : decode cX6_hush 54 = .ok (.ishl, 1) := dk_120 (dk_at dksX6_hush_2 9 rfl rfl)
theorem dX6_hush_55 : decode cX6_hush 55 = .ok (.if_icmp .ge 60, 3) := dk_162 0 60 (dk_at dksX6_hush_2 10 rfl rfl)
theorem dX6_hush_58 : decode cX6_hush 58 = .ok (.iload 6, 2) := dk_21 6 (dk_at dksX6_hush_2 13 rfl rfl)
theorem dX6_hush_60 : decode cX6_hush 60 = .ok (.invokestatic 408, 3) := dk_184 1 152 (dk_at dksX6_hush_2 15 rfl rfl)
theorem dX6_hush_63 : decode cX6_hush 63 = .ok (.iload 5, 2) := dk_21 5 (dk_at dksX6_hush_2 18 rfl rfl)
theorem dX6_hush_65 : decode cX6_hush 65 = .ok (.if_icmp .eq 6, 3) := dk_159 0 6 (dk_at dksX6_hush_2 20 rfl rfl)
theorem dX6_hush_68 : decode cX6_hush 68 = .ok (.goto 41, 3) := dk_167 0 41 (dk_at dksX6_hush_3 0 rfl rfl)
theorem dX6_hush_71 : decode cX6_hush 71 = .ok (.aload_n 0, 1) := dk_42 (dk_at dksX6_hush_3 3 rfl rfl)
theorem dX6_hush_72 : decode cX6_hush 72 = .ok (.iload 6, 2) := dk_21 6 (dk_at dksX6_hush_3 4 rfl rfl)
theorem dX6_hush_74 : decode cX6_hush 74 = .ok (.putfield 358, 3) := dk_181 1 102 (dk_at dksX6_hush_3 6 rfl rfl)
theorem dX6_hush_77 : decode cX6_hush 77 = .ok (.aload_n 0, 1) := dk_42 (dk_at dksX6_hush_3 9 rfl rfl)
theorem dX6_hush_78 : decode cX6_hush 78 = .ok (.invokevirtual 361, 3) := dk_182 1 105 (dk_at dksX6_hush_3 10 rfl rfl)
theorem dX6_hush_81 : decode cX6_hush 81 = .ok (.aload_n 0, 1) := dk_42 (dk_at dksX6_hush_3 13 rfl rfl)
theorem dX6_hush_82 : decode cX6_hush 82 = .ok (.iconst 0, 1) := dk_3 (dk_at dksX6_hush_3 14 rfl rfl)
theorem dX6_hush_83 : decode cX6_hush 83 = .ok (.iconst 0, 1) := dk_3 (dk_at dksX6_hush_3 15 rfl rfl)
theorem dX6_hush_84 : decode cX6_hush 84 = .ok (.invokevirtual 382, 3) := dk_182 1 126 (dk_at dksX6_hush_3 16 rfl rfl)
theorem dX6_hush_87 : decode cX6_hush 87 = .ok (.iload_n 1, 1) := dk_27 (dk_at dksX6_hush_3 19 rfl rfl)
theorem dX6_hush_88 : decode cX6_hush 88 = .ok (.if_icmp .ge 6, 3) := dk_162 0 6 (dk_at dksX6_hush_3 20 rfl rfl)
theorem dX6_hush_91 : decode cX6_hush 91 = .ok (.goto 18, 3) := dk_167 0 18 (dk_at dksX6_hush_4 0 rfl rfl)
theorem dX6_hush_94 : decode cX6_hush 94 = .ok (.iload_n 3, 1) := dk_29 (dk_at dksX6_hush_4 3 rfl rfl)
theorem dX6_hush_95 : decode cX6_hush 95 = .ok (.iconst (-1), 1) := dk_2 (dk_at dksX6_hush_4 4 rfl rfl)
theorem dX6_hush_96 : decode cX6_hush 96 = .ok (.if_icmp .ne 8, 3) := dk_160 0 8 (dk_at dksX6_hush_4 5 rfl rfl)
theorem dX6_hush_99 : decode cX6_hush 99 = .ok (.iload 6, 2) := dk_21 6 (dk_at dksX6_hush_4 8 rfl rfl)
theorem dX6_hush_101 : decode cX6_hush 101 = .ok (.goto 4, 3) := dk_167 0 4 (dk_at dksX6_hush_4 10 rfl rfl)
theorem dX6_hush_104 : decode cX6_hush 104 = .ok (.iload_n 3, 1) := dk_29 (dk_at dksX6_hush_4 13 rfl rfl)
theorem dX6_hush_105 : decode cX6_hush 105 = .ok (.istore_n 3, 1) := dk_62 (dk_at dksX6_hush_4 14 rfl rfl)
theorem dX6_hush_106 : decode cX6_hush 106 = .ok (.iinc 4 1, 3) := dk_132 4 1 (dk_at dksX6_hush_4 15 rfl rfl)
theorem dX6_hush_109 : decode cX6_hush 109 = .ok (.iinc 6 1, 3) := dk_132 6 1 (dk_at dksX6_hush_4 18 rfl rfl)
theorem dX6_hush_112 : decode cX6_hush 112 = .ok (.goto (-65), 3) := dk_167 255 191 (dk_at dksX6_hush_4 21 rfl rfl)
theorem dX6_hush_115 : decode cX6_hush 115 = .ok (.iinc 5 1, 3) := dk_132 5 1 (dk_at dksX6_hush_5 0 rfl rfl)
theorem dX6_hush_118 : decode cX6_hush 118 = .ok (.goto (-85), 3) := dk_167 255 171 (dk_at dksX6_hush_5 3 rfl rfl)
theorem dX6_hush_121 : decode cX6_hush 121 = .ok (.iload_n 3, 1) := dk_29 (dk_at dksX6_hush_5 6 rfl rfl)
theorem dX6_hush_122 : decode cX6_hush 122 = .ok (.iconst (-1), 1) := dk_2 (dk_at dksX6_hush_5 7 rfl rfl)
theorem dX6_hush_123 : decode cX6_hush 123 = .ok (.if_icmp .ne 7, 3) := dk_160 0 7 (dk_at dksX6_hush_5 8 rfl rfl)
theorem dX6_hush_126 : decode cX6_hush 126 = .ok (.iconst (-1), 1) := dk_2 (dk_at dksX6_hush_5 11 rfl rfl)
theorem dX6_hush_127 : decode cX6_hush 127 = .ok (.goto 25, 3) := dk_167 0 25 (dk_at dksX6_hush_5 12 rfl rfl)
theorem dX6_hush_130 : decode cX6_hush 130 = .ok (.iload_n 2, 1) := dk_28 (dk_at dksX6_hush_5 15 rfl rfl)
theorem dX6_hush_131 : decode cX6_hush 131 = .ok (.ifCond .ne 10, 3) := dk_154 0 10 (dk_at dksX6_hush_5 16 rfl rfl)
theorem dX6_hush_134 : decode cX6_hush 134 = .ok (.iload_n 3, 1) := dk_29 (dk_at dksX6_hush_5 19 rfl rfl)
theorem dX6_hush_135 : decode cX6_hush 135 = .ok (.invokestatic 408, 3) := dk_184 1 152 (dk_at dksX6_hush_5 20 rfl rfl)
theorem dX6_hush_138 : decode cX6_hush 138 = .ok (.goto 14, 3) := dk_167 0 14 (dk_at dksX6_hush_6 0 rfl rfl)
theorem dX6_hush_141 : decode cX6_hush 141 = .ok (.iload_n 2, 1) := dk_28 (dk_at dksX6_hush_6 3 rfl rfl)
theorem dX6_hush_142 : decode cX6_hush 142 = .ok (.iconst 1, 1) := dk_4 (dk_at dksX6_hush_6 4 rfl rfl)
theorem dX6_hush_143 : decode cX6_hush 143 = .ok (.if_icmp .ne 7, 3) := dk_160 0 7 (dk_at dksX6_hush_6 5 rfl rfl)
theorem dX6_hush_146 : decode cX6_hush 146 = .ok (.iload_n 3, 1) := dk_29 (dk_at dksX6_hush_6 8 rfl rfl)
theorem dX6_hush_147 : decode cX6_hush 147 = .ok (.goto 5, 3) := dk_167 0 5 (dk_at dksX6_hush_6 9 rfl rfl)
theorem dX6_hush_150 : decode cX6_hush 150 = .ok (.iload 4, 2) := dk_21 4 (dk_at dksX6_hush_6 12 rfl rfl)
theorem dX6_hush_152 : decode cX6_hush 152 = .ok (.ireturn, 1) := dk_172 (dk_at dksX6_hush_6 14 rfl rfl)
abbrev cX6_ones : ByteArray := prog_29_method_6_code
def yX6_ones : MethodName := ⟨RX6, "ones", "(I)I"⟩
def dkwX6_ones_1 : List UInt8 := [27, 172]
abbrev dktX6_ones_1 : List UInt8 := dkwX6_ones_1 ++ []
def dkwX6_ones_0 : List UInt8 := [3, 60, 3, 61, 28, 16, 10, 162, 0, 17, 27, 26, 28, 122, 4, 126, 96, 60, 132, 2, 1, 167, 255, 239]
abbrev dktX6_ones_0 : List UInt8 := dkwX6_ones_0 ++ dktX6_ones_1
theorem dksX6_ones_0 : cX6_ones.data.toList.drop 0 = dktX6_ones_0 := by decide +kernel
theorem dksX6_ones_1 : cX6_ones.data.toList.drop 24 = dktX6_ones_1 := dk_seg dksX6_ones_0 24 rfl rfl
theorem dX6_ones_0 : decode cX6_ones 0 = .ok (.iconst 0, 1) := dk_3 (dk_at dksX6_ones_0 0 rfl rfl)
theorem dX6_ones_1 : decode cX6_ones 1 = .ok (.istore_n 1, 1) := dk_60 (dk_at dksX6_ones_0 1 rfl rfl)
theorem dX6_ones_2 : decode cX6_ones 2 = .ok (.iconst 0, 1) := dk_3 (dk_at dksX6_ones_0 2 rfl rfl)
theorem dX6_ones_3 : decode cX6_ones 3 = .ok (.istore_n 2, 1) := dk_61 (dk_at dksX6_ones_0 3 rfl rfl)
theorem dX6_ones_4 : decode cX6_ones 4 = .ok (.iload_n 2, 1) := dk_28 (dk_at dksX6_ones_0 4 rfl rfl)
theorem dX6_ones_5 : decode cX6_ones 5 = .ok (.bipush 10, 2) := dk_16 10 (dk_at dksX6_ones_0 5 rfl rfl)
theorem dX6_ones_7 : decode cX6_ones 7 = .ok (.if_icmp .ge 17, 3) := dk_162 0 17 (dk_at dksX6_ones_0 7 rfl rfl)
theorem dX6_ones_10 : decode cX6_ones 10 = .ok (.iload_n 1, 1) := dk_27 (dk_at dksX6_ones_0 10 rfl rfl)
theorem dX6_ones_11 : decode cX6_ones 11 = .ok (.iload_n 0, 1) := dk_26 (dk_at dksX6_ones_0 11 rfl rfl)
theorem dX6_ones_12 : decode cX6_ones 12 = .ok (.iload_n 2, 1) := dk_28 (dk_at dksX6_ones_0 12 rfl rfl)
theorem dX6_ones_13 : decode cX6_ones 13 = .ok (.ishr, 1) := dk_122 (dk_at dksX6_ones_0 13 rfl rfl)
theorem dX6_ones_14 : decode cX6_ones 14 = .ok (.iconst 1, 1) := dk_4 (dk_at dksX6_ones_0 14 rfl rfl)
theorem dX6_ones_15 : decode cX6_ones 15 = .ok (.iand, 1) := dk_126 (dk_at dksX6_ones_0 15 rfl rfl)
theorem dX6_ones_16 : decode cX6_ones 16 = .ok (.iadd, 1) := dk_96 (dk_at dksX6_ones_0 16 rfl rfl)
theorem dX6_ones_17 : decode cX6_ones 17 = .ok (.istore_n 1, 1) := dk_60 (dk_at dksX6_ones_0 17 rfl rfl)
theorem dX6_ones_18 : decode cX6_ones 18 = .ok (.iinc 2 1, 3) := dk_132 2 1 (dk_at dksX6_ones_0 18 rfl rfl)
theorem dX6_ones_21 : decode cX6_ones 21 = .ok (.goto (-17), 3) := dk_167 255 239 (dk_at dksX6_ones_0 21 rfl rfl)
theorem dX6_ones_24 : decode cX6_ones 24 = .ok (.iload_n 1, 1) := dk_27 (dk_at dksX6_ones_1 0 rfl rfl)
theorem dX6_ones_25 : decode cX6_ones 25 = .ok (.ireturn, 1) := dk_172 (dk_at dksX6_ones_1 1 rfl rfl)
abbrev cX6_who : ByteArray := prog_29_method_111_code
def yX6_who : MethodName := ⟨RX6, "who", "(I)I"⟩
def dkwX6_who_3 : List UInt8 := [167, 0, 4, 3, 128, 61, 132, 3, 1, 167, 255, 199, 28, 172]
abbrev dktX6_who_3 : List UInt8 := dkwX6_who_3 ++ []
def dkwX6_who_2 : List UInt8 := [120, 181, 1, 99, 42, 182, 1, 105, 28, 42, 3, 3, 182, 1, 126, 27, 160, 0, 9, 4, 29, 120]
abbrev dktX6_who_2 : List UInt8 := dkwX6_who_2 ++ dktX6_who_3
def dkwX6_who_1 : List UInt8 := [182, 0, 116, 162, 0, 55, 42, 180, 0, 24, 3, 29, 96, 46, 6, 160, 0, 6, 167, 0, 34, 42, 4, 29]
abbrev dktX6_who_1 : List UInt8 := dkwX6_who_1 ++ dktX6_who_2
def dkwX6_who_0 : List UInt8 := [27, 3, 16, 10, 184, 0, 106, 154, 0, 5, 2, 172, 42, 182, 1, 129, 3, 61, 3, 62, 29, 42]
abbrev dktX6_who_0 : List UInt8 := dkwX6_who_0 ++ dktX6_who_1
theorem dksX6_who_0 : cX6_who.data.toList.drop 0 = dktX6_who_0 := by decide +kernel
theorem dksX6_who_1 : cX6_who.data.toList.drop 22 = dktX6_who_1 := dk_seg dksX6_who_0 22 rfl rfl
theorem dksX6_who_2 : cX6_who.data.toList.drop 46 = dktX6_who_2 := dk_seg dksX6_who_1 24 rfl rfl
theorem dksX6_who_3 : cX6_who.data.toList.drop 68 = dktX6_who_3 := dk_seg dksX6_who_2 22 rfl rfl
theorem dX6_who_0 : decode cX6_who 0 = .ok (.iload_n 1, 1) := dk_27 (dk_at dksX6_who_0 0 rfl rfl)
theorem dX6_who_1 : decode cX6_who 1 = .ok (.iconst 0, 1) := dk_3 (dk_at dksX6_who_0 1 rfl rfl)
theorem dX6_who_2 : decode cX6_who 2 = .ok (.bipush 10, 2) := dk_16 10 (dk_at dksX6_who_0 2 rfl rfl)
theorem dX6_who_4 : decode cX6_who 4 = .ok (.invokestatic 106, 3) := dk_184 0 106 (dk_at dksX6_who_0 4 rfl rfl)
theorem dX6_who_7 : decode cX6_who 7 = .ok (.ifCond .ne 5, 3) := dk_154 0 5 (dk_at dksX6_who_0 7 rfl rfl)
theorem dX6_who_10 : decode cX6_who 10 = .ok (.iconst (-1), 1) := dk_2 (dk_at dksX6_who_0 10 rfl rfl)
theorem dX6_who_11 : decode cX6_who 11 = .ok (.ireturn, 1) := dk_172 (dk_at dksX6_who_0 11 rfl rfl)
theorem dX6_who_12 : decode cX6_who 12 = .ok (.aload_n 0, 1) := dk_42 (dk_at dksX6_who_0 12 rfl rfl)
theorem dX6_who_13 : decode cX6_who 13 = .ok (.invokevirtual 385, 3) := dk_182 1 129 (dk_at dksX6_who_0 13 rfl rfl)
theorem dX6_who_16 : decode cX6_who 16 = .ok (.iconst 0, 1) := dk_3 (dk_at dksX6_who_0 16 rfl rfl)
theorem dX6_who_17 : decode cX6_who 17 = .ok (.istore_n 2, 1) := dk_61 (dk_at dksX6_who_0 17 rfl rfl)
theorem dX6_who_18 : decode cX6_who 18 = .ok (.iconst 0, 1) := dk_3 (dk_at dksX6_who_0 18 rfl rfl)
theorem dX6_who_19 : decode cX6_who 19 = .ok (.istore_n 3, 1) := dk_62 (dk_at dksX6_who_0 19 rfl rfl)
theorem dX6_who_20 : decode cX6_who 20 = .ok (.iload_n 3, 1) := dk_29 (dk_at dksX6_who_0 20 rfl rfl)
theorem dX6_who_21 : decode cX6_who 21 = .ok (.aload_n 0, 1) := dk_42 (dk_at dksX6_who_0 21 rfl rfl)
theorem dX6_who_22 : decode cX6_who 22 = .ok (.invokevirtual 116, 3) := dk_182 0 116 (dk_at dksX6_who_1 0 rfl rfl)
theorem dX6_who_25 : decode cX6_who 25 = .ok (.if_icmp .ge 55, 3) := dk_162 0 55 (dk_at dksX6_who_1 3 rfl rfl)
theorem dX6_who_28 : decode cX6_who 28 = .ok (.aload_n 0, 1) := dk_42 (dk_at dksX6_who_1 6 rfl rfl)
theorem dX6_who_29 : decode cX6_who 29 = .ok (.getfield 24, 3) := dk_180 0 24 (dk_at dksX6_who_1 7 rfl rfl)
theorem dX6_who_32 : decode cX6_who 32 = .ok (.iconst 0, 1) := dk_3 (dk_at dksX6_who_1 10 rfl rfl)
theorem dX6_who_33 : decode cX6_who 33 = .ok (.iload_n 3, 1) := dk_29 (dk_at dksX6_who_1 11 rfl rfl)
theorem dX6_who_34 : decode cX6_who 34 = .ok (.iadd, 1) := dk_96 (dk_at dksX6_who_1 12 rfl rfl)
theorem dX6_who_35 : decode cX6_who 35 = .ok (.iaload, 1) := dk_46 (dk_at dksX6_who_1 13 rfl rfl)
theorem dX6_who_36 : decode cX6_who 36 = .ok (.iconst 3, 1) := dk_6 (dk_at dksX6_who_1 14 rfl rfl)
theorem dX6_who_37 : decode cX6_who 37 = .ok (.if_icmp .ne 6, 3) := dk_160 0 6 (dk_at dksX6_who_1 15 rfl rfl)
theorem dX6_who_40 : decode cX6_who 40 = .ok (.goto 34, 3) := dk_167 0 34 (dk_at dksX6_who_1 18 rfl rfl)
theorem dX6_who_43 : decode cX6_who 43 = .ok (.aload_n 0, 1) := dk_42 (dk_at dksX6_who_1 21 rfl rfl)
theorem dX6_who_44 : decode cX6_who 44 = .ok (.iconst 1, 1) := dk_4 (dk_at dksX6_who_1 22 rfl rfl)
theorem dX6_who_45 : decode cX6_who 45 = .ok (.iload_n 3, 1) := dk_29 (dk_at dksX6_who_1 23 rfl rfl)
theorem dX6_who_46 : decode cX6_who 46 = .ok (.ishl, 1) := dk_120 (dk_at dksX6_who_2 0 rfl rfl)
theorem dX6_who_47 : decode cX6_who 47 = .ok (.putfield 355, 3) := dk_181 1 99 (dk_at dksX6_who_2 1 rfl rfl)
theorem dX6_who_50 : decode cX6_who 50 = .ok (.aload_n 0, 1) := dk_42 (dk_at dksX6_who_2 4 rfl rfl)
theorem dX6_who_51 : decode cX6_who 51 = .ok (.invokevirtual 361, 3) := dk_182 1 105 (dk_at dksX6_who_2 5 rfl rfl)
theorem dX6_who_54 : decode cX6_who 54 = .ok (.iload_n 2, 1) := dk_28 (dk_at dksX6_who_2 8 rfl rfl)
theorem dX6_who_55 : decode cX6_who 55 = .ok (.aload_n 0, 1) := dk_42 (dk_at dksX6_who_2 9 rfl rfl)
theorem dX6_who_56 : decode cX6_who 56 = .ok (.iconst 0, 1) := dk_3 (dk_at dksX6_who_2 10 rfl rfl)
theorem dX6_who_57 : decode cX6_who 57 = .ok (.iconst 0, 1) := dk_3 (dk_at dksX6_who_2 11 rfl rfl)
theorem dX6_who_58 : decode cX6_who 58 = .ok (.invokevirtual 382, 3) := dk_182 1 126 (dk_at dksX6_who_2 12 rfl rfl)
theorem dX6_who_61 : decode cX6_who 61 = .ok (.iload_n 1, 1) := dk_27 (dk_at dksX6_who_2 15 rfl rfl)
theorem dX6_who_62 : decode cX6_who 62 = .ok (.if_icmp .ne 9, 3) := dk_160 0 9 (dk_at dksX6_who_2 16 rfl rfl)
theorem dX6_who_65 : decode cX6_who 65 = .ok (.iconst 1, 1) := dk_4 (dk_at dksX6_who_2 19 rfl rfl)
theorem dX6_who_66 : decode cX6_who 66 = .ok (.iload_n 3, 1) := dk_29 (dk_at dksX6_who_2 20 rfl rfl)
theorem dX6_who_67 : decode cX6_who 67 = .ok (.ishl, 1) := dk_120 (dk_at dksX6_who_2 21 rfl rfl)
theorem dX6_who_68 : decode cX6_who 68 = .ok (.goto 4, 3) := dk_167 0 4 (dk_at dksX6_who_3 0 rfl rfl)
theorem dX6_who_71 : decode cX6_who 71 = .ok (.iconst 0, 1) := dk_3 (dk_at dksX6_who_3 3 rfl rfl)
theorem dX6_who_72 : decode cX6_who 72 = .ok (.ior, 1) := dk_128 (dk_at dksX6_who_3 4 rfl rfl)
theorem dX6_who_73 : decode cX6_who 73 = .ok (.istore_n 2, 1) := dk_61 (dk_at dksX6_who_3 5 rfl rfl)
theorem dX6_who_74 : decode cX6_who 74 = .ok (.iinc 3 1, 3) := dk_132 3 1 (dk_at dksX6_who_3 6 rfl rfl)
theorem dX6_who_77 : decode cX6_who 77 = .ok (.goto (-57), 3) := dk_167 255 199 (dk_at dksX6_who_3 9 rfl rfl)
theorem dX6_who_80 : decode cX6_who 80 = .ok (.iload_n 2, 1) := dk_28 (dk_at dksX6_who_3 12 rfl rfl)
theorem dX6_who_81 : decode cX6_who 81 = .ok (.ireturn, 1) := dk_172 (dk_at dksX6_who_3 13 rfl rfl)
abbrev cX6_stopped : ByteArray := prog_29_method_112_code
def yX6_stopped : MethodName := ⟨RX6, "stopped", "()I"⟩
theorem dX6_stopped_0 : decode cX6_stopped 0 = .ok (.aload_n 0, 1) := by decide +kernel
theorem dX6_stopped_1 : decode cX6_stopped 1 = .ok (.getfield 100, 3) := by decide +kernel
theorem dX6_stopped_4 : decode cX6_stopped 4 = .ok (.ireturn, 1) := by decide +kernel
abbrev cX6_orders : ByteArray := prog_29_method_113_code
def yX6_orders : MethodName := ⟨RX6, "orders", "()I"⟩
def dkwX6_orders_9 : List UInt8 := [132, 3, 1, 167, 255, 156, 42, 42, 180, 1, 155, 182, 0, 14, 172]
abbrev dktX6_orders_9 : List UInt8 := dkwX6_orders_9 ++ []
def dkwX6_orders_8 : List UInt8 := [132, 4, 1, 167, 255, 231, 42, 27, 181, 0, 11, 42, 29, 181, 0, 100, 42, 16, 253, 182, 0, 110, 172]
abbrev dktX6_orders_8 : List UInt8 := dkwX6_orders_8 ++ dktX6_orders_9
def dkwX6_orders_7 : List UInt8 := [21, 4, 17, 2, 48, 162, 0, 23, 42, 180, 0, 62, 21, 4, 42, 180, 0, 65, 21, 4, 46, 79]
abbrev dktX6_orders_7 : List UInt8 := dkwX6_orders_7 ++ dktX6_orders_8
def dkwX6_orders_6 : List UInt8 := [42, 180, 0, 24, 21, 4, 42, 180, 0, 34, 21, 4, 46, 79, 132, 4, 1, 167, 255, 232, 3, 54, 4]
abbrev dktX6_orders_6 : List UInt8 := dkwX6_orders_6 ++ dktX6_orders_7
def dkwX6_orders_5 : List UInt8 := [162, 0, 98, 42, 28, 182, 1, 161, 153, 0, 6, 167, 0, 81, 3, 54, 4, 21, 4, 16, 34, 162, 0, 23]
abbrev dktX6_orders_5 : List UInt8 := dkwX6_orders_5 ++ dktX6_orders_6
def dkwX6_orders_4 : List UInt8 := [181, 1, 158, 42, 180, 1, 158, 42, 180, 0, 24, 17, 1, 9, 46, 96, 61, 3, 62, 42, 180, 1, 158, 28]
abbrev dktX6_orders_4 : List UInt8 := dkwX6_orders_4 ++ dktX6_orders_5
def dkwX6_orders_3 : List UInt8 := [167, 255, 234, 42, 180, 0, 11, 60, 42, 16, 6, 182, 0, 242, 42, 3, 181, 1, 155, 42, 17, 9, 96]
abbrev dktX6_orders_3 : List UInt8 := dkwX6_orders_3 ++ dktX6_orders_4
def dkwX6_orders_2 : List UInt8 := [60, 27, 17, 2, 48, 162, 0, 21, 42, 180, 0, 65, 27, 42, 180, 0, 62, 27, 46, 79, 132, 1, 1]
abbrev dktX6_orders_2 : List UInt8 := dkwX6_orders_2 ++ dktX6_orders_3
def dkwX6_orders_1 : List UInt8 := [16, 34, 162, 0, 21, 42, 180, 0, 34, 27, 42, 180, 0, 24, 27, 46, 79, 132, 1, 1, 167, 255, 235, 3]
abbrev dktX6_orders_1 : List UInt8 := dkwX6_orders_1 ++ dktX6_orders_2
def dkwX6_orders_0 : List UInt8 := [42, 2, 181, 0, 100, 42, 4, 182, 0, 238, 154, 0, 10, 42, 16, 250, 182, 0, 110, 172, 3, 60, 27]
abbrev dktX6_orders_0 : List UInt8 := dkwX6_orders_0 ++ dktX6_orders_1
theorem dksX6_orders_0 : cX6_orders.data.toList.drop 0 = dktX6_orders_0 := by decide +kernel
theorem dksX6_orders_1 : cX6_orders.data.toList.drop 23 = dktX6_orders_1 := dk_seg dksX6_orders_0 23 rfl rfl
theorem dksX6_orders_2 : cX6_orders.data.toList.drop 47 = dktX6_orders_2 := dk_seg dksX6_orders_1 24 rfl rfl
theorem dksX6_orders_3 : cX6_orders.data.toList.drop 70 = dktX6_orders_3 := dk_seg dksX6_orders_2 23 rfl rfl
theorem dksX6_orders_4 : cX6_orders.data.toList.drop 93 = dktX6_orders_4 := dk_seg dksX6_orders_3 23 rfl rfl
theorem dksX6_orders_5 : cX6_orders.data.toList.drop 117 = dktX6_orders_5 := dk_seg dksX6_orders_4 24 rfl rfl
theorem dksX6_orders_6 : cX6_orders.data.toList.drop 141 = dktX6_orders_6 := dk_seg dksX6_orders_5 24 rfl rfl
theorem dksX6_orders_7 : cX6_orders.data.toList.drop 164 = dktX6_orders_7 := dk_seg dksX6_orders_6 23 rfl rfl
theorem dksX6_orders_8 : cX6_orders.data.toList.drop 186 = dktX6_orders_8 := dk_seg dksX6_orders_7 22 rfl rfl
theorem dksX6_orders_9 : cX6_orders.data.toList.drop 209 = dktX6_orders_9 := dk_seg dksX6_orders_8 23 rfl rfl
theorem dX6_orders_0 : decode cX6_orders 0 = .ok (.aload_n 0, 1) := dk_42 (dk_at dksX6_orders_0 0 rfl rfl)
theorem dX6_orders_1 : decode cX6_orders 1 = .ok (.iconst (-1), 1) := dk_2 (dk_at dksX6_orders_0 1 rfl rfl)
theorem dX6_orders_2 : decode cX6_orders 2 = .ok (.putfield 100, 3) := dk_181 0 100 (dk_at dksX6_orders_0 2 rfl rfl)
theorem dX6_orders_5 : decode cX6_orders 5 = .ok (.aload_n 0, 1) := dk_42 (dk_at dksX6_orders_0 5 rfl rfl)
theorem dX6_orders_6 : decode cX6_orders 6 = .ok (.iconst 1, 1) := dk_4 (dk_at dksX6_orders_0 6 rfl rfl)
theorem dX6_orders_7 : decode cX6_orders 7 = .ok (.invokevirtual 238, 3) := dk_182 0 238 (dk_at dksX6_orders_0 7 rfl rfl)
theorem dX6_orders_10 : decode cX6_orders 10 = .ok (.ifCond .ne 10, 3) := dk_154 0 10 (dk_at dksX6_orders_0 10 rfl rfl)
theorem dX6_orders_13 : decode cX6_orders 13 = .ok (.aload_n 0, 1) := dk_42 (dk_at dksX6_orders_0 13 rfl rfl)
theorem dX6_orders_14 : decode cX6_orders 14 = .ok (.bipush (-6), 2) := dk_16 250 (dk_at dksX6_orders_0 14 rfl rfl)
theorem dX6_orders_16 : decode cX6_orders 16 = .ok (.invokevirtual 110, 3) := dk_182 0 110 (dk_at dksX6_orders_0 16 rfl rfl)
theorem dX6_orders_19 : decode cX6_orders 19 = .ok (.ireturn, 1) := dk_172 (dk_at dksX6_orders_0 19 rfl rfl)
theorem dX6_orders_20 : decode cX6_orders 20 = .ok (.iconst 0, 1) := dk_3 (dk_at dksX6_orders_0 20 rfl rfl)
theorem dX6_orders_21 : decode cX6_orders 21 = .ok (.istore_n 1, 1) := dk_60 (dk_at dksX6_orders_0 21 rfl rfl)
theorem dX6_orders_22 : decode cX6_orders 22 = .ok (.iload_n 1, 1) := dk_27 (dk_at dksX6_orders_0 22 rfl rfl)
theorem dX6_orders_23 : decode cX6_orders 23 = .ok (.bipush 34, 2) := dk_16 34 (dk_at dksX6_orders_1 0 rfl rfl)
theorem dX6_orders_25 : decode cX6_orders 25 = .ok (.if_icmp .ge 21, 3) := dk_162 0 21 (dk_at dksX6_orders_1 2 rfl rfl)
theorem dX6_orders_28 : decode cX6_orders 28 = .ok (.aload_n 0, 1) := dk_42 (dk_at dksX6_orders_1 5 rfl rfl)
theorem dX6_orders_29 : decode cX6_orders 29 = .ok (.getfield 34, 3) := dk_180 0 34 (dk_at dksX6_orders_1 6 rfl rfl)
theorem dX6_orders_32 : decode cX6_orders 32 = .ok (.iload_n 1, 1) := dk_27 (dk_at dksX6_orders_1 9 rfl rfl)
theorem dX6_orders_33 : decode cX6_orders 33 = .ok (.aload_n 0, 1) := dk_42 (dk_at dksX6_orders_1 10 rfl rfl)
theorem dX6_orders_34 : decode cX6_orders 34 = .ok (.getfield 24, 3) := dk_180 0 24 (dk_at dksX6_orders_1 11 rfl rfl)
theorem dX6_orders_37 : decode cX6_orders 37 = .ok (.iload_n 1, 1) := dk_27 (dk_at dksX6_orders_1 14 rfl rfl)
theorem dX6_orders_38 : decode cX6_orders 38 = .ok (.iaload, 1) := dk_46 (dk_at dksX6_orders_1 15 rfl rfl)
theorem dX6_orders_39 : decode cX6_orders 39 = .ok (.iastore, 1) := dk_79 (dk_at dksX6_orders_1 16 rfl rfl)
theorem dX6_orders_40 : decode cX6_orders 40 = .ok (.iinc 1 1, 3) := dk_132 1 1 (dk_at dksX6_orders_1 17 rfl rfl)
theorem dX6_orders_43 : decode cX6_orders 43 = .ok (.goto (-21), 3) := dk_167 255 235 (dk_at dksX6_orders_1 20 rfl rfl)
theorem dX6_orders_46 : decode cX6_orders 46 = .ok (.iconst 0, 1) := dk_3 (dk_at dksX6_orders_1 23 rfl rfl)
theorem dX6_orders_47 : decode cX6_orders 47 = .ok (.istore_n 1, 1) := dk_60 (dk_at dksX6_orders_2 0 rfl rfl)
theorem dX6_orders_48 : decode cX6_orders 48 = .ok (.iload_n 1, 1) := dk_27 (dk_at dksX6_orders_2 1 rfl rfl)
theorem dX6_orders_49 : decode cX6_orders 49 = .ok (.sipush 560, 3) := dk_17 2 48 (dk_at dksX6_orders_2 2 rfl rfl)
theorem dX6_orders_52 : decode cX6_orders 52 = .ok (.if_icmp .ge 21, 3) := dk_162 0 21 (dk_at dksX6_orders_2 5 rfl rfl)
theorem dX6_orders_55 : decode cX6_orders 55 = .ok (.aload_n 0, 1) := dk_42 (dk_at dksX6_orders_2 8 rfl rfl)
theorem dX6_orders_56 : decode cX6_orders 56 = .ok (.getfield 65, 3) := dk_180 0 65 (dk_at dksX6_orders_2 9 rfl rfl)
theorem dX6_orders_59 : decode cX6_orders 59 = .ok (.iload_n 1, 1) := dk_27 (dk_at dksX6_orders_2 12 rfl rfl)
theorem dX6_orders_60 : decode cX6_orders 60 = .ok (.aload_n 0, 1) := dk_42 (dk_at dksX6_orders_2 13 rfl rfl)
theorem dX6_orders_61 : decode cX6_orders 61 = .ok (.getfield 62, 3) := dk_180 0 62 (dk_at dksX6_orders_2 14 rfl rfl)
theorem dX6_orders_64 : decode cX6_orders 64 = .ok (.iload_n 1, 1) := dk_27 (dk_at dksX6_orders_2 17 rfl rfl)
theorem dX6_orders_65 : decode cX6_orders 65 = .ok (.iaload, 1) := dk_46 (dk_at dksX6_orders_2 18 rfl rfl)
theorem dX6_orders_66 : decode cX6_orders 66 = .ok (.iastore, 1) := dk_79 (dk_at dksX6_orders_2 19 rfl rfl)
theorem dX6_orders_67 : decode cX6_orders 67 = .ok (.iinc 1 1, 3) := dk_132 1 1 (dk_at dksX6_orders_2 20 rfl rfl)
theorem dX6_orders_70 : decode cX6_orders 70 = .ok (.goto (-22), 3) := dk_167 255 234 (dk_at dksX6_orders_3 0 rfl rfl)
theorem dX6_orders_73 : decode cX6_orders 73 = .ok (.aload_n 0, 1) := dk_42 (dk_at dksX6_orders_3 3 rfl rfl)
theorem dX6_orders_74 : decode cX6_orders 74 = .ok (.getfield 11, 3) := dk_180 0 11 (dk_at dksX6_orders_3 4 rfl rfl)
theorem dX6_orders_77 : decode cX6_orders 77 = .ok (.istore_n 1, 1) := dk_60 (dk_at dksX6_orders_3 7 rfl rfl)
theorem dX6_orders_78 : decode cX6_orders 78 = .ok (.aload_n 0, 1) := dk_42 (dk_at dksX6_orders_3 8 rfl rfl)
theorem dX6_orders_79 : decode cX6_orders 79 = .ok (.bipush 6, 2) := dk_16 6 (dk_at dksX6_orders_3 9 rfl rfl)
theorem dX6_orders_81 : decode cX6_orders 81 = .ok (.invokevirtual 242, 3) := dk_182 0 242 (dk_at dksX6_orders_3 11 rfl rfl)
theorem dX6_orders_84 : decode cX6_orders 84 = .ok (.aload_n 0, 1) := dk_42 (dk_at dksX6_orders_3 14 rfl rfl)
theorem dX6_orders_85 : decode cX6_orders 85 = .ok (.iconst 0, 1) := dk_3 (dk_at dksX6_orders_3 15 rfl rfl)
theorem dX6_orders_86 : decode cX6_orders 86 = .ok (.putfield 411, 3) := dk_181 1 155 (dk_at dksX6_orders_3 16 rfl rfl)
theorem dX6_orders_89 : decode cX6_orders 89 = .ok (.aload_n 0, 1) := dk_42 (dk_at dksX6_orders_3 19 rfl rfl)
theorem dX6_orders_90 : decode cX6_orders 90 = .ok (.sipush 2400, 3) := dk_17 9 96 (dk_at dksX6_orders_3 20 rfl rfl)
theorem dX6_orders_93 : decode cX6_orders 93 = .ok (.putfield 414, 3) := dk_181 1 158 (dk_at dksX6_orders_4 0 rfl rfl)
theorem dX6_orders_96 : decode cX6_orders 96 = .ok (.aload_n 0, 1) := dk_42 (dk_at dksX6_orders_4 3 rfl rfl)
theorem dX6_orders_97 : decode cX6_orders 97 = .ok (.getfield 414, 3) := dk_180 1 158 (dk_at dksX6_orders_4 4 rfl rfl)
theorem dX6_orders_100 : decode cX6_orders 100 = .ok (.aload_n 0, 1) := dk_42 (dk_at dksX6_orders_4 7 rfl rfl)
theorem dX6_orders_101 : decode cX6_orders 101 = .ok (.getfield 24, 3) := dk_180 0 24 (dk_at dksX6_orders_4 8 rfl rfl)
theorem dX6_orders_104 : decode cX6_orders 104 = .ok (.sipush 265, 3) := dk_17 1 9 (dk_at dksX6_orders_4 11 rfl rfl)
theorem dX6_orders_107 : decode cX6_orders 107 = .ok (.iaload, 1) := dk_46 (dk_at dksX6_orders_4 14 rfl rfl)
theorem dX6_orders_108 : decode cX6_orders 108 = .ok (.iadd, 1) := dk_96 (dk_at dksX6_orders_4 15 rfl rfl)
theorem dX6_orders_109 : decode cX6_orders 109 = .ok (.istore_n 2, 1) := dk_61 (dk_at dksX6_orders_4 16 rfl rfl)
theorem dX6_orders_110 : decode cX6_orders 110 = .ok (.iconst 0, 1) := dk_3 (dk_at dksX6_orders_4 17 rfl rfl)
theorem dX6_orders_111 : decode cX6_orders 111 = .ok (.istore_n 3, 1) := dk_62 (dk_at dksX6_orders_4 18 rfl rfl)
theorem dX6_orders_112 : decode cX6_orders 112 = .ok (.aload_n 0, 1) := dk_42 (dk_at dksX6_orders_4 19 rfl rfl)
theorem dX6_orders_113 : decode cX6_orders 113 = .ok (.getfield 414, 3) := dk_180 1 158 (dk_at dksX6_orders_4 20 rfl rfl)
theorem dX6_orders_116 : decode cX6_orders 116 = .ok (.iload_n 2, 1) := dk_28 (dk_at dksX6_orders_4 23 rfl rfl)
theorem dX6_orders_117 : decode cX6_orders 117 = .ok (.if_icmp .ge 98, 3) := dk_162 0 98 (dk_at dksX6_orders_5 0 rfl rfl)
theorem dX6_orders_120 : decode cX6_orders 120 = .ok (.aload_n 0, 1) := dk_42 (dk_at dksX6_orders_5 3 rfl rfl)
theorem dX6_orders_121 : decode cX6_orders 121 = .ok (.iload_n 2, 1) := dk_28 (dk_at dksX6_orders_5 4 rfl rfl)
theorem dX6_orders_122 : decode cX6_orders 122 = .ok (.invokevirtual 417, 3) := dk_182 1 161 (dk_at dksX6_orders_5 5 rfl rfl)
theorem dX6_orders_125 : decode cX6_orders 125 = .ok (.ifCond .eq 6, 3) := dk_153 0 6 (dk_at dksX6_orders_5 8 rfl rfl)
theorem dX6_orders_128 : decode cX6_orders 128 = .ok (.goto 81, 3) := dk_167 0 81 (dk_at dksX6_orders_5 11 rfl rfl)
theorem dX6_orders_131 : decode cX6_orders 131 = .ok (.iconst 0, 1) := dk_3 (dk_at dksX6_orders_5 14 rfl rfl)
theorem dX6_orders_132 : decode cX6_orders 132 = .ok (.istore 4, 2) := dk_54 4 (dk_at dksX6_orders_5 15 rfl rfl)
theorem dX6_orders_134 : decode cX6_orders 134 = .ok (.iload 4, 2) := dk_21 4 (dk_at dksX6_orders_5 17 rfl rfl)
theorem dX6_orders_136 : decode cX6_orders 136 = .ok (.bipush 34, 2) := dk_16 34 (dk_at dksX6_orders_5 19 rfl rfl)
theorem dX6_orders_138 : decode cX6_orders 138 = .ok (.if_icmp .ge 23, 3) := dk_162 0 23 (dk_at dksX6_orders_5 21 rfl rfl)
theorem dX6_orders_141 : decode cX6_orders 141 = .ok (.aload_n 0, 1) := dk_42 (dk_at dksX6_orders_6 0 rfl rfl)
theorem dX6_orders_142 : decode cX6_orders 142 = .ok (.getfield 24, 3) := dk_180 0 24 (dk_at dksX6_orders_6 1 rfl rfl)
theorem dX6_orders_145 : decode cX6_orders 145 = .ok (.iload 4, 2) := dk_21 4 (dk_at dksX6_orders_6 4 rfl rfl)
theorem dX6_orders_147 : decode cX6_orders 147 = .ok (.aload_n 0, 1) := dk_42 (dk_at dksX6_orders_6 6 rfl rfl)
theorem dX6_orders_148 : decode cX6_orders 148 = .ok (.getfield 34, 3) := dk_180 0 34 (dk_at dksX6_orders_6 7 rfl rfl)
theorem dX6_orders_151 : decode cX6_orders 151 = .ok (.iload 4, 2) := dk_21 4 (dk_at dksX6_orders_6 10 rfl rfl)
theorem dX6_orders_153 : decode cX6_orders 153 = .ok (.iaload, 1) := dk_46 (dk_at dksX6_orders_6 12 rfl rfl)
theorem dX6_orders_154 : decode cX6_orders 154 = .ok (.iastore, 1) := dk_79 (dk_at dksX6_orders_6 13 rfl rfl)
theorem dX6_orders_155 : decode cX6_orders 155 = .ok (.iinc 4 1, 3) := dk_132 4 1 (dk_at dksX6_orders_6 14 rfl rfl)
theorem dX6_orders_158 : decode cX6_orders 158 = .ok (.goto (-24), 3) := dk_167 255 232 (dk_at dksX6_orders_6 17 rfl rfl)
theorem dX6_orders_161 : decode cX6_orders 161 = .ok (.iconst 0, 1) := dk_3 (dk_at dksX6_orders_6 20 rfl rfl)
theorem dX6_orders_162 : decode cX6_orders 162 = .ok (.istore 4, 2) := dk_54 4 (dk_at dksX6_orders_6 21 rfl rfl)
theorem dX6_orders_164 : decode cX6_orders 164 = .ok (.iload 4, 2) := dk_21 4 (dk_at dksX6_orders_7 0 rfl rfl)
theorem dX6_orders_166 : decode cX6_orders 166 = .ok (.sipush 560, 3) := dk_17 2 48 (dk_at dksX6_orders_7 2 rfl rfl)
theorem dX6_orders_169 : decode cX6_orders 169 = .ok (.if_icmp .ge 23, 3) := dk_162 0 23 (dk_at dksX6_orders_7 5 rfl rfl)
theorem dX6_orders_172 : decode cX6_orders 172 = .ok (.aload_n 0, 1) := dk_42 (dk_at dksX6_orders_7 8 rfl rfl)
theorem dX6_orders_173 : decode cX6_orders 173 = .ok (.getfield 62, 3) := dk_180 0 62 (dk_at dksX6_orders_7 9 rfl rfl)
theorem dX6_orders_176 : decode cX6_orders 176 = .ok (.iload 4, 2) := dk_21 4 (dk_at dksX6_orders_7 12 rfl rfl)
theorem dX6_orders_178 : decode cX6_orders 178 = .ok (.aload_n 0, 1) := dk_42 (dk_at dksX6_orders_7 14 rfl rfl)
theorem dX6_orders_179 : decode cX6_orders 179 = .ok (.getfield 65, 3) := dk_180 0 65 (dk_at dksX6_orders_7 15 rfl rfl)
theorem dX6_orders_182 : decode cX6_orders 182 = .ok (.iload 4, 2) := dk_21 4 (dk_at dksX6_orders_7 18 rfl rfl)
theorem dX6_orders_184 : decode cX6_orders 184 = .ok (.iaload, 1) := dk_46 (dk_at dksX6_orders_7 20 rfl rfl)
theorem dX6_orders_185 : decode cX6_orders 185 = .ok (.iastore, 1) := dk_79 (dk_at dksX6_orders_7 21 rfl rfl)
theorem dX6_orders_186 : decode cX6_orders 186 = .ok (.iinc 4 1, 3) := dk_132 4 1 (dk_at dksX6_orders_8 0 rfl rfl)
theorem dX6_orders_189 : decode cX6_orders 189 = .ok (.goto (-25), 3) := dk_167 255 231 (dk_at dksX6_orders_8 3 rfl rfl)
theorem dX6_orders_192 : decode cX6_orders 192 = .ok (.aload_n 0, 1) := dk_42 (dk_at dksX6_orders_8 6 rfl rfl)
theorem dX6_orders_193 : decode cX6_orders 193 = .ok (.iload_n 1, 1) := dk_27 (dk_at dksX6_orders_8 7 rfl rfl)
theorem dX6_orders_194 : decode cX6_orders 194 = .ok (.putfield 11, 3) := dk_181 0 11 (dk_at dksX6_orders_8 8 rfl rfl)
theorem dX6_orders_197 : decode cX6_orders 197 = .ok (.aload_n 0, 1) := dk_42 (dk_at dksX6_orders_8 11 rfl rfl)
theorem dX6_orders_198 : decode cX6_orders 198 = .ok (.iload_n 3, 1) := dk_29 (dk_at dksX6_orders_8 12 rfl rfl)
theorem dX6_orders_199 : decode cX6_orders 199 = .ok (.putfield 100, 3) := dk_181 0 100 (dk_at dksX6_orders_8 13 rfl rfl)
theorem dX6_orders_202 : decode cX6_orders 202 = .ok (.aload_n 0, 1) := dk_42 (dk_at dksX6_orders_8 16 rfl rfl)
theorem dX6_orders_203 : decode cX6_orders 203 = .ok (.bipush (-3), 2) := dk_16 253 (dk_at dksX6_orders_8 17 rfl rfl)
theorem dX6_orders_205 : decode cX6_orders 205 = .ok (.invokevirtual 110, 3) := dk_182 0 110 (dk_at dksX6_orders_8 19 rfl rfl)
theorem dX6_orders_208 : decode cX6_orders 208 = .ok (.ireturn, 1) := dk_172 (dk_at dksX6_orders_8 22 rfl rfl)
theorem dX6_orders_209 : decode cX6_orders 209 = .ok (.iinc 3 1, 3) := dk_132 3 1 (dk_at dksX6_orders_9 0 rfl rfl)
theorem dX6_orders_212 : decode cX6_orders 212 = .ok (.goto (-100), 3) := dk_167 255 156 (dk_at dksX6_orders_9 3 rfl rfl)
theorem dX6_orders_215 : decode cX6_orders 215 = .ok (.aload_n 0, 1) := dk_42 (dk_at dksX6_orders_9 6 rfl rfl)
theorem dX6_orders_216 : decode cX6_orders 216 = .ok (.aload_n 0, 1) := dk_42 (dk_at dksX6_orders_9 7 rfl rfl)
theorem dX6_orders_217 : decode cX6_orders 217 = .ok (.getfield 411, 3) := dk_180 1 155 (dk_at dksX6_orders_9 8 rfl rfl)
theorem dX6_orders_220 : decode cX6_orders 220 = .ok (.invokevirtual 14, 3) := dk_182 0 14 (dk_at dksX6_orders_9 11 rfl rfl)
theorem dX6_orders_223 : decode cX6_orders 223 = .ok (.ireturn, 1) := dk_172 (dk_at dksX6_orders_9 14 rfl rfl)
abbrev cX6_runs : ByteArray := prog_29_method_116_code
def yX6_runs : MethodName := ⟨RX6, "runs", "(I)Z"⟩
def dkwX6_runs_5 : List UInt8 := [180, 1, 155, 4, 96, 181, 1, 155, 132, 4, 1, 167, 255, 150, 42, 29, 181, 1, 158, 4, 172]
abbrev dktX6_runs_5 : List UInt8 := dkwX6_runs_5 ++ []
def dkwX6_runs_4 : List UInt8 := [184, 1, 186, 182, 1, 93, 167, 0, 7, 42, 182, 1, 96, 54, 5, 21, 5, 156, 0, 5, 3, 172, 42, 89]
abbrev dktX6_runs_4 : List UInt8 := dkwX6_runs_4 ++ dktX6_runs_5
def dkwX6_runs_3 : List UInt8 := [184, 1, 186, 182, 1, 87, 167, 0, 30, 42, 180, 1, 164, 16, 27, 160, 0, 17, 42, 42, 180, 1, 167]
abbrev dktX6_runs_3 : List UInt8 := dkwX6_runs_3 ++ dktX6_runs_4
def dkwX6_runs_2 : List UInt8 := [154, 0, 8, 16, 253, 167, 0, 53, 42, 180, 1, 164, 16, 26, 160, 0, 17, 42, 42, 180, 1, 167]
abbrev dktX6_runs_2 : List UInt8 := dkwX6_runs_2 ++ dktX6_runs_3
def dkwX6_runs_1 : List UInt8 := [162, 0, 106, 42, 27, 4, 182, 1, 182, 42, 180, 1, 177, 154, 0, 6, 167, 0, 84, 42, 180, 1, 171]
abbrev dktX6_runs_1 : List UInt8 := dkwX6_runs_1 ++ dktX6_runs_2
def dkwX6_runs_0 : List UInt8 := [42, 27, 3, 182, 1, 182, 42, 180, 1, 174, 61, 42, 180, 0, 248, 62, 3, 54, 4, 21, 4, 28]
abbrev dktX6_runs_0 : List UInt8 := dkwX6_runs_0 ++ dktX6_runs_1
theorem dksX6_runs_0 : cX6_runs.data.toList.drop 0 = dktX6_runs_0 := by decide +kernel
theorem dksX6_runs_1 : cX6_runs.data.toList.drop 22 = dktX6_runs_1 := dk_seg dksX6_runs_0 22 rfl rfl
theorem dksX6_runs_2 : cX6_runs.data.toList.drop 45 = dktX6_runs_2 := dk_seg dksX6_runs_1 23 rfl rfl
theorem dksX6_runs_3 : cX6_runs.data.toList.drop 67 = dktX6_runs_3 := dk_seg dksX6_runs_2 22 rfl rfl
theorem dksX6_runs_4 : cX6_runs.data.toList.drop 90 = dktX6_runs_4 := dk_seg dksX6_runs_3 23 rfl rfl
theorem dksX6_runs_5 : cX6_runs.data.toList.drop 114 = dktX6_runs_5 := dk_seg dksX6_runs_4 24 rfl rfl
theorem dX6_runs_0 : decode cX6_runs 0 = .ok (.aload_n 0, 1) := dk_42 (dk_at dksX6_runs_0 0 rfl rfl)
theorem dX6_runs_1 : decode cX6_runs 1 = .ok (.iload_n 1, 1) := dk_27 (dk_at dksX6_runs_0 1 rfl rfl)
theorem dX6_runs_2 : decode cX6_runs 2 = .ok (.iconst 0, 1) := dk_3 (dk_at dksX6_runs_0 2 rfl rfl)
theorem dX6_runs_3 : decode cX6_runs 3 = .ok (.invokevirtual 438, 3) := dk_182 1 182 (dk_at dksX6_runs_0 3 rfl rfl)
theorem dX6_runs_6 : decode cX6_runs 6 = .ok (.aload_n 0, 1) := dk_42 (dk_at dksX6_runs_0 6 rfl rfl)
theorem dX6_runs_7 : decode cX6_runs 7 = .ok (.getfield 430, 3) := dk_180 1 174 (dk_at dksX6_runs_0 7 rfl rfl)
theorem dX6_runs_10 : decode cX6_runs 10 = .ok (.istore_n 2, 1) := dk_61 (dk_at dksX6_runs_0 10 rfl rfl)
theorem dX6_runs_11 : decode cX6_runs 11 = .ok (.aload_n 0, 1) := dk_42 (dk_at dksX6_runs_0 11 rfl rfl)
theorem dX6_runs_12 : decode cX6_runs 12 = .ok (.getfield 248, 3) := dk_180 0 248 (dk_at dksX6_runs_0 12 rfl rfl)
theorem dX6_runs_15 : decode cX6_runs 15 = .ok (.istore_n 3, 1) := dk_62 (dk_at dksX6_runs_0 15 rfl rfl)
theorem dX6_runs_16 : decode cX6_runs 16 = .ok (.iconst 0, 1) := dk_3 (dk_at dksX6_runs_0 16 rfl rfl)
theorem dX6_runs_17 : decode cX6_runs 17 = .ok (.istore 4, 2) := dk_54 4 (dk_at dksX6_runs_0 17 rfl rfl)
theorem dX6_runs_19 : decode cX6_runs 19 = .ok (.iload 4, 2) := dk_21 4 (dk_at dksX6_runs_0 19 rfl rfl)
theorem dX6_runs_21 : decode cX6_runs 21 = .ok (.iload_n 2, 1) := dk_28 (dk_at dksX6_runs_0 21 rfl rfl)
theorem dX6_runs_22 : decode cX6_runs 22 = .ok (.if_icmp .ge 106, 3) := dk_162 0 106 (dk_at dksX6_runs_1 0 rfl rfl)
theorem dX6_runs_25 : decode cX6_runs 25 = .ok (.aload_n 0, 1) := dk_42 (dk_at dksX6_runs_1 3 rfl rfl)
theorem dX6_runs_26 : decode cX6_runs 26 = .ok (.iload_n 1, 1) := dk_27 (dk_at dksX6_runs_1 4 rfl rfl)
theorem dX6_runs_27 : decode cX6_runs 27 = .ok (.iconst 1, 1) := dk_4 (dk_at dksX6_runs_1 5 rfl rfl)
theorem dX6_runs_28 : decode cX6_runs 28 = .ok (.invokevirtual 438, 3) := dk_182 1 182 (dk_at dksX6_runs_1 6 rfl rfl)
theorem dX6_runs_31 : decode cX6_runs 31 = .ok (.aload_n 0, 1) := dk_42 (dk_at dksX6_runs_1 9 rfl rfl)
theorem dX6_runs_32 : decode cX6_runs 32 = .ok (.getfield 433, 3) := dk_180 1 177 (dk_at dksX6_runs_1 10 rfl rfl)
theorem dX6_runs_35 : decode cX6_runs 35 = .ok (.ifCond .ne 6, 3) := dk_154 0 6 (dk_at dksX6_runs_1 13 rfl rfl)
theorem dX6_runs_38 : decode cX6_runs 38 = .ok (.goto 84, 3) := dk_167 0 84 (dk_at dksX6_runs_1 16 rfl rfl)
theorem dX6_runs_41 : decode cX6_runs 41 = .ok (.aload_n 0, 1) := dk_42 (dk_at dksX6_runs_1 19 rfl rfl)
theorem dX6_runs_42 : decode cX6_runs 42 = .ok (.getfield 427, 3) := dk_180 1 171 (dk_at dksX6_runs_1 20 rfl rfl)
theorem dX6_runs_45 : decode cX6_runs 45 = .ok (.ifCond .ne 8, 3) := dk_154 0 8 (dk_at dksX6_runs_2 0 rfl rfl)
theorem dX6_runs_48 : decode cX6_runs 48 = .ok (.bipush (-3), 2) := dk_16 253 (dk_at dksX6_runs_2 3 rfl rfl)
theorem dX6_runs_50 : decode cX6_runs 50 = .ok (.goto 53, 3) := dk_167 0 53 (dk_at dksX6_runs_2 5 rfl rfl)
theorem dX6_runs_53 : decode cX6_runs 53 = .ok (.aload_n 0, 1) := dk_42 (dk_at dksX6_runs_2 8 rfl rfl)
theorem dX6_runs_54 : decode cX6_runs 54 = .ok (.getfield 420, 3) := dk_180 1 164 (dk_at dksX6_runs_2 9 rfl rfl)
theorem dX6_runs_57 : decode cX6_runs 57 = .ok (.bipush 26, 2) := dk_16 26 (dk_at dksX6_runs_2 12 rfl rfl)
theorem dX6_runs_59 : decode cX6_runs 59 = .ok (.if_icmp .ne 17, 3) := dk_160 0 17 (dk_at dksX6_runs_2 14 rfl rfl)
theorem dX6_runs_62 : decode cX6_runs 62 = .ok (.aload_n 0, 1) := dk_42 (dk_at dksX6_runs_2 17 rfl rfl)
theorem dX6_runs_63 : decode cX6_runs 63 = .ok (.aload_n 0, 1) := dk_42 (dk_at dksX6_runs_2 18 rfl rfl)
theorem dX6_runs_64 : decode cX6_runs 64 = .ok (.getfield 423, 3) := dk_180 1 167 (dk_at dksX6_runs_2 19 rfl rfl)
theorem dX6_runs_67 : decode cX6_runs 67 = .ok (.invokestatic 442, 3) := dk_184 1 186 (dk_at dksX6_runs_3 0 rfl rfl)
theorem dX6_runs_70 : decode cX6_runs 70 = .ok (.invokevirtual 343, 3) := dk_182 1 87 (dk_at dksX6_runs_3 3 rfl rfl)
theorem dX6_runs_73 : decode cX6_runs 73 = .ok (.goto 30, 3) := dk_167 0 30 (dk_at dksX6_runs_3 6 rfl rfl)
theorem dX6_runs_76 : decode cX6_runs 76 = .ok (.aload_n 0, 1) := dk_42 (dk_at dksX6_runs_3 9 rfl rfl)
theorem dX6_runs_77 : decode cX6_runs 77 = .ok (.getfield 420, 3) := dk_180 1 164 (dk_at dksX6_runs_3 10 rfl rfl)
theorem dX6_runs_80 : decode cX6_runs 80 = .ok (.bipush 27, 2) := dk_16 27 (dk_at dksX6_runs_3 13 rfl rfl)
theorem dX6_runs_82 : decode cX6_runs 82 = .ok (.if_icmp .ne 17, 3) := dk_160 0 17 (dk_at dksX6_runs_3 15 rfl rfl)
theorem dX6_runs_85 : decode cX6_runs 85 = .ok (.aload_n 0, 1) := dk_42 (dk_at dksX6_runs_3 18 rfl rfl)
theorem dX6_runs_86 : decode cX6_runs 86 = .ok (.aload_n 0, 1) := dk_42 (dk_at dksX6_runs_3 19 rfl rfl)
theorem dX6_runs_87 : decode cX6_runs 87 = .ok (.getfield 423, 3) := dk_180 1 167 (dk_at dksX6_runs_3 20 rfl rfl)
theorem dX6_runs_90 : decode cX6_runs 90 = .ok (.invokestatic 442, 3) := dk_184 1 186 (dk_at dksX6_runs_4 0 rfl rfl)
theorem dX6_runs_93 : decode cX6_runs 93 = .ok (.invokevirtual 349, 3) := dk_182 1 93 (dk_at dksX6_runs_4 3 rfl rfl)
theorem dX6_runs_96 : decode cX6_runs 96 = .ok (.goto 7, 3) := dk_167 0 7 (dk_at dksX6_runs_4 6 rfl rfl)
theorem dX6_runs_99 : decode cX6_runs 99 = .ok (.aload_n 0, 1) := dk_42 (dk_at dksX6_runs_4 9 rfl rfl)
theorem dX6_runs_100 : decode cX6_runs 100 = .ok (.invokevirtual 352, 3) := dk_182 1 96 (dk_at dksX6_runs_4 10 rfl rfl)
theorem dX6_runs_103 : decode cX6_runs 103 = .ok (.istore 5, 2) := dk_54 5 (dk_at dksX6_runs_4 13 rfl rfl)
theorem dX6_runs_105 : decode cX6_runs 105 = .ok (.iload 5, 2) := dk_21 5 (dk_at dksX6_runs_4 15 rfl rfl)
theorem dX6_runs_107 : decode cX6_runs 107 = .ok (.ifCond .ge 5, 3) := dk_156 0 5 (dk_at dksX6_runs_4 17 rfl rfl)
theorem dX6_runs_110 : decode cX6_runs 110 = .ok (.iconst 0, 1) := dk_3 (dk_at dksX6_runs_4 20 rfl rfl)
theorem dX6_runs_111 : decode cX6_runs 111 = .ok (.ireturn, 1) := dk_172 (dk_at dksX6_runs_4 21 rfl rfl)
theorem dX6_runs_112 : decode cX6_runs 112 = .ok (.aload_n 0, 1) := dk_42 (dk_at dksX6_runs_4 22 rfl rfl)
theorem dX6_runs_113 : decode cX6_runs 113 = .ok (.dup, 1) := dk_89 (dk_at dksX6_runs_4 23 rfl rfl)
theorem dX6_runs_114 : decode cX6_runs 114 = .ok (.getfield 411, 3) := dk_180 1 155 (dk_at dksX6_runs_5 0 rfl rfl)
theorem dX6_runs_117 : decode cX6_runs 117 = .ok (.iconst 1, 1) := dk_4 (dk_at dksX6_runs_5 3 rfl rfl)
theorem dX6_runs_118 : decode cX6_runs 118 = .ok (.iadd, 1) := dk_96 (dk_at dksX6_runs_5 4 rfl rfl)
theorem dX6_runs_119 : decode cX6_runs 119 = .ok (.putfield 411, 3) := dk_181 1 155 (dk_at dksX6_runs_5 5 rfl rfl)
theorem dX6_runs_122 : decode cX6_runs 122 = .ok (.iinc 4 1, 3) := dk_132 4 1 (dk_at dksX6_runs_5 8 rfl rfl)
theorem dX6_runs_125 : decode cX6_runs 125 = .ok (.goto (-106), 3) := dk_167 255 150 (dk_at dksX6_runs_5 11 rfl rfl)
theorem dX6_runs_128 : decode cX6_runs 128 = .ok (.aload_n 0, 1) := dk_42 (dk_at dksX6_runs_5 14 rfl rfl)
theorem dX6_runs_129 : decode cX6_runs 129 = .ok (.iload_n 3, 1) := dk_29 (dk_at dksX6_runs_5 15 rfl rfl)
theorem dX6_runs_130 : decode cX6_runs 130 = .ok (.putfield 414, 3) := dk_181 1 158 (dk_at dksX6_runs_5 16 rfl rfl)
theorem dX6_runs_133 : decode cX6_runs 133 = .ok (.iconst 1, 1) := dk_4 (dk_at dksX6_runs_5 19 rfl rfl)
theorem dX6_runs_134 : decode cX6_runs 134 = .ok (.ireturn, 1) := dk_172 (dk_at dksX6_runs_5 20 rfl rfl)
abbrev cX6_goesAlong : ByteArray := prog_29_method_114_code
def yX6_goesAlong : MethodName := ⟨RX6, "goesAlong", "(IZ)V"⟩
def dkwX6_goesAlong_10 : List UInt8 := [167, 0, 4, 3, 181, 1, 177, 42, 89, 180, 0, 248, 4, 96, 181, 0, 248, 177]
abbrev dktX6_goesAlong_10 : List UInt8 := dkwX6_goesAlong_10 ++ []
def dkwX6_goesAlong_9 : List UInt8 := [167, 0, 4, 3, 181, 1, 177, 42, 42, 180, 1, 177, 153, 0, 14, 42, 180, 1, 2, 154, 0, 7, 4]
abbrev dktX6_goesAlong_9 : List UInt8 := dkwX6_goesAlong_9 ++ dktX6_goesAlong_10
def dkwX6_goesAlong_8 : List UInt8 := [181, 1, 2, 42, 42, 16, 6, 182, 1, 16, 153, 0, 11, 42, 28, 182, 1, 33, 153, 0, 7, 4]
abbrev dktX6_goesAlong_8 : List UInt8 := dkwX6_goesAlong_8 ++ dktX6_goesAlong_9
def dkwX6_goesAlong_7 : List UInt8 := [17, 11, 250, 42, 180, 0, 248, 96, 46, 181, 1, 174, 42, 89, 180, 0, 248, 4, 96, 181, 0, 248, 42, 3]
abbrev dktX6_goesAlong_7 : List UInt8 := dkwX6_goesAlong_7 ++ dktX6_goesAlong_8
def dkwX6_goesAlong_6 : List UInt8 := [181, 1, 171, 42, 4, 181, 1, 174, 42, 16, 29, 182, 1, 16, 153, 0, 30, 42, 42, 180, 0, 24]
abbrev dktX6_goesAlong_6 : List UInt8 := dkwX6_goesAlong_6 ++ dktX6_goesAlong_7
def dkwX6_goesAlong_5 : List UInt8 := [167, 0, 8, 42, 28, 182, 1, 19, 181, 1, 167, 42, 42, 180, 1, 2, 154, 0, 7, 4, 167, 0, 4, 3]
abbrev dktX6_goesAlong_5 : List UInt8 := dkwX6_goesAlong_5 ++ dktX6_goesAlong_6
def dkwX6_goesAlong_4 : List UInt8 := [180, 0, 248, 4, 96, 181, 0, 248, 42, 3, 181, 1, 2, 42, 42, 180, 1, 164, 16, 28, 160, 0, 7, 9]
abbrev dktX6_goesAlong_4 : List UInt8 := dkwX6_goesAlong_4 ++ dktX6_goesAlong_5
def dkwX6_goesAlong_3 : List UInt8 := [79, 42, 42, 180, 1, 158, 181, 0, 248, 42, 42, 42, 180, 0, 248, 182, 0, 251, 181, 1, 164, 42, 89]
abbrev dktX6_goesAlong_3 : List UInt8 := dkwX6_goesAlong_3 ++ dktX6_goesAlong_4
def dkwX6_goesAlong_2 : List UInt8 := [46, 79, 42, 180, 0, 59, 6, 42, 180, 1, 155, 79, 42, 180, 0, 59, 7, 42, 180, 0, 24, 16, 32, 46]
abbrev dktX6_goesAlong_2 : List UInt8 := dkwX6_goesAlong_2 ++ dktX6_goesAlong_3
def dkwX6_goesAlong_1 : List UInt8 := [42, 180, 0, 59, 4, 42, 180, 0, 24, 16, 30, 46, 79, 42, 180, 0, 59, 5, 42, 180, 0, 24, 16, 31]
abbrev dktX6_goesAlong_1 : List UInt8 := dkwX6_goesAlong_1 ++ dktX6_goesAlong_2
def dkwX6_goesAlong_0 : List UInt8 := [42, 16, 19, 181, 0, 220, 42, 27, 181, 0, 245, 42, 180, 0, 59, 3, 42, 180, 0, 24, 16, 33, 46, 79]
abbrev dktX6_goesAlong_0 : List UInt8 := dkwX6_goesAlong_0 ++ dktX6_goesAlong_1
theorem dksX6_goesAlong_0 : cX6_goesAlong.data.toList.drop 0 = dktX6_goesAlong_0 := by decide +kernel
theorem dksX6_goesAlong_1 : cX6_goesAlong.data.toList.drop 24 = dktX6_goesAlong_1 := dk_seg dksX6_goesAlong_0 24 rfl rfl
theorem dksX6_goesAlong_2 : cX6_goesAlong.data.toList.drop 48 = dktX6_goesAlong_2 := dk_seg dksX6_goesAlong_1 24 rfl rfl
theorem dksX6_goesAlong_3 : cX6_goesAlong.data.toList.drop 72 = dktX6_goesAlong_3 := dk_seg dksX6_goesAlong_2 24 rfl rfl
theorem dksX6_goesAlong_4 : cX6_goesAlong.data.toList.drop 95 = dktX6_goesAlong_4 := dk_seg dksX6_goesAlong_3 23 rfl rfl
theorem dksX6_goesAlong_5 : cX6_goesAlong.data.toList.drop 119 = dktX6_goesAlong_5 := dk_seg dksX6_goesAlong_4 24 rfl rfl
theorem dksX6_goesAlong_6 : cX6_goesAlong.data.toList.drop 143 = dktX6_goesAlong_6 := dk_seg dksX6_goesAlong_5 24 rfl rfl
theorem dksX6_goesAlong_7 : cX6_goesAlong.data.toList.drop 165 = dktX6_goesAlong_7 := dk_seg dksX6_goesAlong_6 22 rfl rfl
theorem dksX6_goesAlong_8 : cX6_goesAlong.data.toList.drop 189 = dktX6_goesAlong_8 := dk_seg dksX6_goesAlong_7 24 rfl rfl
theorem dksX6_goesAlong_9 : cX6_goesAlong.data.toList.drop 211 = dktX6_goesAlong_9 := dk_seg dksX6_goesAlong_8 22 rfl rfl
theorem dksX6_goesAlong_10 : cX6_goesAlong.data.toList.drop 234 = dktX6_goesAlong_10 := dk_seg dksX6_goesAlong_9 23 rfl rfl
theorem dX6_goesAlong_0 : decode cX6_goesAlong 0 = .ok (.aload_n 0, 1) := dk_42 (dk_at dksX6_goesAlong_0 0 rfl rfl)
theorem dX6_goesAlong_1 : decode cX6_goesAlong 1 = .ok (.bipush 19, 2) := dk_16 19 (dk_at dksX6_goesAlong_0 1 rfl rfl)
theorem dX6_goesAlong_3 : decode cX6_goesAlong 3 = .ok (.putfield 220, 3) := dk_181 0 220 (dk_at dksX6_goesAlong_0 3 rfl rfl)
theorem dX6_goesAlong_6 : decode cX6_goesAlong 6 = .ok (.aload_n 0, 1) := dk_42 (dk_at dksX6_goesAlong_0 6 rfl rfl)
theorem dX6_goesAlong_7 : decode cX6_goesAlong 7 = .ok (.iload_n 1, 1) := dk_27 (dk_at dksX6_goesAlong_0 7 rfl rfl)
theorem dX6_goesAlong_8 : decode cX6_goesAlong 8 = .ok (.putfield 245, 3) := dk_181 0 245 (dk_at dksX6_goesAlong_0 8 rfl rfl)
theorem dX6_goesAlong_11 : decode cX6_goesAlong 11 = .ok (.aload_n 0, 1) := dk_42 (dk_at dksX6_goesAlong_0 11 rfl rfl)
theorem dX6_goesAlong_12 : decode cX6_goesAlong 12 = .ok (.getfield 59, 3) := dk_180 0 59 (dk_at dksX6_goesAlong_0 12 rfl rfl)
theorem dX6_goesAlong_15 : decode cX6_goesAlong 15 = .ok (.iconst 0, 1) := dk_3 (dk_at dksX6_goesAlong_0 15 rfl rfl)
theorem dX6_goesAlong_16 : decode cX6_goesAlong 16 = .ok (.aload_n 0, 1) := dk_42 (dk_at dksX6_goesAlong_0 16 rfl rfl)
theorem dX6_goesAlong_17 : decode cX6_goesAlong 17 = .ok (.getfield 24, 3) := dk_180 0 24 (dk_at dksX6_goesAlong_0 17 rfl rfl)
theorem dX6_goesAlong_20 : decode cX6_goesAlong 20 = .ok (.bipush 33, 2) := dk_16 33 (dk_at dksX6_goesAlong_0 20 rfl rfl)
theorem dX6_goesAlong_22 : decode cX6_goesAlong 22 = .ok (.iaload, 1) := dk_46 (dk_at dksX6_goesAlong_0 22 rfl rfl)
theorem dX6_goesAlong_23 : decode cX6_goesAlong 23 = .ok (.iastore, 1) := dk_79 (dk_at dksX6_goesAlong_0 23 rfl rfl)
theorem dX6_goesAlong_24 : decode cX6_goesAlong 24 = .ok (.aload_n 0, 1) := dk_42 (dk_at dksX6_goesAlong_1 0 rfl rfl)
theorem dX6_goesAlong_25 : decode cX6_goesAlong 25 = .ok (.getfield 59, 3) := dk_180 0 59 (dk_at dksX6_goesAlong_1 1 rfl rfl)
theorem dX6_goesAlong_28 : decode cX6_goesAlong 28 = .ok (.iconst 1, 1) := dk_4 (dk_at dksX6_goesAlong_1 4 rfl rfl)
theorem dX6_goesAlong_29 : decode cX6_goesAlong 29 = .ok (.aload_n 0, 1) := dk_42 (dk_at dksX6_goesAlong_1 5 rfl rfl)
theorem dX6_goesAlong_30 : decode cX6_goesAlong 30 = .ok (.getfield 24, 3) := dk_180 0 24 (dk_at dksX6_goesAlong_1 6 rfl rfl)
theorem dX6_goesAlong_33 : decode cX6_goesAlong 33 = .ok (.bipush 30, 2) := dk_16 30 (dk_at dksX6_goesAlong_1 9 rfl rfl)
theorem dX6_goesAlong_35 : decode cX6_goesAlong 35 = .ok (.iaload, 1) := dk_46 (dk_at dksX6_goesAlong_1 11 rfl rfl)
theorem dX6_goesAlong_36 : decode cX6_goesAlong 36 = .ok (.iastore, 1) := dk_79 (dk_at dksX6_goesAlong_1 12 rfl rfl)
theorem dX6_goesAlong_37 : decode cX6_goesAlong 37 = .ok (.aload_n 0, 1) := dk_42 (dk_at dksX6_goesAlong_1 13 rfl rfl)
theorem dX6_goesAlong_38 : decode cX6_goesAlong 38 = .ok (.getfield 59, 3) := dk_180 0 59 (dk_at dksX6_goesAlong_1 14 rfl rfl)
theorem dX6_goesAlong_41 : decode cX6_goesAlong 41 = .ok (.iconst 2, 1) := dk_5 (dk_at dksX6_goesAlong_1 17 rfl rfl)
theorem dX6_goesAlong_42 : decode cX6_goesAlong 42 = .ok (.aload_n 0, 1) := dk_42 (dk_at dksX6_goesAlong_1 18 rfl rfl)
theorem dX6_goesAlong_43 : decode cX6_goesAlong 43 = .ok (.getfield 24, 3) := dk_180 0 24 (dk_at dksX6_goesAlong_1 19 rfl rfl)
theorem dX6_goesAlong_46 : decode cX6_goesAlong 46 = .ok (.bipush 31, 2) := dk_16 31 (dk_at dksX6_goesAlong_1 22 rfl rfl)
theorem dX6_goesAlong_48 : decode cX6_goesAlong 48 = .ok (.iaload, 1) := dk_46 (dk_at dksX6_goesAlong_2 0 rfl rfl)
theorem dX6_goesAlong_49 : decode cX6_goesAlong 49 = .ok (.iastore, 1) := dk_79 (dk_at dksX6_goesAlong_2 1 rfl rfl)
theorem dX6_goesAlong_50 : decode cX6_goesAlong 50 = .ok (.aload_n 0, 1) := dk_42 (dk_at dksX6_goesAlong_2 2 rfl rfl)
theorem dX6_goesAlong_51 : decode cX6_goesAlong 51 = .ok (.getfield 59, 3) := dk_180 0 59 (dk_at dksX6_goesAlong_2 3 rfl rfl)
theorem dX6_goesAlong_54 : decode cX6_goesAlong 54 = .ok (.iconst 3, 1) := dk_6 (dk_at dksX6_goesAlong_2 6 rfl rfl)
theorem dX6_goesAlong_55 : decode cX6_goesAlong 55 = .ok (.aload_n 0, 1) := dk_42 (dk_at dksX6_goesAlong_2 7 rfl rfl)
theorem dX6_goesAlong_56 : decode cX6_goesAlong 56 = .ok (.getfield 411, 3) := dk_180 1 155 (dk_at dksX6_goesAlong_2 8 rfl rfl)
theorem dX6_goesAlong_59 : decode cX6_goesAlong 59 = .ok (.iastore, 1) := dk_79 (dk_at dksX6_goesAlong_2 11 rfl rfl)
theorem dX6_goesAlong_60 : decode cX6_goesAlong 60 = .ok (.aload_n 0, 1) := dk_42 (dk_at dksX6_goesAlong_2 12 rfl rfl)
theorem dX6_goesAlong_61 : decode cX6_goesAlong 61 = .ok (.getfield 59, 3) := dk_180 0 59 (dk_at dksX6_goesAlong_2 13 rfl rfl)
theorem dX6_goesAlong_64 : decode cX6_goesAlong 64 = .ok (.iconst 4, 1) := dk_7 (dk_at dksX6_goesAlong_2 16 rfl rfl)
theorem dX6_goesAlong_65 : decode cX6_goesAlong 65 = .ok (.aload_n 0, 1) := dk_42 (dk_at dksX6_goesAlong_2 17 rfl rfl)
theorem dX6_goesAlong_66 : decode cX6_goesAlong 66 = .ok (.getfield 24, 3) := dk_180 0 24 (dk_at dksX6_goesAlong_2 18 rfl rfl)
theorem dX6_goesAlong_69 : decode cX6_goesAlong 69 = .ok (.bipush 32, 2) := dk_16 32 (dk_at dksX6_goesAlong_2 21 rfl rfl)
theorem dX6_goesAlong_71 : decode cX6_goesAlong 71 = .ok (.iaload, 1) := dk_46 (dk_at dksX6_goesAlong_2 23 rfl rfl)
theorem dX6_goesAlong_72 : decode cX6_goesAlong 72 = .ok (.iastore, 1) := dk_79 (dk_at dksX6_goesAlong_3 0 rfl rfl)
theorem dX6_goesAlong_73 : decode cX6_goesAlong 73 = .ok (.aload_n 0, 1) := dk_42 (dk_at dksX6_goesAlong_3 1 rfl rfl)
theorem dX6_goesAlong_74 : decode cX6_goesAlong 74 = .ok (.aload_n 0, 1) := dk_42 (dk_at dksX6_goesAlong_3 2 rfl rfl)
theorem dX6_goesAlong_75 : decode cX6_goesAlong 75 = .ok (.getfield 414, 3) := dk_180 1 158 (dk_at dksX6_goesAlong_3 3 rfl rfl)
theorem dX6_goesAlong_78 : decode cX6_goesAlong 78 = .ok (.putfield 248, 3) := dk_181 0 248 (dk_at dksX6_goesAlong_3 6 rfl rfl)
theorem dX6_goesAlong_81 : decode cX6_goesAlong 81 = .ok (.aload_n 0, 1) := dk_42 (dk_at dksX6_goesAlong_3 9 rfl rfl)
theorem dX6_goesAlong_82 : decode cX6_goesAlong 82 = .ok (.aload_n 0, 1) := dk_42 (dk_at dksX6_goesAlong_3 10 rfl rfl)
theorem dX6_goesAlong_83 : decode cX6_goesAlong 83 = .ok (.aload_n 0, 1) := dk_42 (dk_at dksX6_goesAlong_3 11 rfl rfl)
theorem dX6_goesAlong_84 : decode cX6_goesAlong 84 = .ok (.getfield 248, 3) := dk_180 0 248 (dk_at dksX6_goesAlong_3 12 rfl rfl)
theorem dX6_goesAlong_87 : decode cX6_goesAlong 87 = .ok (.invokevirtual 251, 3) := dk_182 0 251 (dk_at dksX6_goesAlong_3 15 rfl rfl)
theorem dX6_goesAlong_90 : decode cX6_goesAlong 90 = .ok (.putfield 420, 3) := dk_181 1 164 (dk_at dksX6_goesAlong_3 18 rfl rfl)
theorem dX6_goesAlong_93 : decode cX6_goesAlong 93 = .ok (.aload_n 0, 1) := dk_42 (dk_at dksX6_goesAlong_3 21 rfl rfl)
theorem dX6_goesAlong_94 : decode cX6_goesAlong 94 = .ok (.dup, 1) := dk_89 (dk_at dksX6_goesAlong_3 22 rfl rfl)
theorem dX6_goesAlong_95 : decode cX6_goesAlong 95 = .ok (.getfield 248, 3) := dk_180 0 248 (dk_at dksX6_goesAlong_4 0 rfl rfl)
theorem dX6_goesAlong_98 : decode cX6_goesAlong 98 = .ok (.iconst 1, 1) := dk_4 (dk_at dksX6_goesAlong_4 3 rfl rfl)
theorem dX6_goesAlong_99 : decode cX6_goesAlong 99 = .ok (.iadd, 1) := dk_96 (dk_at dksX6_goesAlong_4 4 rfl rfl)
theorem dX6_goesAlong_100 : decode cX6_goesAlong 100 = .ok (.putfield 248, 3) := dk_181 0 248 (dk_at dksX6_goesAlong_4 5 rfl rfl)
theorem dX6_goesAlong_103 : decode cX6_goesAlong 103 = .ok (.aload_n 0, 1) := dk_42 (dk_at dksX6_goesAlong_4 8 rfl rfl)
theorem dX6_goesAlong_104 : decode cX6_goesAlong 104 = .ok (.iconst 0, 1) := dk_3 (dk_at dksX6_goesAlong_4 9 rfl rfl)
theorem dX6_goesAlong_105 : decode cX6_goesAlong 105 = .ok (.putfield 258, 3) := dk_181 1 2 (dk_at dksX6_goesAlong_4 10 rfl rfl)
theorem dX6_goesAlong_108 : decode cX6_goesAlong 108 = .ok (.aload_n 0, 1) := dk_42 (dk_at dksX6_goesAlong_4 13 rfl rfl)
theorem dX6_goesAlong_109 : decode cX6_goesAlong 109 = .ok (.aload_n 0, 1) := dk_42 (dk_at dksX6_goesAlong_4 14 rfl rfl)
theorem dX6_goesAlong_110 : decode cX6_goesAlong 110 = .ok (.getfield 420, 3) := dk_180 1 164 (dk_at dksX6_goesAlong_4 15 rfl rfl)
theorem dX6_goesAlong_113 : decode cX6_goesAlong 113 = .ok (.bipush 28, 2) := dk_16 28 (dk_at dksX6_goesAlong_4 18 rfl rfl)
theorem dX6_goesAlong_115 : decode cX6_goesAlong 115 = .ok (.if_icmp .ne 7, 3) := dk_160 0 7 (dk_at dksX6_goesAlong_4 20 rfl rfl)
theorem dX6_goesAlong_118 : decode cX6_goesAlong 118 = .ok (.lconst 0, 1) := dk_9 (dk_at dksX6_goesAlong_4 23 rfl rfl)
theorem dX6_goesAlong_119 : decode cX6_goesAlong 119 = .ok (.goto 8, 3) := dk_167 0 8 (dk_at dksX6_goesAlong_5 0 rfl rfl)
theorem dX6_goesAlong_122 : decode cX6_goesAlong 122 = .ok (.aload_n 0, 1) := dk_42 (dk_at dksX6_goesAlong_5 3 rfl rfl)
theorem dX6_goesAlong_123 : decode cX6_goesAlong 123 = .ok (.iload_n 2, 1) := dk_28 (dk_at dksX6_goesAlong_5 4 rfl rfl)
theorem dX6_goesAlong_124 : decode cX6_goesAlong 124 = .ok (.invokevirtual 275, 3) := dk_182 1 19 (dk_at dksX6_goesAlong_5 5 rfl rfl)
theorem dX6_goesAlong_127 : decode cX6_goesAlong 127 = .ok (.putfield 423, 3) := dk_181 1 167 (dk_at dksX6_goesAlong_5 8 rfl rfl)
theorem dX6_goesAlong_130 : decode cX6_goesAlong 130 = .ok (.aload_n 0, 1) := dk_42 (dk_at dksX6_goesAlong_5 11 rfl rfl)
theorem dX6_goesAlong_131 : decode cX6_goesAlong 131 = .ok (.aload_n 0, 1) := dk_42 (dk_at dksX6_goesAlong_5 12 rfl rfl)
theorem dX6_goesAlong_132 : decode cX6_goesAlong 132 = .ok (.getfield 258, 3) := dk_180 1 2 (dk_at dksX6_goesAlong_5 13 rfl rfl)
theorem dX6_goesAlong_135 : decode cX6_goesAlong 135 = .ok (.ifCond .ne 7, 3) := dk_154 0 7 (dk_at dksX6_goesAlong_5 16 rfl rfl)
theorem dX6_goesAlong_138 : decode cX6_goesAlong 138 = .ok (.iconst 1, 1) := dk_4 (dk_at dksX6_goesAlong_5 19 rfl rfl)
theorem dX6_goesAlong_139 : decode cX6_goesAlong 139 = .ok (.goto 4, 3) := dk_167 0 4 (dk_at dksX6_goesAlong_5 20 rfl rfl)
theorem dX6_goesAlong_142 : decode cX6_goesAlong 142 = .ok (.iconst 0, 1) := dk_3 (dk_at dksX6_goesAlong_5 23 rfl rfl)
theorem dX6_goesAlong_143 : decode cX6_goesAlong 143 = .ok (.putfield 427, 3) := dk_181 1 171 (dk_at dksX6_goesAlong_6 0 rfl rfl)
theorem dX6_goesAlong_146 : decode cX6_goesAlong 146 = .ok (.aload_n 0, 1) := dk_42 (dk_at dksX6_goesAlong_6 3 rfl rfl)
theorem dX6_goesAlong_147 : decode cX6_goesAlong 147 = .ok (.iconst 1, 1) := dk_4 (dk_at dksX6_goesAlong_6 4 rfl rfl)
theorem dX6_goesAlong_148 : decode cX6_goesAlong 148 = .ok (.putfield 430, 3) := dk_181 1 174 (dk_at dksX6_goesAlong_6 5 rfl rfl)
theorem dX6_goesAlong_151 : decode cX6_goesAlong 151 = .ok (.aload_n 0, 1) := dk_42 (dk_at dksX6_goesAlong_6 8 rfl rfl)
theorem dX6_goesAlong_152 : decode cX6_goesAlong 152 = .ok (.bipush 29, 2) := dk_16 29 (dk_at dksX6_goesAlong_6 9 rfl rfl)
theorem dX6_goesAlong_154 : decode cX6_goesAlong 154 = .ok (.invokevirtual 272, 3) := dk_182 1 16 (dk_at dksX6_goesAlong_6 11 rfl rfl)
theorem dX6_goesAlong_157 : decode cX6_goesAlong 157 = .ok (.ifCond .eq 30, 3) := dk_153 0 30 (dk_at dksX6_goesAlong_6 14 rfl rfl)
theorem dX6_goesAlong_160 : decode cX6_goesAlong 160 = .ok (.aload_n 0, 1) := dk_42 (dk_at dksX6_goesAlong_6 17 rfl rfl)
theorem dX6_goesAlong_161 : decode cX6_goesAlong 161 = .ok (.aload_n 0, 1) := dk_42 (dk_at dksX6_goesAlong_6 18 rfl rfl)
theorem dX6_goesAlong_162 : decode cX6_goesAlong 162 = .ok (.getfield 24, 3) := dk_180 0 24 (dk_at dksX6_goesAlong_6 19 rfl rfl)
theorem dX6_goesAlong_165 : decode cX6_goesAlong 165 = .ok (.sipush 3066, 3) := dk_17 11 250 (dk_at dksX6_goesAlong_7 0 rfl rfl)
theorem dX6_goesAlong_168 : decode cX6_goesAlong 168 = .ok (.aload_n 0, 1) := dk_42 (dk_at dksX6_goesAlong_7 3 rfl rfl)
theorem dX6_goesAlong_169 : decode cX6_goesAlong 169 = .ok (.getfield 248, 3) := dk_180 0 248 (dk_at dksX6_goesAlong_7 4 rfl rfl)
theorem dX6_goesAlong_172 : decode cX6_goesAlong 172 = .ok (.iadd, 1) := dk_96 (dk_at dksX6_goesAlong_7 7 rfl rfl)
theorem dX6_goesAlong_173 : decode cX6_goesAlong 173 = .ok (.iaload, 1) := dk_46 (dk_at dksX6_goesAlong_7 8 rfl rfl)
theorem dX6_goesAlong_174 : decode cX6_goesAlong 174 = .ok (.putfield 430, 3) := dk_181 1 174 (dk_at dksX6_goesAlong_7 9 rfl rfl)
theorem dX6_goesAlong_177 : decode cX6_goesAlong 177 = .ok (.aload_n 0, 1) := dk_42 (dk_at dksX6_goesAlong_7 12 rfl rfl)
theorem dX6_goesAlong_178 : decode cX6_goesAlong 178 = .ok (.dup, 1) := dk_89 (dk_at dksX6_goesAlong_7 13 rfl rfl)
theorem dX6_goesAlong_179 : decode cX6_goesAlong 179 = .ok (.getfield 248, 3) := dk_180 0 248 (dk_at dksX6_goesAlong_7 14 rfl rfl)
theorem dX6_goesAlong_182 : decode cX6_goesAlong 182 = .ok (.iconst 1, 1) := dk_4 (dk_at dksX6_goesAlong_7 17 rfl rfl)
theorem dX6_goesAlong_183 : decode cX6_goesAlong 183 = .ok (.iadd, 1) := dk_96 (dk_at dksX6_goesAlong_7 18 rfl rfl)
theorem dX6_goesAlong_184 : decode cX6_goesAlong 184 = .ok (.putfield 248, 3) := dk_181 0 248 (dk_at dksX6_goesAlong_7 19 rfl rfl)
theorem dX6_goesAlong_187 : decode cX6_goesAlong 187 = .ok (.aload_n 0, 1) := dk_42 (dk_at dksX6_goesAlong_7 22 rfl rfl)
theorem dX6_goesAlong_188 : decode cX6_goesAlong 188 = .ok (.iconst 0, 1) := dk_3 (dk_at dksX6_goesAlong_7 23 rfl rfl)
theorem dX6_goesAlong_189 : decode cX6_goesAlong 189 = .ok (.putfield 258, 3) := dk_181 1 2 (dk_at dksX6_goesAlong_8 0 rfl rfl)
theorem dX6_goesAlong_192 : decode cX6_goesAlong 192 = .ok (.aload_n 0, 1) := dk_42 (dk_at dksX6_goesAlong_8 3 rfl rfl)
theorem dX6_goesAlong_193 : decode cX6_goesAlong 193 = .ok (.aload_n 0, 1) := dk_42 (dk_at dksX6_goesAlong_8 4 rfl rfl)
theorem dX6_goesAlong_194 : decode cX6_goesAlong 194 = .ok (.bipush 6, 2) := dk_16 6 (dk_at dksX6_goesAlong_8 5 rfl rfl)
theorem dX6_goesAlong_196 : decode cX6_goesAlong 196 = .ok (.invokevirtual 272, 3) := dk_182 1 16 (dk_at dksX6_goesAlong_8 7 rfl rfl)
theorem dX6_goesAlong_199 : decode cX6_goesAlong 199 = .ok (.ifCond .eq 11, 3) := dk_153 0 11 (dk_at dksX6_goesAlong_8 10 rfl rfl)
theorem dX6_goesAlong_202 : decode cX6_goesAlong 202 = .ok (.aload_n 0, 1) := dk_42 (dk_at dksX6_goesAlong_8 13 rfl rfl)
theorem dX6_goesAlong_203 : decode cX6_goesAlong 203 = .ok (.iload_n 2, 1) := dk_28 (dk_at dksX6_goesAlong_8 14 rfl rfl)
theorem dX6_goesAlong_204 : decode cX6_goesAlong 204 = .ok (.invokevirtual 289, 3) := dk_182 1 33 (dk_at dksX6_goesAlong_8 15 rfl rfl)
theorem dX6_goesAlong_207 : decode cX6_goesAlong 207 = .ok (.ifCond .eq 7, 3) := dk_153 0 7 (dk_at dksX6_goesAlong_8 18 rfl rfl)
theorem dX6_goesAlong_210 : decode cX6_goesAlong 210 = .ok (.iconst 1, 1) := dk_4 (dk_at dksX6_goesAlong_8 21 rfl rfl)
theorem dX6_goesAlong_211 : decode cX6_goesAlong 211 = .ok (.goto 4, 3) := dk_167 0 4 (dk_at dksX6_goesAlong_9 0 rfl rfl)
theorem dX6_goesAlong_214 : decode cX6_goesAlong 214 = .ok (.iconst 0, 1) := dk_3 (dk_at dksX6_goesAlong_9 3 rfl rfl)
theorem dX6_goesAlong_215 : decode cX6_goesAlong 215 = .ok (.putfield 433, 3) := dk_181 1 177 (dk_at dksX6_goesAlong_9 4 rfl rfl)
theorem dX6_goesAlong_218 : decode cX6_goesAlong 218 = .ok (.aload_n 0, 1) := dk_42 (dk_at dksX6_goesAlong_9 7 rfl rfl)
theorem dX6_goesAlong_219 : decode cX6_goesAlong 219 = .ok (.aload_n 0, 1) := dk_42 (dk_at dksX6_goesAlong_9 8 rfl rfl)
theorem dX6_goesAlong_220 : decode cX6_goesAlong 220 = .ok (.getfield 433, 3) := dk_180 1 177 (dk_at dksX6_goesAlong_9 9 rfl rfl)
theorem dX6_goesAlong_223 : decode cX6_goesAlong 223 = .ok (.ifCond .eq 14, 3) := dk_153 0 14 (dk_at dksX6_goesAlong_9 12 rfl rfl)
theorem dX6_goesAlong_226 : decode cX6_goesAlong 226 = .ok (.aload_n 0, 1) := dk_42 (dk_at dksX6_goesAlong_9 15 rfl rfl)
theorem dX6_goesAlong_227 : decode cX6_goesAlong 227 = .ok (.getfield 258, 3) := dk_180 1 2 (dk_at dksX6_goesAlong_9 16 rfl rfl)
theorem dX6_goesAlong_230 : decode cX6_goesAlong 230 = .ok (.ifCond .ne 7, 3) := dk_154 0 7 (dk_at dksX6_goesAlong_9 19 rfl rfl)
theorem dX6_goesAlong_233 : decode cX6_goesAlong 233 = .ok (.iconst 1, 1) := dk_4 (dk_at dksX6_goesAlong_9 22 rfl rfl)
theorem dX6_goesAlong_234 : decode cX6_goesAlong 234 = .ok (.goto 4, 3) := dk_167 0 4 (dk_at dksX6_goesAlong_10 0 rfl rfl)
theorem dX6_goesAlong_237 : decode cX6_goesAlong 237 = .ok (.iconst 0, 1) := dk_3 (dk_at dksX6_goesAlong_10 3 rfl rfl)
theorem dX6_goesAlong_238 : decode cX6_goesAlong 238 = .ok (.putfield 433, 3) := dk_181 1 177 (dk_at dksX6_goesAlong_10 4 rfl rfl)
theorem dX6_goesAlong_241 : decode cX6_goesAlong 241 = .ok (.aload_n 0, 1) := dk_42 (dk_at dksX6_goesAlong_10 7 rfl rfl)
theorem dX6_goesAlong_242 : decode cX6_goesAlong 242 = .ok (.dup, 1) := dk_89 (dk_at dksX6_goesAlong_10 8 rfl rfl)
theorem dX6_goesAlong_243 : decode cX6_goesAlong 243 = .ok (.getfield 248, 3) := dk_180 0 248 (dk_at dksX6_goesAlong_10 9 rfl rfl)
theorem dX6_goesAlong_246 : decode cX6_goesAlong 246 = .ok (.iconst 1, 1) := dk_4 (dk_at dksX6_goesAlong_10 12 rfl rfl)
theorem dX6_goesAlong_247 : decode cX6_goesAlong 247 = .ok (.iadd, 1) := dk_96 (dk_at dksX6_goesAlong_10 13 rfl rfl)
theorem dX6_goesAlong_248 : decode cX6_goesAlong 248 = .ok (.putfield 248, 3) := dk_181 0 248 (dk_at dksX6_goesAlong_10 14 rfl rfl)
theorem dX6_goesAlong_251 : decode cX6_goesAlong 251 = .ok (.return_, 1) := dk_177 (dk_at dksX6_goesAlong_10 17 rfl rfl)
abbrev cX6_small : ByteArray := prog_29_method_115_code
def yX6_small : MethodName := ⟨RX6, "small", "(J)I"⟩
def dkwX6_small_0 : List UInt8 := [30, 9, 148, 155, 0, 11, 30, 20, 1, 180, 148, 158, 0, 7, 2, 167, 0, 5, 30, 136, 172]
abbrev dktX6_small_0 : List UInt8 := dkwX6_small_0 ++ []
theorem dksX6_small_0 : cX6_small.data.toList.drop 0 = dktX6_small_0 := by decide +kernel
theorem dX6_small_0 : decode cX6_small 0 = .ok (.lload_n 0, 1) := dk_30 (dk_at dksX6_small_0 0 rfl rfl)
theorem dX6_small_1 : decode cX6_small 1 = .ok (.lconst 0, 1) := dk_9 (dk_at dksX6_small_0 1 rfl rfl)
theorem dX6_small_2 : decode cX6_small 2 = .ok (.lcmp, 1) := dk_148 (dk_at dksX6_small_0 2 rfl rfl)
theorem dX6_small_3 : decode cX6_small 3 = .ok (.ifCond .lt 11, 3) := dk_155 0 11 (dk_at dksX6_small_0 3 rfl rfl)
theorem dX6_small_6 : decode cX6_small 6 = .ok (.lload_n 0, 1) := dk_30 (dk_at dksX6_small_0 6 rfl rfl)
theorem dX6_small_7 : decode cX6_small 7 = .ok (.ldc2_w 436, 3) := dk_20 1 180 (dk_at dksX6_small_0 7 rfl rfl)
theorem dX6_small_10 : decode cX6_small 10 = .ok (.lcmp, 1) := dk_148 (dk_at dksX6_small_0 10 rfl rfl)
theorem dX6_small_11 : decode cX6_small 11 = .ok (.ifCond .le 7, 3) := dk_158 0 7 (dk_at dksX6_small_0 11 rfl rfl)
theorem dX6_small_14 : decode cX6_small 14 = .ok (.iconst (-1), 1) := dk_2 (dk_at dksX6_small_0 14 rfl rfl)
theorem dX6_small_15 : decode cX6_small 15 = .ok (.goto 5, 3) := dk_167 0 5 (dk_at dksX6_small_0 15 rfl rfl)
theorem dX6_small_18 : decode cX6_small 18 = .ok (.lload_n 0, 1) := dk_30 (dk_at dksX6_small_0 18 rfl rfl)
theorem dX6_small_19 : decode cX6_small 19 = .ok (.l2i, 1) := dk_136 (dk_at dksX6_small_0 19 rfl rfl)
theorem dX6_small_20 : decode cX6_small 20 = .ok (.ireturn, 1) := dk_172 (dk_at dksX6_small_0 20 rfl rfl)
abbrev cX6_winter : ByteArray := prog_29_method_119_code
def yX6_winter : MethodName := ⟨RX6, "winter", "(II)I"⟩
def dkwX6_winter_6 : List UInt8 := [167, 0, 4, 4, 96, 54, 4, 132, 5, 1, 167, 255, 157, 42, 21, 4, 182, 0, 14, 172]
abbrev dktX6_winter_6 : List UInt8 := dkwX6_winter_6 ++ []
def dkwX6_winter_5 : List UInt8 := [21, 7, 79, 29, 42, 180, 0, 103, 21, 5, 46, 128, 62, 21, 4, 21, 7, 2, 160, 0, 7, 3]
abbrev dktX6_winter_5 : List UInt8 := dkwX6_winter_5 ++ dktX6_winter_6
def dkwX6_winter_4 : List UInt8 := [184, 1, 75, 182, 1, 120, 54, 7, 42, 180, 0, 103, 21, 5, 21, 7, 2, 160, 0, 7, 3, 167, 0, 5]
abbrev dktX6_winter_4 : List UInt8 := dkwX6_winter_4 ++ dktX6_winter_5
def dkwX6_winter_3 : List UInt8 := [162, 0, 7, 4, 167, 0, 4, 3, 54, 6, 42, 21, 5, 29, 21, 6, 182, 1, 205, 42, 3, 21, 6]
abbrev dktX6_winter_3 : List UInt8 := dkwX6_winter_3 ++ dktX6_winter_4
def dkwX6_winter_2 : List UInt8 := [54, 5, 21, 5, 28, 162, 0, 99, 42, 16, 10, 182, 1, 202, 42, 180, 0, 24, 17, 0, 254, 46]
abbrev dktX6_winter_2 : List UInt8 := dkwX6_winter_2 ++ dktX6_winter_3
def dkwX6_winter_1 : List UInt8 := [182, 0, 110, 172, 42, 182, 1, 129, 42, 27, 181, 1, 192, 42, 28, 181, 1, 199, 3, 62, 3, 54, 4, 3]
abbrev dktX6_winter_1 : List UInt8 := dkwX6_winter_1 ++ dktX6_winter_2
def dkwX6_winter_0 : List UInt8 := [27, 3, 18, 160, 184, 0, 106, 153, 0, 13, 28, 4, 16, 60, 184, 0, 106, 154, 0, 9, 42, 2]
abbrev dktX6_winter_0 : List UInt8 := dkwX6_winter_0 ++ dktX6_winter_1
theorem dksX6_winter_0 : cX6_winter.data.toList.drop 0 = dktX6_winter_0 := by decide +kernel
theorem dksX6_winter_1 : cX6_winter.data.toList.drop 22 = dktX6_winter_1 := dk_seg dksX6_winter_0 22 rfl rfl
theorem dksX6_winter_2 : cX6_winter.data.toList.drop 46 = dktX6_winter_2 := dk_seg dksX6_winter_1 24 rfl rfl
theorem dksX6_winter_3 : cX6_winter.data.toList.drop 68 = dktX6_winter_3 := dk_seg dksX6_winter_2 22 rfl rfl
theorem dksX6_winter_4 : cX6_winter.data.toList.drop 91 = dktX6_winter_4 := dk_seg dksX6_winter_3 23 rfl rfl
theorem dksX6_winter_5 : cX6_winter.data.toList.drop 115 = dktX6_winter_5 := dk_seg dksX6_winter_4 24 rfl rfl
theorem dksX6_winter_6 : cX6_winter.data.toList.drop 137 = dktX6_winter_6 := dk_seg dksX6_winter_5 22 rfl rfl
theorem dX6_winter_0 : decode cX6_winter 0 = .ok (.iload_n 1, 1) := dk_27 (dk_at dksX6_winter_0 0 rfl rfl)
theorem dX6_winter_1 : decode cX6_winter 1 = .ok (.iconst 0, 1) := dk_3 (dk_at dksX6_winter_0 1 rfl rfl)
theorem dX6_winter_2 : decode cX6_winter 2 = .ok (.ldc 160, 2) := dk_18 160 (dk_at dksX6_winter_0 2 rfl rfl)
theorem dX6_winter_4 : decode cX6_winter 4 = .ok (.invokestatic 106, 3) := dk_184 0 106 (dk_at dksX6_winter_0 4 rfl rfl)
theorem dX6_winter_7 : decode cX6_winter 7 = .ok (.ifCond .eq 13, 3) := dk_153 0 13 (dk_at dksX6_winter_0 7 rfl rfl)
theorem dX6_winter_10 : decode cX6_winter 10 = .ok (.iload_n 2, 1) := dk_28 (dk_at dksX6_winter_0 10 rfl rfl)
theorem dX6_winter_11 : decode cX6_winter 11 = .ok (.iconst 1, 1) := dk_4 (dk_at dksX6_winter_0 11 rfl rfl)
theorem dX6_winter_12 : decode cX6_winter 12 = .ok (.bipush 60, 2) := dk_16 60 (dk_at dksX6_winter_0 12 rfl rfl)
theorem dX6_winter_14 : decode cX6_winter 14 = .ok (.invokestatic 106, 3) := dk_184 0 106 (dk_at dksX6_winter_0 14 rfl rfl)
theorem dX6_winter_17 : decode cX6_winter 17 = .ok (.ifCond .ne 9, 3) := dk_154 0 9 (dk_at dksX6_winter_0 17 rfl rfl)
theorem dX6_winter_20 : decode cX6_winter 20 = .ok (.aload_n 0, 1) := dk_42 (dk_at dksX6_winter_0 20 rfl rfl)
theorem dX6_winter_21 : decode cX6_winter 21 = .ok (.iconst (-1), 1) := dk_2 (dk_at dksX6_winter_0 21 rfl rfl)
theorem dX6_winter_22 : decode cX6_winter 22 = .ok (.invokevirtual 110, 3) := dk_182 0 110 (dk_at dksX6_winter_1 0 rfl rfl)
theorem dX6_winter_25 : decode cX6_winter 25 = .ok (.ireturn, 1) := dk_172 (dk_at dksX6_winter_1 3 rfl rfl)
theorem dX6_winter_26 : decode cX6_winter 26 = .ok (.aload_n 0, 1) := dk_42 (dk_at dksX6_winter_1 4 rfl rfl)
theorem dX6_winter_27 : decode cX6_winter 27 = .ok (.invokevirtual 385, 3) := dk_182 1 129 (dk_at dksX6_winter_1 5 rfl rfl)
theorem dX6_winter_30 : decode cX6_winter 30 = .ok (.aload_n 0, 1) := dk_42 (dk_at dksX6_winter_1 8 rfl rfl)
theorem dX6_winter_31 : decode cX6_winter 31 = .ok (.iload_n 1, 1) := dk_27 (dk_at dksX6_winter_1 9 rfl rfl)
theorem dX6_winter_32 : decode cX6_winter 32 = .ok (.putfield 448, 3) := dk_181 1 192 (dk_at dksX6_winter_1 10 rfl rfl)
theorem dX6_winter_35 : decode cX6_winter 35 = .ok (.aload_n 0, 1) := dk_42 (dk_at dksX6_winter_1 13 rfl rfl)
theorem dX6_winter_36 : decode cX6_winter 36 = .ok (.iload_n 2, 1) := dk_28 (dk_at dksX6_winter_1 14 rfl rfl)
theorem dX6_winter_37 : decode cX6_winter 37 = .ok (.putfield 455, 3) := dk_181 1 199 (dk_at dksX6_winter_1 15 rfl rfl)
theorem dX6_winter_40 : decode cX6_winter 40 = .ok (.iconst 0, 1) := dk_3 (dk_at dksX6_winter_1 18 rfl rfl)
theorem dX6_winter_41 : decode cX6_winter 41 = .ok (.istore_n 3, 1) := dk_62 (dk_at dksX6_winter_1 19 rfl rfl)
theorem dX6_winter_42 : decode cX6_winter 42 = .ok (.iconst 0, 1) := dk_3 (dk_at dksX6_winter_1 20 rfl rfl)
theorem dX6_winter_43 : decode cX6_winter 43 = .ok (.istore 4, 2) := dk_54 4 (dk_at dksX6_winter_1 21 rfl rfl)
theorem dX6_winter_45 : decode cX6_winter 45 = .ok (.iconst 0, 1) := dk_3 (dk_at dksX6_winter_1 23 rfl rfl)
theorem dX6_winter_46 : decode cX6_winter 46 = .ok (.istore 5, 2) := dk_54 5 (dk_at dksX6_winter_2 0 rfl rfl)
theorem dX6_winter_48 : decode cX6_winter 48 = .ok (.iload 5, 2) := dk_21 5 (dk_at dksX6_winter_2 2 rfl rfl)
theorem dX6_winter_50 : decode cX6_winter 50 = .ok (.iload_n 2, 1) := dk_28 (dk_at dksX6_winter_2 4 rfl rfl)
theorem dX6_winter_51 : decode cX6_winter 51 = .ok (.if_icmp .ge 99, 3) := dk_162 0 99 (dk_at dksX6_winter_2 5 rfl rfl)
theorem dX6_winter_54 : decode cX6_winter 54 = .ok (.aload_n 0, 1) := dk_42 (dk_at dksX6_winter_2 8 rfl rfl)
theorem dX6_winter_55 : decode cX6_winter 55 = .ok (.bipush 10, 2) := dk_16 10 (dk_at dksX6_winter_2 9 rfl rfl)
theorem dX6_winter_57 : decode cX6_winter 57 = .ok (.invokevirtual 458, 3) := dk_182 1 202 (dk_at dksX6_winter_2 11 rfl rfl)
theorem dX6_winter_60 : decode cX6_winter 60 = .ok (.aload_n 0, 1) := dk_42 (dk_at dksX6_winter_2 14 rfl rfl)
theorem dX6_winter_61 : decode cX6_winter 61 = .ok (.getfield 24, 3) := dk_180 0 24 (dk_at dksX6_winter_2 15 rfl rfl)
theorem dX6_winter_64 : decode cX6_winter 64 = .ok (.sipush 254, 3) := dk_17 0 254 (dk_at dksX6_winter_2 18 rfl rfl)
theorem dX6_winter_67 : decode cX6_winter 67 = .ok (.iaload, 1) := dk_46 (dk_at dksX6_winter_2 21 rfl rfl)
theorem dX6_winter_68 : decode cX6_winter 68 = .ok (.if_icmp .ge 7, 3) := dk_162 0 7 (dk_at dksX6_winter_3 0 rfl rfl)
theorem dX6_winter_71 : decode cX6_winter 71 = .ok (.iconst 1, 1) := dk_4 (dk_at dksX6_winter_3 3 rfl rfl)
theorem dX6_winter_72 : decode cX6_winter 72 = .ok (.goto 4, 3) := dk_167 0 4 (dk_at dksX6_winter_3 4 rfl rfl)
theorem dX6_winter_75 : decode cX6_winter 75 = .ok (.iconst 0, 1) := dk_3 (dk_at dksX6_winter_3 7 rfl rfl)
theorem dX6_winter_76 : decode cX6_winter 76 = .ok (.istore 6, 2) := dk_54 6 (dk_at dksX6_winter_3 8 rfl rfl)
theorem dX6_winter_78 : decode cX6_winter 78 = .ok (.aload_n 0, 1) := dk_42 (dk_at dksX6_winter_3 10 rfl rfl)
theorem dX6_winter_79 : decode cX6_winter 79 = .ok (.iload 5, 2) := dk_21 5 (dk_at dksX6_winter_3 11 rfl rfl)
theorem dX6_winter_81 : decode cX6_winter 81 = .ok (.iload_n 3, 1) := dk_29 (dk_at dksX6_winter_3 13 rfl rfl)
theorem dX6_winter_82 : decode cX6_winter 82 = .ok (.iload 6, 2) := dk_21 6 (dk_at dksX6_winter_3 14 rfl rfl)
theorem dX6_winter_84 : decode cX6_winter 84 = .ok (.invokevirtual 461, 3) := dk_182 1 205 (dk_at dksX6_winter_3 16 rfl rfl)
theorem dX6_winter_87 : decode cX6_winter 87 = .ok (.aload_n 0, 1) := dk_42 (dk_at dksX6_winter_3 19 rfl rfl)
theorem dX6_winter_88 : decode cX6_winter 88 = .ok (.iconst 0, 1) := dk_3 (dk_at dksX6_winter_3 20 rfl rfl)
theorem dX6_winter_89 : decode cX6_winter 89 = .ok (.iload 6, 2) := dk_21 6 (dk_at dksX6_winter_3 21 rfl rfl)
theorem dX6_winter_91 : decode cX6_winter 91 = .ok (.invokestatic 331, 3) := dk_184 1 75 (dk_at dksX6_winter_4 0 rfl rfl)
theorem dX6_winter_94 : decode cX6_winter 94 = .ok (.invokevirtual 376, 3) := dk_182 1 120 (dk_at dksX6_winter_4 3 rfl rfl)
theorem dX6_winter_97 : decode cX6_winter 97 = .ok (.istore 7, 2) := dk_54 7 (dk_at dksX6_winter_4 6 rfl rfl)
theorem dX6_winter_99 : decode cX6_winter 99 = .ok (.aload_n 0, 1) := dk_42 (dk_at dksX6_winter_4 8 rfl rfl)
theorem dX6_winter_100 : decode cX6_winter 100 = .ok (.getfield 103, 3) := dk_180 0 103 (dk_at dksX6_winter_4 9 rfl rfl)
theorem dX6_winter_103 : decode cX6_winter 103 = .ok (.iload 5, 2) := dk_21 5 (dk_at dksX6_winter_4 12 rfl rfl)
theorem dX6_winter_105 : decode cX6_winter 105 = .ok (.iload 7, 2) := dk_21 7 (dk_at dksX6_winter_4 14 rfl rfl)
theorem dX6_winter_107 : decode cX6_winter 107 = .ok (.iconst (-1), 1) := dk_2 (dk_at dksX6_winter_4 16 rfl rfl)
theorem dX6_winter_108 : decode cX6_winter 108 = .ok (.if_icmp .ne 7, 3) := dk_160 0 7 (dk_at dksX6_winter_4 17 rfl rfl)
theorem dX6_winter_111 : decode cX6_winter 111 = .ok (.iconst 0, 1) := dk_3 (dk_at dksX6_winter_4 20 rfl rfl)
theorem dX6_winter_112 : decode cX6_winter 112 = .ok (.goto 5, 3) := dk_167 0 5 (dk_at dksX6_winter_4 21 rfl rfl)
theorem dX6_winter_115 : decode cX6_winter 115 = .ok (.iload 7, 2) := dk_21 7 (dk_at dksX6_winter_5 0 rfl rfl)
theorem dX6_winter_117 : decode cX6_winter 117 = .ok (.iastore, 1) := dk_79 (dk_at dksX6_winter_5 2 rfl rfl)
theorem dX6_winter_118 : decode cX6_winter 118 = .ok (.iload_n 3, 1) := dk_29 (dk_at dksX6_winter_5 3 rfl rfl)
theorem dX6_winter_119 : decode cX6_winter 119 = .ok (.aload_n 0, 1) := dk_42 (dk_at dksX6_winter_5 4 rfl rfl)
theorem dX6_winter_120 : decode cX6_winter 120 = .ok (.getfield 103, 3) := dk_180 0 103 (dk_at dksX6_winter_5 5 rfl rfl)
theorem dX6_winter_123 : decode cX6_winter 123 = .ok (.iload 5, 2) := dk_21 5 (dk_at dksX6_winter_5 8 rfl rfl)
theorem dX6_winter_125 : decode cX6_winter 125 = .ok (.iaload, 1) := dk_46 (dk_at dksX6_winter_5 10 rfl rfl)
theorem dX6_winter_126 : decode cX6_winter 126 = .ok (.ior, 1) := dk_128 (dk_at dksX6_winter_5 11 rfl rfl)
theorem dX6_winter_127 : decode cX6_winter 127 = .ok (.istore_n 3, 1) := dk_62 (dk_at dksX6_winter_5 12 rfl rfl)
theorem dX6_winter_128 : decode cX6_winter 128 = .ok (.iload 4, 2) := dk_21 4 (dk_at dksX6_winter_5 13 rfl rfl)
theorem dX6_winter_130 : decode cX6_winter 130 = .ok (.iload 7, 2) := dk_21 7 (dk_at dksX6_winter_5 15 rfl rfl)
theorem dX6_winter_132 : decode cX6_winter 132 = .ok (.iconst (-1), 1) := dk_2 (dk_at dksX6_winter_5 17 rfl rfl)
theorem dX6_winter_133 : decode cX6_winter 133 = .ok (.if_icmp .ne 7, 3) := dk_160 0 7 (dk_at dksX6_winter_5 18 rfl rfl)
theorem dX6_winter_136 : decode cX6_winter 136 = .ok (.iconst 0, 1) := dk_3 (dk_at dksX6_winter_5 21 rfl rfl)
theorem dX6_winter_137 : decode cX6_winter 137 = .ok (.goto 4, 3) := dk_167 0 4 (dk_at dksX6_winter_6 0 rfl rfl)
theorem dX6_winter_140 : decode cX6_winter 140 = .ok (.iconst 1, 1) := dk_4 (dk_at dksX6_winter_6 3 rfl rfl)
theorem dX6_winter_141 : decode cX6_winter 141 = .ok (.iadd, 1) := dk_96 (dk_at dksX6_winter_6 4 rfl rfl)
theorem dX6_winter_142 : decode cX6_winter 142 = .ok (.istore 4, 2) := dk_54 4 (dk_at dksX6_winter_6 5 rfl rfl)
theorem dX6_winter_144 : decode cX6_winter 144 = .ok (.iinc 5 1, 3) := dk_132 5 1 (dk_at dksX6_winter_6 7 rfl rfl)
theorem dX6_winter_147 : decode cX6_winter 147 = .ok (.goto (-99), 3) := dk_167 255 157 (dk_at dksX6_winter_6 10 rfl rfl)
theorem dX6_winter_150 : decode cX6_winter 150 = .ok (.aload_n 0, 1) := dk_42 (dk_at dksX6_winter_6 13 rfl rfl)
theorem dX6_winter_151 : decode cX6_winter 151 = .ok (.iload 4, 2) := dk_21 4 (dk_at dksX6_winter_6 14 rfl rfl)
theorem dX6_winter_153 : decode cX6_winter 153 = .ok (.invokevirtual 14, 3) := dk_182 0 14 (dk_at dksX6_winter_6 16 rfl rfl)
theorem dX6_winter_156 : decode cX6_winter 156 = .ok (.ireturn, 1) := dk_172 (dk_at dksX6_winter_6 19 rfl rfl)
abbrev cX6_draws : ByteArray := prog_29_method_117_code
def yX6_draws : MethodName := ⟨RX6, "draws", "(I)I"⟩
def dkwX6_draws_1 : List UInt8 := [180, 1, 192, 27, 112, 172]
abbrev dktX6_draws_1 : List UInt8 := dkwX6_draws_1 ++ []
def dkwX6_draws_0 : List UInt8 := [42, 20, 1, 190, 42, 180, 1, 192, 133, 105, 20, 1, 195, 97, 20, 1, 197, 113, 136, 181, 1, 192, 42]
abbrev dktX6_draws_0 : List UInt8 := dkwX6_draws_0 ++ dktX6_draws_1
theorem dksX6_draws_0 : cX6_draws.data.toList.drop 0 = dktX6_draws_0 := by decide +kernel
theorem dksX6_draws_1 : cX6_draws.data.toList.drop 23 = dktX6_draws_1 := dk_seg dksX6_draws_0 23 rfl rfl
theorem dX6_draws_0 : decode cX6_draws 0 = .ok (.aload_n 0, 1) := dk_42 (dk_at dksX6_draws_0 0 rfl rfl)
theorem dX6_draws_1 : decode cX6_draws 1 = .ok (.ldc2_w 446, 3) := dk_20 1 190 (dk_at dksX6_draws_0 1 rfl rfl)
theorem dX6_draws_4 : decode cX6_draws 4 = .ok (.aload_n 0, 1) := dk_42 (dk_at dksX6_draws_0 4 rfl rfl)
theorem dX6_draws_5 : decode cX6_draws 5 = .ok (.getfield 448, 3) := dk_180 1 192 (dk_at dksX6_draws_0 5 rfl rfl)
theorem dX6_draws_8 : decode cX6_draws 8 = .ok (.i2l, 1) := dk_133 (dk_at dksX6_draws_0 8 rfl rfl)
theorem dX6_draws_9 : decode cX6_draws 9 = .ok (.lmul, 1) := dk_105 (dk_at dksX6_draws_0 9 rfl rfl)
theorem dX6_draws_10 : decode cX6_draws 10 = .ok (.ldc2_w 451, 3) := dk_20 1 195 (dk_at dksX6_draws_0 10 rfl rfl)
theorem dX6_draws_13 : decode cX6_draws 13 = .ok (.ladd, 1) := dk_97 (dk_at dksX6_draws_0 13 rfl rfl)
theorem dX6_draws_14 : decode cX6_draws 14 = .ok (.ldc2_w 453, 3) := dk_20 1 197 (dk_at dksX6_draws_0 14 rfl rfl)
theorem dX6_draws_17 : decode cX6_draws 17 = .ok (.lrem, 1) := dk_113 (dk_at dksX6_draws_0 17 rfl rfl)
theorem dX6_draws_18 : decode cX6_draws 18 = .ok (.l2i, 1) := dk_136 (dk_at dksX6_draws_0 18 rfl rfl)
theorem dX6_draws_19 : decode cX6_draws 19 = .ok (.putfield 448, 3) := dk_181 1 192 (dk_at dksX6_draws_0 19 rfl rfl)
theorem dX6_draws_22 : decode cX6_draws 22 = .ok (.aload_n 0, 1) := dk_42 (dk_at dksX6_draws_0 22 rfl rfl)
theorem dX6_draws_23 : decode cX6_draws 23 = .ok (.getfield 448, 3) := dk_180 1 192 (dk_at dksX6_draws_1 0 rfl rfl)
theorem dX6_draws_26 : decode cX6_draws 26 = .ok (.iload_n 1, 1) := dk_27 (dk_at dksX6_draws_1 3 rfl rfl)
theorem dX6_draws_27 : decode cX6_draws 27 = .ok (.irem, 1) := dk_112 (dk_at dksX6_draws_1 4 rfl rfl)
theorem dX6_draws_28 : decode cX6_draws 28 = .ok (.ireturn, 1) := dk_172 (dk_at dksX6_draws_1 5 rfl rfl)
abbrev cX6_laysWorthsOf : ByteArray := prog_29_method_118_code
def yX6_laysWorthsOf : MethodName := ⟨RX6, "laysWorthsOf", "(III)V"⟩
def dkwX6_laysWorthsOf_4 : List UInt8 := [154, 0, 14, 42, 180, 0, 77, 21, 4, 5, 21, 5, 100, 79, 132, 4, 1, 167, 255, 146, 177]
abbrev dktX6_laysWorthsOf_4 : List UInt8 := dkwX6_laysWorthsOf_4 ++ []
def dkwX6_laysWorthsOf_3 : List UInt8 := [21, 5, 5, 162, 0, 35, 42, 21, 4, 21, 5, 42, 180, 0, 24, 16, 33, 46, 27, 96, 29, 182, 1, 59]
abbrev dktX6_laysWorthsOf_3 : List UInt8 := dkwX6_laysWorthsOf_3 ++ dktX6_laysWorthsOf_4
def dkwX6_laysWorthsOf_2 : List UInt8 := [180, 0, 24, 3, 21, 4, 96, 46, 6, 160, 0, 6, 167, 0, 50, 42, 21, 4, 28, 182, 1, 108, 54, 5]
abbrev dktX6_laysWorthsOf_2 : List UInt8 := dkwX6_laysWorthsOf_2 ++ dktX6_laysWorthsOf_3
def dkwX6_laysWorthsOf_1 : List UInt8 := [153, 0, 86, 28, 21, 4, 184, 1, 69, 154, 0, 77, 42, 180, 0, 68, 21, 4, 46, 27, 163, 0, 66, 42]
abbrev dktX6_laysWorthsOf_1 : List UInt8 := dkwX6_laysWorthsOf_1 ++ dktX6_laysWorthsOf_2
def dkwX6_laysWorthsOf_0 : List UInt8 := [3, 54, 4, 21, 4, 16, 10, 162, 0, 109, 42, 180, 0, 77, 21, 4, 3, 79, 42, 21, 4, 182, 0, 128]
abbrev dktX6_laysWorthsOf_0 : List UInt8 := dkwX6_laysWorthsOf_0 ++ dktX6_laysWorthsOf_1
theorem dksX6_laysWorthsOf_0 : cX6_laysWorthsOf.data.toList.drop 0 = dktX6_laysWorthsOf_0 := by decide +kernel
theorem dksX6_laysWorthsOf_1 : cX6_laysWorthsOf.data.toList.drop 24 = dktX6_laysWorthsOf_1 := dk_seg dksX6_laysWorthsOf_0 24 rfl rfl
theorem dksX6_laysWorthsOf_2 : cX6_laysWorthsOf.data.toList.drop 48 = dktX6_laysWorthsOf_2 := dk_seg dksX6_laysWorthsOf_1 24 rfl rfl
theorem dksX6_laysWorthsOf_3 : cX6_laysWorthsOf.data.toList.drop 72 = dktX6_laysWorthsOf_3 := dk_seg dksX6_laysWorthsOf_2 24 rfl rfl
theorem dksX6_laysWorthsOf_4 : cX6_laysWorthsOf.data.toList.drop 96 = dktX6_laysWorthsOf_4 := dk_seg dksX6_laysWorthsOf_3 24 rfl rfl
theorem dX6_laysWorthsOf_0 : decode cX6_laysWorthsOf 0 = .ok (.iconst 0, 1) := dk_3 (dk_at dksX6_laysWorthsOf_0 0 rfl rfl)
theorem dX6_laysWorthsOf_1 : decode cX6_laysWorthsOf 1 = .ok (.istore 4, 2) := dk_54 4 (dk_at dksX6_laysWorthsOf_0 1 rfl rfl)
theorem dX6_laysWorthsOf_3 : decode cX6_laysWorthsOf 3 = .ok (.iload 4, 2) := dk_21 4 (dk_at dksX6_laysWorthsOf_0 3 rfl rfl)
theorem dX6_laysWorthsOf_5 : decode cX6_laysWorthsOf 5 = .ok (.bipush 10, 2) := dk_16 10 (dk_at dksX6_laysWorthsOf_0 5 rfl rfl)
theorem dX6_laysWorthsOf_7 : decode cX6_laysWorthsOf 7 = .ok (.if_icmp .ge 109, 3) := dk_162 0 109 (dk_at dksX6_laysWorthsOf_0 7 rfl rfl)
theorem dX6_laysWorthsOf_10 : decode cX6_laysWorthsOf 10 = .ok (.aload_n 0, 1) := dk_42 (dk_at dksX6_laysWorthsOf_0 10 rfl rfl)
theorem dX6_laysWorthsOf_11 : decode cX6_laysWorthsOf 11 = .ok (.getfield 77, 3) := dk_180 0 77 (dk_at dksX6_laysWorthsOf_0 11 rfl rfl)
theorem dX6_laysWorthsOf_14 : decode cX6_laysWorthsOf 14 = .ok (.iload 4, 2) := dk_21 4 (dk_at dksX6_laysWorthsOf_0 14 rfl rfl)
theorem dX6_laysWorthsOf_16 : decode cX6_laysWorthsOf 16 = .ok (.iconst 0, 1) := dk_3 (dk_at dksX6_laysWorthsOf_0 16 rfl rfl)
theorem dX6_laysWorthsOf_17 : decode cX6_laysWorthsOf 17 = .ok (.iastore, 1) := dk_79 (dk_at dksX6_laysWorthsOf_0 17 rfl rfl)
theorem dX6_laysWorthsOf_18 : decode cX6_laysWorthsOf 18 = .ok (.aload_n 0, 1) := dk_42 (dk_at dksX6_laysWorthsOf_0 18 rfl rfl)
theorem dX6_laysWorthsOf_19 : decode cX6_laysWorthsOf 19 = .ok (.iload 4, 2) := dk_21 4 (dk_at dksX6_laysWorthsOf_0 19 rfl rfl)
theorem dX6_laysWorthsOf_21 : decode cX6_laysWorthsOf 21 = .ok (.invokevirtual 128, 3) := dk_182 0 128 (dk_at dksX6_laysWorthsOf_0 21 rfl rfl)
theorem dX6_laysWorthsOf_24 : decode cX6_laysWorthsOf 24 = .ok (.ifCond .eq 86, 3) := dk_153 0 86 (dk_at dksX6_laysWorthsOf_1 0 rfl rfl)
theorem dX6_laysWorthsOf_27 : decode cX6_laysWorthsOf 27 = .ok (.iload_n 2, 1) := dk_28 (dk_at dksX6_laysWorthsOf_1 3 rfl rfl)
theorem dX6_laysWorthsOf_28 : decode cX6_laysWorthsOf 28 = .ok (.iload 4, 2) := dk_21 4 (dk_at dksX6_laysWorthsOf_1 4 rfl rfl)
theorem dX6_laysWorthsOf_30 : decode cX6_laysWorthsOf 30 = .ok (.invokestatic 325, 3) := dk_184 1 69 (dk_at dksX6_laysWorthsOf_1 6 rfl rfl)
theorem dX6_laysWorthsOf_33 : decode cX6_laysWorthsOf 33 = .ok (.ifCond .ne 77, 3) := dk_154 0 77 (dk_at dksX6_laysWorthsOf_1 9 rfl rfl)
theorem dX6_laysWorthsOf_36 : decode cX6_laysWorthsOf 36 = .ok (.aload_n 0, 1) := dk_42 (dk_at dksX6_laysWorthsOf_1 12 rfl rfl)
theorem dX6_laysWorthsOf_37 : decode cX6_laysWorthsOf 37 = .ok (.getfield 68, 3) := dk_180 0 68 (dk_at dksX6_laysWorthsOf_1 13 rfl rfl)
theorem dX6_laysWorthsOf_40 : decode cX6_laysWorthsOf 40 = .ok (.iload 4, 2) := dk_21 4 (dk_at dksX6_laysWorthsOf_1 16 rfl rfl)
theorem dX6_laysWorthsOf_42 : decode cX6_laysWorthsOf 42 = .ok (.iaload, 1) := dk_46 (dk_at dksX6_laysWorthsOf_1 18 rfl rfl)
theorem dX6_laysWorthsOf_43 : decode cX6_laysWorthsOf 43 = .ok (.iload_n 1, 1) := dk_27 (dk_at dksX6_laysWorthsOf_1 19 rfl rfl)
theorem dX6_laysWorthsOf_44 : decode cX6_laysWorthsOf 44 = .ok (.if_icmp .gt 66, 3) := dk_163 0 66 (dk_at dksX6_laysWorthsOf_1 20 rfl rfl)
theorem dX6_laysWorthsOf_47 : decode cX6_laysWorthsOf 47 = .ok (.aload_n 0, 1) := dk_42 (dk_at dksX6_laysWorthsOf_1 23 rfl rfl)
theorem dX6_laysWorthsOf_48 : decode cX6_laysWorthsOf 48 = .ok (.getfield 24, 3) := dk_180 0 24 (dk_at dksX6_laysWorthsOf_2 0 rfl rfl)
theorem dX6_laysWorthsOf_51 : decode cX6_laysWorthsOf 51 = .ok (.iconst 0, 1) := dk_3 (dk_at dksX6_laysWorthsOf_2 3 rfl rfl)
theorem dX6_laysWorthsOf_52 : decode cX6_laysWorthsOf 52 = .ok (.iload 4, 2) := dk_21 4 (dk_at dksX6_laysWorthsOf_2 4 rfl rfl)
theorem dX6_laysWorthsOf_54 : decode cX6_laysWorthsOf 54 = .ok (.iadd, 1) := dk_96 (dk_at dksX6_laysWorthsOf_2 6 rfl rfl)
theorem dX6_laysWorthsOf_55 : decode cX6_laysWorthsOf 55 = .ok (.iaload, 1) := dk_46 (dk_at dksX6_laysWorthsOf_2 7 rfl rfl)
theorem dX6_laysWorthsOf_56 : decode cX6_laysWorthsOf 56 = .ok (.iconst 3, 1) := dk_6 (dk_at dksX6_laysWorthsOf_2 8 rfl rfl)
theorem dX6_laysWorthsOf_57 : decode cX6_laysWorthsOf 57 = .ok (.if_icmp .ne 6, 3) := dk_160 0 6 (dk_at dksX6_laysWorthsOf_2 9 rfl rfl)
theorem dX6_laysWorthsOf_60 : decode cX6_laysWorthsOf 60 = .ok (.goto 50, 3) := dk_167 0 50 (dk_at dksX6_laysWorthsOf_2 12 rfl rfl)
theorem dX6_laysWorthsOf_63 : decode cX6_laysWorthsOf 63 = .ok (.aload_n 0, 1) := dk_42 (dk_at dksX6_laysWorthsOf_2 15 rfl rfl)
theorem dX6_laysWorthsOf_64 : decode cX6_laysWorthsOf 64 = .ok (.iload 4, 2) := dk_21 4 (dk_at dksX6_laysWorthsOf_2 16 rfl rfl)
theorem dX6_laysWorthsOf_66 : decode cX6_laysWorthsOf 66 = .ok (.iload_n 2, 1) := dk_28 (dk_at dksX6_laysWorthsOf_2 18 rfl rfl)
theorem dX6_laysWorthsOf_67 : decode cX6_laysWorthsOf 67 = .ok (.invokevirtual 364, 3) := dk_182 1 108 (dk_at dksX6_laysWorthsOf_2 19 rfl rfl)
theorem dX6_laysWorthsOf_70 : decode cX6_laysWorthsOf 70 = .ok (.istore 5, 2) := dk_54 5 (dk_at dksX6_laysWorthsOf_2 22 rfl rfl)
theorem dX6_laysWorthsOf_72 : decode cX6_laysWorthsOf 72 = .ok (.iload 5, 2) := dk_21 5 (dk_at dksX6_laysWorthsOf_3 0 rfl rfl)
theorem dX6_laysWorthsOf_74 : decode cX6_laysWorthsOf 74 = .ok (.iconst 2, 1) := dk_5 (dk_at dksX6_laysWorthsOf_3 2 rfl rfl)
theorem dX6_laysWorthsOf_75 : decode cX6_laysWorthsOf 75 = .ok (.if_icmp .ge 35, 3) := dk_162 0 35 (dk_at dksX6_laysWorthsOf_3 3 rfl rfl)
theorem dX6_laysWorthsOf_78 : decode cX6_laysWorthsOf 78 = .ok (.aload_n 0, 1) := dk_42 (dk_at dksX6_laysWorthsOf_3 6 rfl rfl)
theorem dX6_laysWorthsOf_79 : decode cX6_laysWorthsOf 79 = .ok (.iload 4, 2) := dk_21 4 (dk_at dksX6_laysWorthsOf_3 7 rfl rfl)
theorem dX6_laysWorthsOf_81 : decode cX6_laysWorthsOf 81 = .ok (.iload 5, 2) := dk_21 5 (dk_at dksX6_laysWorthsOf_3 9 rfl rfl)
theorem dX6_laysWorthsOf_83 : decode cX6_laysWorthsOf 83 = .ok (.aload_n 0, 1) := dk_42 (dk_at dksX6_laysWorthsOf_3 11 rfl rfl)
theorem dX6_laysWorthsOf_84 : decode cX6_laysWorthsOf 84 = .ok (.getfield 24, 3) := dk_180 0 24 (dk_at dksX6_laysWorthsOf_3 12 rfl rfl)
theorem dX6_laysWorthsOf_87 : decode cX6_laysWorthsOf 87 = .ok (.bipush 33, 2) := dk_16 33 (dk_at dksX6_laysWorthsOf_3 15 rfl rfl)
theorem dX6_laysWorthsOf_89 : decode cX6_laysWorthsOf 89 = .ok (.iaload, 1) := dk_46 (dk_at dksX6_laysWorthsOf_3 17 rfl rfl)
theorem dX6_laysWorthsOf_90 : decode cX6_laysWorthsOf 90 = .ok (.iload_n 1, 1) := dk_27 (dk_at dksX6_laysWorthsOf_3 18 rfl rfl)
theorem dX6_laysWorthsOf_91 : decode cX6_laysWorthsOf 91 = .ok (.iadd, 1) := dk_96 (dk_at dksX6_laysWorthsOf_3 19 rfl rfl)
theorem dX6_laysWorthsOf_92 : decode cX6_laysWorthsOf 92 = .ok (.iload_n 3, 1) := dk_29 (dk_at dksX6_laysWorthsOf_3 20 rfl rfl)
theorem dX6_laysWorthsOf_93 : decode cX6_laysWorthsOf 93 = .ok (.invokevirtual 315, 3) := dk_182 1 59 (dk_at dksX6_laysWorthsOf_3 21 rfl rfl)
theorem dX6_laysWorthsOf_96 : decode cX6_laysWorthsOf 96 = .ok (.ifCond .ne 14, 3) := dk_154 0 14 (dk_at dksX6_laysWorthsOf_4 0 rfl rfl)
theorem dX6_laysWorthsOf_99 : decode cX6_laysWorthsOf 99 = .ok (.aload_n 0, 1) := dk_42 (dk_at dksX6_laysWorthsOf_4 3 rfl rfl)
theorem dX6_laysWorthsOf_100 : decode cX6_laysWorthsOf 100 = .ok (.getfield 77, 3) := dk_180 0 77 (dk_at dksX6_laysWorthsOf_4 4 rfl rfl)
theorem dX6_laysWorthsOf_103 : decode cX6_laysWorthsOf 103 = .ok (.iload 4, 2) := dk_21 4 (dk_at dksX6_laysWorthsOf_4 7 rfl rfl)
theorem dX6_laysWorthsOf_105 : decode cX6_laysWorthsOf 105 = .ok (.iconst 2, 1) := dk_5 (dk_at dksX6_laysWorthsOf_4 9 rfl rfl)
theorem dX6_laysWorthsOf_106 : decode cX6_laysWorthsOf 106 = .ok (.iload 5, 2) := dk_21 5 (dk_at dksX6_laysWorthsOf_4 10 rfl rfl)
theorem dX6_laysWorthsOf_108 : decode cX6_laysWorthsOf 108 = .ok (.isub, 1) := dk_100 (dk_at dksX6_laysWorthsOf_4 12 rfl rfl)
theorem dX6_laysWorthsOf_109 : decode cX6_laysWorthsOf 109 = .ok (.iastore, 1) := dk_79 (dk_at dksX6_laysWorthsOf_4 13 rfl rfl)
theorem dX6_laysWorthsOf_110 : decode cX6_laysWorthsOf 110 = .ok (.iinc 4 1, 3) := dk_132 4 1 (dk_at dksX6_laysWorthsOf_4 14 rfl rfl)
theorem dX6_laysWorthsOf_113 : decode cX6_laysWorthsOf 113 = .ok (.goto (-110), 3) := dk_167 255 146 (dk_at dksX6_laysWorthsOf_4 17 rfl rfl)
theorem dX6_laysWorthsOf_116 : decode cX6_laysWorthsOf 116 = .ok (.return_, 1) := dk_177 (dk_at dksX6_laysWorthsOf_4 20 rfl rfl)
abbrev cX6_drawn : ByteArray := prog_29_method_120_code
def yX6_drawn : MethodName := ⟨RX6, "drawn", "(I)I"⟩
def dkwX6_drawn_1 : List UInt8 := [172]
abbrev dktX6_drawn_1 : List UInt8 := dkwX6_drawn_1 ++ []
def dkwX6_drawn_0 : List UInt8 := [27, 3, 42, 180, 1, 199, 4, 100, 184, 0, 106, 153, 0, 12, 42, 180, 0, 103, 27, 46, 167, 0, 4, 2]
abbrev dktX6_drawn_0 : List UInt8 := dkwX6_drawn_0 ++ dktX6_drawn_1
theorem dksX6_drawn_0 : cX6_drawn.data.toList.drop 0 = dktX6_drawn_0 := by decide +kernel
theorem dksX6_drawn_1 : cX6_drawn.data.toList.drop 24 = dktX6_drawn_1 := dk_seg dksX6_drawn_0 24 rfl rfl
theorem dX6_drawn_0 : decode cX6_drawn 0 = .ok (.iload_n 1, 1) := dk_27 (dk_at dksX6_drawn_0 0 rfl rfl)
theorem dX6_drawn_1 : decode cX6_drawn 1 = .ok (.iconst 0, 1) := dk_3 (dk_at dksX6_drawn_0 1 rfl rfl)
theorem dX6_drawn_2 : decode cX6_drawn 2 = .ok (.aload_n 0, 1) := dk_42 (dk_at dksX6_drawn_0 2 rfl rfl)
theorem dX6_drawn_3 : decode cX6_drawn 3 = .ok (.getfield 455, 3) := dk_180 1 199 (dk_at dksX6_drawn_0 3 rfl rfl)
theorem dX6_drawn_6 : decode cX6_drawn 6 = .ok (.iconst 1, 1) := dk_4 (dk_at dksX6_drawn_0 6 rfl rfl)
theorem dX6_drawn_7 : decode cX6_drawn 7 = .ok (.isub, 1) := dk_100 (dk_at dksX6_drawn_0 7 rfl rfl)
theorem dX6_drawn_8 : decode cX6_drawn 8 = .ok (.invokestatic 106, 3) := dk_184 0 106 (dk_at dksX6_drawn_0 8 rfl rfl)
theorem dX6_drawn_11 : decode cX6_drawn 11 = .ok (.ifCond .eq 12, 3) := dk_153 0 12 (dk_at dksX6_drawn_0 11 rfl rfl)
theorem dX6_drawn_14 : decode cX6_drawn 14 = .ok (.aload_n 0, 1) := dk_42 (dk_at dksX6_drawn_0 14 rfl rfl)
theorem dX6_drawn_15 : decode cX6_drawn 15 = .ok (.getfield 103, 3) := dk_180 0 103 (dk_at dksX6_drawn_0 15 rfl rfl)
theorem dX6_drawn_18 : decode cX6_drawn 18 = .ok (.iload_n 1, 1) := dk_27 (dk_at dksX6_drawn_0 18 rfl rfl)
theorem dX6_drawn_19 : decode cX6_drawn 19 = .ok (.iaload, 1) := dk_46 (dk_at dksX6_drawn_0 19 rfl rfl)
theorem dX6_drawn_20 : decode cX6_drawn 20 = .ok (.goto 4, 3) := dk_167 0 4 (dk_at dksX6_drawn_0 20 rfl rfl)
theorem dX6_drawn_23 : decode cX6_drawn 23 = .ok (.iconst (-1), 1) := dk_2 (dk_at dksX6_drawn_0 23 rfl rfl)
theorem dX6_drawn_24 : decode cX6_drawn 24 = .ok (.ireturn, 1) := dk_172 (dk_at dksX6_drawn_1 0 rfl rfl)
abbrev cX6_count : ByteArray := prog_29_method_121_code
def yX6_count : MethodName := ⟨RX6, "count", "(I)I"⟩
def dkwX6_count_8 : List UInt8 := [42, 180, 0, 24, 17, 0, 254, 27, 96, 16, 15, 100, 46, 172, 2, 172]
abbrev dktX6_count_8 : List UInt8 := dkwX6_count_8 ++ []
def dkwX6_count_7 : List UInt8 := [180, 0, 7, 16, 6, 46, 172, 42, 180, 0, 24, 17, 1, 2, 46, 172, 42, 180, 0, 24, 16, 33, 46, 172]
abbrev dktX6_count_7 : List UInt8 := dkwX6_count_7 ++ dktX6_count_8
def dkwX6_count_6 : List UInt8 := [180, 0, 141, 172, 42, 180, 0, 7, 27, 16, 7, 100, 46, 172, 42, 180, 0, 7, 8, 46, 172, 42]
abbrev dktX6_count_6 : List UInt8 := dkwX6_count_6 ++ dktX6_count_7
def dkwX6_count_5 : List UInt8 := [180, 0, 24, 16, 32, 46, 172, 42, 180, 0, 24, 17, 1, 1, 46, 172, 42, 180, 0, 11, 172, 42]
abbrev dktX6_count_5 : List UInt8 := dkwX6_count_5 ++ dktX6_count_6
def dkwX6_count_4 : List UInt8 := [42, 182, 0, 116, 172, 28, 172, 42, 180, 0, 24, 16, 30, 46, 172, 42, 180, 0, 24, 16, 31, 46, 172, 42]
abbrev dktX6_count_4 : List UInt8 := dkwX6_count_4 ++ dktX6_count_5
def dkwX6_count_3 : List UInt8 := [170, 0, 0, 0, 0, 0, 0, 190, 0, 0, 0, 0, 0, 0, 0, 16, 0, 0, 0, 84, 0, 0, 0, 89, 0, 0, 0, 91, 0, 0, 0, 99, 0, 0, 0, 107, 0, 0, 0, 115, 0, 0, 0, 124, 0, 0, 0, 129, 0, 0, 0, 134, 0, 0, 0, 134, 0, 0, 0, 134, 0, 0, 0, 144, 0, 0, 0, 151, 0, 0, 0, 159, 0, 0, 0, 168, 0, 0, 0, 176, 0, 0, 0, 176]
abbrev dktX6_count_3 : List UInt8 := dkwX6_count_3 ++ dktX6_count_4
def dkwX6_count_2 : List UInt8 := [167, 255, 212, 27]
abbrev dktX6_count_2 : List UInt8 := dkwX6_count_2 ++ dktX6_count_3
def dkwX6_count_1 : List UInt8 := [21, 4, 182, 1, 78, 153, 0, 7, 4, 167, 0, 4, 3, 96, 61, 132, 4, 1, 167, 255, 229, 132, 3, 1]
abbrev dktX6_count_1 : List UInt8 := dkwX6_count_1 ++ dktX6_count_2
def dkwX6_count_0 : List UInt8 := [3, 61, 3, 62, 29, 42, 182, 0, 116, 162, 0, 42, 3, 54, 4, 21, 4, 29, 162, 0, 27, 28, 42, 29]
abbrev dktX6_count_0 : List UInt8 := dkwX6_count_0 ++ dktX6_count_1
theorem dksX6_count_0 : cX6_count.data.toList.drop 0 = dktX6_count_0 := by decide +kernel
theorem dksX6_count_1 : cX6_count.data.toList.drop 24 = dktX6_count_1 := dk_seg dksX6_count_0 24 rfl rfl
theorem dksX6_count_2 : cX6_count.data.toList.drop 48 = dktX6_count_2 := dk_seg dksX6_count_1 24 rfl rfl
theorem dksX6_count_3 : cX6_count.data.toList.drop 52 = dktX6_count_3 := dk_seg dksX6_count_2 4 rfl rfl
theorem dksX6_count_4 : cX6_count.data.toList.drop 136 = dktX6_count_4 := dk_seg dksX6_count_3 84 rfl rfl
theorem dksX6_count_5 : cX6_count.data.toList.drop 160 = dktX6_count_5 := dk_seg dksX6_count_4 24 rfl rfl
theorem dksX6_count_6 : cX6_count.data.toList.drop 182 = dktX6_count_6 := dk_seg dksX6_count_5 22 rfl rfl
theorem dksX6_count_7 : cX6_count.data.toList.drop 204 = dktX6_count_7 := dk_seg dksX6_count_6 22 rfl rfl
theorem dksX6_count_8 : cX6_count.data.toList.drop 228 = dktX6_count_8 := dk_seg dksX6_count_7 24 rfl rfl
theorem dX6_count_0 : decode cX6_count 0 = .ok (.iconst 0, 1) := dk_3 (dk_at dksX6_count_0 0 rfl rfl)
theorem dX6_count_1 : decode cX6_count 1 = .ok (.istore_n 2, 1) := dk_61 (dk_at dksX6_count_0 1 rfl rfl)
theorem dX6_count_2 : decode cX6_count 2 = .ok (.iconst 0, 1) := dk_3 (dk_at dksX6_count_0 2 rfl rfl)
theorem dX6_count_3 : decode cX6_count 3 = .ok (.istore_n 3, 1) := dk_62 (dk_at dksX6_count_0 3 rfl rfl)
theorem dX6_count_4 : decode cX6_count 4 = .ok (.iload_n 3, 1) := dk_29 (dk_at dksX6_count_0 4 rfl rfl)
theorem dX6_count_5 : decode cX6_count 5 = .ok (.aload_n 0, 1) := dk_42 (dk_at dksX6_count_0 5 rfl rfl)
theorem dX6_count_6 : decode cX6_count 6 = .ok (.invokevirtual 116, 3) := dk_182 0 116 (dk_at dksX6_count_0 6 rfl rfl)
theorem dX6_count_9 : decode cX6_count 9 = .ok (.if_icmp .ge 42, 3) := dk_162 0 42 (dk_at dksX6_count_0 9 rfl rfl)
theorem dX6_count_12 : decode cX6_count 12 = .ok (.iconst 0, 1) := dk_3 (dk_at dksX6_count_0 12 rfl rfl)
theorem dX6_count_13 : decode cX6_count 13 = .ok (.istore 4, 2) := dk_54 4 (dk_at dksX6_count_0 13 rfl rfl)
theorem dX6_count_15 : decode cX6_count 15 = .ok (.iload 4, 2) := dk_21 4 (dk_at dksX6_count_0 15 rfl rfl)
theorem dX6_count_17 : decode cX6_count 17 = .ok (.iload_n 3, 1) := dk_29 (dk_at dksX6_count_0 17 rfl rfl)
theorem dX6_count_18 : decode cX6_count 18 = .ok (.if_icmp .ge 27, 3) := dk_162 0 27 (dk_at dksX6_count_0 18 rfl rfl)
theorem dX6_count_21 : decode cX6_count 21 = .ok (.iload_n 2, 1) := dk_28 (dk_at dksX6_count_0 21 rfl rfl)
theorem dX6_count_22 : decode cX6_count 22 = .ok (.aload_n 0, 1) := dk_42 (dk_at dksX6_count_0 22 rfl rfl)
theorem dX6_count_23 : decode cX6_count 23 = .ok (.iload_n 3, 1) := dk_29 (dk_at dksX6_count_0 23 rfl rfl)
theorem dX6_count_24 : decode cX6_count 24 = .ok (.iload 4, 2) := dk_21 4 (dk_at dksX6_count_1 0 rfl rfl)
theorem dX6_count_26 : decode cX6_count 26 = .ok (.invokevirtual 334, 3) := dk_182 1 78 (dk_at dksX6_count_1 2 rfl rfl)
theorem dX6_count_29 : decode cX6_count 29 = .ok (.ifCond .eq 7, 3) := dk_153 0 7 (dk_at dksX6_count_1 5 rfl rfl)
theorem dX6_count_32 : decode cX6_count 32 = .ok (.iconst 1, 1) := dk_4 (dk_at dksX6_count_1 8 rfl rfl)
theorem dX6_count_33 : decode cX6_count 33 = .ok (.goto 4, 3) := dk_167 0 4 (dk_at dksX6_count_1 9 rfl rfl)
theorem dX6_count_36 : decode cX6_count 36 = .ok (.iconst 0, 1) := dk_3 (dk_at dksX6_count_1 12 rfl rfl)
theorem dX6_count_37 : decode cX6_count 37 = .ok (.iadd, 1) := dk_96 (dk_at dksX6_count_1 13 rfl rfl)
theorem dX6_count_38 : decode cX6_count 38 = .ok (.istore_n 2, 1) := dk_61 (dk_at dksX6_count_1 14 rfl rfl)
theorem dX6_count_39 : decode cX6_count 39 = .ok (.iinc 4 1, 3) := dk_132 4 1 (dk_at dksX6_count_1 15 rfl rfl)
theorem dX6_count_42 : decode cX6_count 42 = .ok (.goto (-27), 3) := dk_167 255 229 (dk_at dksX6_count_1 18 rfl rfl)
theorem dX6_count_45 : decode cX6_count 45 = .ok (.iinc 3 1, 3) := dk_132 3 1 (dk_at dksX6_count_1 21 rfl rfl)
theorem dX6_count_48 : decode cX6_count 48 = .ok (.goto (-44), 3) := dk_167 255 212 (dk_at dksX6_count_2 0 rfl rfl)
theorem dX6_count_51 : decode cX6_count 51 = .ok (.iload_n 1, 1) := dk_27 (dk_at dksX6_count_2 3 rfl rfl)
theorem dX6_count_52 : decode cX6_count 52 = .ok (.tableswitch 190 0 16 #[84, 89, 91, 99, 107, 115, 124, 129, 134, 134, 134, 144, 151, 159, 168, 176, 176], 84) := by decide +kernel
theorem dX6_count_136 : decode cX6_count 136 = .ok (.aload_n 0, 1) := dk_42 (dk_at dksX6_count_4 0 rfl rfl)
theorem dX6_count_137 : decode cX6_count 137 = .ok (.invokevirtual 116, 3) := dk_182 0 116 (dk_at dksX6_count_4 1 rfl rfl)
theorem dX6_count_140 : decode cX6_count 140 = .ok (.ireturn, 1) := dk_172 (dk_at dksX6_count_4 4 rfl rfl)
theorem dX6_count_141 : decode cX6_count 141 = .ok (.iload_n 2, 1) := dk_28 (dk_at dksX6_count_4 5 rfl rfl)
theorem dX6_count_142 : decode cX6_count 142 = .ok (.ireturn, 1) := dk_172 (dk_at dksX6_count_4 6 rfl rfl)
theorem dX6_count_143 : decode cX6_count 143 = .ok (.aload_n 0, 1) := dk_42 (dk_at dksX6_count_4 7 rfl rfl)
theorem dX6_count_144 : decode cX6_count 144 = .ok (.getfield 24, 3) := dk_180 0 24 (dk_at dksX6_count_4 8 rfl rfl)
theorem dX6_count_147 : decode cX6_count 147 = .ok (.bipush 30, 2) := dk_16 30 (dk_at dksX6_count_4 11 rfl rfl)
theorem dX6_count_149 : decode cX6_count 149 = .ok (.iaload, 1) := dk_46 (dk_at dksX6_count_4 13 rfl rfl)
theorem dX6_count_150 : decode cX6_count 150 = .ok (.ireturn, 1) := dk_172 (dk_at dksX6_count_4 14 rfl rfl)
theorem dX6_count_151 : decode cX6_count 151 = .ok (.aload_n 0, 1) := dk_42 (dk_at dksX6_count_4 15 rfl rfl)
theorem dX6_count_152 : decode cX6_count 152 = .ok (.getfield 24, 3) := dk_180 0 24 (dk_at dksX6_count_4 16 rfl rfl)
theorem dX6_count_155 : decode cX6_count 155 = .ok (.bipush 31, 2) := dk_16 31 (dk_at dksX6_count_4 19 rfl rfl)
theorem dX6_count_157 : decode cX6_count 157 = .ok (.iaload, 1) := dk_46 (dk_at dksX6_count_4 21 rfl rfl)
theorem dX6_count_158 : decode cX6_count 158 = .ok (.ireturn, 1) := dk_172 (dk_at dksX6_count_4 22 rfl rfl)
theorem dX6_count_159 : decode cX6_count 159 = .ok (.aload_n 0, 1) := dk_42 (dk_at dksX6_count_4 23 rfl rfl)
theorem dX6_count_160 : decode cX6_count 160 = .ok (.getfield 24, 3) := dk_180 0 24 (dk_at dksX6_count_5 0 rfl rfl)
theorem dX6_count_163 : decode cX6_count 163 = .ok (.bipush 32, 2) := dk_16 32 (dk_at dksX6_count_5 3 rfl rfl)
theorem dX6_count_165 : decode cX6_count 165 = .ok (.iaload, 1) := dk_46 (dk_at dksX6_count_5 5 rfl rfl)
theorem dX6_count_166 : decode cX6_count 166 = .ok (.ireturn, 1) := dk_172 (dk_at dksX6_count_5 6 rfl rfl)
theorem dX6_count_167 : decode cX6_count 167 = .ok (.aload_n 0, 1) := dk_42 (dk_at dksX6_count_5 7 rfl rfl)
theorem dX6_count_168 : decode cX6_count 168 = .ok (.getfield 24, 3) := dk_180 0 24 (dk_at dksX6_count_5 8 rfl rfl)
theorem dX6_count_171 : decode cX6_count 171 = .ok (.sipush 257, 3) := dk_17 1 1 (dk_at dksX6_count_5 11 rfl rfl)
theorem dX6_count_174 : decode cX6_count 174 = .ok (.iaload, 1) := dk_46 (dk_at dksX6_count_5 14 rfl rfl)
theorem dX6_count_175 : decode cX6_count 175 = .ok (.ireturn, 1) := dk_172 (dk_at dksX6_count_5 15 rfl rfl)
theorem dX6_count_176 : decode cX6_count 176 = .ok (.aload_n 0, 1) := dk_42 (dk_at dksX6_count_5 16 rfl rfl)
theorem dX6_count_177 : decode cX6_count 177 = .ok (.getfield 11, 3) := dk_180 0 11 (dk_at dksX6_count_5 17 rfl rfl)
theorem dX6_count_180 : decode cX6_count 180 = .ok (.ireturn, 1) := dk_172 (dk_at dksX6_count_5 20 rfl rfl)
theorem dX6_count_181 : decode cX6_count 181 = .ok (.aload_n 0, 1) := dk_42 (dk_at dksX6_count_5 21 rfl rfl)
theorem dX6_count_182 : decode cX6_count 182 = .ok (.getfield 141, 3) := dk_180 0 141 (dk_at dksX6_count_6 0 rfl rfl)
theorem dX6_count_185 : decode cX6_count 185 = .ok (.ireturn, 1) := dk_172 (dk_at dksX6_count_6 3 rfl rfl)
theorem dX6_count_186 : decode cX6_count 186 = .ok (.aload_n 0, 1) := dk_42 (dk_at dksX6_count_6 4 rfl rfl)
theorem dX6_count_187 : decode cX6_count 187 = .ok (.getfield 7, 3) := dk_180 0 7 (dk_at dksX6_count_6 5 rfl rfl)
theorem dX6_count_190 : decode cX6_count 190 = .ok (.iload_n 1, 1) := dk_27 (dk_at dksX6_count_6 8 rfl rfl)
theorem dX6_count_191 : decode cX6_count 191 = .ok (.bipush 7, 2) := dk_16 7 (dk_at dksX6_count_6 9 rfl rfl)
theorem dX6_count_193 : decode cX6_count 193 = .ok (.isub, 1) := dk_100 (dk_at dksX6_count_6 11 rfl rfl)
theorem dX6_count_194 : decode cX6_count 194 = .ok (.iaload, 1) := dk_46 (dk_at dksX6_count_6 12 rfl rfl)
theorem dX6_count_195 : decode cX6_count 195 = .ok (.ireturn, 1) := dk_172 (dk_at dksX6_count_6 13 rfl rfl)
theorem dX6_count_196 : decode cX6_count 196 = .ok (.aload_n 0, 1) := dk_42 (dk_at dksX6_count_6 14 rfl rfl)
theorem dX6_count_197 : decode cX6_count 197 = .ok (.getfield 7, 3) := dk_180 0 7 (dk_at dksX6_count_6 15 rfl rfl)
theorem dX6_count_200 : decode cX6_count 200 = .ok (.iconst 5, 1) := dk_8 (dk_at dksX6_count_6 18 rfl rfl)
theorem dX6_count_201 : decode cX6_count 201 = .ok (.iaload, 1) := dk_46 (dk_at dksX6_count_6 19 rfl rfl)
theorem dX6_count_202 : decode cX6_count 202 = .ok (.ireturn, 1) := dk_172 (dk_at dksX6_count_6 20 rfl rfl)
theorem dX6_count_203 : decode cX6_count 203 = .ok (.aload_n 0, 1) := dk_42 (dk_at dksX6_count_6 21 rfl rfl)
theorem dX6_count_204 : decode cX6_count 204 = .ok (.getfield 7, 3) := dk_180 0 7 (dk_at dksX6_count_7 0 rfl rfl)
theorem dX6_count_207 : decode cX6_count 207 = .ok (.bipush 6, 2) := dk_16 6 (dk_at dksX6_count_7 3 rfl rfl)
theorem dX6_count_209 : decode cX6_count 209 = .ok (.iaload, 1) := dk_46 (dk_at dksX6_count_7 5 rfl rfl)
theorem dX6_count_210 : decode cX6_count 210 = .ok (.ireturn, 1) := dk_172 (dk_at dksX6_count_7 6 rfl rfl)
theorem dX6_count_211 : decode cX6_count 211 = .ok (.aload_n 0, 1) := dk_42 (dk_at dksX6_count_7 7 rfl rfl)
theorem dX6_count_212 : decode cX6_count 212 = .ok (.getfield 24, 3) := dk_180 0 24 (dk_at dksX6_count_7 8 rfl rfl)
theorem dX6_count_215 : decode cX6_count 215 = .ok (.sipush 258, 3) := dk_17 1 2 (dk_at dksX6_count_7 11 rfl rfl)
theorem dX6_count_218 : decode cX6_count 218 = .ok (.iaload, 1) := dk_46 (dk_at dksX6_count_7 14 rfl rfl)
theorem dX6_count_219 : decode cX6_count 219 = .ok (.ireturn, 1) := dk_172 (dk_at dksX6_count_7 15 rfl rfl)
theorem dX6_count_220 : decode cX6_count 220 = .ok (.aload_n 0, 1) := dk_42 (dk_at dksX6_count_7 16 rfl rfl)
theorem dX6_count_221 : decode cX6_count 221 = .ok (.getfield 24, 3) := dk_180 0 24 (dk_at dksX6_count_7 17 rfl rfl)
theorem dX6_count_224 : decode cX6_count 224 = .ok (.bipush 33, 2) := dk_16 33 (dk_at dksX6_count_7 20 rfl rfl)
theorem dX6_count_226 : decode cX6_count 226 = .ok (.iaload, 1) := dk_46 (dk_at dksX6_count_7 22 rfl rfl)
theorem dX6_count_227 : decode cX6_count 227 = .ok (.ireturn, 1) := dk_172 (dk_at dksX6_count_7 23 rfl rfl)
theorem dX6_count_228 : decode cX6_count 228 = .ok (.aload_n 0, 1) := dk_42 (dk_at dksX6_count_8 0 rfl rfl)
theorem dX6_count_229 : decode cX6_count 229 = .ok (.getfield 24, 3) := dk_180 0 24 (dk_at dksX6_count_8 1 rfl rfl)
theorem dX6_count_232 : decode cX6_count 232 = .ok (.sipush 254, 3) := dk_17 0 254 (dk_at dksX6_count_8 4 rfl rfl)
theorem dX6_count_235 : decode cX6_count 235 = .ok (.iload_n 1, 1) := dk_27 (dk_at dksX6_count_8 7 rfl rfl)
theorem dX6_count_236 : decode cX6_count 236 = .ok (.iadd, 1) := dk_96 (dk_at dksX6_count_8 8 rfl rfl)
theorem dX6_count_237 : decode cX6_count 237 = .ok (.bipush 15, 2) := dk_16 15 (dk_at dksX6_count_8 9 rfl rfl)
theorem dX6_count_239 : decode cX6_count 239 = .ok (.isub, 1) := dk_100 (dk_at dksX6_count_8 11 rfl rfl)
theorem dX6_count_240 : decode cX6_count 240 = .ok (.iaload, 1) := dk_46 (dk_at dksX6_count_8 12 rfl rfl)
theorem dX6_count_241 : decode cX6_count 241 = .ok (.ireturn, 1) := dk_172 (dk_at dksX6_count_8 13 rfl rfl)
theorem dX6_count_242 : decode cX6_count 242 = .ok (.iconst (-1), 1) := dk_2 (dk_at dksX6_count_8 14 rfl rfl)
theorem dX6_count_243 : decode cX6_count 243 = .ok (.ireturn, 1) := dk_172 (dk_at dksX6_count_8 15 rfl rfl)
abbrev cX6_status : ByteArray := prog_29_method_122_code
def yX6_status : MethodName := ⟨RX6, "status", "()I"⟩
theorem dX6_status_0 : decode cX6_status 0 = .ok (.aload_n 0, 1) := by decide +kernel
theorem dX6_status_1 : decode cX6_status 1 = .ok (.getfield 3, 3) := by decide +kernel
theorem dX6_status_4 : decode cX6_status 4 = .ok (.ireturn, 1) := by decide +kernel
theorem q128 : (Jvm.Cond.initialized "LitStrangersModel") ∈ lw_all := lw_g (lw_at lw_m1 10 rfl) rfl
theorem q539 : (Jvm.Cond.selects "LitStrangersModel" ({ cls := "java/lang/Object", name := "getClass", desc := "()Ljava/lang/Class;" } : Jvm.MethodName) ({ cls := "java/lang/Object", name := "getClass", desc := "()Ljava/lang/Class;" } : Jvm.MethodName)) ∈ lw_all := lw_g (lw_at lw_m2 181 rfl) rfl
theorem q1745 : (Jvm.Cond.instantiable "LitStrangersModel" (52 : Nat)) ∈ lw_all := lw_g (lw_at lw_m7 187 rfl) rfl
theorem q1747 : (Jvm.Cond.instanceMethod ({ cls := "LitStrangersModel", name := "<init>", desc := "()V" } : Jvm.MethodName)) ∈ lw_all := lw_g (lw_at lw_m7 189 rfl) rfl
theorem q1748 : (Jvm.Cond.code ({ cls := "LitStrangersModel", name := "<init>", desc := "()V" } : Jvm.MethodName) prog_29_method_8_code (1 : Nat) (Option.none : Option Jvm.ClassFile.FieldType)) ∈ lw_all := lw_g (lw_at lw_m7 190 rfl) rfl
theorem q1749 : (Jvm.Cond.methodLink "LitStrangersModel" (18 : Nat) ({ cls := "java/lang/Object", name := "<init>", desc := "()V" } : Jvm.MethodName)) ∈ lw_all := lw_g (lw_at lw_m7 191 rfl) rfl
theorem q1750 : (Jvm.Cond.constant "LitStrangersModel" (96 : Nat) (180224 : Int32)) ∈ lw_all := lw_g (lw_at lw_m7 192 rfl) rfl
theorem q1751 : (Jvm.Cond.fieldLink "LitStrangersModel" (3 : Nat) "LitStrangersModel" "status" "I") ∈ lw_all := lw_g (lw_at lw_m7 193 rfl) rfl
theorem q1752 : (Jvm.Cond.fieldLink "LitStrangersModel" (7 : Nat) "LitStrangersModel" "refused" "[I") ∈ lw_all := lw_g (lw_at lw_m7 194 rfl) rfl
theorem q1753 : (Jvm.Cond.fieldLink "LitStrangersModel" (24 : Nat) "LitStrangersModel" "kept" "[I") ∈ lw_all := lw_g (lw_at lw_m7 195 rfl) rfl
theorem q1754 : (Jvm.Cond.fieldLink "LitStrangersModel" (27 : Nat) "LitStrangersModel" "images" "[I") ∈ lw_all := lw_g (lw_at lw_m7 196 rfl) rfl
theorem q1755 : (Jvm.Cond.fieldLink "LitStrangersModel" (30 : Nat) "LitStrangersModel" "hasImage" "[Z") ∈ lw_all := lw_g (lw_at lw_m7 197 rfl) rfl
theorem q1756 : (Jvm.Cond.fieldLink "LitStrangersModel" (34 : Nat) "LitStrangersModel" "ahead" "[I") ∈ lw_all := lw_g (lw_at lw_m7 198 rfl) rfl
theorem q1757 : (Jvm.Cond.fieldLink "LitStrangersModel" (144 : Nat) "LitStrangersModel" "salt0" "I") ∈ lw_all := lw_g (lw_at lw_m7 199 rfl) rfl
theorem q1758 : (Jvm.Cond.fieldLink "LitStrangersModel" (37 : Nat) "LitStrangersModel" "words" "[B") ∈ lw_all := lw_g (lw_at lw_m7 200 rfl) rfl
theorem q1759 : (Jvm.Cond.fieldLink "LitStrangersModel" (220 : Nat) "LitStrangersModel" "firstWord" "I") ∈ lw_all := lw_g (lw_at lw_m7 201 rfl) rfl
theorem q1760 : (Jvm.Cond.fieldLink "LitStrangersModel" (223 : Nat) "LitStrangersModel" "lastWord" "I") ∈ lw_all := lw_g (lw_at lw_m7 202 rfl) rfl
theorem q1761 : (Jvm.Cond.fieldLink "LitStrangersModel" (194 : Nat) "LitStrangersModel" "isOrders" "Z") ∈ lw_all := lw_g (lw_at lw_m7 203 rfl) rfl
theorem q1762 : (Jvm.Cond.fieldLink "LitStrangersModel" (41 : Nat) "LitStrangersModel" "tape" "[B") ∈ lw_all := lw_g (lw_at lw_m7 204 rfl) rfl
theorem q1763 : (Jvm.Cond.fieldLink "LitStrangersModel" (44 : Nat) "LitStrangersModel" "five" "[I") ∈ lw_all := lw_g (lw_at lw_m7 205 rfl) rfl
theorem q1764 : (Jvm.Cond.fieldLink "LitStrangersModel" (141 : Nat) "LitStrangersModel" "taped" "I") ∈ lw_all := lw_g (lw_at lw_m7 206 rfl) rfl
theorem q1765 : (Jvm.Cond.fieldLink "LitStrangersModel" (47 : Nat) "LitStrangersModel" "fault" "I") ∈ lw_all := lw_g (lw_at lw_m7 207 rfl) rfl
theorem q1766 : (Jvm.Cond.fieldLink "LitStrangersModel" (50 : Nat) "LitStrangersModel" "code" "[I") ∈ lw_all := lw_g (lw_at lw_m7 208 rfl) rfl
theorem q1767 : (Jvm.Cond.fieldLink "LitStrangersModel" (53 : Nat) "LitStrangersModel" "value" "[I") ∈ lw_all := lw_g (lw_at lw_m7 209 rfl) rfl
theorem q1768 : (Jvm.Cond.fieldLink "LitStrangersModel" (56 : Nat) "LitStrangersModel" "placed" "[I") ∈ lw_all := lw_g (lw_at lw_m7 210 rfl) rfl
theorem q1769 : (Jvm.Cond.fieldLink "LitStrangersModel" (147 : Nat) "LitStrangersModel" "tokens" "I") ∈ lw_all := lw_g (lw_at lw_m7 211 rfl) rfl
theorem q1770 : (Jvm.Cond.fieldLink "LitStrangersModel" (168 : Nat) "LitStrangersModel" "token" "I") ∈ lw_all := lw_g (lw_at lw_m7 212 rfl) rfl
theorem q1771 : (Jvm.Cond.fieldLink "LitStrangersModel" (177 : Nat) "LitStrangersModel" "leaves" "I") ∈ lw_all := lw_g (lw_at lw_m7 213 rfl) rfl
theorem q1772 : (Jvm.Cond.fieldLink "LitStrangersModel" (161 : Nat) "LitStrangersModel" "bad" "I") ∈ lw_all := lw_g (lw_at lw_m7 214 rfl) rfl
theorem q1773 : (Jvm.Cond.fieldLink "LitStrangersModel" (248 : Nat) "LitStrangersModel" "go" "I") ∈ lw_all := lw_g (lw_at lw_m7 215 rfl) rfl
theorem q1774 : (Jvm.Cond.fieldLink "LitStrangersModel" (245 : Nat) "LitStrangersModel" "goEnd" "I") ∈ lw_all := lw_g (lw_at lw_m7 216 rfl) rfl
theorem q1775 : (Jvm.Cond.fieldLink "LitStrangersModel" (258 : Nat) "LitStrangersModel" "broken" "Z") ∈ lw_all := lw_g (lw_at lw_m7 217 rfl) rfl
theorem q1776 : (Jvm.Cond.fieldLink "LitStrangersModel" (59 : Nat) "LitStrangersModel" "asked" "[I") ∈ lw_all := lw_g (lw_at lw_m7 218 rfl) rfl
theorem q1777 : (Jvm.Cond.fieldLink "LitStrangersModel" (62 : Nat) "LitStrangersModel" "left" "[I") ∈ lw_all := lw_g (lw_at lw_m7 219 rfl) rfl
theorem q1778 : (Jvm.Cond.fieldLink "LitStrangersModel" (65 : Nat) "LitStrangersModel" "leftAhead" "[I") ∈ lw_all := lw_g (lw_at lw_m7 220 rfl) rfl
theorem q1779 : (Jvm.Cond.fieldLink "LitStrangersModel" (11 : Nat) "LitStrangersModel" "undoMany" "I") ∈ lw_all := lw_g (lw_at lw_m7 221 rfl) rfl
theorem q1780 : (Jvm.Cond.fieldLink "LitStrangersModel" (68 : Nat) "LitStrangersModel" "comes" "[I") ∈ lw_all := lw_g (lw_at lw_m7 222 rfl) rfl
theorem q1781 : (Jvm.Cond.fieldLink "LitStrangersModel" (71 : Nat) "LitStrangersModel" "spoils" "[I") ∈ lw_all := lw_g (lw_at lw_m7 223 rfl) rfl
theorem q1782 : (Jvm.Cond.fieldLink "LitStrangersModel" (74 : Nat) "LitStrangersModel" "barred" "[B") ∈ lw_all := lw_g (lw_at lw_m7 224 rfl) rfl
theorem q1783 : (Jvm.Cond.fieldLink "LitStrangersModel" (77 : Nat) "LitStrangersModel" "worths" "[I") ∈ lw_all := lw_g (lw_at lw_m7 225 rfl) rfl
theorem q1784 : (Jvm.Cond.fieldLink "LitStrangersModel" (80 : Nat) "LitStrangersModel" "longest" "[B") ∈ lw_all := lw_g (lw_at lw_m7 226 rfl) rfl
theorem q1785 : (Jvm.Cond.fieldLink "LitStrangersModel" (355 : Nat) "LitStrangersModel" "away" "I") ∈ lw_all := lw_g (lw_at lw_m7 227 rfl) rfl
theorem q1786 : (Jvm.Cond.fieldLink "LitStrangersModel" (358 : Nat) "LitStrangersModel" "hushed" "I") ∈ lw_all := lw_g (lw_at lw_m7 228 rfl) rfl
theorem q1787 : (Jvm.Cond.fieldLink "LitStrangersModel" (83 : Nat) "LitStrangersModel" "cheapest" "[I") ∈ lw_all := lw_g (lw_at lw_m7 229 rfl) rfl
theorem q1788 : (Jvm.Cond.fieldLink "LitStrangersModel" (86 : Nat) "LitStrangersModel" "rows" "[J") ∈ lw_all := lw_g (lw_at lw_m7 230 rfl) rfl
theorem q1789 : (Jvm.Cond.fieldLink "LitStrangersModel" (90 : Nat) "LitStrangersModel" "prices" "[I") ∈ lw_all := lw_g (lw_at lw_m7 231 rfl) rfl
theorem q1790 : (Jvm.Cond.fieldLink "LitStrangersModel" (93 : Nat) "LitStrangersModel" "come" "[Z") ∈ lw_all := lw_g (lw_at lw_m7 232 rfl) rfl
theorem q1791 : (Jvm.Cond.fieldLink "LitStrangersModel" (97 : Nat) "LitStrangersModel" "turning" "[B") ∈ lw_all := lw_g (lw_at lw_m7 233 rfl) rfl
theorem q1792 : (Jvm.Cond.fieldLink "LitStrangersModel" (100 : Nat) "LitStrangersModel" "stopped0" "I") ∈ lw_all := lw_g (lw_at lw_m7 234 rfl) rfl
theorem q1793 : (Jvm.Cond.fieldLink "LitStrangersModel" (411 : Nat) "LitStrangersModel" "orderDone" "I") ∈ lw_all := lw_g (lw_at lw_m7 235 rfl) rfl
theorem q1794 : (Jvm.Cond.fieldLink "LitStrangersModel" (414 : Nat) "LitStrangersModel" "orderAt" "I") ∈ lw_all := lw_g (lw_at lw_m7 236 rfl) rfl
theorem q1795 : (Jvm.Cond.fieldLink "LitStrangersModel" (430 : Nat) "LitStrangersModel" "timesOf" "I") ∈ lw_all := lw_g (lw_at lw_m7 237 rfl) rfl
theorem q1796 : (Jvm.Cond.fieldLink "LitStrangersModel" (420 : Nat) "LitStrangersModel" "head" "I") ∈ lw_all := lw_g (lw_at lw_m7 238 rfl) rfl
theorem q1797 : (Jvm.Cond.fieldLink "LitStrangersModel" (427 : Nat) "LitStrangersModel" "sumIs" "Z") ∈ lw_all := lw_g (lw_at lw_m7 239 rfl) rfl
theorem q1798 : (Jvm.Cond.fieldLink "LitStrangersModel" (433 : Nat) "LitStrangersModel" "testIs" "Z") ∈ lw_all := lw_g (lw_at lw_m8 0 rfl) rfl
theorem q1799 : (Jvm.Cond.fieldLink "LitStrangersModel" (423 : Nat) "LitStrangersModel" "sum0" "J") ∈ lw_all := lw_g (lw_at lw_m8 1 rfl) rfl
theorem q1800 : (Jvm.Cond.fieldLink "LitStrangersModel" (103 : Nat) "LitStrangersModel" "drawnCrew" "[I") ∈ lw_all := lw_g (lw_at lw_m8 2 rfl) rfl
theorem q1801 : (Jvm.Cond.fieldLink "LitStrangersModel" (455 : Nat) "LitStrangersModel" "drawnMany" "I") ∈ lw_all := lw_g (lw_at lw_m8 3 rfl) rfl
theorem q1802 : (Jvm.Cond.fieldLink "LitStrangersModel" (448 : Nat) "LitStrangersModel" "latest" "I") ∈ lw_all := lw_g (lw_at lw_m8 4 rfl) rfl
theorem q1803 : (Jvm.Cond.lays "LitStrangersModel" "LitStrangersModel" "status" "I") ∈ lw_all := lw_g (lw_at lw_m8 5 rfl) rfl
theorem q1804 : (Jvm.Cond.soleField "LitStrangersModel" "status") ∈ lw_all := lw_g (lw_at lw_m8 6 rfl) rfl
theorem q1805 : (Jvm.Cond.laysFinal "LitStrangersModel" "LitStrangersModel" "refused" "[I") ∈ lw_all := lw_g (lw_at lw_m8 7 rfl) rfl
theorem q1806 : (Jvm.Cond.soleField "LitStrangersModel" "refused") ∈ lw_all := lw_g (lw_at lw_m8 8 rfl) rfl
theorem q1807 : (Jvm.Cond.laysFinal "LitStrangersModel" "LitStrangersModel" "kept" "[I") ∈ lw_all := lw_g (lw_at lw_m8 9 rfl) rfl
theorem q1808 : (Jvm.Cond.soleField "LitStrangersModel" "kept") ∈ lw_all := lw_g (lw_at lw_m8 10 rfl) rfl
theorem q1809 : (Jvm.Cond.laysFinal "LitStrangersModel" "LitStrangersModel" "images" "[I") ∈ lw_all := lw_g (lw_at lw_m8 11 rfl) rfl
theorem q1810 : (Jvm.Cond.soleField "LitStrangersModel" "images") ∈ lw_all := lw_g (lw_at lw_m8 12 rfl) rfl
theorem q1811 : (Jvm.Cond.laysFinal "LitStrangersModel" "LitStrangersModel" "hasImage" "[Z") ∈ lw_all := lw_g (lw_at lw_m8 13 rfl) rfl
theorem q1812 : (Jvm.Cond.soleField "LitStrangersModel" "hasImage") ∈ lw_all := lw_g (lw_at lw_m8 14 rfl) rfl
theorem q1813 : (Jvm.Cond.laysFinal "LitStrangersModel" "LitStrangersModel" "ahead" "[I") ∈ lw_all := lw_g (lw_at lw_m8 15 rfl) rfl
theorem q1814 : (Jvm.Cond.soleField "LitStrangersModel" "ahead") ∈ lw_all := lw_g (lw_at lw_m8 16 rfl) rfl
theorem q1815 : (Jvm.Cond.lays "LitStrangersModel" "LitStrangersModel" "salt0" "I") ∈ lw_all := lw_g (lw_at lw_m8 17 rfl) rfl
theorem q1816 : (Jvm.Cond.soleField "LitStrangersModel" "salt0") ∈ lw_all := lw_g (lw_at lw_m8 18 rfl) rfl
theorem q1817 : (Jvm.Cond.laysFinal "LitStrangersModel" "LitStrangersModel" "words" "[B") ∈ lw_all := lw_g (lw_at lw_m8 19 rfl) rfl
theorem q1818 : (Jvm.Cond.soleField "LitStrangersModel" "words") ∈ lw_all := lw_g (lw_at lw_m8 20 rfl) rfl
theorem q1819 : (Jvm.Cond.lays "LitStrangersModel" "LitStrangersModel" "firstWord" "I") ∈ lw_all := lw_g (lw_at lw_m8 21 rfl) rfl
theorem q1820 : (Jvm.Cond.soleField "LitStrangersModel" "firstWord") ∈ lw_all := lw_g (lw_at lw_m8 22 rfl) rfl
theorem q1821 : (Jvm.Cond.lays "LitStrangersModel" "LitStrangersModel" "lastWord" "I") ∈ lw_all := lw_g (lw_at lw_m8 23 rfl) rfl
theorem q1822 : (Jvm.Cond.soleField "LitStrangersModel" "lastWord") ∈ lw_all := lw_g (lw_at lw_m8 24 rfl) rfl
theorem q1823 : (Jvm.Cond.lays "LitStrangersModel" "LitStrangersModel" "isOrders" "Z") ∈ lw_all := lw_g (lw_at lw_m8 25 rfl) rfl
theorem q1824 : (Jvm.Cond.soleField "LitStrangersModel" "isOrders") ∈ lw_all := lw_g (lw_at lw_m8 26 rfl) rfl
theorem q1825 : (Jvm.Cond.laysFinal "LitStrangersModel" "LitStrangersModel" "tape" "[B") ∈ lw_all := lw_g (lw_at lw_m8 27 rfl) rfl
theorem q1826 : (Jvm.Cond.soleField "LitStrangersModel" "tape") ∈ lw_all := lw_g (lw_at lw_m8 28 rfl) rfl
theorem q1827 : (Jvm.Cond.laysFinal "LitStrangersModel" "LitStrangersModel" "five" "[I") ∈ lw_all := lw_g (lw_at lw_m8 29 rfl) rfl
theorem q1828 : (Jvm.Cond.soleField "LitStrangersModel" "five") ∈ lw_all := lw_g (lw_at lw_m8 30 rfl) rfl
theorem q1829 : (Jvm.Cond.lays "LitStrangersModel" "LitStrangersModel" "taped" "I") ∈ lw_all := lw_g (lw_at lw_m8 31 rfl) rfl
theorem q1830 : (Jvm.Cond.soleField "LitStrangersModel" "taped") ∈ lw_all := lw_g (lw_at lw_m8 32 rfl) rfl
theorem q1831 : (Jvm.Cond.lays "LitStrangersModel" "LitStrangersModel" "fault" "I") ∈ lw_all := lw_g (lw_at lw_m8 33 rfl) rfl
theorem q1832 : (Jvm.Cond.soleField "LitStrangersModel" "fault") ∈ lw_all := lw_g (lw_at lw_m8 34 rfl) rfl
theorem q1833 : (Jvm.Cond.laysFinal "LitStrangersModel" "LitStrangersModel" "code" "[I") ∈ lw_all := lw_g (lw_at lw_m8 35 rfl) rfl
theorem q1834 : (Jvm.Cond.soleField "LitStrangersModel" "code") ∈ lw_all := lw_g (lw_at lw_m8 36 rfl) rfl
theorem q1835 : (Jvm.Cond.laysFinal "LitStrangersModel" "LitStrangersModel" "value" "[I") ∈ lw_all := lw_g (lw_at lw_m8 37 rfl) rfl
theorem q1836 : (Jvm.Cond.soleField "LitStrangersModel" "value") ∈ lw_all := lw_g (lw_at lw_m8 38 rfl) rfl
theorem q1837 : (Jvm.Cond.laysFinal "LitStrangersModel" "LitStrangersModel" "placed" "[I") ∈ lw_all := lw_g (lw_at lw_m8 39 rfl) rfl
theorem q1838 : (Jvm.Cond.soleField "LitStrangersModel" "placed") ∈ lw_all := lw_g (lw_at lw_m8 40 rfl) rfl
theorem q1839 : (Jvm.Cond.lays "LitStrangersModel" "LitStrangersModel" "tokens" "I") ∈ lw_all := lw_g (lw_at lw_m8 41 rfl) rfl
theorem q1840 : (Jvm.Cond.soleField "LitStrangersModel" "tokens") ∈ lw_all := lw_g (lw_at lw_m8 42 rfl) rfl
theorem q1841 : (Jvm.Cond.lays "LitStrangersModel" "LitStrangersModel" "token" "I") ∈ lw_all := lw_g (lw_at lw_m8 43 rfl) rfl
theorem q1842 : (Jvm.Cond.soleField "LitStrangersModel" "token") ∈ lw_all := lw_g (lw_at lw_m8 44 rfl) rfl
theorem q1843 : (Jvm.Cond.lays "LitStrangersModel" "LitStrangersModel" "leaves" "I") ∈ lw_all := lw_g (lw_at lw_m8 45 rfl) rfl
theorem q1844 : (Jvm.Cond.soleField "LitStrangersModel" "leaves") ∈ lw_all := lw_g (lw_at lw_m8 46 rfl) rfl
theorem q1845 : (Jvm.Cond.lays "LitStrangersModel" "LitStrangersModel" "bad" "I") ∈ lw_all := lw_g (lw_at lw_m8 47 rfl) rfl
theorem q1846 : (Jvm.Cond.soleField "LitStrangersModel" "bad") ∈ lw_all := lw_g (lw_at lw_m8 48 rfl) rfl
theorem q1847 : (Jvm.Cond.lays "LitStrangersModel" "LitStrangersModel" "go" "I") ∈ lw_all := lw_g (lw_at lw_m8 49 rfl) rfl
theorem q1848 : (Jvm.Cond.soleField "LitStrangersModel" "go") ∈ lw_all := lw_g (lw_at lw_m8 50 rfl) rfl
theorem q1849 : (Jvm.Cond.lays "LitStrangersModel" "LitStrangersModel" "goEnd" "I") ∈ lw_all := lw_g (lw_at lw_m8 51 rfl) rfl
theorem q1850 : (Jvm.Cond.soleField "LitStrangersModel" "goEnd") ∈ lw_all := lw_g (lw_at lw_m8 52 rfl) rfl
theorem q1851 : (Jvm.Cond.lays "LitStrangersModel" "LitStrangersModel" "broken" "Z") ∈ lw_all := lw_g (lw_at lw_m8 53 rfl) rfl
theorem q1852 : (Jvm.Cond.soleField "LitStrangersModel" "broken") ∈ lw_all := lw_g (lw_at lw_m8 54 rfl) rfl
theorem q1853 : (Jvm.Cond.laysFinal "LitStrangersModel" "LitStrangersModel" "asked" "[I") ∈ lw_all := lw_g (lw_at lw_m8 55 rfl) rfl
theorem q1854 : (Jvm.Cond.soleField "LitStrangersModel" "asked") ∈ lw_all := lw_g (lw_at lw_m8 56 rfl) rfl
theorem q1855 : (Jvm.Cond.laysFinal "LitStrangersModel" "LitStrangersModel" "left" "[I") ∈ lw_all := lw_g (lw_at lw_m8 57 rfl) rfl
theorem q1856 : (Jvm.Cond.soleField "LitStrangersModel" "left") ∈ lw_all := lw_g (lw_at lw_m8 58 rfl) rfl
theorem q1857 : (Jvm.Cond.laysFinal "LitStrangersModel" "LitStrangersModel" "leftAhead" "[I") ∈ lw_all := lw_g (lw_at lw_m8 59 rfl) rfl
theorem q1858 : (Jvm.Cond.soleField "LitStrangersModel" "leftAhead") ∈ lw_all := lw_g (lw_at lw_m8 60 rfl) rfl
theorem q1859 : (Jvm.Cond.lays "LitStrangersModel" "LitStrangersModel" "undoMany" "I") ∈ lw_all := lw_g (lw_at lw_m8 61 rfl) rfl
theorem q1860 : (Jvm.Cond.soleField "LitStrangersModel" "undoMany") ∈ lw_all := lw_g (lw_at lw_m8 62 rfl) rfl
theorem q1861 : (Jvm.Cond.laysFinal "LitStrangersModel" "LitStrangersModel" "comes" "[I") ∈ lw_all := lw_g (lw_at lw_m8 63 rfl) rfl
theorem q1862 : (Jvm.Cond.soleField "LitStrangersModel" "comes") ∈ lw_all := lw_g (lw_at lw_m8 64 rfl) rfl
theorem q1863 : (Jvm.Cond.laysFinal "LitStrangersModel" "LitStrangersModel" "spoils" "[I") ∈ lw_all := lw_g (lw_at lw_m8 65 rfl) rfl
theorem q1864 : (Jvm.Cond.soleField "LitStrangersModel" "spoils") ∈ lw_all := lw_g (lw_at lw_m8 66 rfl) rfl
theorem q1865 : (Jvm.Cond.laysFinal "LitStrangersModel" "LitStrangersModel" "barred" "[B") ∈ lw_all := lw_g (lw_at lw_m8 67 rfl) rfl
theorem q1866 : (Jvm.Cond.soleField "LitStrangersModel" "barred") ∈ lw_all := lw_g (lw_at lw_m8 68 rfl) rfl
theorem q1867 : (Jvm.Cond.laysFinal "LitStrangersModel" "LitStrangersModel" "worths" "[I") ∈ lw_all := lw_g (lw_at lw_m8 69 rfl) rfl
theorem q1868 : (Jvm.Cond.soleField "LitStrangersModel" "worths") ∈ lw_all := lw_g (lw_at lw_m8 70 rfl) rfl
theorem q1869 : (Jvm.Cond.laysFinal "LitStrangersModel" "LitStrangersModel" "longest" "[B") ∈ lw_all := lw_g (lw_at lw_m8 71 rfl) rfl
theorem q1870 : (Jvm.Cond.soleField "LitStrangersModel" "longest") ∈ lw_all := lw_g (lw_at lw_m8 72 rfl) rfl
theorem q1871 : (Jvm.Cond.lays "LitStrangersModel" "LitStrangersModel" "away" "I") ∈ lw_all := lw_g (lw_at lw_m8 73 rfl) rfl
theorem q1872 : (Jvm.Cond.soleField "LitStrangersModel" "away") ∈ lw_all := lw_g (lw_at lw_m8 74 rfl) rfl
theorem q1873 : (Jvm.Cond.lays "LitStrangersModel" "LitStrangersModel" "hushed" "I") ∈ lw_all := lw_g (lw_at lw_m8 75 rfl) rfl
theorem q1874 : (Jvm.Cond.soleField "LitStrangersModel" "hushed") ∈ lw_all := lw_g (lw_at lw_m8 76 rfl) rfl
theorem q1875 : (Jvm.Cond.laysFinal "LitStrangersModel" "LitStrangersModel" "cheapest" "[I") ∈ lw_all := lw_g (lw_at lw_m8 77 rfl) rfl
theorem q1876 : (Jvm.Cond.soleField "LitStrangersModel" "cheapest") ∈ lw_all := lw_g (lw_at lw_m8 78 rfl) rfl
theorem q1877 : (Jvm.Cond.laysFinal "LitStrangersModel" "LitStrangersModel" "rows" "[J") ∈ lw_all := lw_g (lw_at lw_m8 79 rfl) rfl
theorem q1878 : (Jvm.Cond.soleField "LitStrangersModel" "rows") ∈ lw_all := lw_g (lw_at lw_m8 80 rfl) rfl
theorem q1879 : (Jvm.Cond.laysFinal "LitStrangersModel" "LitStrangersModel" "prices" "[I") ∈ lw_all := lw_g (lw_at lw_m8 81 rfl) rfl
theorem q1880 : (Jvm.Cond.soleField "LitStrangersModel" "prices") ∈ lw_all := lw_g (lw_at lw_m8 82 rfl) rfl
theorem q1881 : (Jvm.Cond.laysFinal "LitStrangersModel" "LitStrangersModel" "come" "[Z") ∈ lw_all := lw_g (lw_at lw_m8 83 rfl) rfl
theorem q1882 : (Jvm.Cond.soleField "LitStrangersModel" "come") ∈ lw_all := lw_g (lw_at lw_m8 84 rfl) rfl
theorem q1883 : (Jvm.Cond.laysFinal "LitStrangersModel" "LitStrangersModel" "turning" "[B") ∈ lw_all := lw_g (lw_at lw_m8 85 rfl) rfl
theorem q1884 : (Jvm.Cond.soleField "LitStrangersModel" "turning") ∈ lw_all := lw_g (lw_at lw_m8 86 rfl) rfl
theorem q1885 : (Jvm.Cond.lays "LitStrangersModel" "LitStrangersModel" "stopped0" "I") ∈ lw_all := lw_g (lw_at lw_m8 87 rfl) rfl
theorem q1886 : (Jvm.Cond.soleField "LitStrangersModel" "stopped0") ∈ lw_all := lw_g (lw_at lw_m8 88 rfl) rfl
theorem q1887 : (Jvm.Cond.lays "LitStrangersModel" "LitStrangersModel" "orderDone" "I") ∈ lw_all := lw_g (lw_at lw_m8 89 rfl) rfl
theorem q1888 : (Jvm.Cond.soleField "LitStrangersModel" "orderDone") ∈ lw_all := lw_g (lw_at lw_m8 90 rfl) rfl
theorem q1889 : (Jvm.Cond.lays "LitStrangersModel" "LitStrangersModel" "orderAt" "I") ∈ lw_all := lw_g (lw_at lw_m8 91 rfl) rfl
theorem q1890 : (Jvm.Cond.soleField "LitStrangersModel" "orderAt") ∈ lw_all := lw_g (lw_at lw_m8 92 rfl) rfl
theorem q1891 : (Jvm.Cond.lays "LitStrangersModel" "LitStrangersModel" "timesOf" "I") ∈ lw_all := lw_g (lw_at lw_m8 93 rfl) rfl
theorem q1892 : (Jvm.Cond.soleField "LitStrangersModel" "timesOf") ∈ lw_all := lw_g (lw_at lw_m8 94 rfl) rfl
theorem q1893 : (Jvm.Cond.lays "LitStrangersModel" "LitStrangersModel" "head" "I") ∈ lw_all := lw_g (lw_at lw_m8 95 rfl) rfl
theorem q1894 : (Jvm.Cond.soleField "LitStrangersModel" "head") ∈ lw_all := lw_g (lw_at lw_m8 96 rfl) rfl
theorem q1895 : (Jvm.Cond.lays "LitStrangersModel" "LitStrangersModel" "sumIs" "Z") ∈ lw_all := lw_g (lw_at lw_m8 97 rfl) rfl
theorem q1896 : (Jvm.Cond.soleField "LitStrangersModel" "sumIs") ∈ lw_all := lw_g (lw_at lw_m8 98 rfl) rfl
theorem q1897 : (Jvm.Cond.lays "LitStrangersModel" "LitStrangersModel" "testIs" "Z") ∈ lw_all := lw_g (lw_at lw_m8 99 rfl) rfl
theorem q1898 : (Jvm.Cond.soleField "LitStrangersModel" "testIs") ∈ lw_all := lw_g (lw_at lw_m8 100 rfl) rfl
theorem q1899 : (Jvm.Cond.lays "LitStrangersModel" "LitStrangersModel" "sum0" "J") ∈ lw_all := lw_g (lw_at lw_m8 101 rfl) rfl
theorem q1900 : (Jvm.Cond.soleField "LitStrangersModel" "sum0") ∈ lw_all := lw_g (lw_at lw_m8 102 rfl) rfl
theorem q1901 : (Jvm.Cond.laysFinal "LitStrangersModel" "LitStrangersModel" "drawnCrew" "[I") ∈ lw_all := lw_g (lw_at lw_m8 103 rfl) rfl
theorem q1902 : (Jvm.Cond.soleField "LitStrangersModel" "drawnCrew") ∈ lw_all := lw_g (lw_at lw_m8 104 rfl) rfl
theorem q1903 : (Jvm.Cond.lays "LitStrangersModel" "LitStrangersModel" "drawnMany" "I") ∈ lw_all := lw_g (lw_at lw_m8 105 rfl) rfl
theorem q1904 : (Jvm.Cond.soleField "LitStrangersModel" "drawnMany") ∈ lw_all := lw_g (lw_at lw_m8 106 rfl) rfl
theorem q1905 : (Jvm.Cond.lays "LitStrangersModel" "LitStrangersModel" "latest" "I") ∈ lw_all := lw_g (lw_at lw_m8 107 rfl) rfl
theorem q1906 : (Jvm.Cond.soleField "LitStrangersModel" "latest") ∈ lw_all := lw_g (lw_at lw_m8 108 rfl) rfl
theorem q1907 : (Jvm.Cond.superclass "LitStrangersModel" "java/lang/Object") ∈ lw_all := lw_g (lw_at lw_m8 109 rfl) rfl
theorem q1909 : (Jvm.Cond.instanceMethod ({ cls := "LitStrangersModel", name := "image", desc := "(I)I" } : Jvm.MethodName)) ∈ lw_all := lw_g (lw_at lw_m8 111 rfl) rfl
theorem q1910 : (Jvm.Cond.selects "LitStrangersModel" ({ cls := "LitStrangersModel", name := "image", desc := "(I)I" } : Jvm.MethodName) ({ cls := "LitStrangersModel", name := "image", desc := "(I)I" } : Jvm.MethodName)) ∈ lw_all := lw_g (lw_at lw_m8 112 rfl) rfl
theorem q1911 : (Jvm.Cond.code ({ cls := "LitStrangersModel", name := "image", desc := "(I)I" } : Jvm.MethodName) prog_29_method_9_code (3 : Nat) (Option.some Jvm.ClassFile.FieldType.int)) ∈ lw_all := lw_g (lw_at lw_m8 113 rfl) rfl
theorem q1912 : (Jvm.Cond.methodLink "LitStrangersModel" (106 : Nat) ({ cls := "LitStrangersModel", name := "lies", desc := "(III)Z" } : Jvm.MethodName)) ∈ lw_all := lw_g (lw_at lw_m8 114 rfl) rfl
theorem q1913 : (Jvm.Cond.static ({ cls := "LitStrangersModel", name := "lies", desc := "(III)Z" } : Jvm.MethodName)) ∈ lw_all := lw_g (lw_at lw_m8 115 rfl) rfl
theorem q1914 : (Jvm.Cond.code ({ cls := "LitStrangersModel", name := "lies", desc := "(III)Z" } : Jvm.MethodName) prog_29_method_1_code (3 : Nat) (Option.some Jvm.ClassFile.FieldType.boolean)) ∈ lw_all := lw_g (lw_at lw_m8 116 rfl) rfl
theorem q1915 : (Jvm.Cond.methodLink "LitStrangersModel" (110 : Nat) ({ cls := "LitStrangersModel", name := "refuses", desc := "(I)I" } : Jvm.MethodName)) ∈ lw_all := lw_g (lw_at lw_m8 117 rfl) rfl
theorem q1916 : (Jvm.Cond.privateMethod ({ cls := "LitStrangersModel", name := "refuses", desc := "(I)I" } : Jvm.MethodName)) ∈ lw_tbl := lw_at lw_m8 118 rfl
theorem q1917 : (Jvm.Cond.instanceMethod ({ cls := "LitStrangersModel", name := "refuses", desc := "(I)I" } : Jvm.MethodName)) ∈ lw_all := lw_g (lw_at lw_m8 119 rfl) rfl
theorem q1918 : (Jvm.Cond.code ({ cls := "LitStrangersModel", name := "refuses", desc := "(I)I" } : Jvm.MethodName) prog_29_method_2_code (2 : Nat) (Option.some Jvm.ClassFile.FieldType.int)) ∈ lw_all := lw_g (lw_at lw_m8 120 rfl) rfl
theorem q1919 : (Jvm.Cond.methodLink "LitStrangersModel" (14 : Nat) ({ cls := "LitStrangersModel", name := "good", desc := "(I)I" } : Jvm.MethodName)) ∈ lw_all := lw_g (lw_at lw_m8 121 rfl) rfl
theorem q1920 : (Jvm.Cond.privateMethod ({ cls := "LitStrangersModel", name := "good", desc := "(I)I" } : Jvm.MethodName)) ∈ lw_tbl := lw_at lw_m8 122 rfl
theorem q1921 : (Jvm.Cond.instanceMethod ({ cls := "LitStrangersModel", name := "good", desc := "(I)I" } : Jvm.MethodName)) ∈ lw_all := lw_g (lw_at lw_m8 123 rfl) rfl
theorem q1922 : (Jvm.Cond.code ({ cls := "LitStrangersModel", name := "good", desc := "(I)I" } : Jvm.MethodName) prog_29_method_3_code (2 : Nat) (Option.some Jvm.ClassFile.FieldType.int)) ∈ lw_all := lw_g (lw_at lw_m8 124 rfl) rfl
theorem q1924 : (Jvm.Cond.instanceMethod ({ cls := "LitStrangersModel", name := "back", desc := "(I)I" } : Jvm.MethodName)) ∈ lw_all := lw_g (lw_at lw_m8 126 rfl) rfl
theorem q1925 : (Jvm.Cond.selects "LitStrangersModel" ({ cls := "LitStrangersModel", name := "back", desc := "(I)I" } : Jvm.MethodName) ({ cls := "LitStrangersModel", name := "back", desc := "(I)I" } : Jvm.MethodName)) ∈ lw_all := lw_g (lw_at lw_m8 127 rfl) rfl
theorem q1926 : (Jvm.Cond.code ({ cls := "LitStrangersModel", name := "back", desc := "(I)I" } : Jvm.MethodName) prog_29_method_10_code (3 : Nat) (Option.some Jvm.ClassFile.FieldType.int)) ∈ lw_all := lw_g (lw_at lw_m8 128 rfl) rfl
theorem q1927 : (Jvm.Cond.methodLink "LitStrangersModel" (113 : Nat) ({ cls := "LitStrangersModel", name := "settled", desc := "(I)I" } : Jvm.MethodName)) ∈ lw_all := lw_g (lw_at lw_m8 129 rfl) rfl
theorem q1928 : (Jvm.Cond.privateMethod ({ cls := "LitStrangersModel", name := "settled", desc := "(I)I" } : Jvm.MethodName)) ∈ lw_tbl := lw_at lw_m8 130 rfl
theorem q1929 : (Jvm.Cond.instanceMethod ({ cls := "LitStrangersModel", name := "settled", desc := "(I)I" } : Jvm.MethodName)) ∈ lw_all := lw_g (lw_at lw_m8 131 rfl) rfl
theorem q1930 : (Jvm.Cond.code ({ cls := "LitStrangersModel", name := "settled", desc := "(I)I" } : Jvm.MethodName) prog_29_method_4_code (2 : Nat) (Option.some Jvm.ClassFile.FieldType.int)) ∈ lw_all := lw_g (lw_at lw_m8 132 rfl) rfl
theorem q1932 : (Jvm.Cond.instanceMethod ({ cls := "LitStrangersModel", name := "person", desc := "(II)I" } : Jvm.MethodName)) ∈ lw_all := lw_g (lw_at lw_m8 134 rfl) rfl
theorem q1933 : (Jvm.Cond.selects "LitStrangersModel" ({ cls := "LitStrangersModel", name := "person", desc := "(II)I" } : Jvm.MethodName) ({ cls := "LitStrangersModel", name := "person", desc := "(II)I" } : Jvm.MethodName)) ∈ lw_all := lw_g (lw_at lw_m8 135 rfl) rfl
theorem q1934 : (Jvm.Cond.code ({ cls := "LitStrangersModel", name := "person", desc := "(II)I" } : Jvm.MethodName) prog_29_method_17_code (3 : Nat) (Option.some Jvm.ClassFile.FieldType.int)) ∈ lw_all := lw_g (lw_at lw_m8 136 rfl) rfl
theorem q1935 : (Jvm.Cond.methodLink "LitStrangersModel" (120 : Nat) ({ cls := "LitStrangersModel", name := "canBe", desc := "(II)Z" } : Jvm.MethodName)) ∈ lw_all := lw_g (lw_at lw_m8 137 rfl) rfl
theorem q1936 : (Jvm.Cond.static ({ cls := "LitStrangersModel", name := "canBe", desc := "(II)Z" } : Jvm.MethodName)) ∈ lw_all := lw_g (lw_at lw_m8 138 rfl) rfl
theorem q1937 : (Jvm.Cond.code ({ cls := "LitStrangersModel", name := "canBe", desc := "(II)Z" } : Jvm.MethodName) prog_29_method_13_code (2 : Nat) (Option.some Jvm.ClassFile.FieldType.boolean)) ∈ lw_all := lw_g (lw_at lw_m8 139 rfl) rfl
theorem q1938 : (Jvm.Cond.methodLink "LitStrangersModel" (116 : Nat) ({ cls := "LitStrangersModel", name := "people", desc := "()I" } : Jvm.MethodName)) ∈ lw_all := lw_g (lw_at lw_m8 140 rfl) rfl
theorem q1939 : (Jvm.Cond.privateMethod ({ cls := "LitStrangersModel", name := "people", desc := "()I" } : Jvm.MethodName)) ∈ lw_tbl := lw_at lw_m8 141 rfl
theorem q1940 : (Jvm.Cond.instanceMethod ({ cls := "LitStrangersModel", name := "people", desc := "()I" } : Jvm.MethodName)) ∈ lw_all := lw_g (lw_at lw_m8 142 rfl) rfl
theorem q1941 : (Jvm.Cond.code ({ cls := "LitStrangersModel", name := "people", desc := "()I" } : Jvm.MethodName) prog_29_method_11_code (1 : Nat) (Option.some Jvm.ClassFile.FieldType.int)) ∈ lw_all := lw_g (lw_at lw_m8 143 rfl) rfl
theorem q1942 : (Jvm.Cond.methodLink "LitStrangersModel" (124 : Nat) ({ cls := "LitStrangersModel", name := "adds", desc := "(III)V" } : Jvm.MethodName)) ∈ lw_all := lw_g (lw_at lw_m8 144 rfl) rfl
theorem q1943 : (Jvm.Cond.privateMethod ({ cls := "LitStrangersModel", name := "adds", desc := "(III)V" } : Jvm.MethodName)) ∈ lw_tbl := lw_at lw_m8 145 rfl
theorem q1944 : (Jvm.Cond.instanceMethod ({ cls := "LitStrangersModel", name := "adds", desc := "(III)V" } : Jvm.MethodName)) ∈ lw_all := lw_g (lw_at lw_m8 146 rfl) rfl
theorem q1945 : (Jvm.Cond.code ({ cls := "LitStrangersModel", name := "adds", desc := "(III)V" } : Jvm.MethodName) prog_29_method_16_code (5 : Nat) (Option.none : Option Jvm.ClassFile.FieldType)) ∈ lw_all := lw_g (lw_at lw_m8 147 rfl) rfl
theorem q1947 : (Jvm.Cond.instanceMethod ({ cls := "LitStrangersModel", name := "hear", desc := "(II)I" } : Jvm.MethodName)) ∈ lw_all := lw_g (lw_at lw_m8 149 rfl) rfl
theorem q1948 : (Jvm.Cond.selects "LitStrangersModel" ({ cls := "LitStrangersModel", name := "hear", desc := "(II)I" } : Jvm.MethodName) ({ cls := "LitStrangersModel", name := "hear", desc := "(II)I" } : Jvm.MethodName)) ∈ lw_all := lw_g (lw_at lw_m8 150 rfl) rfl
theorem q1949 : (Jvm.Cond.code ({ cls := "LitStrangersModel", name := "hear", desc := "(II)I" } : Jvm.MethodName) prog_29_method_18_code (4 : Nat) (Option.some Jvm.ClassFile.FieldType.int)) ∈ lw_all := lw_g (lw_at lw_m8 151 rfl) rfl
theorem q1950 : (Jvm.Cond.methodLink "LitStrangersModel" (128 : Nat) ({ cls := "LitStrangersModel", name := "isPerson", desc := "(I)Z" } : Jvm.MethodName)) ∈ lw_all := lw_g (lw_at lw_m8 152 rfl) rfl
theorem q1951 : (Jvm.Cond.privateMethod ({ cls := "LitStrangersModel", name := "isPerson", desc := "(I)Z" } : Jvm.MethodName)) ∈ lw_tbl := lw_at lw_m8 153 rfl
theorem q1952 : (Jvm.Cond.instanceMethod ({ cls := "LitStrangersModel", name := "isPerson", desc := "(I)Z" } : Jvm.MethodName)) ∈ lw_all := lw_g (lw_at lw_m8 154 rfl) rfl
theorem q1953 : (Jvm.Cond.code ({ cls := "LitStrangersModel", name := "isPerson", desc := "(I)Z" } : Jvm.MethodName) prog_29_method_12_code (2 : Nat) (Option.some Jvm.ClassFile.FieldType.boolean)) ∈ lw_all := lw_g (lw_at lw_m8 155 rfl) rfl
theorem q1955 : (Jvm.Cond.instanceMethod ({ cls := "LitStrangersModel", name := "of", desc := "(II)I" } : Jvm.MethodName)) ∈ lw_all := lw_g (lw_at lw_m8 157 rfl) rfl
theorem q1956 : (Jvm.Cond.selects "LitStrangersModel" ({ cls := "LitStrangersModel", name := "of", desc := "(II)I" } : Jvm.MethodName) ({ cls := "LitStrangersModel", name := "of", desc := "(II)I" } : Jvm.MethodName)) ∈ lw_all := lw_g (lw_at lw_m8 158 rfl) rfl
theorem q1957 : (Jvm.Cond.code ({ cls := "LitStrangersModel", name := "of", desc := "(II)I" } : Jvm.MethodName) prog_29_method_20_code (3 : Nat) (Option.some Jvm.ClassFile.FieldType.int)) ∈ lw_all := lw_g (lw_at lw_m8 159 rfl) rfl
theorem q1958 : (Jvm.Cond.methodLink "LitStrangersModel" (132 : Nat) ({ cls := "LitStrangersModel", name := "roadOf", desc := "(I)I" } : Jvm.MethodName)) ∈ lw_all := lw_g (lw_at lw_m8 160 rfl) rfl
theorem q1959 : (Jvm.Cond.privateMethod ({ cls := "LitStrangersModel", name := "roadOf", desc := "(I)I" } : Jvm.MethodName)) ∈ lw_tbl := lw_at lw_m8 161 rfl
theorem q1960 : (Jvm.Cond.instanceMethod ({ cls := "LitStrangersModel", name := "roadOf", desc := "(I)I" } : Jvm.MethodName)) ∈ lw_all := lw_g (lw_at lw_m8 162 rfl) rfl
theorem q1961 : (Jvm.Cond.code ({ cls := "LitStrangersModel", name := "roadOf", desc := "(I)I" } : Jvm.MethodName) prog_29_method_14_code (2 : Nat) (Option.some Jvm.ClassFile.FieldType.int)) ∈ lw_all := lw_g (lw_at lw_m8 163 rfl) rfl
theorem q1962 : (Jvm.Cond.methodLink "LitStrangersModel" (135 : Nat) ({ cls := "LitStrangersModel", name := "landOf", desc := "(I)I" } : Jvm.MethodName)) ∈ lw_all := lw_g (lw_at lw_m8 164 rfl) rfl
theorem q1963 : (Jvm.Cond.privateMethod ({ cls := "LitStrangersModel", name := "landOf", desc := "(I)I" } : Jvm.MethodName)) ∈ lw_tbl := lw_at lw_m8 165 rfl
theorem q1964 : (Jvm.Cond.instanceMethod ({ cls := "LitStrangersModel", name := "landOf", desc := "(I)I" } : Jvm.MethodName)) ∈ lw_all := lw_g (lw_at lw_m8 166 rfl) rfl
theorem q1965 : (Jvm.Cond.code ({ cls := "LitStrangersModel", name := "landOf", desc := "(I)I" } : Jvm.MethodName) prog_29_method_15_code (2 : Nat) (Option.some Jvm.ClassFile.FieldType.int)) ∈ lw_all := lw_g (lw_at lw_m8 167 rfl) rfl
theorem q1966 : (Jvm.Cond.methodLink "LitStrangersModel" (138 : Nat) ({ cls := "LitStrangersModel", name := "worthOf", desc := "(I)I" } : Jvm.MethodName)) ∈ lw_all := lw_g (lw_at lw_m8 168 rfl) rfl
theorem q1967 : (Jvm.Cond.privateMethod ({ cls := "LitStrangersModel", name := "worthOf", desc := "(I)I" } : Jvm.MethodName)) ∈ lw_tbl := lw_at lw_m8 169 rfl
theorem q1968 : (Jvm.Cond.instanceMethod ({ cls := "LitStrangersModel", name := "worthOf", desc := "(I)I" } : Jvm.MethodName)) ∈ lw_all := lw_g (lw_at lw_m8 170 rfl) rfl
theorem q1969 : (Jvm.Cond.code ({ cls := "LitStrangersModel", name := "worthOf", desc := "(I)I" } : Jvm.MethodName) prog_29_method_19_code (2 : Nat) (Option.some Jvm.ClassFile.FieldType.int)) ∈ lw_all := lw_g (lw_at lw_m8 171 rfl) rfl
theorem q1971 : (Jvm.Cond.instanceMethod ({ cls := "LitStrangersModel", name := "talk", desc := "(III)I" } : Jvm.MethodName)) ∈ lw_all := lw_g (lw_at lw_m8 173 rfl) rfl
theorem q1972 : (Jvm.Cond.selects "LitStrangersModel" ({ cls := "LitStrangersModel", name := "talk", desc := "(III)I" } : Jvm.MethodName) ({ cls := "LitStrangersModel", name := "talk", desc := "(III)I" } : Jvm.MethodName)) ∈ lw_all := lw_g (lw_at lw_m8 174 rfl) rfl
theorem q1973 : (Jvm.Cond.code ({ cls := "LitStrangersModel", name := "talk", desc := "(III)I" } : Jvm.MethodName) prog_29_method_21_code (5 : Nat) (Option.some Jvm.ClassFile.FieldType.int)) ∈ lw_all := lw_g (lw_at lw_m8 175 rfl) rfl
theorem q1975 : (Jvm.Cond.instanceMethod ({ cls := "LitStrangersModel", name := "fog", desc := "(II)I" } : Jvm.MethodName)) ∈ lw_all := lw_g (lw_at lw_m8 177 rfl) rfl
theorem q1976 : (Jvm.Cond.selects "LitStrangersModel" ({ cls := "LitStrangersModel", name := "fog", desc := "(II)I" } : Jvm.MethodName) ({ cls := "LitStrangersModel", name := "fog", desc := "(II)I" } : Jvm.MethodName)) ∈ lw_all := lw_g (lw_at lw_m8 178 rfl) rfl
theorem q1977 : (Jvm.Cond.code ({ cls := "LitStrangersModel", name := "fog", desc := "(II)I" } : Jvm.MethodName) prog_29_method_23_code (4 : Nat) (Option.some Jvm.ClassFile.FieldType.int)) ∈ lw_all := lw_g (lw_at lw_m8 179 rfl) rfl
theorem q1979 : (Jvm.Cond.instanceMethod ({ cls := "LitStrangersModel", name := "terms", desc := "(II)I" } : Jvm.MethodName)) ∈ lw_all := lw_g (lw_at lw_m8 181 rfl) rfl
theorem q1980 : (Jvm.Cond.selects "LitStrangersModel" ({ cls := "LitStrangersModel", name := "terms", desc := "(II)I" } : Jvm.MethodName) ({ cls := "LitStrangersModel", name := "terms", desc := "(II)I" } : Jvm.MethodName)) ∈ lw_all := lw_g (lw_at lw_m8 182 rfl) rfl
theorem q1981 : (Jvm.Cond.code ({ cls := "LitStrangersModel", name := "terms", desc := "(II)I" } : Jvm.MethodName) prog_29_method_25_code (5 : Nat) (Option.some Jvm.ClassFile.FieldType.int)) ∈ lw_all := lw_g (lw_at lw_m8 183 rfl) rfl
theorem q1983 : (Jvm.Cond.instanceMethod ({ cls := "LitStrangersModel", name := "row", desc := "()I" } : Jvm.MethodName)) ∈ lw_all := lw_g (lw_at lw_m8 185 rfl) rfl
theorem q1984 : (Jvm.Cond.selects "LitStrangersModel" ({ cls := "LitStrangersModel", name := "row", desc := "()I" } : Jvm.MethodName) ({ cls := "LitStrangersModel", name := "row", desc := "()I" } : Jvm.MethodName)) ∈ lw_all := lw_g (lw_at lw_m8 186 rfl) rfl
theorem q1985 : (Jvm.Cond.code ({ cls := "LitStrangersModel", name := "row", desc := "()I" } : Jvm.MethodName) prog_29_method_26_code (5 : Nat) (Option.some Jvm.ClassFile.FieldType.int)) ∈ lw_all := lw_g (lw_at lw_m8 187 rfl) rfl
theorem q1987 : (Jvm.Cond.instanceMethod ({ cls := "LitStrangersModel", name := "salt", desc := "()I" } : Jvm.MethodName)) ∈ lw_all := lw_g (lw_at lw_m8 189 rfl) rfl
theorem q1988 : (Jvm.Cond.selects "LitStrangersModel" ({ cls := "LitStrangersModel", name := "salt", desc := "()I" } : Jvm.MethodName) ({ cls := "LitStrangersModel", name := "salt", desc := "()I" } : Jvm.MethodName)) ∈ lw_all := lw_g (lw_at lw_m8 190 rfl) rfl
theorem q1989 : (Jvm.Cond.code ({ cls := "LitStrangersModel", name := "salt", desc := "()I" } : Jvm.MethodName) prog_29_method_27_code (1 : Nat) (Option.some Jvm.ClassFile.FieldType.int)) ∈ lw_all := lw_g (lw_at lw_m8 191 rfl) rfl
theorem q1991 : (Jvm.Cond.instanceMethod ({ cls := "LitStrangersModel", name := "feed", desc := "(IIIII)I" } : Jvm.MethodName)) ∈ lw_all := lw_g (lw_at lw_m8 193 rfl) rfl
theorem q1992 : (Jvm.Cond.selects "LitStrangersModel" ({ cls := "LitStrangersModel", name := "feed", desc := "(IIIII)I" } : Jvm.MethodName) ({ cls := "LitStrangersModel", name := "feed", desc := "(IIIII)I" } : Jvm.MethodName)) ∈ lw_all := lw_g (lw_at lw_m8 194 rfl) rfl
theorem q1993 : (Jvm.Cond.code ({ cls := "LitStrangersModel", name := "feed", desc := "(IIIII)I" } : Jvm.MethodName) prog_29_method_28_code (7 : Nat) (Option.some Jvm.ClassFile.FieldType.int)) ∈ lw_all := lw_g (lw_at lw_m8 195 rfl) rfl
theorem q1995 : (Jvm.Cond.instanceMethod ({ cls := "LitStrangersModel", name := "end", desc := "(I)I" } : Jvm.MethodName)) ∈ lw_all := lw_g (lw_at lw_m8 197 rfl) rfl
theorem q1996 : (Jvm.Cond.selects "LitStrangersModel" ({ cls := "LitStrangersModel", name := "end", desc := "(I)I" } : Jvm.MethodName) ({ cls := "LitStrangersModel", name := "end", desc := "(I)I" } : Jvm.MethodName)) ∈ lw_all := lw_g (lw_at lw_m8 198 rfl) rfl
theorem q1997 : (Jvm.Cond.code ({ cls := "LitStrangersModel", name := "end", desc := "(I)I" } : Jvm.MethodName) prog_29_method_29_code (2 : Nat) (Option.some Jvm.ClassFile.FieldType.int)) ∈ lw_all := lw_g (lw_at lw_m8 199 rfl) rfl
theorem q1999 : (Jvm.Cond.instanceMethod ({ cls := "LitStrangersModel", name := "law", desc := "()I" } : Jvm.MethodName)) ∈ lw_all := lw_g (lw_at lw_m8 201 rfl) rfl
theorem q2000 : (Jvm.Cond.selects "LitStrangersModel" ({ cls := "LitStrangersModel", name := "law", desc := "()I" } : Jvm.MethodName) ({ cls := "LitStrangersModel", name := "law", desc := "()I" } : Jvm.MethodName)) ∈ lw_all := lw_g (lw_at lw_m8 202 rfl) rfl
theorem q2001 : (Jvm.Cond.code ({ cls := "LitStrangersModel", name := "law", desc := "()I" } : Jvm.MethodName) prog_29_method_53_code (1 : Nat) (Option.some Jvm.ClassFile.FieldType.int)) ∈ lw_all := lw_g (lw_at lw_m8 203 rfl) rfl
theorem q2002 : (Jvm.Cond.methodLink "LitStrangersModel" (238 : Nat) ({ cls := "LitStrangersModel", name := "readsAs", desc := "(Z)Z" } : Jvm.MethodName)) ∈ lw_all := lw_g (lw_at lw_m8 204 rfl) rfl
theorem q2003 : (Jvm.Cond.privateMethod ({ cls := "LitStrangersModel", name := "readsAs", desc := "(Z)Z" } : Jvm.MethodName)) ∈ lw_tbl := lw_at lw_m8 205 rfl
theorem q2004 : (Jvm.Cond.instanceMethod ({ cls := "LitStrangersModel", name := "readsAs", desc := "(Z)Z" } : Jvm.MethodName)) ∈ lw_all := lw_g (lw_at lw_m8 206 rfl) rfl
theorem q2005 : (Jvm.Cond.code ({ cls := "LitStrangersModel", name := "readsAs", desc := "(Z)Z" } : Jvm.MethodName) prog_29_method_51_code (2 : Nat) (Option.some Jvm.ClassFile.FieldType.boolean)) ∈ lw_all := lw_g (lw_at lw_m8 207 rfl) rfl
theorem q2006 : (Jvm.Cond.methodLink "LitStrangersModel" (235 : Nat) ({ cls := "LitStrangersModel", name := "reads", desc := "()Z" } : Jvm.MethodName)) ∈ lw_all := lw_g (lw_at lw_m8 208 rfl) rfl
theorem q2007 : (Jvm.Cond.privateMethod ({ cls := "LitStrangersModel", name := "reads", desc := "()Z" } : Jvm.MethodName)) ∈ lw_tbl := lw_at lw_m8 209 rfl
theorem q2008 : (Jvm.Cond.instanceMethod ({ cls := "LitStrangersModel", name := "reads", desc := "()Z" } : Jvm.MethodName)) ∈ lw_all := lw_g (lw_at lw_m8 210 rfl) rfl
theorem q2009 : (Jvm.Cond.code ({ cls := "LitStrangersModel", name := "reads", desc := "()Z" } : Jvm.MethodName) prog_29_method_50_code (2 : Nat) (Option.some Jvm.ClassFile.FieldType.boolean)) ∈ lw_all := lw_g (lw_at lw_m8 211 rfl) rfl
theorem q2010 : (Jvm.Cond.methodLink "LitStrangersModel" (229 : Nat) ({ cls := "LitStrangersModel", name := "splits", desc := "(I)V" } : Jvm.MethodName)) ∈ lw_all := lw_g (lw_at lw_m8 212 rfl) rfl
theorem q2011 : (Jvm.Cond.privateMethod ({ cls := "LitStrangersModel", name := "splits", desc := "(I)V" } : Jvm.MethodName)) ∈ lw_tbl := lw_at lw_m8 213 rfl
theorem q2012 : (Jvm.Cond.instanceMethod ({ cls := "LitStrangersModel", name := "splits", desc := "(I)V" } : Jvm.MethodName)) ∈ lw_all := lw_g (lw_at lw_m8 214 rfl) rfl
theorem q2013 : (Jvm.Cond.code ({ cls := "LitStrangersModel", name := "splits", desc := "(I)V" } : Jvm.MethodName) prog_29_method_33_code (6 : Nat) (Option.none : Option Jvm.ClassFile.FieldType)) ∈ lw_all := lw_g (lw_at lw_m8 215 rfl) rfl
theorem q2014 : (Jvm.Cond.methodLink "LitStrangersModel" (150 : Nat) ({ cls := "LitStrangersModel", name := "isSmall", desc := "(I)Z" } : Jvm.MethodName)) ∈ lw_all := lw_g (lw_at lw_m8 216 rfl) rfl
theorem q2015 : (Jvm.Cond.static ({ cls := "LitStrangersModel", name := "isSmall", desc := "(I)Z" } : Jvm.MethodName)) ∈ lw_all := lw_g (lw_at lw_m8 217 rfl) rfl
theorem q2016 : (Jvm.Cond.code ({ cls := "LitStrangersModel", name := "isSmall", desc := "(I)Z" } : Jvm.MethodName) prog_29_method_30_code (1 : Nat) (Option.some Jvm.ClassFile.FieldType.boolean)) ∈ lw_all := lw_g (lw_at lw_m8 218 rfl) rfl
theorem q2017 : (Jvm.Cond.methodLink "LitStrangersModel" (153 : Nat) ({ cls := "LitStrangersModel", name := "isDigit", desc := "(I)Z" } : Jvm.MethodName)) ∈ lw_all := lw_g (lw_at lw_m8 219 rfl) rfl
theorem q2018 : (Jvm.Cond.static ({ cls := "LitStrangersModel", name := "isDigit", desc := "(I)Z" } : Jvm.MethodName)) ∈ lw_all := lw_g (lw_at lw_m8 220 rfl) rfl
theorem q2019 : (Jvm.Cond.code ({ cls := "LitStrangersModel", name := "isDigit", desc := "(I)Z" } : Jvm.MethodName) prog_29_method_31_code (1 : Nat) (Option.some Jvm.ClassFile.FieldType.boolean)) ∈ lw_all := lw_g (lw_at lw_m8 221 rfl) rfl
theorem q2020 : (Jvm.Cond.methodLink "LitStrangersModel" (156 : Nat) ({ cls := "LitStrangersModel", name := "wordOf", desc := "(II)I" } : Jvm.MethodName)) ∈ lw_all := lw_g (lw_at lw_m8 222 rfl) rfl
theorem q2021 : (Jvm.Cond.privateMethod ({ cls := "LitStrangersModel", name := "wordOf", desc := "(II)I" } : Jvm.MethodName)) ∈ lw_tbl := lw_at lw_m8 223 rfl
theorem q2022 : (Jvm.Cond.instanceMethod ({ cls := "LitStrangersModel", name := "wordOf", desc := "(II)I" } : Jvm.MethodName)) ∈ lw_all := lw_g (lw_at lw_m8 224 rfl) rfl
theorem q2023 : (Jvm.Cond.code ({ cls := "LitStrangersModel", name := "wordOf", desc := "(II)I" } : Jvm.MethodName) prog_29_method_32_code (8 : Nat) (Option.some Jvm.ClassFile.FieldType.int)) ∈ lw_all := lw_g (lw_at lw_m8 225 rfl) rfl
theorem q2024 : (Jvm.Cond.constant "LitStrangersModel" (160 : Nat) (1000000 : Int32)) ∈ lw_all := lw_g (lw_at lw_m8 226 rfl) rfl
theorem q2025 : (Jvm.Cond.methodLink "LitStrangersModel" (232 : Nat) ({ cls := "LitStrangersModel", name := "readOne", desc := "()V" } : Jvm.MethodName)) ∈ lw_all := lw_g (lw_at lw_m8 227 rfl) rfl
theorem q2026 : (Jvm.Cond.privateMethod ({ cls := "LitStrangersModel", name := "readOne", desc := "()V" } : Jvm.MethodName)) ∈ lw_tbl := lw_at lw_m8 228 rfl
theorem q2027 : (Jvm.Cond.instanceMethod ({ cls := "LitStrangersModel", name := "readOne", desc := "()V" } : Jvm.MethodName)) ∈ lw_all := lw_g (lw_at lw_m8 229 rfl) rfl
theorem q2028 : (Jvm.Cond.code ({ cls := "LitStrangersModel", name := "readOne", desc := "()V" } : Jvm.MethodName) prog_29_method_43_code (1 : Nat) (Option.none : Option Jvm.ClassFile.FieldType)) ∈ lw_all := lw_g (lw_at lw_m8 230 rfl) rfl
theorem q2029 : (Jvm.Cond.methodLink "LitStrangersModel" (198 : Nat) ({ cls := "LitStrangersModel", name := "readOrder", desc := "()V" } : Jvm.MethodName)) ∈ lw_all := lw_g (lw_at lw_m8 231 rfl) rfl
theorem q2030 : (Jvm.Cond.privateMethod ({ cls := "LitStrangersModel", name := "readOrder", desc := "()V" } : Jvm.MethodName)) ∈ lw_tbl := lw_at lw_m8 232 rfl
theorem q2031 : (Jvm.Cond.instanceMethod ({ cls := "LitStrangersModel", name := "readOrder", desc := "()V" } : Jvm.MethodName)) ∈ lw_all := lw_g (lw_at lw_m8 233 rfl) rfl
theorem q2032 : (Jvm.Cond.code ({ cls := "LitStrangersModel", name := "readOrder", desc := "()V" } : Jvm.MethodName) prog_29_method_42_code (1 : Nat) (Option.none : Option Jvm.ClassFile.FieldType)) ∈ lw_all := lw_g (lw_at lw_m8 234 rfl) rfl
theorem q2033 : (Jvm.Cond.methodLink "LitStrangersModel" (171 : Nat) ({ cls := "LitStrangersModel", name := "takes0", desc := "(I)Z" } : Jvm.MethodName)) ∈ lw_all := lw_g (lw_at lw_m8 235 rfl) rfl
theorem q2034 : (Jvm.Cond.privateMethod ({ cls := "LitStrangersModel", name := "takes0", desc := "(I)Z" } : Jvm.MethodName)) ∈ lw_tbl := lw_at lw_m8 236 rfl
theorem q2035 : (Jvm.Cond.instanceMethod ({ cls := "LitStrangersModel", name := "takes0", desc := "(I)Z" } : Jvm.MethodName)) ∈ lw_all := lw_g (lw_at lw_m8 237 rfl) rfl
theorem q2036 : (Jvm.Cond.code ({ cls := "LitStrangersModel", name := "takes0", desc := "(I)Z" } : Jvm.MethodName) prog_29_method_36_code (3 : Nat) (Option.some Jvm.ClassFile.FieldType.boolean)) ∈ lw_all := lw_g (lw_at lw_m8 238 rfl) rfl
theorem q2037 : (Jvm.Cond.methodLink "LitStrangersModel" (164 : Nat) ({ cls := "LitStrangersModel", name := "fine", desc := "()Z" } : Jvm.MethodName)) ∈ lw_all := lw_g (lw_at lw_m8 239 rfl) rfl
theorem q2038 : (Jvm.Cond.privateMethod ({ cls := "LitStrangersModel", name := "fine", desc := "()Z" } : Jvm.MethodName)) ∈ lw_tbl := lw_at lw_m9 0 rfl
theorem q2039 : (Jvm.Cond.instanceMethod ({ cls := "LitStrangersModel", name := "fine", desc := "()Z" } : Jvm.MethodName)) ∈ lw_all := lw_g (lw_at lw_m9 1 rfl) rfl
theorem q2040 : (Jvm.Cond.code ({ cls := "LitStrangersModel", name := "fine", desc := "()Z" } : Jvm.MethodName) prog_29_method_34_code (1 : Nat) (Option.some Jvm.ClassFile.FieldType.boolean)) ∈ lw_all := lw_g (lw_at lw_m9 2 rfl) rfl
theorem q2041 : (Jvm.Cond.methodLink "LitStrangersModel" (180 : Nat) ({ cls := "LitStrangersModel", name := "readSum", desc := "(I)V" } : Jvm.MethodName)) ∈ lw_all := lw_g (lw_at lw_m9 3 rfl) rfl
theorem q2042 : (Jvm.Cond.privateMethod ({ cls := "LitStrangersModel", name := "readSum", desc := "(I)V" } : Jvm.MethodName)) ∈ lw_tbl := lw_at lw_m9 4 rfl
theorem q2043 : (Jvm.Cond.instanceMethod ({ cls := "LitStrangersModel", name := "readSum", desc := "(I)V" } : Jvm.MethodName)) ∈ lw_all := lw_g (lw_at lw_m9 5 rfl) rfl
theorem q2044 : (Jvm.Cond.code ({ cls := "LitStrangersModel", name := "readSum", desc := "(I)V" } : Jvm.MethodName) prog_29_method_47_code (2 : Nat) (Option.none : Option Jvm.ClassFile.FieldType)) ∈ lw_all := lw_g (lw_at lw_m9 6 rfl) rfl
theorem q2045 : (Jvm.Cond.methodLink "LitStrangersModel" (214 : Nat) ({ cls := "LitStrangersModel", name := "readTerm", desc := "(I)V" } : Jvm.MethodName)) ∈ lw_all := lw_g (lw_at lw_m9 7 rfl) rfl
theorem q2046 : (Jvm.Cond.privateMethod ({ cls := "LitStrangersModel", name := "readTerm", desc := "(I)V" } : Jvm.MethodName)) ∈ lw_tbl := lw_at lw_m9 8 rfl
theorem q2047 : (Jvm.Cond.instanceMethod ({ cls := "LitStrangersModel", name := "readTerm", desc := "(I)V" } : Jvm.MethodName)) ∈ lw_all := lw_g (lw_at lw_m9 9 rfl) rfl
theorem q2048 : (Jvm.Cond.code ({ cls := "LitStrangersModel", name := "readTerm", desc := "(I)V" } : Jvm.MethodName) prog_29_method_48_code (2 : Nat) (Option.none : Option Jvm.ClassFile.FieldType)) ∈ lw_all := lw_g (lw_at lw_m9 10 rfl) rfl
theorem q2049 : (Jvm.Cond.methodLink "LitStrangersModel" (217 : Nat) ({ cls := "LitStrangersModel", name := "readPart", desc := "(I)V" } : Jvm.MethodName)) ∈ lw_all := lw_g (lw_at lw_m9 11 rfl) rfl
theorem q2050 : (Jvm.Cond.privateMethod ({ cls := "LitStrangersModel", name := "readPart", desc := "(I)V" } : Jvm.MethodName)) ∈ lw_tbl := lw_at lw_m9 12 rfl
theorem q2051 : (Jvm.Cond.instanceMethod ({ cls := "LitStrangersModel", name := "readPart", desc := "(I)V" } : Jvm.MethodName)) ∈ lw_all := lw_g (lw_at lw_m9 13 rfl) rfl
theorem q2052 : (Jvm.Cond.code ({ cls := "LitStrangersModel", name := "readPart", desc := "(I)V" } : Jvm.MethodName) prog_29_method_49_code (3 : Nat) (Option.none : Option Jvm.ClassFile.FieldType)) ∈ lw_all := lw_g (lw_at lw_m9 14 rfl) rfl
theorem q2053 : (Jvm.Cond.methodLink "LitStrangersModel" (210 : Nat) ({ cls := "LitStrangersModel", name := "sign", desc := "(C)I" } : Jvm.MethodName)) ∈ lw_all := lw_g (lw_at lw_m9 15 rfl) rfl
theorem q2054 : (Jvm.Cond.static ({ cls := "LitStrangersModel", name := "sign", desc := "(C)I" } : Jvm.MethodName)) ∈ lw_all := lw_g (lw_at lw_m9 16 rfl) rfl
theorem q2055 : (Jvm.Cond.code ({ cls := "LitStrangersModel", name := "sign", desc := "(C)I" } : Jvm.MethodName) prog_29_method_39_code (1 : Nat) (Option.some Jvm.ClassFile.FieldType.int)) ∈ lw_all := lw_g (lw_at lw_m9 17 rfl) rfl
theorem q2056 : (Jvm.Cond.methodLink "LitStrangersModel" (174 : Nat) ({ cls := "LitStrangersModel", name := "faults", desc := "()V" } : Jvm.MethodName)) ∈ lw_all := lw_g (lw_at lw_m9 18 rfl) rfl
theorem q2057 : (Jvm.Cond.privateMethod ({ cls := "LitStrangersModel", name := "faults", desc := "()V" } : Jvm.MethodName)) ∈ lw_tbl := lw_at lw_m9 19 rfl
theorem q2058 : (Jvm.Cond.instanceMethod ({ cls := "LitStrangersModel", name := "faults", desc := "()V" } : Jvm.MethodName)) ∈ lw_all := lw_g (lw_at lw_m9 20 rfl) rfl
theorem q2059 : (Jvm.Cond.code ({ cls := "LitStrangersModel", name := "faults", desc := "()V" } : Jvm.MethodName) prog_29_method_35_code (1 : Nat) (Option.none : Option Jvm.ClassFile.FieldType)) ∈ lw_all := lw_g (lw_at lw_m9 21 rfl) rfl
theorem q2060 : (Jvm.Cond.methodLink "LitStrangersModel" (184 : Nat) ({ cls := "LitStrangersModel", name := "must", desc := "(I)V" } : Jvm.MethodName)) ∈ lw_all := lw_g (lw_at lw_m9 22 rfl) rfl
theorem q2061 : (Jvm.Cond.privateMethod ({ cls := "LitStrangersModel", name := "must", desc := "(I)V" } : Jvm.MethodName)) ∈ lw_tbl := lw_at lw_m9 23 rfl
theorem q2062 : (Jvm.Cond.instanceMethod ({ cls := "LitStrangersModel", name := "must", desc := "(I)V" } : Jvm.MethodName)) ∈ lw_all := lw_g (lw_at lw_m9 24 rfl) rfl
theorem q2063 : (Jvm.Cond.code ({ cls := "LitStrangersModel", name := "must", desc := "(I)V" } : Jvm.MethodName) prog_29_method_37_code (2 : Nat) (Option.none : Option Jvm.ClassFile.FieldType)) ∈ lw_all := lw_g (lw_at lw_m9 25 rfl) rfl
theorem q2064 : (Jvm.Cond.methodLink "LitStrangersModel" (226 : Nat) ({ cls := "LitStrangersModel", name := "leaf", desc := "()V" } : Jvm.MethodName)) ∈ lw_all := lw_g (lw_at lw_m9 26 rfl) rfl
theorem q2065 : (Jvm.Cond.privateMethod ({ cls := "LitStrangersModel", name := "leaf", desc := "()V" } : Jvm.MethodName)) ∈ lw_tbl := lw_at lw_m9 27 rfl
theorem q2066 : (Jvm.Cond.instanceMethod ({ cls := "LitStrangersModel", name := "leaf", desc := "()V" } : Jvm.MethodName)) ∈ lw_all := lw_g (lw_at lw_m9 28 rfl) rfl
theorem q2067 : (Jvm.Cond.code ({ cls := "LitStrangersModel", name := "leaf", desc := "()V" } : Jvm.MethodName) prog_29_method_38_code (1 : Nat) (Option.none : Option Jvm.ClassFile.FieldType)) ∈ lw_all := lw_g (lw_at lw_m9 29 rfl) rfl
theorem q2068 : (Jvm.Cond.methodLink "LitStrangersModel" (190 : Nat) ({ cls := "LitStrangersModel", name := "mustNumber", desc := "(II)V" } : Jvm.MethodName)) ∈ lw_all := lw_g (lw_at lw_m9 30 rfl) rfl
theorem q2069 : (Jvm.Cond.privateMethod ({ cls := "LitStrangersModel", name := "mustNumber", desc := "(II)V" } : Jvm.MethodName)) ∈ lw_tbl := lw_at lw_m9 31 rfl
theorem q2070 : (Jvm.Cond.instanceMethod ({ cls := "LitStrangersModel", name := "mustNumber", desc := "(II)V" } : Jvm.MethodName)) ∈ lw_all := lw_g (lw_at lw_m9 32 rfl) rfl
theorem q2071 : (Jvm.Cond.code ({ cls := "LitStrangersModel", name := "mustNumber", desc := "(II)V" } : Jvm.MethodName) prog_29_method_40_code (3 : Nat) (Option.none : Option Jvm.ClassFile.FieldType)) ∈ lw_all := lw_g (lw_at lw_m9 33 rfl) rfl
theorem q2072 : (Jvm.Cond.methodLink "LitStrangersModel" (187 : Nat) ({ cls := "LitStrangersModel", name := "readTest", desc := "(I)V" } : Jvm.MethodName)) ∈ lw_all := lw_g (lw_at lw_m9 34 rfl) rfl
theorem q2073 : (Jvm.Cond.privateMethod ({ cls := "LitStrangersModel", name := "readTest", desc := "(I)V" } : Jvm.MethodName)) ∈ lw_tbl := lw_at lw_m9 35 rfl
theorem q2074 : (Jvm.Cond.instanceMethod ({ cls := "LitStrangersModel", name := "readTest", desc := "(I)V" } : Jvm.MethodName)) ∈ lw_all := lw_g (lw_at lw_m9 36 rfl) rfl
theorem q2075 : (Jvm.Cond.code ({ cls := "LitStrangersModel", name := "readTest", desc := "(I)V" } : Jvm.MethodName) prog_29_method_44_code (2 : Nat) (Option.none : Option Jvm.ClassFile.FieldType)) ∈ lw_all := lw_g (lw_at lw_m9 37 rfl) rfl
theorem q2076 : (Jvm.Cond.methodLink "LitStrangersModel" (204 : Nat) ({ cls := "LitStrangersModel", name := "readBoth", desc := "(I)V" } : Jvm.MethodName)) ∈ lw_all := lw_g (lw_at lw_m9 38 rfl) rfl
theorem q2077 : (Jvm.Cond.privateMethod ({ cls := "LitStrangersModel", name := "readBoth", desc := "(I)V" } : Jvm.MethodName)) ∈ lw_tbl := lw_at lw_m9 39 rfl
theorem q2078 : (Jvm.Cond.instanceMethod ({ cls := "LitStrangersModel", name := "readBoth", desc := "(I)V" } : Jvm.MethodName)) ∈ lw_all := lw_g (lw_at lw_m9 40 rfl) rfl
theorem q2079 : (Jvm.Cond.code ({ cls := "LitStrangersModel", name := "readBoth", desc := "(I)V" } : Jvm.MethodName) prog_29_method_45_code (2 : Nat) (Option.none : Option Jvm.ClassFile.FieldType)) ∈ lw_all := lw_g (lw_at lw_m9 41 rfl) rfl
theorem q2080 : (Jvm.Cond.methodLink "LitStrangersModel" (207 : Nat) ({ cls := "LitStrangersModel", name := "readPlain", desc := "(I)V" } : Jvm.MethodName)) ∈ lw_all := lw_g (lw_at lw_m9 42 rfl) rfl
theorem q2081 : (Jvm.Cond.privateMethod ({ cls := "LitStrangersModel", name := "readPlain", desc := "(I)V" } : Jvm.MethodName)) ∈ lw_tbl := lw_at lw_m9 43 rfl
theorem q2082 : (Jvm.Cond.instanceMethod ({ cls := "LitStrangersModel", name := "readPlain", desc := "(I)V" } : Jvm.MethodName)) ∈ lw_all := lw_g (lw_at lw_m9 44 rfl) rfl
theorem q2083 : (Jvm.Cond.code ({ cls := "LitStrangersModel", name := "readPlain", desc := "(I)V" } : Jvm.MethodName) prog_29_method_46_code (4 : Nat) (Option.none : Option Jvm.ClassFile.FieldType)) ∈ lw_all := lw_g (lw_at lw_m9 45 rfl) rfl
theorem q2084 : (Jvm.Cond.methodLink "LitStrangersModel" (201 : Nat) ({ cls := "LitStrangersModel", name := "readClause", desc := "()V" } : Jvm.MethodName)) ∈ lw_all := lw_g (lw_at lw_m9 46 rfl) rfl
theorem q2085 : (Jvm.Cond.privateMethod ({ cls := "LitStrangersModel", name := "readClause", desc := "()V" } : Jvm.MethodName)) ∈ lw_tbl := lw_at lw_m9 47 rfl
theorem q2086 : (Jvm.Cond.instanceMethod ({ cls := "LitStrangersModel", name := "readClause", desc := "()V" } : Jvm.MethodName)) ∈ lw_all := lw_g (lw_at lw_m9 48 rfl) rfl
theorem q2087 : (Jvm.Cond.code ({ cls := "LitStrangersModel", name := "readClause", desc := "()V" } : Jvm.MethodName) prog_29_method_41_code (1 : Nat) (Option.none : Option Jvm.ClassFile.FieldType)) ∈ lw_all := lw_g (lw_at lw_m9 49 rfl) rfl
theorem q2088 : (Jvm.Cond.methodLink "LitStrangersModel" (242 : Nat) ({ cls := "LitStrangersModel", name := "lays", desc := "(I)V" } : Jvm.MethodName)) ∈ lw_all := lw_g (lw_at lw_m9 50 rfl) rfl
theorem q2089 : (Jvm.Cond.privateMethod ({ cls := "LitStrangersModel", name := "lays", desc := "(I)V" } : Jvm.MethodName)) ∈ lw_tbl := lw_at lw_m9 51 rfl
theorem q2090 : (Jvm.Cond.instanceMethod ({ cls := "LitStrangersModel", name := "lays", desc := "(I)V" } : Jvm.MethodName)) ∈ lw_all := lw_g (lw_at lw_m9 52 rfl) rfl
theorem q2091 : (Jvm.Cond.code ({ cls := "LitStrangersModel", name := "lays", desc := "(I)V" } : Jvm.MethodName) prog_29_method_52_code (3 : Nat) (Option.none : Option Jvm.ClassFile.FieldType)) ∈ lw_all := lw_g (lw_at lw_m9 53 rfl) rfl
theorem q2093 : (Jvm.Cond.instanceMethod ({ cls := "LitStrangersModel", name := "fault", desc := "()I" } : Jvm.MethodName)) ∈ lw_all := lw_g (lw_at lw_m9 55 rfl) rfl
theorem q2094 : (Jvm.Cond.selects "LitStrangersModel" ({ cls := "LitStrangersModel", name := "fault", desc := "()I" } : Jvm.MethodName) ({ cls := "LitStrangersModel", name := "fault", desc := "()I" } : Jvm.MethodName)) ∈ lw_all := lw_g (lw_at lw_m9 56 rfl) rfl
theorem q2095 : (Jvm.Cond.code ({ cls := "LitStrangersModel", name := "fault", desc := "()I" } : Jvm.MethodName) prog_29_method_54_code (1 : Nat) (Option.some Jvm.ClassFile.FieldType.int)) ∈ lw_all := lw_g (lw_at lw_m9 57 rfl) rfl
theorem q2097 : (Jvm.Cond.instanceMethod ({ cls := "LitStrangersModel", name := "force", desc := "(I)I" } : Jvm.MethodName)) ∈ lw_all := lw_g (lw_at lw_m9 59 rfl) rfl
theorem q2098 : (Jvm.Cond.selects "LitStrangersModel" ({ cls := "LitStrangersModel", name := "force", desc := "(I)I" } : Jvm.MethodName) ({ cls := "LitStrangersModel", name := "force", desc := "(I)I" } : Jvm.MethodName)) ∈ lw_all := lw_g (lw_at lw_m9 60 rfl) rfl
theorem q2099 : (Jvm.Cond.code ({ cls := "LitStrangersModel", name := "force", desc := "(I)I" } : Jvm.MethodName) prog_29_method_55_code (3 : Nat) (Option.some Jvm.ClassFile.FieldType.int)) ∈ lw_all := lw_g (lw_at lw_m9 61 rfl) rfl
theorem q2101 : (Jvm.Cond.instanceMethod ({ cls := "LitStrangersModel", name := "asks", desc := "(III)I" } : Jvm.MethodName)) ∈ lw_all := lw_g (lw_at lw_m9 63 rfl) rfl
theorem q2102 : (Jvm.Cond.selects "LitStrangersModel" ({ cls := "LitStrangersModel", name := "asks", desc := "(III)I" } : Jvm.MethodName) ({ cls := "LitStrangersModel", name := "asks", desc := "(III)I" } : Jvm.MethodName)) ∈ lw_all := lw_g (lw_at lw_m9 64 rfl) rfl
theorem q2103 : (Jvm.Cond.code ({ cls := "LitStrangersModel", name := "asks", desc := "(III)I" } : Jvm.MethodName) prog_29_method_74_code (4 : Nat) (Option.some Jvm.ClassFile.FieldType.int)) ∈ lw_all := lw_g (lw_at lw_m9 65 rfl) rfl
theorem q2104 : (Jvm.Cond.methodLink "LitStrangersModel" (306 : Nat) ({ cls := "LitStrangersModel", name := "takesNow", desc := "(I)I" } : Jvm.MethodName)) ∈ lw_all := lw_g (lw_at lw_m9 66 rfl) rfl
theorem q2105 : (Jvm.Cond.privateMethod ({ cls := "LitStrangersModel", name := "takesNow", desc := "(I)I" } : Jvm.MethodName)) ∈ lw_tbl := lw_at lw_m9 67 rfl
theorem q2106 : (Jvm.Cond.instanceMethod ({ cls := "LitStrangersModel", name := "takesNow", desc := "(I)I" } : Jvm.MethodName)) ∈ lw_all := lw_g (lw_at lw_m9 68 rfl) rfl
theorem q2107 : (Jvm.Cond.code ({ cls := "LitStrangersModel", name := "takesNow", desc := "(I)I" } : Jvm.MethodName) prog_29_method_69_code (2 : Nat) (Option.some Jvm.ClassFile.FieldType.int)) ∈ lw_all := lw_g (lw_at lw_m9 69 rfl) rfl
theorem q2108 : (Jvm.Cond.methodLink "LitStrangersModel" (299 : Nat) ({ cls := "LitStrangersModel", name := "setsNow", desc := "(I)V" } : Jvm.MethodName)) ∈ lw_all := lw_g (lw_at lw_m9 70 rfl) rfl
theorem q2109 : (Jvm.Cond.privateMethod ({ cls := "LitStrangersModel", name := "setsNow", desc := "(I)V" } : Jvm.MethodName)) ∈ lw_tbl := lw_at lw_m9 71 rfl
theorem q2110 : (Jvm.Cond.instanceMethod ({ cls := "LitStrangersModel", name := "setsNow", desc := "(I)V" } : Jvm.MethodName)) ∈ lw_all := lw_g (lw_at lw_m9 72 rfl) rfl
theorem q2111 : (Jvm.Cond.code ({ cls := "LitStrangersModel", name := "setsNow", desc := "(I)V" } : Jvm.MethodName) prog_29_method_68_code (2 : Nat) (Option.none : Option Jvm.ClassFile.FieldType)) ∈ lw_all := lw_g (lw_at lw_m9 73 rfl) rfl
theorem q2112 : (Jvm.Cond.methodLink "LitStrangersModel" (292 : Nat) ({ cls := "LitStrangersModel", name := "fogOn", desc := "(I)I" } : Jvm.MethodName)) ∈ lw_all := lw_g (lw_at lw_m9 74 rfl) rfl
theorem q2113 : (Jvm.Cond.privateMethod ({ cls := "LitStrangersModel", name := "fogOn", desc := "(I)I" } : Jvm.MethodName)) ∈ lw_tbl := lw_at lw_m9 75 rfl
theorem q2114 : (Jvm.Cond.instanceMethod ({ cls := "LitStrangersModel", name := "fogOn", desc := "(I)I" } : Jvm.MethodName)) ∈ lw_all := lw_g (lw_at lw_m9 76 rfl) rfl
theorem q2115 : (Jvm.Cond.code ({ cls := "LitStrangersModel", name := "fogOn", desc := "(I)I" } : Jvm.MethodName) prog_29_method_24_code (2 : Nat) (Option.some Jvm.ClassFile.FieldType.int)) ∈ lw_all := lw_g (lw_at lw_m9 77 rfl) rfl
theorem q2116 : (Jvm.Cond.methodLink "LitStrangersModel" (295 : Nat) ({ cls := "LitStrangersModel", name := "sets", desc := "(IIIII)V" } : Jvm.MethodName)) ∈ lw_all := lw_g (lw_at lw_m9 78 rfl) rfl
theorem q2117 : (Jvm.Cond.privateMethod ({ cls := "LitStrangersModel", name := "sets", desc := "(IIIII)V" } : Jvm.MethodName)) ∈ lw_tbl := lw_at lw_m9 79 rfl
theorem q2118 : (Jvm.Cond.instanceMethod ({ cls := "LitStrangersModel", name := "sets", desc := "(IIIII)V" } : Jvm.MethodName)) ∈ lw_all := lw_g (lw_at lw_m9 80 rfl) rfl
theorem q2119 : (Jvm.Cond.code ({ cls := "LitStrangersModel", name := "sets", desc := "(IIIII)V" } : Jvm.MethodName) prog_29_method_67_code (6 : Nat) (Option.none : Option Jvm.ClassFile.FieldType)) ∈ lw_all := lw_g (lw_at lw_m9 81 rfl) rfl
theorem q2120 : (Jvm.Cond.methodLink "LitStrangersModel" (302 : Nat) ({ cls := "LitStrangersModel", name := "tells", desc := "(III)I" } : Jvm.MethodName)) ∈ lw_all := lw_g (lw_at lw_m9 82 rfl) rfl
theorem q2121 : (Jvm.Cond.privateMethod ({ cls := "LitStrangersModel", name := "tells", desc := "(III)I" } : Jvm.MethodName)) ∈ lw_tbl := lw_at lw_m9 83 rfl
theorem q2122 : (Jvm.Cond.instanceMethod ({ cls := "LitStrangersModel", name := "tells", desc := "(III)I" } : Jvm.MethodName)) ∈ lw_all := lw_g (lw_at lw_m9 84 rfl) rfl
theorem q2123 : (Jvm.Cond.code ({ cls := "LitStrangersModel", name := "tells", desc := "(III)I" } : Jvm.MethodName) prog_29_method_66_code (11 : Nat) (Option.some Jvm.ClassFile.FieldType.int)) ∈ lw_all := lw_g (lw_at lw_m9 85 rfl) rfl
theorem q2124 : (Jvm.Cond.methodLink "LitStrangersModel" (251 : Nat) ({ cls := "LitStrangersModel", name := "codeAt", desc := "(I)I" } : Jvm.MethodName)) ∈ lw_all := lw_g (lw_at lw_m9 86 rfl) rfl
theorem q2125 : (Jvm.Cond.privateMethod ({ cls := "LitStrangersModel", name := "codeAt", desc := "(I)I" } : Jvm.MethodName)) ∈ lw_tbl := lw_at lw_m9 87 rfl
theorem q2126 : (Jvm.Cond.instanceMethod ({ cls := "LitStrangersModel", name := "codeAt", desc := "(I)I" } : Jvm.MethodName)) ∈ lw_all := lw_g (lw_at lw_m9 88 rfl) rfl
theorem q2127 : (Jvm.Cond.code ({ cls := "LitStrangersModel", name := "codeAt", desc := "(I)I" } : Jvm.MethodName) prog_29_method_56_code (2 : Nat) (Option.some Jvm.ClassFile.FieldType.int)) ∈ lw_all := lw_g (lw_at lw_m9 89 rfl) rfl
theorem q2128 : (Jvm.Cond.methodLink "LitStrangersModel" (275 : Nat) ({ cls := "LitStrangersModel", name := "sumOf", desc := "(Z)J" } : Jvm.MethodName)) ∈ lw_all := lw_g (lw_at lw_m9 90 rfl) rfl
theorem q2129 : (Jvm.Cond.privateMethod ({ cls := "LitStrangersModel", name := "sumOf", desc := "(Z)J" } : Jvm.MethodName)) ∈ lw_tbl := lw_at lw_m9 91 rfl
theorem q2130 : (Jvm.Cond.instanceMethod ({ cls := "LitStrangersModel", name := "sumOf", desc := "(Z)J" } : Jvm.MethodName)) ∈ lw_all := lw_g (lw_at lw_m9 92 rfl) rfl
theorem q2131 : (Jvm.Cond.code ({ cls := "LitStrangersModel", name := "sumOf", desc := "(Z)J" } : Jvm.MethodName) prog_29_method_59_code (7 : Nat) (Option.some Jvm.ClassFile.FieldType.long)) ∈ lw_all := lw_g (lw_at lw_m9 93 rfl) rfl
theorem q2132 : (Jvm.Cond.methodLink "LitStrangersModel" (261 : Nat) ({ cls := "LitStrangersModel", name := "termOf", desc := "(Z)J" } : Jvm.MethodName)) ∈ lw_all := lw_g (lw_at lw_m9 94 rfl) rfl
theorem q2133 : (Jvm.Cond.privateMethod ({ cls := "LitStrangersModel", name := "termOf", desc := "(Z)J" } : Jvm.MethodName)) ∈ lw_tbl := lw_at lw_m9 95 rfl
theorem q2134 : (Jvm.Cond.instanceMethod ({ cls := "LitStrangersModel", name := "termOf", desc := "(Z)J" } : Jvm.MethodName)) ∈ lw_all := lw_g (lw_at lw_m9 96 rfl) rfl
theorem q2135 : (Jvm.Cond.code ({ cls := "LitStrangersModel", name := "termOf", desc := "(Z)J" } : Jvm.MethodName) prog_29_method_60_code (7 : Nat) (Option.some Jvm.ClassFile.FieldType.long)) ∈ lw_all := lw_g (lw_at lw_m9 97 rfl) rfl
theorem q2136 : (Jvm.Cond.methodLink "LitStrangersModel" (269 : Nat) ({ cls := "LitStrangersModel", name := "partOf", desc := "(Z)J" } : Jvm.MethodName)) ∈ lw_all := lw_g (lw_at lw_m9 98 rfl) rfl
theorem q2137 : (Jvm.Cond.privateMethod ({ cls := "LitStrangersModel", name := "partOf", desc := "(Z)J" } : Jvm.MethodName)) ∈ lw_tbl := lw_at lw_m9 99 rfl
theorem q2138 : (Jvm.Cond.instanceMethod ({ cls := "LitStrangersModel", name := "partOf", desc := "(Z)J" } : Jvm.MethodName)) ∈ lw_all := lw_g (lw_at lw_m9 100 rfl) rfl
theorem q2139 : (Jvm.Cond.code ({ cls := "LitStrangersModel", name := "partOf", desc := "(Z)J" } : Jvm.MethodName) prog_29_method_61_code (4 : Nat) (Option.some Jvm.ClassFile.FieldType.long)) ∈ lw_all := lw_g (lw_at lw_m9 101 rfl) rfl
theorem q2140 : (Jvm.Cond.methodLink "LitStrangersModel" (272 : Nat) ({ cls := "LitStrangersModel", name := "passes0", desc := "(I)Z" } : Jvm.MethodName)) ∈ lw_all := lw_g (lw_at lw_m9 102 rfl) rfl
theorem q2141 : (Jvm.Cond.privateMethod ({ cls := "LitStrangersModel", name := "passes0", desc := "(I)Z" } : Jvm.MethodName)) ∈ lw_tbl := lw_at lw_m9 103 rfl
theorem q2142 : (Jvm.Cond.instanceMethod ({ cls := "LitStrangersModel", name := "passes0", desc := "(I)Z" } : Jvm.MethodName)) ∈ lw_all := lw_g (lw_at lw_m9 104 rfl) rfl
theorem q2143 : (Jvm.Cond.code ({ cls := "LitStrangersModel", name := "passes0", desc := "(I)Z" } : Jvm.MethodName) prog_29_method_57_code (3 : Nat) (Option.some Jvm.ClassFile.FieldType.boolean)) ∈ lw_all := lw_g (lw_at lw_m9 105 rfl) rfl
theorem q2144 : (Jvm.Cond.constantLong "LitStrangersModel" (278 : Nat) (-1 : Int64)) ∈ lw_all := lw_g (lw_at lw_m9 106 rfl) rfl
theorem q2145 : (Jvm.Cond.methodLink "LitStrangersModel" (265 : Nat) ({ cls := "LitStrangersModel", name := "bounded", desc := "(JZ)J" } : Jvm.MethodName)) ∈ lw_all := lw_g (lw_at lw_m9 107 rfl) rfl
theorem q2146 : (Jvm.Cond.privateMethod ({ cls := "LitStrangersModel", name := "bounded", desc := "(JZ)J" } : Jvm.MethodName)) ∈ lw_tbl := lw_at lw_m9 108 rfl
theorem q2147 : (Jvm.Cond.instanceMethod ({ cls := "LitStrangersModel", name := "bounded", desc := "(JZ)J" } : Jvm.MethodName)) ∈ lw_all := lw_g (lw_at lw_m9 109 rfl) rfl
theorem q2148 : (Jvm.Cond.code ({ cls := "LitStrangersModel", name := "bounded", desc := "(JZ)J" } : Jvm.MethodName) prog_29_method_58_code (4 : Nat) (Option.some Jvm.ClassFile.FieldType.long)) ∈ lw_all := lw_g (lw_at lw_m9 110 rfl) rfl
theorem q2149 : (Jvm.Cond.constantLong "LitStrangersModel" (254 : Nat) (1000000000 : Int64)) ∈ lw_all := lw_g (lw_at lw_m9 111 rfl) rfl
theorem q2150 : (Jvm.Cond.constantLong "LitStrangersModel" (256 : Nat) (-1000000000 : Int64)) ∈ lw_all := lw_g (lw_at lw_m9 112 rfl) rfl
theorem q2151 : (Jvm.Cond.methodLink "LitStrangersModel" (289 : Nat) ({ cls := "LitStrangersModel", name := "testOf", desc := "(Z)Z" } : Jvm.MethodName)) ∈ lw_all := lw_g (lw_at lw_m9 113 rfl) rfl
theorem q2152 : (Jvm.Cond.privateMethod ({ cls := "LitStrangersModel", name := "testOf", desc := "(Z)Z" } : Jvm.MethodName)) ∈ lw_tbl := lw_at lw_m9 114 rfl
theorem q2153 : (Jvm.Cond.instanceMethod ({ cls := "LitStrangersModel", name := "testOf", desc := "(Z)Z" } : Jvm.MethodName)) ∈ lw_all := lw_g (lw_at lw_m9 115 rfl) rfl
theorem q2154 : (Jvm.Cond.code ({ cls := "LitStrangersModel", name := "testOf", desc := "(Z)Z" } : Jvm.MethodName) prog_29_method_62_code (4 : Nat) (Option.some Jvm.ClassFile.FieldType.boolean)) ∈ lw_all := lw_g (lw_at lw_m9 116 rfl) rfl
theorem q2155 : (Jvm.Cond.methodLink "LitStrangersModel" (280 : Nat) ({ cls := "LitStrangersModel", name := "bothOf", desc := "(Z)Z" } : Jvm.MethodName)) ∈ lw_all := lw_g (lw_at lw_m9 117 rfl) rfl
theorem q2156 : (Jvm.Cond.privateMethod ({ cls := "LitStrangersModel", name := "bothOf", desc := "(Z)Z" } : Jvm.MethodName)) ∈ lw_tbl := lw_at lw_m9 118 rfl
theorem q2157 : (Jvm.Cond.instanceMethod ({ cls := "LitStrangersModel", name := "bothOf", desc := "(Z)Z" } : Jvm.MethodName)) ∈ lw_all := lw_g (lw_at lw_m9 119 rfl) rfl
theorem q2158 : (Jvm.Cond.code ({ cls := "LitStrangersModel", name := "bothOf", desc := "(Z)Z" } : Jvm.MethodName) prog_29_method_63_code (4 : Nat) (Option.some Jvm.ClassFile.FieldType.boolean)) ∈ lw_all := lw_g (lw_at lw_m9 120 rfl) rfl
theorem q2159 : (Jvm.Cond.methodLink "LitStrangersModel" (283 : Nat) ({ cls := "LitStrangersModel", name := "plainOf", desc := "(Z)Z" } : Jvm.MethodName)) ∈ lw_all := lw_g (lw_at lw_m9 121 rfl) rfl
theorem q2160 : (Jvm.Cond.privateMethod ({ cls := "LitStrangersModel", name := "plainOf", desc := "(Z)Z" } : Jvm.MethodName)) ∈ lw_tbl := lw_at lw_m9 122 rfl
theorem q2161 : (Jvm.Cond.instanceMethod ({ cls := "LitStrangersModel", name := "plainOf", desc := "(Z)Z" } : Jvm.MethodName)) ∈ lw_all := lw_g (lw_at lw_m9 123 rfl) rfl
theorem q2162 : (Jvm.Cond.code ({ cls := "LitStrangersModel", name := "plainOf", desc := "(Z)Z" } : Jvm.MethodName) prog_29_method_64_code (3 : Nat) (Option.some Jvm.ClassFile.FieldType.boolean)) ∈ lw_all := lw_g (lw_at lw_m9 124 rfl) rfl
theorem q2163 : (Jvm.Cond.methodLink "LitStrangersModel" (286 : Nat) ({ cls := "LitStrangersModel", name := "positiveOf", desc := "(Z)Z" } : Jvm.MethodName)) ∈ lw_all := lw_g (lw_at lw_m9 125 rfl) rfl
theorem q2164 : (Jvm.Cond.privateMethod ({ cls := "LitStrangersModel", name := "positiveOf", desc := "(Z)Z" } : Jvm.MethodName)) ∈ lw_tbl := lw_at lw_m9 126 rfl
theorem q2165 : (Jvm.Cond.instanceMethod ({ cls := "LitStrangersModel", name := "positiveOf", desc := "(Z)Z" } : Jvm.MethodName)) ∈ lw_all := lw_g (lw_at lw_m9 127 rfl) rfl
theorem q2166 : (Jvm.Cond.code ({ cls := "LitStrangersModel", name := "positiveOf", desc := "(Z)Z" } : Jvm.MethodName) prog_29_method_65_code (7 : Nat) (Option.some Jvm.ClassFile.FieldType.boolean)) ∈ lw_all := lw_g (lw_at lw_m9 128 rfl) rfl
theorem q2167 : (Jvm.Cond.methodLink "LitStrangersModel" (309 : Nat) ({ cls := "LitStrangersModel", name := "costsNow", desc := "(I)I" } : Jvm.MethodName)) ∈ lw_all := lw_g (lw_at lw_m9 129 rfl) rfl
theorem q2168 : (Jvm.Cond.privateMethod ({ cls := "LitStrangersModel", name := "costsNow", desc := "(I)I" } : Jvm.MethodName)) ∈ lw_tbl := lw_at lw_m9 130 rfl
theorem q2169 : (Jvm.Cond.instanceMethod ({ cls := "LitStrangersModel", name := "costsNow", desc := "(I)I" } : Jvm.MethodName)) ∈ lw_all := lw_g (lw_at lw_m9 131 rfl) rfl
theorem q2170 : (Jvm.Cond.code ({ cls := "LitStrangersModel", name := "costsNow", desc := "(I)I" } : Jvm.MethodName) prog_29_method_70_code (2 : Nat) (Option.some Jvm.ClassFile.FieldType.int)) ∈ lw_all := lw_g (lw_at lw_m9 132 rfl) rfl
theorem q2171 : (Jvm.Cond.methodLink "LitStrangersModel" (312 : Nat) ({ cls := "LitStrangersModel", name := "lodgesNow", desc := "(I)I" } : Jvm.MethodName)) ∈ lw_all := lw_g (lw_at lw_m9 133 rfl) rfl
theorem q2172 : (Jvm.Cond.privateMethod ({ cls := "LitStrangersModel", name := "lodgesNow", desc := "(I)I" } : Jvm.MethodName)) ∈ lw_tbl := lw_at lw_m9 134 rfl
theorem q2173 : (Jvm.Cond.instanceMethod ({ cls := "LitStrangersModel", name := "lodgesNow", desc := "(I)I" } : Jvm.MethodName)) ∈ lw_all := lw_g (lw_at lw_m9 135 rfl) rfl
theorem q2174 : (Jvm.Cond.code ({ cls := "LitStrangersModel", name := "lodgesNow", desc := "(I)I" } : Jvm.MethodName) prog_29_method_71_code (2 : Nat) (Option.some Jvm.ClassFile.FieldType.int)) ∈ lw_all := lw_g (lw_at lw_m9 136 rfl) rfl
theorem q2175 : (Jvm.Cond.methodLink "LitStrangersModel" (315 : Nat) ({ cls := "LitStrangersModel", name := "isBarred", desc := "(IIII)Z" } : Jvm.MethodName)) ∈ lw_all := lw_g (lw_at lw_m9 137 rfl) rfl
theorem q2176 : (Jvm.Cond.privateMethod ({ cls := "LitStrangersModel", name := "isBarred", desc := "(IIII)Z" } : Jvm.MethodName)) ∈ lw_tbl := lw_at lw_m9 138 rfl
theorem q2177 : (Jvm.Cond.instanceMethod ({ cls := "LitStrangersModel", name := "isBarred", desc := "(IIII)Z" } : Jvm.MethodName)) ∈ lw_all := lw_g (lw_at lw_m9 139 rfl) rfl
theorem q2178 : (Jvm.Cond.code ({ cls := "LitStrangersModel", name := "isBarred", desc := "(IIII)Z" } : Jvm.MethodName) prog_29_method_72_code (5 : Nat) (Option.some Jvm.ClassFile.FieldType.boolean)) ∈ lw_all := lw_g (lw_at lw_m9 140 rfl) rfl
theorem q2179 : (Jvm.Cond.methodLink "LitStrangersModel" (319 : Nat) ({ cls := "LitStrangersModel", name := "spoilsBy", desc := "(II)I" } : Jvm.MethodName)) ∈ lw_all := lw_g (lw_at lw_m9 141 rfl) rfl
theorem q2180 : (Jvm.Cond.privateMethod ({ cls := "LitStrangersModel", name := "spoilsBy", desc := "(II)I" } : Jvm.MethodName)) ∈ lw_tbl := lw_at lw_m9 142 rfl
theorem q2181 : (Jvm.Cond.instanceMethod ({ cls := "LitStrangersModel", name := "spoilsBy", desc := "(II)I" } : Jvm.MethodName)) ∈ lw_all := lw_g (lw_at lw_m9 143 rfl) rfl
theorem q2182 : (Jvm.Cond.code ({ cls := "LitStrangersModel", name := "spoilsBy", desc := "(II)I" } : Jvm.MethodName) prog_29_method_73_code (3 : Nat) (Option.some Jvm.ClassFile.FieldType.int)) ∈ lw_all := lw_g (lw_at lw_m9 144 rfl) rfl
theorem q2184 : (Jvm.Cond.instanceMethod ({ cls := "LitStrangersModel", name := "undo", desc := "()I" } : Jvm.MethodName)) ∈ lw_all := lw_g (lw_at lw_m9 146 rfl) rfl
theorem q2185 : (Jvm.Cond.selects "LitStrangersModel" ({ cls := "LitStrangersModel", name := "undo", desc := "()I" } : Jvm.MethodName) ({ cls := "LitStrangersModel", name := "undo", desc := "()I" } : Jvm.MethodName)) ∈ lw_all := lw_g (lw_at lw_m9 147 rfl) rfl
theorem q2186 : (Jvm.Cond.code ({ cls := "LitStrangersModel", name := "undo", desc := "()I" } : Jvm.MethodName) prog_29_method_76_code (3 : Nat) (Option.some Jvm.ClassFile.FieldType.int)) ∈ lw_all := lw_g (lw_at lw_m9 148 rfl) rfl
theorem q2188 : (Jvm.Cond.instanceMethod ({ cls := "LitStrangersModel", name := "send", desc := "(I)I" } : Jvm.MethodName)) ∈ lw_all := lw_g (lw_at lw_m9 150 rfl) rfl
theorem q2189 : (Jvm.Cond.selects "LitStrangersModel" ({ cls := "LitStrangersModel", name := "send", desc := "(I)I" } : Jvm.MethodName) ({ cls := "LitStrangersModel", name := "send", desc := "(I)I" } : Jvm.MethodName)) ∈ lw_all := lw_g (lw_at lw_m9 151 rfl) rfl
theorem q2190 : (Jvm.Cond.code ({ cls := "LitStrangersModel", name := "send", desc := "(I)I" } : Jvm.MethodName) prog_29_method_84_code (2 : Nat) (Option.some Jvm.ClassFile.FieldType.int)) ∈ lw_all := lw_g (lw_at lw_m9 152 rfl) rfl
theorem q2191 : (Jvm.Cond.methodLink "LitStrangersModel" (343 : Nat) ({ cls := "LitStrangersModel", name := "sendsKept", desc := "(I)I" } : Jvm.MethodName)) ∈ lw_all := lw_g (lw_at lw_m9 153 rfl) rfl
theorem q2192 : (Jvm.Cond.privateMethod ({ cls := "LitStrangersModel", name := "sendsKept", desc := "(I)I" } : Jvm.MethodName)) ∈ lw_tbl := lw_at lw_m9 154 rfl
theorem q2193 : (Jvm.Cond.instanceMethod ({ cls := "LitStrangersModel", name := "sendsKept", desc := "(I)I" } : Jvm.MethodName)) ∈ lw_all := lw_g (lw_at lw_m9 155 rfl) rfl
theorem q2194 : (Jvm.Cond.code ({ cls := "LitStrangersModel", name := "sendsKept", desc := "(I)I" } : Jvm.MethodName) prog_29_method_77_code (4 : Nat) (Option.some Jvm.ClassFile.FieldType.int)) ∈ lw_all := lw_g (lw_at lw_m9 156 rfl) rfl
theorem q2195 : (Jvm.Cond.methodLink "LitStrangersModel" (322 : Nat) ({ cls := "LitStrangersModel", name := "keeps", desc := "(I)V" } : Jvm.MethodName)) ∈ lw_all := lw_g (lw_at lw_m9 157 rfl) rfl
theorem q2196 : (Jvm.Cond.privateMethod ({ cls := "LitStrangersModel", name := "keeps", desc := "(I)V" } : Jvm.MethodName)) ∈ lw_tbl := lw_at lw_m9 158 rfl
theorem q2197 : (Jvm.Cond.instanceMethod ({ cls := "LitStrangersModel", name := "keeps", desc := "(I)V" } : Jvm.MethodName)) ∈ lw_all := lw_g (lw_at lw_m9 159 rfl) rfl
theorem q2198 : (Jvm.Cond.code ({ cls := "LitStrangersModel", name := "keeps", desc := "(I)V" } : Jvm.MethodName) prog_29_method_75_code (4 : Nat) (Option.none : Option Jvm.ClassFile.FieldType)) ∈ lw_all := lw_g (lw_at lw_m9 160 rfl) rfl
theorem q2199 : (Jvm.Cond.methodLink "LitStrangersModel" (346 : Nat) ({ cls := "LitStrangersModel", name := "goodOr", desc := "(I)I" } : Jvm.MethodName)) ∈ lw_all := lw_g (lw_at lw_m9 161 rfl) rfl
theorem q2200 : (Jvm.Cond.privateMethod ({ cls := "LitStrangersModel", name := "goodOr", desc := "(I)I" } : Jvm.MethodName)) ∈ lw_tbl := lw_at lw_m9 162 rfl
theorem q2201 : (Jvm.Cond.instanceMethod ({ cls := "LitStrangersModel", name := "goodOr", desc := "(I)I" } : Jvm.MethodName)) ∈ lw_all := lw_g (lw_at lw_m9 163 rfl) rfl
theorem q2202 : (Jvm.Cond.code ({ cls := "LitStrangersModel", name := "goodOr", desc := "(I)I" } : Jvm.MethodName) prog_29_method_83_code (2 : Nat) (Option.some Jvm.ClassFile.FieldType.int)) ∈ lw_all := lw_g (lw_at lw_m9 164 rfl) rfl
theorem q2204 : (Jvm.Cond.instanceMethod ({ cls := "LitStrangersModel", name := "light", desc := "(I)I" } : Jvm.MethodName)) ∈ lw_all := lw_g (lw_at lw_m9 166 rfl) rfl
theorem q2205 : (Jvm.Cond.selects "LitStrangersModel" ({ cls := "LitStrangersModel", name := "light", desc := "(I)I" } : Jvm.MethodName) ({ cls := "LitStrangersModel", name := "light", desc := "(I)I" } : Jvm.MethodName)) ∈ lw_all := lw_g (lw_at lw_m9 167 rfl) rfl
theorem q2206 : (Jvm.Cond.code ({ cls := "LitStrangersModel", name := "light", desc := "(I)I" } : Jvm.MethodName) prog_29_method_85_code (2 : Nat) (Option.some Jvm.ClassFile.FieldType.int)) ∈ lw_all := lw_g (lw_at lw_m9 168 rfl) rfl
theorem q2207 : (Jvm.Cond.methodLink "LitStrangersModel" (349 : Nat) ({ cls := "LitStrangersModel", name := "lightsKept", desc := "(I)I" } : Jvm.MethodName)) ∈ lw_all := lw_g (lw_at lw_m9 169 rfl) rfl
theorem q2208 : (Jvm.Cond.privateMethod ({ cls := "LitStrangersModel", name := "lightsKept", desc := "(I)I" } : Jvm.MethodName)) ∈ lw_tbl := lw_at lw_m9 170 rfl
theorem q2209 : (Jvm.Cond.instanceMethod ({ cls := "LitStrangersModel", name := "lightsKept", desc := "(I)I" } : Jvm.MethodName)) ∈ lw_all := lw_g (lw_at lw_m9 171 rfl) rfl
theorem q2210 : (Jvm.Cond.code ({ cls := "LitStrangersModel", name := "lightsKept", desc := "(I)I" } : Jvm.MethodName) prog_29_method_80_code (6 : Nat) (Option.some Jvm.ClassFile.FieldType.int)) ∈ lw_all := lw_g (lw_at lw_m9 172 rfl) rfl
theorem q2211 : (Jvm.Cond.methodLink "LitStrangersModel" (325 : Nat) ({ cls := "LitStrangersModel", name := "isIn", desc := "(II)Z" } : Jvm.MethodName)) ∈ lw_all := lw_g (lw_at lw_m9 173 rfl) rfl
theorem q2212 : (Jvm.Cond.static ({ cls := "LitStrangersModel", name := "isIn", desc := "(II)Z" } : Jvm.MethodName)) ∈ lw_all := lw_g (lw_at lw_m9 174 rfl) rfl
theorem q2213 : (Jvm.Cond.code ({ cls := "LitStrangersModel", name := "isIn", desc := "(II)Z" } : Jvm.MethodName) prog_29_method_5_code (2 : Nat) (Option.some Jvm.ClassFile.FieldType.boolean)) ∈ lw_all := lw_g (lw_at lw_m9 175 rfl) rfl
theorem q2214 : (Jvm.Cond.methodLink "LitStrangersModel" (328 : Nat) ({ cls := "LitStrangersModel", name := "mayLight", desc := "(I)Z" } : Jvm.MethodName)) ∈ lw_all := lw_g (lw_at lw_m9 176 rfl) rfl
theorem q2215 : (Jvm.Cond.privateMethod ({ cls := "LitStrangersModel", name := "mayLight", desc := "(I)Z" } : Jvm.MethodName)) ∈ lw_tbl := lw_at lw_m9 177 rfl
theorem q2216 : (Jvm.Cond.instanceMethod ({ cls := "LitStrangersModel", name := "mayLight", desc := "(I)Z" } : Jvm.MethodName)) ∈ lw_all := lw_g (lw_at lw_m9 178 rfl) rfl
theorem q2217 : (Jvm.Cond.code ({ cls := "LitStrangersModel", name := "mayLight", desc := "(I)Z" } : Jvm.MethodName) prog_29_method_79_code (2 : Nat) (Option.some Jvm.ClassFile.FieldType.boolean)) ∈ lw_all := lw_g (lw_at lw_m9 179 rfl) rfl
theorem q2218 : (Jvm.Cond.methodLink "LitStrangersModel" (331 : Nat) ({ cls := "LitStrangersModel", name := "needOn", desc := "(I)I" } : Jvm.MethodName)) ∈ lw_all := lw_g (lw_at lw_m9 180 rfl) rfl
theorem q2219 : (Jvm.Cond.static ({ cls := "LitStrangersModel", name := "needOn", desc := "(I)I" } : Jvm.MethodName)) ∈ lw_all := lw_g (lw_at lw_m9 181 rfl) rfl
theorem q2220 : (Jvm.Cond.code ({ cls := "LitStrangersModel", name := "needOn", desc := "(I)I" } : Jvm.MethodName) prog_29_method_81_code (1 : Nat) (Option.some Jvm.ClassFile.FieldType.int)) ∈ lw_all := lw_g (lw_at lw_m9 182 rfl) rfl
theorem q2221 : (Jvm.Cond.methodLink "LitStrangersModel" (334 : Nat) ({ cls := "LitStrangersModel", name := "doTalk", desc := "(II)Z" } : Jvm.MethodName)) ∈ lw_all := lw_g (lw_at lw_m9 183 rfl) rfl
theorem q2222 : (Jvm.Cond.privateMethod ({ cls := "LitStrangersModel", name := "doTalk", desc := "(II)Z" } : Jvm.MethodName)) ∈ lw_tbl := lw_at lw_m9 184 rfl
theorem q2223 : (Jvm.Cond.instanceMethod ({ cls := "LitStrangersModel", name := "doTalk", desc := "(II)Z" } : Jvm.MethodName)) ∈ lw_all := lw_g (lw_at lw_m9 185 rfl) rfl
theorem q2224 : (Jvm.Cond.code ({ cls := "LitStrangersModel", name := "doTalk", desc := "(II)Z" } : Jvm.MethodName) prog_29_method_22_code (3 : Nat) (Option.some Jvm.ClassFile.FieldType.boolean)) ∈ lw_all := lw_g (lw_at lw_m9 186 rfl) rfl
theorem q2225 : (Jvm.Cond.methodLink "LitStrangersModel" (337 : Nat) ({ cls := "LitStrangersModel", name := "lesser", desc := "(II)I" } : Jvm.MethodName)) ∈ lw_all := lw_g (lw_at lw_m9 187 rfl) rfl
theorem q2226 : (Jvm.Cond.static ({ cls := "LitStrangersModel", name := "lesser", desc := "(II)I" } : Jvm.MethodName)) ∈ lw_all := lw_g (lw_at lw_m9 188 rfl) rfl
theorem q2227 : (Jvm.Cond.code ({ cls := "LitStrangersModel", name := "lesser", desc := "(II)I" } : Jvm.MethodName) prog_29_method_7_code (2 : Nat) (Option.some Jvm.ClassFile.FieldType.int)) ∈ lw_all := lw_g (lw_at lw_m9 189 rfl) rfl
theorem q2228 : (Jvm.Cond.methodLink "LitStrangersModel" (340 : Nat) ({ cls := "LitStrangersModel", name := "passesNight", desc := "()V" } : Jvm.MethodName)) ∈ lw_all := lw_g (lw_at lw_m9 190 rfl) rfl
theorem q2229 : (Jvm.Cond.privateMethod ({ cls := "LitStrangersModel", name := "passesNight", desc := "()V" } : Jvm.MethodName)) ∈ lw_tbl := lw_at lw_m9 191 rfl
theorem q2230 : (Jvm.Cond.instanceMethod ({ cls := "LitStrangersModel", name := "passesNight", desc := "()V" } : Jvm.MethodName)) ∈ lw_all := lw_g (lw_at lw_m9 192 rfl) rfl
theorem q2231 : (Jvm.Cond.code ({ cls := "LitStrangersModel", name := "passesNight", desc := "()V" } : Jvm.MethodName) prog_29_method_78_code (2 : Nat) (Option.none : Option Jvm.ClassFile.FieldType)) ∈ lw_all := lw_g (lw_at lw_m9 193 rfl) rfl
theorem q2233 : (Jvm.Cond.instanceMethod ({ cls := "LitStrangersModel", name := "dark", desc := "()I" } : Jvm.MethodName)) ∈ lw_all := lw_g (lw_at lw_m9 195 rfl) rfl
theorem q2234 : (Jvm.Cond.selects "LitStrangersModel" ({ cls := "LitStrangersModel", name := "dark", desc := "()I" } : Jvm.MethodName) ({ cls := "LitStrangersModel", name := "dark", desc := "()I" } : Jvm.MethodName)) ∈ lw_all := lw_g (lw_at lw_m9 196 rfl) rfl
theorem q2235 : (Jvm.Cond.code ({ cls := "LitStrangersModel", name := "dark", desc := "()I" } : Jvm.MethodName) prog_29_method_86_code (1 : Nat) (Option.some Jvm.ClassFile.FieldType.int)) ∈ lw_all := lw_g (lw_at lw_m9 197 rfl) rfl
theorem q2236 : (Jvm.Cond.methodLink "LitStrangersModel" (352 : Nat) ({ cls := "LitStrangersModel", name := "darkKept", desc := "()I" } : Jvm.MethodName)) ∈ lw_all := lw_g (lw_at lw_m9 198 rfl) rfl
theorem q2237 : (Jvm.Cond.privateMethod ({ cls := "LitStrangersModel", name := "darkKept", desc := "()I" } : Jvm.MethodName)) ∈ lw_tbl := lw_at lw_m9 199 rfl
theorem q2238 : (Jvm.Cond.instanceMethod ({ cls := "LitStrangersModel", name := "darkKept", desc := "()I" } : Jvm.MethodName)) ∈ lw_all := lw_g (lw_at lw_m9 200 rfl) rfl
theorem q2239 : (Jvm.Cond.code ({ cls := "LitStrangersModel", name := "darkKept", desc := "()I" } : Jvm.MethodName) prog_29_method_82_code (1 : Nat) (Option.some Jvm.ClassFile.FieldType.int)) ∈ lw_all := lw_g (lw_at lw_m9 201 rfl) rfl
theorem q2241 : (Jvm.Cond.instanceMethod ({ cls := "LitStrangersModel", name := "last", desc := "(I)I" } : Jvm.MethodName)) ∈ lw_all := lw_g (lw_at lw_m9 203 rfl) rfl
theorem q2242 : (Jvm.Cond.selects "LitStrangersModel" ({ cls := "LitStrangersModel", name := "last", desc := "(I)I" } : Jvm.MethodName) ({ cls := "LitStrangersModel", name := "last", desc := "(I)I" } : Jvm.MethodName)) ∈ lw_all := lw_g (lw_at lw_m9 204 rfl) rfl
theorem q2243 : (Jvm.Cond.code ({ cls := "LitStrangersModel", name := "last", desc := "(I)I" } : Jvm.MethodName) prog_29_method_96_code (6 : Nat) (Option.some Jvm.ClassFile.FieldType.int)) ∈ lw_all := lw_g (lw_at lw_m9 205 rfl) rfl
theorem q2244 : (Jvm.Cond.methodLink "LitStrangersModel" (385 : Nat) ({ cls := "LitStrangersModel", name := "looks", desc := "()V" } : Jvm.MethodName)) ∈ lw_all := lw_g (lw_at lw_m9 206 rfl) rfl
theorem q2245 : (Jvm.Cond.privateMethod ({ cls := "LitStrangersModel", name := "looks", desc := "()V" } : Jvm.MethodName)) ∈ lw_tbl := lw_at lw_m9 207 rfl
theorem q2246 : (Jvm.Cond.instanceMethod ({ cls := "LitStrangersModel", name := "looks", desc := "()V" } : Jvm.MethodName)) ∈ lw_all := lw_g (lw_at lw_m9 208 rfl) rfl
theorem q2247 : (Jvm.Cond.code ({ cls := "LitStrangersModel", name := "looks", desc := "()V" } : Jvm.MethodName) prog_29_method_87_code (4 : Nat) (Option.none : Option Jvm.ClassFile.FieldType)) ∈ lw_all := lw_g (lw_at lw_m9 209 rfl) rfl
theorem q2248 : (Jvm.Cond.methodLink "LitStrangersModel" (361 : Nat) ({ cls := "LitStrangersModel", name := "forgets", desc := "()V" } : Jvm.MethodName)) ∈ lw_all := lw_g (lw_at lw_m9 210 rfl) rfl
theorem q2249 : (Jvm.Cond.privateMethod ({ cls := "LitStrangersModel", name := "forgets", desc := "()V" } : Jvm.MethodName)) ∈ lw_tbl := lw_at lw_m9 211 rfl
theorem q2250 : (Jvm.Cond.instanceMethod ({ cls := "LitStrangersModel", name := "forgets", desc := "()V" } : Jvm.MethodName)) ∈ lw_all := lw_g (lw_at lw_m9 212 rfl) rfl
theorem q2251 : (Jvm.Cond.code ({ cls := "LitStrangersModel", name := "forgets", desc := "()V" } : Jvm.MethodName) prog_29_method_88_code (2 : Nat) (Option.none : Option Jvm.ClassFile.FieldType)) ∈ lw_all := lw_g (lw_at lw_m9 213 rfl) rfl
theorem q2252 : (Jvm.Cond.methodLink "LitStrangersModel" (382 : Nat) ({ cls := "LitStrangersModel", name := "longestFrom", desc := "(II)I" } : Jvm.MethodName)) ∈ lw_all := lw_g (lw_at lw_m9 214 rfl) rfl
theorem q2253 : (Jvm.Cond.privateMethod ({ cls := "LitStrangersModel", name := "longestFrom", desc := "(II)I" } : Jvm.MethodName)) ∈ lw_tbl := lw_at lw_m9 215 rfl
theorem q2254 : (Jvm.Cond.instanceMethod ({ cls := "LitStrangersModel", name := "longestFrom", desc := "(II)I" } : Jvm.MethodName)) ∈ lw_all := lw_g (lw_at lw_m9 216 rfl) rfl
theorem q2255 : (Jvm.Cond.code ({ cls := "LitStrangersModel", name := "longestFrom", desc := "(II)I" } : Jvm.MethodName) prog_29_method_95_code (7 : Nat) (Option.some Jvm.ClassFile.FieldType.int)) ∈ lw_all := lw_g (lw_at lw_m9 217 rfl) rfl
theorem q2256 : (Jvm.Cond.methodLink "LitStrangersModel" (379 : Nat) ({ cls := "LitStrangersModel", name := "crewIn", desc := "(III)I" } : Jvm.MethodName)) ∈ lw_all := lw_g (lw_at lw_m9 218 rfl) rfl
theorem q2257 : (Jvm.Cond.privateMethod ({ cls := "LitStrangersModel", name := "crewIn", desc := "(III)I" } : Jvm.MethodName)) ∈ lw_tbl := lw_at lw_m9 219 rfl
theorem q2258 : (Jvm.Cond.instanceMethod ({ cls := "LitStrangersModel", name := "crewIn", desc := "(III)I" } : Jvm.MethodName)) ∈ lw_all := lw_g (lw_at lw_m9 220 rfl) rfl
theorem q2259 : (Jvm.Cond.code ({ cls := "LitStrangersModel", name := "crewIn", desc := "(III)I" } : Jvm.MethodName) prog_29_method_94_code (5 : Nat) (Option.some Jvm.ClassFile.FieldType.int)) ∈ lw_all := lw_g (lw_at lw_m9 221 rfl) rfl
theorem q2260 : (Jvm.Cond.methodLink "LitStrangersModel" (373 : Nat) ({ cls := "LitStrangersModel", name := "laysWorths", desc := "(III)V" } : Jvm.MethodName)) ∈ lw_all := lw_g (lw_at lw_m9 222 rfl) rfl
theorem q2261 : (Jvm.Cond.privateMethod ({ cls := "LitStrangersModel", name := "laysWorths", desc := "(III)V" } : Jvm.MethodName)) ∈ lw_tbl := lw_at lw_m9 223 rfl
theorem q2262 : (Jvm.Cond.instanceMethod ({ cls := "LitStrangersModel", name := "laysWorths", desc := "(III)V" } : Jvm.MethodName)) ∈ lw_all := lw_g (lw_at lw_m9 224 rfl) rfl
theorem q2263 : (Jvm.Cond.code ({ cls := "LitStrangersModel", name := "laysWorths", desc := "(III)V" } : Jvm.MethodName) prog_29_method_91_code (6 : Nat) (Option.none : Option Jvm.ClassFile.FieldType)) ∈ lw_all := lw_g (lw_at lw_m9 225 rfl) rfl
theorem q2264 : (Jvm.Cond.methodLink "LitStrangersModel" (364 : Nat) ({ cls := "LitStrangersModel", name := "heardBy", desc := "(II)I" } : Jvm.MethodName)) ∈ lw_all := lw_g (lw_at lw_m9 226 rfl) rfl
theorem q2265 : (Jvm.Cond.privateMethod ({ cls := "LitStrangersModel", name := "heardBy", desc := "(II)I" } : Jvm.MethodName)) ∈ lw_tbl := lw_at lw_m9 227 rfl
theorem q2266 : (Jvm.Cond.instanceMethod ({ cls := "LitStrangersModel", name := "heardBy", desc := "(II)I" } : Jvm.MethodName)) ∈ lw_all := lw_g (lw_at lw_m9 228 rfl) rfl
theorem q2267 : (Jvm.Cond.code ({ cls := "LitStrangersModel", name := "heardBy", desc := "(II)I" } : Jvm.MethodName) prog_29_method_89_code (5 : Nat) (Option.some Jvm.ClassFile.FieldType.int)) ∈ lw_all := lw_g (lw_at lw_m9 229 rfl) rfl
theorem q2268 : (Jvm.Cond.methodLink "LitStrangersModel" (367 : Nat) ({ cls := "LitStrangersModel", name := "isBarredOn", desc := "(IIII)Z" } : Jvm.MethodName)) ∈ lw_all := lw_g (lw_at lw_m9 230 rfl) rfl
theorem q2269 : (Jvm.Cond.privateMethod ({ cls := "LitStrangersModel", name := "isBarredOn", desc := "(IIII)Z" } : Jvm.MethodName)) ∈ lw_tbl := lw_at lw_m9 231 rfl
theorem q2270 : (Jvm.Cond.instanceMethod ({ cls := "LitStrangersModel", name := "isBarredOn", desc := "(IIII)Z" } : Jvm.MethodName)) ∈ lw_all := lw_g (lw_at lw_m9 232 rfl) rfl
theorem q2271 : (Jvm.Cond.code ({ cls := "LitStrangersModel", name := "isBarredOn", desc := "(IIII)Z" } : Jvm.MethodName) prog_29_method_90_code (6 : Nat) (Option.some Jvm.ClassFile.FieldType.boolean)) ∈ lw_all := lw_g (lw_at lw_m9 233 rfl) rfl
theorem q2272 : (Jvm.Cond.methodLink "LitStrangersModel" (376 : Nat) ({ cls := "LitStrangersModel", name := "crewBehind", desc := "(II)I" } : Jvm.MethodName)) ∈ lw_all := lw_g (lw_at lw_m9 234 rfl) rfl
theorem q2273 : (Jvm.Cond.privateMethod ({ cls := "LitStrangersModel", name := "crewBehind", desc := "(II)I" } : Jvm.MethodName)) ∈ lw_tbl := lw_at lw_m9 235 rfl
theorem q2274 : (Jvm.Cond.instanceMethod ({ cls := "LitStrangersModel", name := "crewBehind", desc := "(II)I" } : Jvm.MethodName)) ∈ lw_all := lw_g (lw_at lw_m9 236 rfl) rfl
theorem q2275 : (Jvm.Cond.code ({ cls := "LitStrangersModel", name := "crewBehind", desc := "(II)I" } : Jvm.MethodName) prog_29_method_93_code (5 : Nat) (Option.some Jvm.ClassFile.FieldType.int)) ∈ lw_all := lw_g (lw_at lw_m9 237 rfl) rfl
theorem q2276 : (Jvm.Cond.methodLink "LitStrangersModel" (370 : Nat) ({ cls := "LitStrangersModel", name := "isCrew", desc := "(II)Z" } : Jvm.MethodName)) ∈ lw_all := lw_g (lw_at lw_m9 238 rfl) rfl
theorem q2277 : (Jvm.Cond.privateMethod ({ cls := "LitStrangersModel", name := "isCrew", desc := "(II)Z" } : Jvm.MethodName)) ∈ lw_tbl := lw_at lw_m9 239 rfl
theorem q2278 : (Jvm.Cond.instanceMethod ({ cls := "LitStrangersModel", name := "isCrew", desc := "(II)Z" } : Jvm.MethodName)) ∈ lw_all := lw_g (lw_at lw_m10 0 rfl) rfl
theorem q2279 : (Jvm.Cond.code ({ cls := "LitStrangersModel", name := "isCrew", desc := "(II)Z" } : Jvm.MethodName) prog_29_method_92_code (6 : Nat) (Option.some Jvm.ClassFile.FieldType.boolean)) ∈ lw_all := lw_g (lw_at lw_m10 1 rfl) rfl
theorem q2281 : (Jvm.Cond.instanceMethod ({ cls := "LitStrangersModel", name := "cheap", desc := "(II)I" } : Jvm.MethodName)) ∈ lw_all := lw_g (lw_at lw_m10 3 rfl) rfl
theorem q2282 : (Jvm.Cond.selects "LitStrangersModel" ({ cls := "LitStrangersModel", name := "cheap", desc := "(II)I" } : Jvm.MethodName) ({ cls := "LitStrangersModel", name := "cheap", desc := "(II)I" } : Jvm.MethodName)) ∈ lw_all := lw_g (lw_at lw_m10 4 rfl) rfl
theorem q2283 : (Jvm.Cond.code ({ cls := "LitStrangersModel", name := "cheap", desc := "(II)I" } : Jvm.MethodName) prog_29_method_99_code (8 : Nat) (Option.some Jvm.ClassFile.FieldType.int)) ∈ lw_all := lw_g (lw_at lw_m10 5 rfl) rfl
theorem q2284 : (Jvm.Cond.methodLink "LitStrangersModel" (388 : Nat) ({ cls := "LitStrangersModel", name := "cheapestFrom", desc := "(III)I" } : Jvm.MethodName)) ∈ lw_all := lw_g (lw_at lw_m10 6 rfl) rfl
theorem q2285 : (Jvm.Cond.privateMethod ({ cls := "LitStrangersModel", name := "cheapestFrom", desc := "(III)I" } : Jvm.MethodName)) ∈ lw_tbl := lw_at lw_m10 7 rfl
theorem q2286 : (Jvm.Cond.instanceMethod ({ cls := "LitStrangersModel", name := "cheapestFrom", desc := "(III)I" } : Jvm.MethodName)) ∈ lw_all := lw_g (lw_at lw_m10 8 rfl) rfl
theorem q2287 : (Jvm.Cond.code ({ cls := "LitStrangersModel", name := "cheapestFrom", desc := "(III)I" } : Jvm.MethodName) prog_29_method_98_code (7 : Nat) (Option.some Jvm.ClassFile.FieldType.int)) ∈ lw_all := lw_g (lw_at lw_m10 9 rfl) rfl
theorem q2288 : (Jvm.Cond.methodLink "LitStrangersModel" (391 : Nat) ({ cls := "LitStrangersModel", name := "priceOf", desc := "(I)I" } : Jvm.MethodName)) ∈ lw_all := lw_g (lw_at lw_m10 10 rfl) rfl
theorem q2289 : (Jvm.Cond.privateMethod ({ cls := "LitStrangersModel", name := "priceOf", desc := "(I)I" } : Jvm.MethodName)) ∈ lw_tbl := lw_at lw_m10 11 rfl
theorem q2290 : (Jvm.Cond.instanceMethod ({ cls := "LitStrangersModel", name := "priceOf", desc := "(I)I" } : Jvm.MethodName)) ∈ lw_all := lw_g (lw_at lw_m10 12 rfl) rfl
theorem q2291 : (Jvm.Cond.code ({ cls := "LitStrangersModel", name := "priceOf", desc := "(I)I" } : Jvm.MethodName) prog_29_method_97_code (4 : Nat) (Option.some Jvm.ClassFile.FieldType.int)) ∈ lw_all := lw_g (lw_at lw_m10 13 rfl) rfl
theorem q2293 : (Jvm.Cond.instanceMethod ({ cls := "LitStrangersModel", name := "ways", desc := "(I)J" } : Jvm.MethodName)) ∈ lw_all := lw_g (lw_at lw_m10 15 rfl) rfl
theorem q2294 : (Jvm.Cond.selects "LitStrangersModel" ({ cls := "LitStrangersModel", name := "ways", desc := "(I)J" } : Jvm.MethodName) ({ cls := "LitStrangersModel", name := "ways", desc := "(I)J" } : Jvm.MethodName)) ∈ lw_all := lw_g (lw_at lw_m10 16 rfl) rfl
theorem q2295 : (Jvm.Cond.code ({ cls := "LitStrangersModel", name := "ways", desc := "(I)J" } : Jvm.MethodName) prog_29_method_101_code (3 : Nat) (Option.some Jvm.ClassFile.FieldType.long)) ∈ lw_all := lw_g (lw_at lw_m10 17 rfl) rfl
theorem q2296 : (Jvm.Cond.methodLink "LitStrangersModel" (394 : Nat) ({ cls := "LitStrangersModel", name := "rowsFrom", desc := "(III)J" } : Jvm.MethodName)) ∈ lw_all := lw_g (lw_at lw_m10 18 rfl) rfl
theorem q2297 : (Jvm.Cond.privateMethod ({ cls := "LitStrangersModel", name := "rowsFrom", desc := "(III)J" } : Jvm.MethodName)) ∈ lw_tbl := lw_at lw_m10 19 rfl
theorem q2298 : (Jvm.Cond.instanceMethod ({ cls := "LitStrangersModel", name := "rowsFrom", desc := "(III)J" } : Jvm.MethodName)) ∈ lw_all := lw_g (lw_at lw_m10 20 rfl) rfl
theorem q2299 : (Jvm.Cond.code ({ cls := "LitStrangersModel", name := "rowsFrom", desc := "(III)J" } : Jvm.MethodName) prog_29_method_100_code (8 : Nat) (Option.some Jvm.ClassFile.FieldType.long)) ∈ lw_all := lw_g (lw_at lw_m10 21 rfl) rfl
theorem q2301 : (Jvm.Cond.instanceMethod ({ cls := "LitStrangersModel", name := "late", desc := "(I)I" } : Jvm.MethodName)) ∈ lw_all := lw_g (lw_at lw_m10 23 rfl) rfl
theorem q2302 : (Jvm.Cond.selects "LitStrangersModel" ({ cls := "LitStrangersModel", name := "late", desc := "(I)I" } : Jvm.MethodName) ({ cls := "LitStrangersModel", name := "late", desc := "(I)I" } : Jvm.MethodName)) ∈ lw_all := lw_g (lw_at lw_m10 24 rfl) rfl
theorem q2303 : (Jvm.Cond.code ({ cls := "LitStrangersModel", name := "late", desc := "(I)I" } : Jvm.MethodName) prog_29_method_102_code (7 : Nat) (Option.some Jvm.ClassFile.FieldType.int)) ∈ lw_all := lw_g (lw_at lw_m10 25 rfl) rfl
theorem q2305 : (Jvm.Cond.instanceMethod ({ cls := "LitStrangersModel", name := "swaps", desc := "(I)I" } : Jvm.MethodName)) ∈ lw_all := lw_g (lw_at lw_m10 27 rfl) rfl
theorem q2306 : (Jvm.Cond.selects "LitStrangersModel" ({ cls := "LitStrangersModel", name := "swaps", desc := "(I)I" } : Jvm.MethodName) ({ cls := "LitStrangersModel", name := "swaps", desc := "(I)I" } : Jvm.MethodName)) ∈ lw_all := lw_g (lw_at lw_m10 28 rfl) rfl
theorem q2307 : (Jvm.Cond.code ({ cls := "LitStrangersModel", name := "swaps", desc := "(I)I" } : Jvm.MethodName) prog_29_method_106_code (7 : Nat) (Option.some Jvm.ClassFile.FieldType.int)) ∈ lw_all := lw_g (lw_at lw_m10 29 rfl) rfl
theorem q2308 : (Jvm.Cond.methodLink "LitStrangersModel" (405 : Nat) ({ cls := "LitStrangersModel", name := "turnsFrom", desc := "(III)I" } : Jvm.MethodName)) ∈ lw_all := lw_g (lw_at lw_m10 30 rfl) rfl
theorem q2309 : (Jvm.Cond.privateMethod ({ cls := "LitStrangersModel", name := "turnsFrom", desc := "(III)I" } : Jvm.MethodName)) ∈ lw_tbl := lw_at lw_m10 31 rfl
theorem q2310 : (Jvm.Cond.instanceMethod ({ cls := "LitStrangersModel", name := "turnsFrom", desc := "(III)I" } : Jvm.MethodName)) ∈ lw_all := lw_g (lw_at lw_m10 32 rfl) rfl
theorem q2311 : (Jvm.Cond.code ({ cls := "LitStrangersModel", name := "turnsFrom", desc := "(III)I" } : Jvm.MethodName) prog_29_method_105_code (8 : Nat) (Option.some Jvm.ClassFile.FieldType.int)) ∈ lw_all := lw_g (lw_at lw_m10 33 rfl) rfl
theorem q2312 : (Jvm.Cond.methodLink "LitStrangersModel" (401 : Nat) ({ cls := "LitStrangersModel", name := "turnBehind", desc := "(IIII)I" } : Jvm.MethodName)) ∈ lw_all := lw_g (lw_at lw_m10 34 rfl) rfl
theorem q2313 : (Jvm.Cond.privateMethod ({ cls := "LitStrangersModel", name := "turnBehind", desc := "(IIII)I" } : Jvm.MethodName)) ∈ lw_tbl := lw_at lw_m10 35 rfl
theorem q2314 : (Jvm.Cond.instanceMethod ({ cls := "LitStrangersModel", name := "turnBehind", desc := "(IIII)I" } : Jvm.MethodName)) ∈ lw_all := lw_g (lw_at lw_m10 36 rfl) rfl
theorem q2315 : (Jvm.Cond.code ({ cls := "LitStrangersModel", name := "turnBehind", desc := "(IIII)I" } : Jvm.MethodName) prog_29_method_104_code (6 : Nat) (Option.some Jvm.ClassFile.FieldType.int)) ∈ lw_all := lw_g (lw_at lw_m10 37 rfl) rfl
theorem q2316 : (Jvm.Cond.methodLink "LitStrangersModel" (398 : Nat) ({ cls := "LitStrangersModel", name := "landsOf", desc := "(I)I" } : Jvm.MethodName)) ∈ lw_all := lw_g (lw_at lw_m10 38 rfl) rfl
theorem q2317 : (Jvm.Cond.privateMethod ({ cls := "LitStrangersModel", name := "landsOf", desc := "(I)I" } : Jvm.MethodName)) ∈ lw_tbl := lw_at lw_m10 39 rfl
theorem q2318 : (Jvm.Cond.instanceMethod ({ cls := "LitStrangersModel", name := "landsOf", desc := "(I)I" } : Jvm.MethodName)) ∈ lw_all := lw_g (lw_at lw_m10 40 rfl) rfl
theorem q2319 : (Jvm.Cond.code ({ cls := "LitStrangersModel", name := "landsOf", desc := "(I)I" } : Jvm.MethodName) prog_29_method_103_code (4 : Nat) (Option.some Jvm.ClassFile.FieldType.int)) ∈ lw_all := lw_g (lw_at lw_m10 41 rfl) rfl
theorem q2321 : (Jvm.Cond.instanceMethod ({ cls := "LitStrangersModel", name := "crews", desc := "(I)I" } : Jvm.MethodName)) ∈ lw_all := lw_g (lw_at lw_m10 43 rfl) rfl
theorem q2322 : (Jvm.Cond.selects "LitStrangersModel" ({ cls := "LitStrangersModel", name := "crews", desc := "(I)I" } : Jvm.MethodName) ({ cls := "LitStrangersModel", name := "crews", desc := "(I)I" } : Jvm.MethodName)) ∈ lw_all := lw_g (lw_at lw_m10 44 rfl) rfl
theorem q2323 : (Jvm.Cond.code ({ cls := "LitStrangersModel", name := "crews", desc := "(I)I" } : Jvm.MethodName) prog_29_method_107_code (5 : Nat) (Option.some Jvm.ClassFile.FieldType.int)) ∈ lw_all := lw_g (lw_at lw_m10 45 rfl) rfl
theorem q2325 : (Jvm.Cond.instanceMethod ({ cls := "LitStrangersModel", name := "share", desc := "(I)I" } : Jvm.MethodName)) ∈ lw_all := lw_g (lw_at lw_m10 47 rfl) rfl
theorem q2326 : (Jvm.Cond.selects "LitStrangersModel" ({ cls := "LitStrangersModel", name := "share", desc := "(I)I" } : Jvm.MethodName) ({ cls := "LitStrangersModel", name := "share", desc := "(I)I" } : Jvm.MethodName)) ∈ lw_all := lw_g (lw_at lw_m10 48 rfl) rfl
theorem q2327 : (Jvm.Cond.code ({ cls := "LitStrangersModel", name := "share", desc := "(I)I" } : Jvm.MethodName) prog_29_method_108_code (4 : Nat) (Option.some Jvm.ClassFile.FieldType.int)) ∈ lw_all := lw_g (lw_at lw_m10 49 rfl) rfl
theorem q2329 : (Jvm.Cond.instanceMethod ({ cls := "LitStrangersModel", name := "harm", desc := "(I)I" } : Jvm.MethodName)) ∈ lw_all := lw_g (lw_at lw_m10 51 rfl) rfl
theorem q2330 : (Jvm.Cond.selects "LitStrangersModel" ({ cls := "LitStrangersModel", name := "harm", desc := "(I)I" } : Jvm.MethodName) ({ cls := "LitStrangersModel", name := "harm", desc := "(I)I" } : Jvm.MethodName)) ∈ lw_all := lw_g (lw_at lw_m10 52 rfl) rfl
theorem q2331 : (Jvm.Cond.code ({ cls := "LitStrangersModel", name := "harm", desc := "(I)I" } : Jvm.MethodName) prog_29_method_109_code (4 : Nat) (Option.some Jvm.ClassFile.FieldType.int)) ∈ lw_all := lw_g (lw_at lw_m10 53 rfl) rfl
theorem q2333 : (Jvm.Cond.instanceMethod ({ cls := "LitStrangersModel", name := "hush", desc := "(II)I" } : Jvm.MethodName)) ∈ lw_all := lw_g (lw_at lw_m10 55 rfl) rfl
theorem q2334 : (Jvm.Cond.selects "LitStrangersModel" ({ cls := "LitStrangersModel", name := "hush", desc := "(II)I" } : Jvm.MethodName) ({ cls := "LitStrangersModel", name := "hush", desc := "(II)I" } : Jvm.MethodName)) ∈ lw_all := lw_g (lw_at lw_m10 56 rfl) rfl
theorem q2335 : (Jvm.Cond.code ({ cls := "LitStrangersModel", name := "hush", desc := "(II)I" } : Jvm.MethodName) prog_29_method_110_code (7 : Nat) (Option.some Jvm.ClassFile.FieldType.int)) ∈ lw_all := lw_g (lw_at lw_m10 57 rfl) rfl
theorem q2336 : (Jvm.Cond.methodLink "LitStrangersModel" (408 : Nat) ({ cls := "LitStrangersModel", name := "ones", desc := "(I)I" } : Jvm.MethodName)) ∈ lw_all := lw_g (lw_at lw_m10 58 rfl) rfl
theorem q2337 : (Jvm.Cond.static ({ cls := "LitStrangersModel", name := "ones", desc := "(I)I" } : Jvm.MethodName)) ∈ lw_all := lw_g (lw_at lw_m10 59 rfl) rfl
theorem q2338 : (Jvm.Cond.code ({ cls := "LitStrangersModel", name := "ones", desc := "(I)I" } : Jvm.MethodName) prog_29_method_6_code (3 : Nat) (Option.some Jvm.ClassFile.FieldType.int)) ∈ lw_all := lw_g (lw_at lw_m10 60 rfl) rfl
theorem q2340 : (Jvm.Cond.instanceMethod ({ cls := "LitStrangersModel", name := "who", desc := "(I)I" } : Jvm.MethodName)) ∈ lw_all := lw_g (lw_at lw_m10 62 rfl) rfl
theorem q2341 : (Jvm.Cond.selects "LitStrangersModel" ({ cls := "LitStrangersModel", name := "who", desc := "(I)I" } : Jvm.MethodName) ({ cls := "LitStrangersModel", name := "who", desc := "(I)I" } : Jvm.MethodName)) ∈ lw_all := lw_g (lw_at lw_m10 63 rfl) rfl
theorem q2342 : (Jvm.Cond.code ({ cls := "LitStrangersModel", name := "who", desc := "(I)I" } : Jvm.MethodName) prog_29_method_111_code (4 : Nat) (Option.some Jvm.ClassFile.FieldType.int)) ∈ lw_all := lw_g (lw_at lw_m10 64 rfl) rfl
theorem q2344 : (Jvm.Cond.instanceMethod ({ cls := "LitStrangersModel", name := "stopped", desc := "()I" } : Jvm.MethodName)) ∈ lw_all := lw_g (lw_at lw_m10 66 rfl) rfl
theorem q2345 : (Jvm.Cond.selects "LitStrangersModel" ({ cls := "LitStrangersModel", name := "stopped", desc := "()I" } : Jvm.MethodName) ({ cls := "LitStrangersModel", name := "stopped", desc := "()I" } : Jvm.MethodName)) ∈ lw_all := lw_g (lw_at lw_m10 67 rfl) rfl
theorem q2346 : (Jvm.Cond.code ({ cls := "LitStrangersModel", name := "stopped", desc := "()I" } : Jvm.MethodName) prog_29_method_112_code (1 : Nat) (Option.some Jvm.ClassFile.FieldType.int)) ∈ lw_all := lw_g (lw_at lw_m10 68 rfl) rfl
theorem q2348 : (Jvm.Cond.instanceMethod ({ cls := "LitStrangersModel", name := "orders", desc := "()I" } : Jvm.MethodName)) ∈ lw_all := lw_g (lw_at lw_m10 70 rfl) rfl
theorem q2349 : (Jvm.Cond.selects "LitStrangersModel" ({ cls := "LitStrangersModel", name := "orders", desc := "()I" } : Jvm.MethodName) ({ cls := "LitStrangersModel", name := "orders", desc := "()I" } : Jvm.MethodName)) ∈ lw_all := lw_g (lw_at lw_m10 71 rfl) rfl
theorem q2350 : (Jvm.Cond.code ({ cls := "LitStrangersModel", name := "orders", desc := "()I" } : Jvm.MethodName) prog_29_method_113_code (5 : Nat) (Option.some Jvm.ClassFile.FieldType.int)) ∈ lw_all := lw_g (lw_at lw_m10 72 rfl) rfl
theorem q2351 : (Jvm.Cond.methodLink "LitStrangersModel" (417 : Nat) ({ cls := "LitStrangersModel", name := "runs", desc := "(I)Z" } : Jvm.MethodName)) ∈ lw_all := lw_g (lw_at lw_m10 73 rfl) rfl
theorem q2352 : (Jvm.Cond.privateMethod ({ cls := "LitStrangersModel", name := "runs", desc := "(I)Z" } : Jvm.MethodName)) ∈ lw_tbl := lw_at lw_m10 74 rfl
theorem q2353 : (Jvm.Cond.instanceMethod ({ cls := "LitStrangersModel", name := "runs", desc := "(I)Z" } : Jvm.MethodName)) ∈ lw_all := lw_g (lw_at lw_m10 75 rfl) rfl
theorem q2354 : (Jvm.Cond.code ({ cls := "LitStrangersModel", name := "runs", desc := "(I)Z" } : Jvm.MethodName) prog_29_method_116_code (6 : Nat) (Option.some Jvm.ClassFile.FieldType.boolean)) ∈ lw_all := lw_g (lw_at lw_m10 76 rfl) rfl
theorem q2355 : (Jvm.Cond.methodLink "LitStrangersModel" (438 : Nat) ({ cls := "LitStrangersModel", name := "goesAlong", desc := "(IZ)V" } : Jvm.MethodName)) ∈ lw_all := lw_g (lw_at lw_m10 77 rfl) rfl
theorem q2356 : (Jvm.Cond.privateMethod ({ cls := "LitStrangersModel", name := "goesAlong", desc := "(IZ)V" } : Jvm.MethodName)) ∈ lw_tbl := lw_at lw_m10 78 rfl
theorem q2357 : (Jvm.Cond.instanceMethod ({ cls := "LitStrangersModel", name := "goesAlong", desc := "(IZ)V" } : Jvm.MethodName)) ∈ lw_all := lw_g (lw_at lw_m10 79 rfl) rfl
theorem q2358 : (Jvm.Cond.code ({ cls := "LitStrangersModel", name := "goesAlong", desc := "(IZ)V" } : Jvm.MethodName) prog_29_method_114_code (3 : Nat) (Option.none : Option Jvm.ClassFile.FieldType)) ∈ lw_all := lw_g (lw_at lw_m10 80 rfl) rfl
theorem q2359 : (Jvm.Cond.methodLink "LitStrangersModel" (442 : Nat) ({ cls := "LitStrangersModel", name := "small", desc := "(J)I" } : Jvm.MethodName)) ∈ lw_all := lw_g (lw_at lw_m10 81 rfl) rfl
theorem q2360 : (Jvm.Cond.static ({ cls := "LitStrangersModel", name := "small", desc := "(J)I" } : Jvm.MethodName)) ∈ lw_all := lw_g (lw_at lw_m10 82 rfl) rfl
theorem q2361 : (Jvm.Cond.code ({ cls := "LitStrangersModel", name := "small", desc := "(J)I" } : Jvm.MethodName) prog_29_method_115_code (2 : Nat) (Option.some Jvm.ClassFile.FieldType.int)) ∈ lw_all := lw_g (lw_at lw_m10 83 rfl) rfl
theorem q2362 : (Jvm.Cond.constantLong "LitStrangersModel" (436 : Nat) (1000000 : Int64)) ∈ lw_all := lw_g (lw_at lw_m10 84 rfl) rfl
theorem q2364 : (Jvm.Cond.instanceMethod ({ cls := "LitStrangersModel", name := "winter", desc := "(II)I" } : Jvm.MethodName)) ∈ lw_all := lw_g (lw_at lw_m10 86 rfl) rfl
theorem q2365 : (Jvm.Cond.selects "LitStrangersModel" ({ cls := "LitStrangersModel", name := "winter", desc := "(II)I" } : Jvm.MethodName) ({ cls := "LitStrangersModel", name := "winter", desc := "(II)I" } : Jvm.MethodName)) ∈ lw_all := lw_g (lw_at lw_m10 87 rfl) rfl
theorem q2366 : (Jvm.Cond.code ({ cls := "LitStrangersModel", name := "winter", desc := "(II)I" } : Jvm.MethodName) prog_29_method_119_code (8 : Nat) (Option.some Jvm.ClassFile.FieldType.int)) ∈ lw_all := lw_g (lw_at lw_m10 88 rfl) rfl
theorem q2367 : (Jvm.Cond.methodLink "LitStrangersModel" (458 : Nat) ({ cls := "LitStrangersModel", name := "draws", desc := "(I)I" } : Jvm.MethodName)) ∈ lw_all := lw_g (lw_at lw_m10 89 rfl) rfl
theorem q2368 : (Jvm.Cond.privateMethod ({ cls := "LitStrangersModel", name := "draws", desc := "(I)I" } : Jvm.MethodName)) ∈ lw_tbl := lw_at lw_m10 90 rfl
theorem q2369 : (Jvm.Cond.instanceMethod ({ cls := "LitStrangersModel", name := "draws", desc := "(I)I" } : Jvm.MethodName)) ∈ lw_all := lw_g (lw_at lw_m10 91 rfl) rfl
theorem q2370 : (Jvm.Cond.code ({ cls := "LitStrangersModel", name := "draws", desc := "(I)I" } : Jvm.MethodName) prog_29_method_117_code (2 : Nat) (Option.some Jvm.ClassFile.FieldType.int)) ∈ lw_all := lw_g (lw_at lw_m10 92 rfl) rfl
theorem q2371 : (Jvm.Cond.constantLong "LitStrangersModel" (446 : Nat) (1103 : Int64)) ∈ lw_all := lw_g (lw_at lw_m10 93 rfl) rfl
theorem q2372 : (Jvm.Cond.constantLong "LitStrangersModel" (451 : Nat) (12345 : Int64)) ∈ lw_all := lw_g (lw_at lw_m10 94 rfl) rfl
theorem q2373 : (Jvm.Cond.constantLong "LitStrangersModel" (453 : Nat) (1000003 : Int64)) ∈ lw_all := lw_g (lw_at lw_m10 95 rfl) rfl
theorem q2374 : (Jvm.Cond.methodLink "LitStrangersModel" (461 : Nat) ({ cls := "LitStrangersModel", name := "laysWorthsOf", desc := "(III)V" } : Jvm.MethodName)) ∈ lw_all := lw_g (lw_at lw_m10 96 rfl) rfl
theorem q2375 : (Jvm.Cond.privateMethod ({ cls := "LitStrangersModel", name := "laysWorthsOf", desc := "(III)V" } : Jvm.MethodName)) ∈ lw_tbl := lw_at lw_m10 97 rfl
theorem q2376 : (Jvm.Cond.instanceMethod ({ cls := "LitStrangersModel", name := "laysWorthsOf", desc := "(III)V" } : Jvm.MethodName)) ∈ lw_all := lw_g (lw_at lw_m10 98 rfl) rfl
theorem q2377 : (Jvm.Cond.code ({ cls := "LitStrangersModel", name := "laysWorthsOf", desc := "(III)V" } : Jvm.MethodName) prog_29_method_118_code (6 : Nat) (Option.none : Option Jvm.ClassFile.FieldType)) ∈ lw_all := lw_g (lw_at lw_m10 99 rfl) rfl
theorem q2379 : (Jvm.Cond.instanceMethod ({ cls := "LitStrangersModel", name := "drawn", desc := "(I)I" } : Jvm.MethodName)) ∈ lw_all := lw_g (lw_at lw_m10 101 rfl) rfl
theorem q2380 : (Jvm.Cond.selects "LitStrangersModel" ({ cls := "LitStrangersModel", name := "drawn", desc := "(I)I" } : Jvm.MethodName) ({ cls := "LitStrangersModel", name := "drawn", desc := "(I)I" } : Jvm.MethodName)) ∈ lw_all := lw_g (lw_at lw_m10 102 rfl) rfl
theorem q2381 : (Jvm.Cond.code ({ cls := "LitStrangersModel", name := "drawn", desc := "(I)I" } : Jvm.MethodName) prog_29_method_120_code (2 : Nat) (Option.some Jvm.ClassFile.FieldType.int)) ∈ lw_all := lw_g (lw_at lw_m10 103 rfl) rfl
theorem q2383 : (Jvm.Cond.instanceMethod ({ cls := "LitStrangersModel", name := "count", desc := "(I)I" } : Jvm.MethodName)) ∈ lw_all := lw_g (lw_at lw_m10 105 rfl) rfl
theorem q2384 : (Jvm.Cond.selects "LitStrangersModel" ({ cls := "LitStrangersModel", name := "count", desc := "(I)I" } : Jvm.MethodName) ({ cls := "LitStrangersModel", name := "count", desc := "(I)I" } : Jvm.MethodName)) ∈ lw_all := lw_g (lw_at lw_m10 106 rfl) rfl
theorem q2385 : (Jvm.Cond.code ({ cls := "LitStrangersModel", name := "count", desc := "(I)I" } : Jvm.MethodName) prog_29_method_121_code (5 : Nat) (Option.some Jvm.ClassFile.FieldType.int)) ∈ lw_all := lw_g (lw_at lw_m10 107 rfl) rfl
theorem q2387 : (Jvm.Cond.instanceMethod ({ cls := "LitStrangersModel", name := "status", desc := "()I" } : Jvm.MethodName)) ∈ lw_all := lw_g (lw_at lw_m10 109 rfl) rfl
theorem q2388 : (Jvm.Cond.selects "LitStrangersModel" ({ cls := "LitStrangersModel", name := "status", desc := "()I" } : Jvm.MethodName) ({ cls := "LitStrangersModel", name := "status", desc := "()I" } : Jvm.MethodName)) ∈ lw_all := lw_g (lw_at lw_m10 110 rfl) rfl
theorem q2389 : (Jvm.Cond.code ({ cls := "LitStrangersModel", name := "status", desc := "()I" } : Jvm.MethodName) prog_29_method_122_code (1 : Nat) (Option.some Jvm.ClassFile.FieldType.int)) ∈ lw_all := lw_g (lw_at lw_m10 111 rfl) rfl
theorem q2422 : (Jvm.Cond.castable "LitStrangersModel" "java/lang/Object") ∈ lw_tbl := lw_at lw_m10 144 rfl
theorem in_X6 : ∀ w ∈ wsX60, w ∈ lw_all := lw_in wsX60 [1803, 1805, 1807, 1809, 1811, 1813, 1815, 1817, 1819, 1821, 1823, 1825, 1827, 1829, 1831, 1833, 1835, 1837, 1839, 1841, 1843, 1845, 1847, 1849, 1851, 1853, 1855, 1857, 1859, 1861, 1863, 1865, 1867, 1869, 1871, 1873, 1875, 1877, 1879, 1881, 1883, 1885, 1887, 1889, 1891, 1893, 1895, 1897, 1899, 1901, 1903, 1905] (by decide +kernel) (by decide +kernel)
