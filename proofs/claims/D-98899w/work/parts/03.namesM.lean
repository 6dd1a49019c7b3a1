/-! PartedSideModel -/
set_option maxRecDepth 100000
def RX13 : String := "PartedSideModel"
def TX13 : u_T := fun k => match k with
  | 0 => ("PartedSideModel", "thrown", "I", false)
  | 1 => ("PartedSideModel", "tape", "[B", true)
  | 2 => ("PartedSideModel", "taped", "I", false)
  | 3 => ("PartedSideModel", "text", "[B", true)
  | 4 => ("PartedSideModel", "size", "I", false)
  | 5 => ("PartedSideModel", "tKind", "[I", true)
  | 6 => ("PartedSideModel", "tPlace", "[I", true)
  | 7 => ("PartedSideModel", "tValue", "[I", true)
  | 8 => ("PartedSideModel", "tName", "[J", true)
  | 9 => ("PartedSideModel", "keys", "[J", true)
  | 10 => ("PartedSideModel", "tokens", "I", false)
  | 11 => ("PartedSideModel", "t", "I", false)
  | 12 => ("PartedSideModel", "open", "I", false)
  | 13 => ("PartedSideModel", "fault", "I", false)
  | 14 => ("PartedSideModel", "faultPlace", "I", false)
  | 15 => ("PartedSideModel", "worstSo", "I", false)
  | 16 => ("PartedSideModel", "worstPlace", "I", false)
  | 17 => ("PartedSideModel", "place", "I", false)
  | 18 => ("PartedSideModel", "live", "I", false)
  | 19 => ("PartedSideModel", "side", "I", false)
  | 20 => ("PartedSideModel", "names", "I", false)
  | 21 => ("PartedSideModel", "nameOf", "[J", true)
  | 22 => ("PartedSideModel", "sleepers", "[I", true)
  | 23 => ("PartedSideModel", "leftTold", "[I", true)
  | 24 => ("PartedSideModel", "habitTold", "[I", true)
  | 25 => ("PartedSideModel", "coldOf", "[I", true)
  | 26 => ("PartedSideModel", "colds", "[I", true)
  | 27 => ("PartedSideModel", "hasCold", "[Z", true)
  | 28 => ("PartedSideModel", "ring", "[I", true)
  | 29 => ("PartedSideModel", "startsAt", "[I", true)
  | 30 => ("PartedSideModel", "seed", "[I", true)
  | 31 => ("PartedSideModel", "lawFirst", "[I", true)
  | 32 => ("PartedSideModel", "lawLast", "[I", true)
  | 33 => ("PartedSideModel", "branches", "I", false)
  | 34 => ("PartedSideModel", "hasTest", "[Z", true)
  | 35 => ("PartedSideModel", "testFrom", "[I", true)
  | 36 => ("PartedSideModel", "testMid", "[I", true)
  | 37 => ("PartedSideModel", "testTo", "[I", true)
  | 38 => ("PartedSideModel", "termTo", "[I", true)
  | 39 => ("PartedSideModel", "codes", "I", false)
  | 40 => ("PartedSideModel", "code", "[I", true)
  | 41 => ("PartedSideModel", "codeInt", "[I", true)
  | 42 => ("PartedSideModel", "waits", "[I", true)
  | 43 => ("PartedSideModel", "waiting", "I", false)
  | 44 => ("PartedSideModel", "variables", "[I", true)
  | 45 => ("PartedSideModel", "pile", "[I", true)
  | 46 => ("PartedSideModel", "isBroken", "Z", false)
  | 47 => ("PartedSideModel", "now", "[I", true)
  | 48 => ("PartedSideModel", "row", "[I", true)
  | 49 => ("PartedSideModel", "lots", "I", false)
  | 50 => ("PartedSideModel", "isStill", "Z", false)
  | 51 => ("PartedSideModel", "leftNext", "[I", true)
  | 52 => ("PartedSideModel", "partingNext", "[I", true)
  | 53 => ("PartedSideModel", "undos", "I", false)
  | 54 => ("PartedSideModel", "history", "[I", true)
  | 55 => ("PartedSideModel", "costsBy", "[I", true)
  | 56 => ("PartedSideModel", "isLed", "[Z", true)
  | 57 => ("PartedSideModel", "leftBy", "[I", true)
  | 58 => ("PartedSideModel", "tolds", "I", false)
  | 59 => ("PartedSideModel", "toldBed", "[I", true)
  | 60 => ("PartedSideModel", "toldHours", "[I", true)
  | 61 => ("PartedSideModel", "toldLeft", "[I", true)
  | 62 => ("PartedSideModel", "isSo", "[Z", true)
  | 63 => ("PartedSideModel", "isHeld", "[Z", true)
  | _ => ("PartedSideModel", "heldRows", "[I", true)
def tyX13 : Nat → FieldType := fun k => match k with
  | 0 => .int
  | 1 => .array .byte
  | 2 => .int
  | 3 => .array .byte
  | 4 => .int
  | 5 => .array .int
  | 6 => .array .int
  | 7 => .array .int
  | 8 => .array .long
  | 9 => .array .long
  | 10 => .int
  | 11 => .int
  | 12 => .int
  | 13 => .int
  | 14 => .int
  | 15 => .int
  | 16 => .int
  | 17 => .int
  | 18 => .int
  | 19 => .int
  | 20 => .int
  | 21 => .array .long
  | 22 => .array .int
  | 23 => .array .int
  | 24 => .array .int
  | 25 => .array .int
  | 26 => .array .int
  | 27 => .array .boolean
  | 28 => .array .int
  | 29 => .array .int
  | 30 => .array .int
  | 31 => .array .int
  | 32 => .array .int
  | 33 => .int
  | 34 => .array .boolean
  | 35 => .array .int
  | 36 => .array .int
  | 37 => .array .int
  | 38 => .array .int
  | 39 => .int
  | 40 => .array .int
  | 41 => .array .int
  | 42 => .array .int
  | 43 => .int
  | 44 => .array .int
  | 45 => .array .int
  | 46 => .boolean
  | 47 => .array .int
  | 48 => .array .int
  | 49 => .int
  | 50 => .boolean
  | 51 => .array .int
  | 52 => .array .int
  | 53 => .int
  | 54 => .array .int
  | 55 => .array .int
  | 56 => .array .boolean
  | 57 => .array .int
  | 58 => .int
  | 59 => .array .int
  | 60 => .array .int
  | 61 => .array .int
  | 62 => .array .boolean
  | 63 => .array .boolean
  | _ => .array .int
abbrev wsX130 : List Cond := u_ws RX13 TX13 65
set_option maxRecDepth 100000 in
theorem nmX13 : ∀ a, a < 65 → ∀ b, b < 65 → a ≠ b → (TX13 a).2.1 ≠ (TX13 b).2.1 := by decide +kernel
set_option maxRecDepth 100000 in
theorem tyX13_ok : ∀ k, k < 65 → parseFieldDescriptor (TX13 k).2.2.1 = some (tyX13 k) := by decide +kernel
abbrev cX13_init : ByteArray := prog_21_method_2_code
def yX13_init : MethodName := ⟨RX13, "<init>", "()V"⟩
def dkwX13_init_36 : List UInt8 := [182, 0, 160, 177]
abbrev dktX13_init_36 : List UInt8 := dkwX13_init_36 ++ []
def dkwX13_init_35 : List UInt8 := [16, 20, 16, 112, 16, 97, 16, 114, 16, 116, 16, 101, 16, 100, 3, 184, 0, 153, 80, 42, 182, 0, 157, 42]
abbrev dktX13_init_35 : List UInt8 := dkwX13_init_35 ++ dktX13_init_36
def dkwX13_init_34 : List UInt8 := [180, 0, 34, 16, 19, 16, 109, 16, 97, 16, 110, 16, 121, 3, 3, 3, 184, 0, 153, 80, 42, 180, 0, 34]
abbrev dktX13_init_34 : List UInt8 := dkwX13_init_34 ++ dktX13_init_35
def dkwX13_init_33 : List UInt8 := [80, 42, 180, 0, 34, 16, 18, 16, 98, 16, 101, 16, 100, 3, 3, 3, 3, 184, 0, 153, 80, 42]
abbrev dktX13_init_33 : List UInt8 := dkwX13_init_33 ++ dktX13_init_34
def dkwX13_init_32 : List UInt8 := [184, 0, 153, 80, 42, 180, 0, 34, 16, 17, 16, 104, 16, 111, 16, 117, 16, 114, 3, 3, 3, 184, 0, 153]
abbrev dktX13_init_32 : List UInt8 := dkwX13_init_32 ++ dktX13_init_33
def dkwX13_init_31 : List UInt8 := [184, 0, 153, 80, 42, 180, 0, 34, 16, 16, 16, 100, 16, 114, 16, 97, 16, 102, 16, 116, 3, 3]
abbrev dktX13_init_31 : List UInt8 := dkwX13_init_31 ++ dktX13_init_32
def dkwX13_init_30 : List UInt8 := [184, 0, 153, 80, 42, 180, 0, 34, 16, 15, 16, 104, 16, 97, 16, 98, 16, 105, 16, 116, 3, 3]
abbrev dktX13_init_30 : List UInt8 := dkwX13_init_30 ++ dktX13_init_31
def dkwX13_init_29 : List UInt8 := [184, 0, 153, 80, 42, 180, 0, 34, 16, 14, 16, 98, 16, 101, 16, 104, 16, 105, 16, 110, 16, 100, 3]
abbrev dktX13_init_29 : List UInt8 := dkwX13_init_29 ++ dktX13_init_30
def dkwX13_init_28 : List UInt8 := [184, 0, 153, 80, 42, 180, 0, 34, 16, 13, 16, 98, 16, 101, 16, 102, 16, 111, 16, 114, 16, 101, 3]
abbrev dktX13_init_28 : List UInt8 := dkwX13_init_28 ++ dktX13_init_29
def dkwX13_init_27 : List UInt8 := [3, 3, 184, 0, 153, 80, 42, 180, 0, 34, 16, 12, 16, 111, 16, 119, 16, 110, 3, 3, 3, 3]
abbrev dktX13_init_27 : List UInt8 := dkwX13_init_27 ++ dktX13_init_28
def dkwX13_init_26 : List UInt8 := [16, 110, 3, 3, 3, 184, 0, 153, 80, 42, 180, 0, 34, 16, 11, 16, 101, 16, 108, 16, 115, 16, 101, 3]
abbrev dktX13_init_26 : List UInt8 := dkwX13_init_26 ++ dktX13_init_27
def dkwX13_init_25 : List UInt8 := [16, 102, 3, 3, 3, 3, 3, 184, 0, 153, 80, 42, 180, 0, 34, 16, 10, 16, 116, 16, 104, 16, 101]
abbrev dktX13_init_25 : List UInt8 := dkwX13_init_25 ++ dktX13_init_26
def dkwX13_init_24 : List UInt8 := [16, 115, 16, 101, 16, 101, 16, 100, 3, 3, 3, 184, 0, 153, 80, 42, 180, 0, 34, 16, 9, 16, 105]
abbrev dktX13_init_24 : List UInt8 := dkwX13_init_24 ++ dktX13_init_25
def dkwX13_init_23 : List UInt8 := [16, 98, 16, 101, 16, 103, 16, 105, 16, 110, 16, 115, 3, 184, 0, 153, 80, 42, 180, 0, 34, 16, 8]
abbrev dktX13_init_23 : List UInt8 := dkwX13_init_23 ++ dktX13_init_24
def dkwX13_init_22 : List UInt8 := [16, 6, 16, 114, 16, 105, 16, 110, 16, 103, 3, 3, 3, 184, 0, 153, 80, 42, 180, 0, 34, 16, 7]
abbrev dktX13_init_22 : List UInt8 := dkwX13_init_22 ++ dktX13_init_23
def dkwX13_init_21 : List UInt8 := [180, 0, 34, 8, 16, 99, 16, 111, 16, 115, 16, 116, 16, 115, 3, 3, 184, 0, 153, 80, 42, 180, 0, 34]
abbrev dktX13_init_21 : List UInt8 := dkwX13_init_21 ++ dktX13_init_22
def dkwX13_init_20 : List UInt8 := [180, 0, 34, 7, 16, 99, 16, 104, 16, 105, 16, 108, 16, 108, 16, 115, 3, 184, 0, 153, 80, 42]
abbrev dktX13_init_20 : List UInt8 := dkwX13_init_20 ++ dktX13_init_21
def dkwX13_init_19 : List UInt8 := [42, 180, 0, 34, 6, 16, 112, 16, 97, 16, 114, 16, 116, 16, 115, 3, 3, 184, 0, 153, 80, 42]
abbrev dktX13_init_19 : List UInt8 := dkwX13_init_19 ++ dktX13_init_20
def dkwX13_init_18 : List UInt8 := [184, 0, 153, 80, 42, 180, 0, 34, 5, 16, 108, 16, 105, 16, 101, 16, 115, 3, 3, 3, 184, 0, 153, 80]
abbrev dktX13_init_18 : List UInt8 := dkwX13_init_18 ++ dktX13_init_19
def dkwX13_init_17 : List UInt8 := [16, 101, 16, 114, 184, 0, 153, 80, 42, 180, 0, 34, 4, 16, 99, 16, 111, 16, 108, 16, 100, 3, 3, 3]
abbrev dktX13_init_17 : List UInt8 := dkwX13_init_17 ++ dktX13_init_18
def dkwX13_init_16 : List UInt8 := [182, 0, 149, 42, 4, 182, 0, 149, 42, 180, 0, 34, 3, 16, 115, 16, 108, 16, 101, 16, 101, 16, 112]
abbrev dktX13_init_16 : List UInt8 := dkwX13_init_16 ++ dktX13_init_17
def dkwX13_init_15 : List UInt8 := [188, 4, 181, 0, 140, 42, 6, 188, 4, 181, 0, 143, 42, 17, 0, 144, 188, 10, 181, 0, 146, 42, 3]
abbrev dktX13_init_15 : List UInt8 := dkwX13_init_15 ++ dktX13_init_16
def dkwX13_init_14 : List UInt8 := [181, 0, 131, 42, 16, 20, 188, 10, 181, 0, 134, 42, 16, 20, 188, 10, 181, 0, 137, 42, 17, 2, 0]
abbrev dktX13_init_14 : List UInt8 := dkwX13_init_14 ++ dktX13_init_15
def dkwX13_init_13 : List UInt8 := [42, 17, 2, 0, 188, 4, 181, 0, 125, 42, 16, 9, 188, 10, 181, 0, 128, 42, 16, 20, 188, 10]
abbrev dktX13_init_13 : List UInt8 := dkwX13_init_13 ++ dktX13_init_14
def dkwX13_init_12 : List UInt8 := [16, 9, 188, 10, 181, 0, 116, 42, 17, 7, 128, 188, 10, 181, 0, 119, 42, 16, 9, 188, 10, 181, 0, 122]
abbrev dktX13_init_12 : List UInt8 := dkwX13_init_12 ++ dktX13_init_13
def dkwX13_init_11 : List UInt8 := [16, 48, 188, 10, 181, 0, 107, 42, 16, 48, 188, 10, 181, 0, 110, 42, 16, 9, 188, 10, 181, 0, 113, 42]
abbrev dktX13_init_11 : List UInt8 := dkwX13_init_11 ++ dktX13_init_12
def dkwX13_init_10 : List UInt8 := [188, 10, 181, 0, 98, 42, 16, 9, 188, 10, 181, 0, 101, 42, 17, 1, 144, 188, 10, 181, 0, 104, 42]
abbrev dktX13_init_10 : List UInt8 := dkwX13_init_10 ++ dktX13_init_11
def dkwX13_init_9 : List UInt8 := [181, 0, 89, 42, 17, 3, 72, 188, 10, 181, 0, 92, 42, 17, 3, 72, 188, 10, 181, 0, 95, 42, 16, 64]
abbrev dktX13_init_9 : List UInt8 := dkwX13_init_9 ++ dktX13_init_10
def dkwX13_init_8 : List UInt8 := [17, 1, 4, 188, 10, 181, 0, 83, 42, 17, 1, 4, 188, 10, 181, 0, 86, 42, 17, 1, 4, 188, 10]
abbrev dktX13_init_8 : List UInt8 := dkwX13_init_8 ++ dktX13_init_9
def dkwX13_init_7 : List UInt8 := [181, 0, 74, 42, 17, 1, 4, 188, 4, 181, 0, 77, 42, 17, 1, 4, 188, 10, 181, 0, 80, 42]
abbrev dktX13_init_7 : List UInt8 := dkwX13_init_7 ++ dktX13_init_8
def dkwX13_init_6 : List UInt8 := [181, 0, 65, 42, 5, 188, 10, 181, 0, 68, 42, 16, 8, 188, 10, 181, 0, 71, 42, 16, 8, 188, 10]
abbrev dktX13_init_6 : List UInt8 := dkwX13_init_6 ++ dktX13_init_7
def dkwX13_init_5 : List UInt8 := [181, 0, 55, 42, 16, 18, 188, 4, 181, 0, 58, 42, 5, 188, 10, 181, 0, 62, 42, 5, 188, 10]
abbrev dktX13_init_5 : List UInt8 := dkwX13_init_5 ++ dktX13_init_6
def dkwX13_init_4 : List UInt8 := [181, 0, 46, 42, 16, 18, 188, 10, 181, 0, 49, 42, 16, 18, 188, 10, 181, 0, 52, 42, 5, 188, 10]
abbrev dktX13_init_4 : List UInt8 := dkwX13_init_4 ++ dktX13_init_5
def dkwX13_init_3 : List UInt8 := [181, 0, 37, 42, 16, 9, 188, 11, 181, 0, 40, 42, 5, 188, 10, 181, 0, 43, 42, 16, 18, 188, 10]
abbrev dktX13_init_3 : List UInt8 := dkwX13_init_3 ++ dktX13_init_4
def dkwX13_init_2 : List UInt8 := [181, 0, 27, 42, 17, 1, 147, 188, 11, 181, 0, 30, 42, 16, 21, 188, 11, 181, 0, 34, 42, 2]
abbrev dktX13_init_2 : List UInt8 := dkwX13_init_2 ++ dktX13_init_3
def dkwX13_init_1 : List UInt8 := [17, 1, 147, 188, 10, 181, 0, 20, 42, 17, 1, 147, 188, 10, 181, 0, 24, 42, 17, 1, 147, 188, 10]
abbrev dktX13_init_1 : List UInt8 := dkwX13_init_1 ++ dktX13_init_2
def dkwX13_init_0 : List UInt8 := [42, 183, 0, 7, 42, 17, 7, 208, 188, 8, 181, 0, 13, 42, 17, 7, 208, 188, 8, 181, 0, 17, 42]
abbrev dktX13_init_0 : List UInt8 := dkwX13_init_0 ++ dktX13_init_1
theorem dksX13_init_0 : cX13_init.data.toList.drop 0 = dktX13_init_0 := by decide +kernel
theorem dksX13_init_1 : cX13_init.data.toList.drop 23 = dktX13_init_1 := dk_seg dksX13_init_0 23 rfl rfl
theorem dksX13_init_2 : cX13_init.data.toList.drop 46 = dktX13_init_2 := dk_seg dksX13_init_1 23 rfl rfl
theorem dksX13_init_3 : cX13_init.data.toList.drop 68 = dktX13_init_3 := dk_seg dksX13_init_2 22 rfl rfl
theorem dksX13_init_4 : cX13_init.data.toList.drop 91 = dktX13_init_4 := dk_seg dksX13_init_3 23 rfl rfl
theorem dksX13_init_5 : cX13_init.data.toList.drop 114 = dktX13_init_5 := dk_seg dksX13_init_4 23 rfl rfl
theorem dksX13_init_6 : cX13_init.data.toList.drop 136 = dktX13_init_6 := dk_seg dksX13_init_5 22 rfl rfl
theorem dksX13_init_7 : cX13_init.data.toList.drop 159 = dktX13_init_7 := dk_seg dksX13_init_6 23 rfl rfl
theorem dksX13_init_8 : cX13_init.data.toList.drop 181 = dktX13_init_8 := dk_seg dksX13_init_7 22 rfl rfl
theorem dksX13_init_9 : cX13_init.data.toList.drop 204 = dktX13_init_9 := dk_seg dksX13_init_8 23 rfl rfl
theorem dksX13_init_10 : cX13_init.data.toList.drop 228 = dktX13_init_10 := dk_seg dksX13_init_9 24 rfl rfl
theorem dksX13_init_11 : cX13_init.data.toList.drop 251 = dktX13_init_11 := dk_seg dksX13_init_10 23 rfl rfl
theorem dksX13_init_12 : cX13_init.data.toList.drop 275 = dktX13_init_12 := dk_seg dksX13_init_11 24 rfl rfl
theorem dksX13_init_13 : cX13_init.data.toList.drop 299 = dktX13_init_13 := dk_seg dksX13_init_12 24 rfl rfl
theorem dksX13_init_14 : cX13_init.data.toList.drop 321 = dktX13_init_14 := dk_seg dksX13_init_13 22 rfl rfl
theorem dksX13_init_15 : cX13_init.data.toList.drop 344 = dktX13_init_15 := dk_seg dksX13_init_14 23 rfl rfl
theorem dksX13_init_16 : cX13_init.data.toList.drop 367 = dktX13_init_16 := dk_seg dksX13_init_15 23 rfl rfl
theorem dksX13_init_17 : cX13_init.data.toList.drop 390 = dktX13_init_17 := dk_seg dksX13_init_16 23 rfl rfl
theorem dksX13_init_18 : cX13_init.data.toList.drop 414 = dktX13_init_18 := dk_seg dksX13_init_17 24 rfl rfl
theorem dksX13_init_19 : cX13_init.data.toList.drop 438 = dktX13_init_19 := dk_seg dksX13_init_18 24 rfl rfl
theorem dksX13_init_20 : cX13_init.data.toList.drop 460 = dktX13_init_20 := dk_seg dksX13_init_19 22 rfl rfl
theorem dksX13_init_21 : cX13_init.data.toList.drop 482 = dktX13_init_21 := dk_seg dksX13_init_20 22 rfl rfl
theorem dksX13_init_22 : cX13_init.data.toList.drop 506 = dktX13_init_22 := dk_seg dksX13_init_21 24 rfl rfl
theorem dksX13_init_23 : cX13_init.data.toList.drop 529 = dktX13_init_23 := dk_seg dksX13_init_22 23 rfl rfl
theorem dksX13_init_24 : cX13_init.data.toList.drop 552 = dktX13_init_24 := dk_seg dksX13_init_23 23 rfl rfl
theorem dksX13_init_25 : cX13_init.data.toList.drop 575 = dktX13_init_25 := dk_seg dksX13_init_24 23 rfl rfl
theorem dksX13_init_26 : cX13_init.data.toList.drop 598 = dktX13_init_26 := dk_seg dksX13_init_25 23 rfl rfl
theorem dksX13_init_27 : cX13_init.data.toList.drop 622 = dktX13_init_27 := dk_seg dksX13_init_26 24 rfl rfl
theorem dksX13_init_28 : cX13_init.data.toList.drop 644 = dktX13_init_28 := dk_seg dksX13_init_27 22 rfl rfl
theorem dksX13_init_29 : cX13_init.data.toList.drop 667 = dktX13_init_29 := dk_seg dksX13_init_28 23 rfl rfl
theorem dksX13_init_30 : cX13_init.data.toList.drop 690 = dktX13_init_30 := dk_seg dksX13_init_29 23 rfl rfl
theorem dksX13_init_31 : cX13_init.data.toList.drop 712 = dktX13_init_31 := dk_seg dksX13_init_30 22 rfl rfl
theorem dksX13_init_32 : cX13_init.data.toList.drop 734 = dktX13_init_32 := dk_seg dksX13_init_31 22 rfl rfl
theorem dksX13_init_33 : cX13_init.data.toList.drop 758 = dktX13_init_33 := dk_seg dksX13_init_32 24 rfl rfl
theorem dksX13_init_34 : cX13_init.data.toList.drop 780 = dktX13_init_34 := dk_seg dksX13_init_33 22 rfl rfl
theorem dksX13_init_35 : cX13_init.data.toList.drop 804 = dktX13_init_35 := dk_seg dksX13_init_34 24 rfl rfl
theorem dksX13_init_36 : cX13_init.data.toList.drop 828 = dktX13_init_36 := dk_seg dksX13_init_35 24 rfl rfl
theorem dX13_init_0 : decode cX13_init 0 = .ok (.aload_n 0, 1) := dk_42 (dk_at dksX13_init_0 0 rfl rfl)
theorem dX13_init_1 : decode cX13_init 1 = .ok (.invokespecial 7, 3) := dk_183 0 7 (dk_at dksX13_init_0 1 rfl rfl)
theorem dX13_init_4 : decode cX13_init 4 = .ok (.aload_n 0, 1) := dk_42 (dk_at dksX13_init_0 4 rfl rfl)
theorem dX13_init_5 : decode cX13_init 5 = .ok (.sipush 2000, 3) := dk_17 7 208 (dk_at dksX13_init_0 5 rfl rfl)
theorem dX13_init_8 : decode cX13_init 8 = .ok (.newarray .byte, 2) := dk_188_8 (dk_at dksX13_init_0 8 rfl rfl)
theorem dX13_init_10 : decode cX13_init 10 = .ok (.putfield 13, 3) := dk_181 0 13 (dk_at dksX13_init_0 10 rfl rfl)
theorem dX13_init_13 : decode cX13_init 13 = .ok (.aload_n 0, 1) := dk_42 (dk_at dksX13_init_0 13 rfl rfl)
theorem dX13_init_14 : decode cX13_init 14 = .ok (.sipush 2000, 3) := dk_17 7 208 (dk_at dksX13_init_0 14 rfl rfl)
theorem dX13_init_17 : decode cX13_init 17 = .ok (.newarray .byte, 2) := dk_188_8 (dk_at dksX13_init_0 17 rfl rfl)
theorem dX13_init_19 : decode cX13_init 19 = .ok (.putfield 17, 3) := dk_181 0 17 (dk_at dksX13_init_0 19 rfl rfl)
theorem dX13_init_22 : decode cX13_init 22 = .ok (.aload_n 0, 1) := dk_42 (dk_at dksX13_init_0 22 rfl rfl)
theorem dX13_init_23 : decode cX13_init 23 = .ok (.sipush 403, 3) := dk_17 1 147 (dk_at dksX13_init_1 0 rfl rfl)
theorem dX13_init_26 : decode cX13_init 26 = .ok (.newarray .int, 2) := dk_188_10 (dk_at dksX13_init_1 3 rfl rfl)
theorem dX13_init_28 : decode cX13_init 28 = .ok (.putfield 20, 3) := dk_181 0 20 (dk_at dksX13_init_1 5 rfl rfl)
theorem dX13_init_31 : decode cX13_init 31 = .ok (.aload_n 0, 1) := dk_42 (dk_at dksX13_init_1 8 rfl rfl)
theorem dX13_init_32 : decode cX13_init 32 = .ok (.sipush 403, 3) := dk_17 1 147 (dk_at dksX13_init_1 9 rfl rfl)
theorem dX13_init_35 : decode cX13_init 35 = .ok (.newarray .int, 2) := dk_188_10 (dk_at dksX13_init_1 12 rfl rfl)
theorem dX13_init_37 : decode cX13_init 37 = .ok (.putfield 24, 3) := dk_181 0 24 (dk_at dksX13_init_1 14 rfl rfl)
theorem dX13_init_40 : decode cX13_init 40 = .ok (.aload_n 0, 1) := dk_42 (dk_at dksX13_init_1 17 rfl rfl)
theorem dX13_init_41 : decode cX13_init 41 = .ok (.sipush 403, 3) := dk_17 1 147 (dk_at dksX13_init_1 18 rfl rfl)
theorem dX13_init_44 : decode cX13_init 44 = .ok (.newarray .int, 2) := dk_188_10 (dk_at dksX13_init_1 21 rfl rfl)
theorem dX13_init_46 : decode cX13_init 46 = .ok (.putfield 27, 3) := dk_181 0 27 (dk_at dksX13_init_2 0 rfl rfl)
theorem dX13_init_49 : decode cX13_init 49 = .ok (.aload_n 0, 1) := dk_42 (dk_at dksX13_init_2 3 rfl rfl)
theorem dX13_init_50 : decode cX13_init 50 = .ok (.sipush 403, 3) := dk_17 1 147 (dk_at dksX13_init_2 4 rfl rfl)
theorem dX13_init_53 : decode cX13_init 53 = .ok (.newarray .long, 2) := dk_188_11 (dk_at dksX13_init_2 7 rfl rfl)
theorem dX13_init_55 : decode cX13_init 55 = .ok (.putfield 30, 3) := dk_181 0 30 (dk_at dksX13_init_2 9 rfl rfl)
theorem dX13_init_58 : decode cX13_init 58 = .ok (.aload_n 0, 1) := dk_42 (dk_at dksX13_init_2 12 rfl rfl)
theorem dX13_init_59 : decode cX13_init 59 = .ok (.bipush 21, 2) := dk_16 21 (dk_at dksX13_init_2 13 rfl rfl)
theorem dX13_init_61 : decode cX13_init 61 = .ok (.newarray .long, 2) := dk_188_11 (dk_at dksX13_init_2 15 rfl rfl)
theorem dX13_init_63 : decode cX13_init 63 = .ok (.putfield 34, 3) := dk_181 0 34 (dk_at dksX13_init_2 17 rfl rfl)
theorem dX13_init_66 : decode cX13_init 66 = .ok (.aload_n 0, 1) := dk_42 (dk_at dksX13_init_2 20 rfl rfl)
theorem dX13_init_67 : decode cX13_init 67 = .ok (.iconst (-1), 1) := dk_2 (dk_at dksX13_init_2 21 rfl rfl)
theorem dX13_init_68 : decode cX13_init 68 = .ok (.putfield 37, 3) := dk_181 0 37 (dk_at dksX13_init_3 0 rfl rfl)
theorem dX13_init_71 : decode cX13_init 71 = .ok (.aload_n 0, 1) := dk_42 (dk_at dksX13_init_3 3 rfl rfl)
theorem dX13_init_72 : decode cX13_init 72 = .ok (.bipush 9, 2) := dk_16 9 (dk_at dksX13_init_3 4 rfl rfl)
theorem dX13_init_74 : decode cX13_init 74 = .ok (.newarray .long, 2) := dk_188_11 (dk_at dksX13_init_3 6 rfl rfl)
theorem dX13_init_76 : decode cX13_init 76 = .ok (.putfield 40, 3) := dk_181 0 40 (dk_at dksX13_init_3 8 rfl rfl)
theorem dX13_init_79 : decode cX13_init 79 = .ok (.aload_n 0, 1) := dk_42 (dk_at dksX13_init_3 11 rfl rfl)
theorem dX13_init_80 : decode cX13_init 80 = .ok (.iconst 2, 1) := dk_5 (dk_at dksX13_init_3 12 rfl rfl)
theorem dX13_init_81 : decode cX13_init 81 = .ok (.newarray .int, 2) := dk_188_10 (dk_at dksX13_init_3 13 rfl rfl)
theorem dX13_init_83 : decode cX13_init 83 = .ok (.putfield 43, 3) := dk_181 0 43 (dk_at dksX13_init_3 15 rfl rfl)
theorem dX13_init_86 : decode cX13_init 86 = .ok (.aload_n 0, 1) := dk_42 (dk_at dksX13_init_3 18 rfl rfl)
theorem dX13_init_87 : decode cX13_init 87 = .ok (.bipush 18, 2) := dk_16 18 (dk_at dksX13_init_3 19 rfl rfl)
theorem dX13_init_89 : decode cX13_init 89 = .ok (.newarray .int, 2) := dk_188_10 (dk_at dksX13_init_3 21 rfl rfl)
theorem dX13_init_91 : decode cX13_init 91 = .ok (.putfield 46, 3) := dk_181 0 46 (dk_at dksX13_init_4 0 rfl rfl)
theorem dX13_init_94 : decode cX13_init 94 = .ok (.aload_n 0, 1) := dk_42 (dk_at dksX13_init_4 3 rfl rfl)
theorem dX13_init_95 : decode cX13_init 95 = .ok (.bipush 18, 2) := dk_16 18 (dk_at dksX13_init_4 4 rfl rfl)
theorem dX13_init_97 : decode cX13_init 97 = .ok (.newarray .int, 2) := dk_188_10 (dk_at dksX13_init_4 6 rfl rfl)
theorem dX13_init_99 : decode cX13_init 99 = .ok (.putfield 49, 3) := dk_181 0 49 (dk_at dksX13_init_4 8 rfl rfl)
theorem dX13_init_102 : decode cX13_init 102 = .ok (.aload_n 0, 1) := dk_42 (dk_at dksX13_init_4 11 rfl rfl)
theorem dX13_init_103 : decode cX13_init 103 = .ok (.bipush 18, 2) := dk_16 18 (dk_at dksX13_init_4 12 rfl rfl)
theorem dX13_init_105 : decode cX13_init 105 = .ok (.newarray .int, 2) := dk_188_10 (dk_at dksX13_init_4 14 rfl rfl)
theorem dX13_init_107 : decode cX13_init 107 = .ok (.putfield 52, 3) := dk_181 0 52 (dk_at dksX13_init_4 16 rfl rfl)
theorem dX13_init_110 : decode cX13_init 110 = .ok (.aload_n 0, 1) := dk_42 (dk_at dksX13_init_4 19 rfl rfl)
theorem dX13_init_111 : decode cX13_init 111 = .ok (.iconst 2, 1) := dk_5 (dk_at dksX13_init_4 20 rfl rfl)
theorem dX13_init_112 : decode cX13_init 112 = .ok (.newarray .int, 2) := dk_188_10 (dk_at dksX13_init_4 21 rfl rfl)
theorem dX13_init_114 : decode cX13_init 114 = .ok (.putfield 55, 3) := dk_181 0 55 (dk_at dksX13_init_5 0 rfl rfl)
theorem dX13_init_117 : decode cX13_init 117 = .ok (.aload_n 0, 1) := dk_42 (dk_at dksX13_init_5 3 rfl rfl)
theorem dX13_init_118 : decode cX13_init 118 = .ok (.bipush 18, 2) := dk_16 18 (dk_at dksX13_init_5 4 rfl rfl)
theorem dX13_init_120 : decode cX13_init 120 = .ok (.newarray .boolean, 2) := dk_188_4 (dk_at dksX13_init_5 6 rfl rfl)
theorem dX13_init_122 : decode cX13_init 122 = .ok (.putfield 58, 3) := dk_181 0 58 (dk_at dksX13_init_5 8 rfl rfl)
theorem dX13_init_125 : decode cX13_init 125 = .ok (.aload_n 0, 1) := dk_42 (dk_at dksX13_init_5 11 rfl rfl)
theorem dX13_init_126 : decode cX13_init 126 = .ok (.iconst 2, 1) := dk_5 (dk_at dksX13_init_5 12 rfl rfl)
theorem dX13_init_127 : decode cX13_init 127 = .ok (.newarray .int, 2) := dk_188_10 (dk_at dksX13_init_5 13 rfl rfl)
theorem dX13_init_129 : decode cX13_init 129 = .ok (.putfield 62, 3) := dk_181 0 62 (dk_at dksX13_init_5 15 rfl rfl)
theorem dX13_init_132 : decode cX13_init 132 = .ok (.aload_n 0, 1) := dk_42 (dk_at dksX13_init_5 18 rfl rfl)
theorem dX13_init_133 : decode cX13_init 133 = .ok (.iconst 2, 1) := dk_5 (dk_at dksX13_init_5 19 rfl rfl)
theorem dX13_init_134 : decode cX13_init 134 = .ok (.newarray .int, 2) := dk_188_10 (dk_at dksX13_init_5 20 rfl rfl)
theorem dX13_init_136 : decode cX13_init 136 = .ok (.putfield 65, 3) := dk_181 0 65 (dk_at dksX13_init_6 0 rfl rfl)
theorem dX13_init_139 : decode cX13_init 139 = .ok (.aload_n 0, 1) := dk_42 (dk_at dksX13_init_6 3 rfl rfl)
theorem dX13_init_140 : decode cX13_init 140 = .ok (.iconst 2, 1) := dk_5 (dk_at dksX13_init_6 4 rfl rfl)
theorem dX13_init_141 : decode cX13_init 141 = .ok (.newarray .int, 2) := dk_188_10 (dk_at dksX13_init_6 5 rfl rfl)
theorem dX13_init_143 : decode cX13_init 143 = .ok (.putfield 68, 3) := dk_181 0 68 (dk_at dksX13_init_6 7 rfl rfl)
theorem dX13_init_146 : decode cX13_init 146 = .ok (.aload_n 0, 1) := dk_42 (dk_at dksX13_init_6 10 rfl rfl)
theorem dX13_init_147 : decode cX13_init 147 = .ok (.bipush 8, 2) := dk_16 8 (dk_at dksX13_init_6 11 rfl rfl)
theorem dX13_init_149 : decode cX13_init 149 = .ok (.newarray .int, 2) := dk_188_10 (dk_at dksX13_init_6 13 rfl rfl)
theorem dX13_init_151 : decode cX13_init 151 = .ok (.putfield 71, 3) := dk_181 0 71 (dk_at dksX13_init_6 15 rfl rfl)
theorem dX13_init_154 : decode cX13_init 154 = .ok (.aload_n 0, 1) := dk_42 (dk_at dksX13_init_6 18 rfl rfl)
theorem dX13_init_155 : decode cX13_init 155 = .ok (.bipush 8, 2) := dk_16 8 (dk_at dksX13_init_6 19 rfl rfl)
theorem dX13_init_157 : decode cX13_init 157 = .ok (.newarray .int, 2) := dk_188_10 (dk_at dksX13_init_6 21 rfl rfl)
theorem dX13_init_159 : decode cX13_init 159 = .ok (.putfield 74, 3) := dk_181 0 74 (dk_at dksX13_init_7 0 rfl rfl)
theorem dX13_init_162 : decode cX13_init 162 = .ok (.aload_n 0, 1) := dk_42 (dk_at dksX13_init_7 3 rfl rfl)
theorem dX13_init_163 : decode cX13_init 163 = .ok (.sipush 260, 3) := dk_17 1 4 (dk_at dksX13_init_7 4 rfl rfl)
theorem dX13_init_166 : decode cX13_init 166 = .ok (.newarray .boolean, 2) := dk_188_4 (dk_at dksX13_init_7 7 rfl rfl)
theorem dX13_init_168 : decode cX13_init 168 = .ok (.putfield 77, 3) := dk_181 0 77 (dk_at dksX13_init_7 9 rfl rfl)
theorem dX13_init_171 : decode cX13_init 171 = .ok (.aload_n 0, 1) := dk_42 (dk_at dksX13_init_7 12 rfl rfl)
theorem dX13_init_172 : decode cX13_init 172 = .ok (.sipush 260, 3) := dk_17 1 4 (dk_at dksX13_init_7 13 rfl rfl)
theorem dX13_init_175 : decode cX13_init 175 = .ok (.newarray .int, 2) := dk_188_10 (dk_at dksX13_init_7 16 rfl rfl)
theorem dX13_init_177 : decode cX13_init 177 = .ok (.putfield 80, 3) := dk_181 0 80 (dk_at dksX13_init_7 18 rfl rfl)
theorem dX13_init_180 : decode cX13_init 180 = .ok (.aload_n 0, 1) := dk_42 (dk_at dksX13_init_7 21 rfl rfl)
theorem dX13_init_181 : decode cX13_init 181 = .ok (.sipush 260, 3) := dk_17 1 4 (dk_at dksX13_init_8 0 rfl rfl)
theorem dX13_init_184 : decode cX13_init 184 = .ok (.newarray .int, 2) := dk_188_10 (dk_at dksX13_init_8 3 rfl rfl)
theorem dX13_init_186 : decode cX13_init 186 = .ok (.putfield 83, 3) := dk_181 0 83 (dk_at dksX13_init_8 5 rfl rfl)
theorem dX13_init_189 : decode cX13_init 189 = .ok (.aload_n 0, 1) := dk_42 (dk_at dksX13_init_8 8 rfl rfl)
theorem dX13_init_190 : decode cX13_init 190 = .ok (.sipush 260, 3) := dk_17 1 4 (dk_at dksX13_init_8 9 rfl rfl)
theorem dX13_init_193 : decode cX13_init 193 = .ok (.newarray .int, 2) := dk_188_10 (dk_at dksX13_init_8 12 rfl rfl)
theorem dX13_init_195 : decode cX13_init 195 = .ok (.putfield 86, 3) := dk_181 0 86 (dk_at dksX13_init_8 14 rfl rfl)
theorem dX13_init_198 : decode cX13_init 198 = .ok (.aload_n 0, 1) := dk_42 (dk_at dksX13_init_8 17 rfl rfl)
theorem dX13_init_199 : decode cX13_init 199 = .ok (.sipush 260, 3) := dk_17 1 4 (dk_at dksX13_init_8 18 rfl rfl)
theorem dX13_init_202 : decode cX13_init 202 = .ok (.newarray .int, 2) := dk_188_10 (dk_at dksX13_init_8 21 rfl rfl)
theorem dX13_init_204 : decode cX13_init 204 = .ok (.putfield 89, 3) := dk_181 0 89 (dk_at dksX13_init_9 0 rfl rfl)
theorem dX13_init_207 : decode cX13_init 207 = .ok (.aload_n 0, 1) := dk_42 (dk_at dksX13_init_9 3 rfl rfl)
theorem dX13_init_208 : decode cX13_init 208 = .ok (.sipush 840, 3) := dk_17 3 72 (dk_at dksX13_init_9 4 rfl rfl)
theorem dX13_init_211 : decode cX13_init 211 = .ok (.newarray .int, 2) := dk_188_10 (dk_at dksX13_init_9 7 rfl rfl)
theorem dX13_init_213 : decode cX13_init 213 = .ok (.putfield 92, 3) := dk_181 0 92 (dk_at dksX13_init_9 9 rfl rfl)
theorem dX13_init_216 : decode cX13_init 216 = .ok (.aload_n 0, 1) := dk_42 (dk_at dksX13_init_9 12 rfl rfl)
theorem dX13_init_217 : decode cX13_init 217 = .ok (.sipush 840, 3) := dk_17 3 72 (dk_at dksX13_init_9 13 rfl rfl)
theorem dX13_init_220 : decode cX13_init 220 = .ok (.newarray .int, 2) := dk_188_10 (dk_at dksX13_init_9 16 rfl rfl)
theorem dX13_init_222 : decode cX13_init 222 = .ok (.putfield 95, 3) := dk_181 0 95 (dk_at dksX13_init_9 18 rfl rfl)
theorem dX13_init_225 : decode cX13_init 225 = .ok (.aload_n 0, 1) := dk_42 (dk_at dksX13_init_9 21 rfl rfl)
theorem dX13_init_226 : decode cX13_init 226 = .ok (.bipush 64, 2) := dk_16 64 (dk_at dksX13_init_9 22 rfl rfl)
theorem dX13_init_228 : decode cX13_init 228 = .ok (.newarray .int, 2) := dk_188_10 (dk_at dksX13_init_10 0 rfl rfl)
theorem dX13_init_230 : decode cX13_init 230 = .ok (.putfield 98, 3) := dk_181 0 98 (dk_at dksX13_init_10 2 rfl rfl)
theorem dX13_init_233 : decode cX13_init 233 = .ok (.aload_n 0, 1) := dk_42 (dk_at dksX13_init_10 5 rfl rfl)
theorem dX13_init_234 : decode cX13_init 234 = .ok (.bipush 9, 2) := dk_16 9 (dk_at dksX13_init_10 6 rfl rfl)
theorem dX13_init_236 : decode cX13_init 236 = .ok (.newarray .int, 2) := dk_188_10 (dk_at dksX13_init_10 8 rfl rfl)
theorem dX13_init_238 : decode cX13_init 238 = .ok (.putfield 101, 3) := dk_181 0 101 (dk_at dksX13_init_10 10 rfl rfl)
theorem dX13_init_241 : decode cX13_init 241 = .ok (.aload_n 0, 1) := dk_42 (dk_at dksX13_init_10 13 rfl rfl)
theorem dX13_init_242 : decode cX13_init 242 = .ok (.sipush 400, 3) := dk_17 1 144 (dk_at dksX13_init_10 14 rfl rfl)
theorem dX13_init_245 : decode cX13_init 245 = .ok (.newarray .int, 2) := dk_188_10 (dk_at dksX13_init_10 17 rfl rfl)
theorem dX13_init_247 : decode cX13_init 247 = .ok (.putfield 104, 3) := dk_181 0 104 (dk_at dksX13_init_10 19 rfl rfl)
theorem dX13_init_250 : decode cX13_init 250 = .ok (.aload_n 0, 1) := dk_42 (dk_at dksX13_init_10 22 rfl rfl)
theorem dX13_init_251 : decode cX13_init 251 = .ok (.bipush 48, 2) := dk_16 48 (dk_at dksX13_init_11 0 rfl rfl)
theorem dX13_init_253 : decode cX13_init 253 = .ok (.newarray .int, 2) := dk_188_10 (dk_at dksX13_init_11 2 rfl rfl)
theorem dX13_init_255 : decode cX13_init 255 = .ok (.putfield 107, 3) := dk_181 0 107 (dk_at dksX13_init_11 4 rfl rfl)
theorem dX13_init_258 : decode cX13_init 258 = .ok (.aload_n 0, 1) := dk_42 (dk_at dksX13_init_11 7 rfl rfl)
theorem dX13_init_259 : decode cX13_init 259 = .ok (.bipush 48, 2) := dk_16 48 (dk_at dksX13_init_11 8 rfl rfl)
theorem dX13_init_261 : decode cX13_init 261 = .ok (.newarray .int, 2) := dk_188_10 (dk_at dksX13_init_11 10 rfl rfl)
theorem dX13_init_263 : decode cX13_init 263 = .ok (.putfield 110, 3) := dk_181 0 110 (dk_at dksX13_init_11 12 rfl rfl)
theorem dX13_init_266 : decode cX13_init 266 = .ok (.aload_n 0, 1) := dk_42 (dk_at dksX13_init_11 15 rfl rfl)
theorem dX13_init_267 : decode cX13_init 267 = .ok (.bipush 9, 2) := dk_16 9 (dk_at dksX13_init_11 16 rfl rfl)
theorem dX13_init_269 : decode cX13_init 269 = .ok (.newarray .int, 2) := dk_188_10 (dk_at dksX13_init_11 18 rfl rfl)
theorem dX13_init_271 : decode cX13_init 271 = .ok (.putfield 113, 3) := dk_181 0 113 (dk_at dksX13_init_11 20 rfl rfl)
theorem dX13_init_274 : decode cX13_init 274 = .ok (.aload_n 0, 1) := dk_42 (dk_at dksX13_init_11 23 rfl rfl)
theorem dX13_init_275 : decode cX13_init 275 = .ok (.bipush 9, 2) := dk_16 9 (dk_at dksX13_init_12 0 rfl rfl)
theorem dX13_init_277 : decode cX13_init 277 = .ok (.newarray .int, 2) := dk_188_10 (dk_at dksX13_init_12 2 rfl rfl)
theorem dX13_init_279 : decode cX13_init 279 = .ok (.putfield 116, 3) := dk_181 0 116 (dk_at dksX13_init_12 4 rfl rfl)
theorem dX13_init_282 : decode cX13_init 282 = .ok (.aload_n 0, 1) := dk_42 (dk_at dksX13_init_12 7 rfl rfl)
theorem dX13_init_283 : decode cX13_init 283 = .ok (.sipush 1920, 3) := dk_17 7 128 (dk_at dksX13_init_12 8 rfl rfl)
theorem dX13_init_286 : decode cX13_init 286 = .ok (.newarray .int, 2) := dk_188_10 (dk_at dksX13_init_12 11 rfl rfl)
theorem dX13_init_288 : decode cX13_init 288 = .ok (.putfield 119, 3) := dk_181 0 119 (dk_at dksX13_init_12 13 rfl rfl)
theorem dX13_init_291 : decode cX13_init 291 = .ok (.aload_n 0, 1) := dk_42 (dk_at dksX13_init_12 16 rfl rfl)
theorem dX13_init_292 : decode cX13_init 292 = .ok (.bipush 9, 2) := dk_16 9 (dk_at dksX13_init_12 17 rfl rfl)
theorem dX13_init_294 : decode cX13_init 294 = .ok (.newarray .int, 2) := dk_188_10 (dk_at dksX13_init_12 19 rfl rfl)
theorem dX13_init_296 : decode cX13_init 296 = .ok (.putfield 122, 3) := dk_181 0 122 (dk_at dksX13_init_12 21 rfl rfl)
theorem dX13_init_299 : decode cX13_init 299 = .ok (.aload_n 0, 1) := dk_42 (dk_at dksX13_init_13 0 rfl rfl)
theorem dX13_init_300 : decode cX13_init 300 = .ok (.sipush 512, 3) := dk_17 2 0 (dk_at dksX13_init_13 1 rfl rfl)
theorem dX13_init_303 : decode cX13_init 303 = .ok (.newarray .boolean, 2) := dk_188_4 (dk_at dksX13_init_13 4 rfl rfl)
theorem dX13_init_305 : decode cX13_init 305 = .ok (.putfield 125, 3) := dk_181 0 125 (dk_at dksX13_init_13 6 rfl rfl)
theorem dX13_init_308 : decode cX13_init 308 = .ok (.aload_n 0, 1) := dk_42 (dk_at dksX13_init_13 9 rfl rfl)
theorem dX13_init_309 : decode cX13_init 309 = .ok (.bipush 9, 2) := dk_16 9 (dk_at dksX13_init_13 10 rfl rfl)
theorem dX13_init_311 : decode cX13_init 311 = .ok (.newarray .int, 2) := dk_188_10 (dk_at dksX13_init_13 12 rfl rfl)
theorem dX13_init_313 : decode cX13_init 313 = .ok (.putfield 128, 3) := dk_181 0 128 (dk_at dksX13_init_13 14 rfl rfl)
theorem dX13_init_316 : decode cX13_init 316 = .ok (.aload_n 0, 1) := dk_42 (dk_at dksX13_init_13 17 rfl rfl)
theorem dX13_init_317 : decode cX13_init 317 = .ok (.bipush 20, 2) := dk_16 20 (dk_at dksX13_init_13 18 rfl rfl)
theorem dX13_init_319 : decode cX13_init 319 = .ok (.newarray .int, 2) := dk_188_10 (dk_at dksX13_init_13 20 rfl rfl)
theorem dX13_init_321 : decode cX13_init 321 = .ok (.putfield 131, 3) := dk_181 0 131 (dk_at dksX13_init_14 0 rfl rfl)
theorem dX13_init_324 : decode cX13_init 324 = .ok (.aload_n 0, 1) := dk_42 (dk_at dksX13_init_14 3 rfl rfl)
theorem dX13_init_325 : decode cX13_init 325 = .ok (.bipush 20, 2) := dk_16 20 (dk_at dksX13_init_14 4 rfl rfl)
theorem dX13_init_327 : decode cX13_init 327 = .ok (.newarray .int, 2) := dk_188_10 (dk_at dksX13_init_14 6 rfl rfl)
theorem dX13_init_329 : decode cX13_init 329 = .ok (.putfield 134, 3) := dk_181 0 134 (dk_at dksX13_init_14 8 rfl rfl)
theorem dX13_init_332 : decode cX13_init 332 = .ok (.aload_n 0, 1) := dk_42 (dk_at dksX13_init_14 11 rfl rfl)
theorem dX13_init_333 : decode cX13_init 333 = .ok (.bipush 20, 2) := dk_16 20 (dk_at dksX13_init_14 12 rfl rfl)
theorem dX13_init_335 : decode cX13_init 335 = .ok (.newarray .int, 2) := dk_188_10 (dk_at dksX13_init_14 14 rfl rfl)
theorem dX13_init_337 : decode cX13_init 337 = .ok (.putfield 137, 3) := dk_181 0 137 (dk_at dksX13_init_14 16 rfl rfl)
theorem dX13_init_340 : decode cX13_init 340 = .ok (.aload_n 0, 1) := dk_42 (dk_at dksX13_init_14 19 rfl rfl)
theorem dX13_init_341 : decode cX13_init 341 = .ok (.sipush 512, 3) := dk_17 2 0 (dk_at dksX13_init_14 20 rfl rfl)
theorem dX13_init_344 : decode cX13_init 344 = .ok (.newarray .boolean, 2) := dk_188_4 (dk_at dksX13_init_15 0 rfl rfl)
theorem dX13_init_346 : decode cX13_init 346 = .ok (.putfield 140, 3) := dk_181 0 140 (dk_at dksX13_init_15 2 rfl rfl)
theorem dX13_init_349 : decode cX13_init 349 = .ok (.aload_n 0, 1) := dk_42 (dk_at dksX13_init_15 5 rfl rfl)
theorem dX13_init_350 : decode cX13_init 350 = .ok (.iconst 3, 1) := dk_6 (dk_at dksX13_init_15 6 rfl rfl)
theorem dX13_init_351 : decode cX13_init 351 = .ok (.newarray .boolean, 2) := dk_188_4 (dk_at dksX13_init_15 7 rfl rfl)
theorem dX13_init_353 : decode cX13_init 353 = .ok (.putfield 143, 3) := dk_181 0 143 (dk_at dksX13_init_15 9 rfl rfl)
theorem dX13_init_356 : decode cX13_init 356 = .ok (.aload_n 0, 1) := dk_42 (dk_at dksX13_init_15 12 rfl rfl)
theorem dX13_init_357 : decode cX13_init 357 = .ok (.sipush 144, 3) := dk_17 0 144 (dk_at dksX13_init_15 13 rfl rfl)
theorem dX13_init_360 : decode cX13_init 360 = .ok (.newarray .int, 2) := dk_188_10 (dk_at dksX13_init_15 16 rfl rfl)
theorem dX13_init_362 : decode cX13_init 362 = .ok (.putfield 146, 3) := dk_181 0 146 (dk_at dksX13_init_15 18 rfl rfl)
theorem dX13_init_365 : decode cX13_init 365 = .ok (.aload_n 0, 1) := dk_42 (dk_at dksX13_init_15 21 rfl rfl)
theorem dX13_init_366 : decode cX13_init 366 = .ok (.iconst 0, 1) := dk_3 (dk_at dksX13_init_15 22 rfl rfl)
theorem dX13_init_367 : decode cX13_init 367 = .ok (.invokevirtual 149, 3) := dk_182 0 149 (dk_at dksX13_init_16 0 rfl rfl)
theorem dX13_init_370 : decode cX13_init 370 = .ok (.aload_n 0, 1) := dk_42 (dk_at dksX13_init_16 3 rfl rfl)
theorem dX13_init_371 : decode cX13_init 371 = .ok (.iconst 1, 1) := dk_4 (dk_at dksX13_init_16 4 rfl rfl)
theorem dX13_init_372 : decode cX13_init 372 = .ok (.invokevirtual 149, 3) := dk_182 0 149 (dk_at dksX13_init_16 5 rfl rfl)
theorem dX13_init_375 : decode cX13_init 375 = .ok (.aload_n 0, 1) := dk_42 (dk_at dksX13_init_16 8 rfl rfl)
theorem dX13_init_376 : decode cX13_init 376 = .ok (.getfield 34, 3) := dk_180 0 34 (dk_at dksX13_init_16 9 rfl rfl)
theorem dX13_init_379 : decode cX13_init 379 = .ok (.iconst 0, 1) := dk_3 (dk_at dksX13_init_16 12 rfl rfl)
theorem dX13_init_380 : decode cX13_init 380 = .ok (.bipush 115, 2) := dk_16 115 (dk_at dksX13_init_16 13 rfl rfl)
theorem dX13_init_382 : decode cX13_init 382 = .ok (.bipush 108, 2) := dk_16 108 (dk_at dksX13_init_16 15 rfl rfl)
theorem dX13_init_384 : decode cX13_init 384 = .ok (.bipush 101, 2) := dk_16 101 (dk_at dksX13_init_16 17 rfl rfl)
theorem dX13_init_386 : decode cX13_init 386 = .ok (.bipush 101, 2) := dk_16 101 (dk_at dksX13_init_16 19 rfl rfl)
theorem dX13_init_388 : decode cX13_init 388 = .ok (.bipush 112, 2) := dk_16 112 (dk_at dksX13_init_16 21 rfl rfl)
theorem dX13_init_390 : decode cX13_init 390 = .ok (.bipush 101, 2) := dk_16 101 (dk_at dksX13_init_17 0 rfl rfl)
theorem dX13_init_392 : decode cX13_init 392 = .ok (.bipush 114, 2) := dk_16 114 (dk_at dksX13_init_17 2 rfl rfl)
theorem dX13_init_394 : decode cX13_init 394 = .ok (.invokestatic 153, 3) := dk_184 0 153 (dk_at dksX13_init_17 4 rfl rfl)
theorem dX13_init_397 : decode cX13_init 397 = .ok (.lastore, 1) := dk_80 (dk_at dksX13_init_17 7 rfl rfl)
theorem dX13_init_398 : decode cX13_init 398 = .ok (.aload_n 0, 1) := dk_42 (dk_at dksX13_init_17 8 rfl rfl)
theorem dX13_init_399 : decode cX13_init 399 = .ok (.getfield 34, 3) := dk_180 0 34 (dk_at dksX13_init_17 9 rfl rfl)
theorem dX13_init_402 : decode cX13_init 402 = .ok (.iconst 1, 1) := dk_4 (dk_at dksX13_init_17 12 rfl rfl)
theorem dX13_init_403 : decode cX13_init 403 = .ok (.bipush 99, 2) := dk_16 99 (dk_at dksX13_init_17 13 rfl rfl)
theorem dX13_init_405 : decode cX13_init 405 = .ok (.bipush 111, 2) := dk_16 111 (dk_at dksX13_init_17 15 rfl rfl)
theorem dX13_init_407 : decode cX13_init 407 = .ok (.bipush 108, 2) := dk_16 108 (dk_at dksX13_init_17 17 rfl rfl)
theorem dX13_init_409 : decode cX13_init 409 = .ok (.bipush 100, 2) := dk_16 100 (dk_at dksX13_init_17 19 rfl rfl)
theorem dX13_init_411 : decode cX13_init 411 = .ok (.iconst 0, 1) := dk_3 (dk_at dksX13_init_17 21 rfl rfl)
theorem dX13_init_412 : decode cX13_init 412 = .ok (.iconst 0, 1) := dk_3 (dk_at dksX13_init_17 22 rfl rfl)
theorem dX13_init_413 : decode cX13_init 413 = .ok (.iconst 0, 1) := dk_3 (dk_at dksX13_init_17 23 rfl rfl)
theorem dX13_init_414 : decode cX13_init 414 = .ok (.invokestatic 153, 3) := dk_184 0 153 (dk_at dksX13_init_18 0 rfl rfl)
theorem dX13_init_417 : decode cX13_init 417 = .ok (.lastore, 1) := dk_80 (dk_at dksX13_init_18 3 rfl rfl)
theorem dX13_init_418 : decode cX13_init 418 = .ok (.aload_n 0, 1) := dk_42 (dk_at dksX13_init_18 4 rfl rfl)
theorem dX13_init_419 : decode cX13_init 419 = .ok (.getfield 34, 3) := dk_180 0 34 (dk_at dksX13_init_18 5 rfl rfl)
theorem dX13_init_422 : decode cX13_init 422 = .ok (.iconst 2, 1) := dk_5 (dk_at dksX13_init_18 8 rfl rfl)
theorem dX13_init_423 : decode cX13_init 423 = .ok (.bipush 108, 2) := dk_16 108 (dk_at dksX13_init_18 9 rfl rfl)
theorem dX13_init_425 : decode cX13_init 425 = .ok (.bipush 105, 2) := dk_16 105 (dk_at dksX13_init_18 11 rfl rfl)
theorem dX13_init_427 : decode cX13_init 427 = .ok (.bipush 101, 2) := dk_16 101 (dk_at dksX13_init_18 13 rfl rfl)
theorem dX13_init_429 : decode cX13_init 429 = .ok (.bipush 115, 2) := dk_16 115 (dk_at dksX13_init_18 15 rfl rfl)
theorem dX13_init_431 : decode cX13_init 431 = .ok (.iconst 0, 1) := dk_3 (dk_at dksX13_init_18 17 rfl rfl)
theorem dX13_init_432 : decode cX13_init 432 = .ok (.iconst 0, 1) := dk_3 (dk_at dksX13_init_18 18 rfl rfl)
theorem dX13_init_433 : decode cX13_init 433 = .ok (.iconst 0, 1) := dk_3 (dk_at dksX13_init_18 19 rfl rfl)
theorem dX13_init_434 : decode cX13_init 434 = .ok (.invokestatic 153, 3) := dk_184 0 153 (dk_at dksX13_init_18 20 rfl rfl)
theorem dX13_init_437 : decode cX13_init 437 = .ok (.lastore, 1) := dk_80 (dk_at dksX13_init_18 23 rfl rfl)
theorem dX13_init_438 : decode cX13_init 438 = .ok (.aload_n 0, 1) := dk_42 (dk_at dksX13_init_19 0 rfl rfl)
theorem dX13_init_439 : decode cX13_init 439 = .ok (.getfield 34, 3) := dk_180 0 34 (dk_at dksX13_init_19 1 rfl rfl)
theorem dX13_init_442 : decode cX13_init 442 = .ok (.iconst 3, 1) := dk_6 (dk_at dksX13_init_19 4 rfl rfl)
theorem dX13_init_443 : decode cX13_init 443 = .ok (.bipush 112, 2) := dk_16 112 (dk_at dksX13_init_19 5 rfl rfl)
theorem dX13_init_445 : decode cX13_init 445 = .ok (.bipush 97, 2) := dk_16 97 (dk_at dksX13_init_19 7 rfl rfl)
theorem dX13_init_447 : decode cX13_init 447 = .ok (.bipush 114, 2) := dk_16 114 (dk_at dksX13_init_19 9 rfl rfl)
theorem dX13_init_449 : decode cX13_init 449 = .ok (.bipush 116, 2) := dk_16 116 (dk_at dksX13_init_19 11 rfl rfl)
theorem dX13_init_451 : decode cX13_init 451 = .ok (.bipush 115, 2) := dk_16 115 (dk_at dksX13_init_19 13 rfl rfl)
theorem dX13_init_453 : decode cX13_init 453 = .ok (.iconst 0, 1) := dk_3 (dk_at dksX13_init_19 15 rfl rfl)
theorem dX13_init_454 : decode cX13_init 454 = .ok (.iconst 0, 1) := dk_3 (dk_at dksX13_init_19 16 rfl rfl)
theorem dX13_init_455 : decode cX13_init 455 = .ok (.invokestatic 153, 3) := dk_184 0 153 (dk_at dksX13_init_19 17 rfl rfl)
theorem dX13_init_458 : decode cX13_init 458 = .ok (.lastore, 1) := dk_80 (dk_at dksX13_init_19 20 rfl rfl)
theorem dX13_init_459 : decode cX13_init 459 = .ok (.aload_n 0, 1) := dk_42 (dk_at dksX13_init_19 21 rfl rfl)
theorem dX13_init_460 : decode cX13_init 460 = .ok (.getfield 34, 3) := dk_180 0 34 (dk_at dksX13_init_20 0 rfl rfl)
theorem dX13_init_463 : decode cX13_init 463 = .ok (.iconst 4, 1) := dk_7 (dk_at dksX13_init_20 3 rfl rfl)
theorem dX13_init_464 : decode cX13_init 464 = .ok (.bipush 99, 2) := dk_16 99 (dk_at dksX13_init_20 4 rfl rfl)
theorem dX13_init_466 : decode cX13_init 466 = .ok (.bipush 104, 2) := dk_16 104 (dk_at dksX13_init_20 6 rfl rfl)
theorem dX13_init_468 : decode cX13_init 468 = .ok (.bipush 105, 2) := dk_16 105 (dk_at dksX13_init_20 8 rfl rfl)
theorem dX13_init_470 : decode cX13_init 470 = .ok (.bipush 108, 2) := dk_16 108 (dk_at dksX13_init_20 10 rfl rfl)
theorem dX13_init_472 : decode cX13_init 472 = .ok (.bipush 108, 2) := dk_16 108 (dk_at dksX13_init_20 12 rfl rfl)
theorem dX13_init_474 : decode cX13_init 474 = .ok (.bipush 115, 2) := dk_16 115 (dk_at dksX13_init_20 14 rfl rfl)
theorem dX13_init_476 : decode cX13_init 476 = .ok (.iconst 0, 1) := dk_3 (dk_at dksX13_init_20 16 rfl rfl)
theorem dX13_init_477 : decode cX13_init 477 = .ok (.invokestatic 153, 3) := dk_184 0 153 (dk_at dksX13_init_20 17 rfl rfl)
theorem dX13_init_480 : decode cX13_init 480 = .ok (.lastore, 1) := dk_80 (dk_at dksX13_init_20 20 rfl rfl)
theorem dX13_init_481 : decode cX13_init 481 = .ok (.aload_n 0, 1) := dk_42 (dk_at dksX13_init_20 21 rfl rfl)
theorem dX13_init_482 : decode cX13_init 482 = .ok (.getfield 34, 3) := dk_180 0 34 (dk_at dksX13_init_21 0 rfl rfl)
theorem dX13_init_485 : decode cX13_init 485 = .ok (.iconst 5, 1) := dk_8 (dk_at dksX13_init_21 3 rfl rfl)
theorem dX13_init_486 : decode cX13_init 486 = .ok (.bipush 99, 2) := dk_16 99 (dk_at dksX13_init_21 4 rfl rfl)
theorem dX13_init_488 : decode cX13_init 488 = .ok (.bipush 111, 2) := dk_16 111 (dk_at dksX13_init_21 6 rfl rfl)
theorem dX13_init_490 : decode cX13_init 490 = .ok (.bipush 115, 2) := dk_16 115 (dk_at dksX13_init_21 8 rfl rfl)
theorem dX13_init_492 : decode cX13_init 492 = .ok (.bipush 116, 2) := dk_16 116 (dk_at dksX13_init_21 10 rfl rfl)
theorem dX13_init_494 : decode cX13_init 494 = .ok (.bipush 115, 2) := dk_16 115 (dk_at dksX13_init_21 12 rfl rfl)
theorem dX13_init_496 : decode cX13_init 496 = .ok (.iconst 0, 1) := dk_3 (dk_at dksX13_init_21 14 rfl rfl)
theorem dX13_init_497 : decode cX13_init 497 = .ok (.iconst 0, 1) := dk_3 (dk_at dksX13_init_21 15 rfl rfl)
theorem dX13_init_498 : decode cX13_init 498 = .ok (.invokestatic 153, 3) := dk_184 0 153 (dk_at dksX13_init_21 16 rfl rfl)
theorem dX13_init_501 : decode cX13_init 501 = .ok (.lastore, 1) := dk_80 (dk_at dksX13_init_21 19 rfl rfl)
theorem dX13_init_502 : decode cX13_init 502 = .ok (.aload_n 0, 1) := dk_42 (dk_at dksX13_init_21 20 rfl rfl)
theorem dX13_init_503 : decode cX13_init 503 = .ok (.getfield 34, 3) := dk_180 0 34 (dk_at dksX13_init_21 21 rfl rfl)
theorem dX13_init_506 : decode cX13_init 506 = .ok (.bipush 6, 2) := dk_16 6 (dk_at dksX13_init_22 0 rfl rfl)
theorem dX13_init_508 : decode cX13_init 508 = .ok (.bipush 114, 2) := dk_16 114 (dk_at dksX13_init_22 2 rfl rfl)
theorem dX13_init_510 : decode cX13_init 510 = .ok (.bipush 105, 2) := dk_16 105 (dk_at dksX13_init_22 4 rfl rfl)
theorem dX13_init_512 : decode cX13_init 512 = .ok (.bipush 110, 2) := dk_16 110 (dk_at dksX13_init_22 6 rfl rfl)
theorem dX13_init_514 : decode cX13_init 514 = .ok (.bipush 103, 2) := dk_16 103 (dk_at dksX13_init_22 8 rfl rfl)
theorem dX13_init_516 : decode cX13_init 516 = .ok (.iconst 0, 1) := dk_3 (dk_at dksX13_init_22 10 rfl rfl)
theorem dX13_init_517 : decode cX13_init 517 = .ok (.iconst 0, 1) := dk_3 (dk_at dksX13_init_22 11 rfl rfl)
theorem dX13_init_518 : decode cX13_init 518 = .ok (.iconst 0, 1) := dk_3 (dk_at dksX13_init_22 12 rfl rfl)
theorem dX13_init_519 : decode cX13_init 519 = .ok (.invokestatic 153, 3) := dk_184 0 153 (dk_at dksX13_init_22 13 rfl rfl)
theorem dX13_init_522 : decode cX13_init 522 = .ok (.lastore, 1) := dk_80 (dk_at dksX13_init_22 16 rfl rfl)
theorem dX13_init_523 : decode cX13_init 523 = .ok (.aload_n 0, 1) := dk_42 (dk_at dksX13_init_22 17 rfl rfl)
theorem dX13_init_524 : decode cX13_init 524 = .ok (.getfield 34, 3) := dk_180 0 34 (dk_at dksX13_init_22 18 rfl rfl)
theorem dX13_init_527 : decode cX13_init 527 = .ok (.bipush 7, 2) := dk_16 7 (dk_at dksX13_init_22 21 rfl rfl)
theorem dX13_init_529 : decode cX13_init 529 = .ok (.bipush 98, 2) := dk_16 98 (dk_at dksX13_init_23 0 rfl rfl)
theorem dX13_init_531 : decode cX13_init 531 = .ok (.bipush 101, 2) := dk_16 101 (dk_at dksX13_init_23 2 rfl rfl)
theorem dX13_init_533 : decode cX13_init 533 = .ok (.bipush 103, 2) := dk_16 103 (dk_at dksX13_init_23 4 rfl rfl)
theorem dX13_init_535 : decode cX13_init 535 = .ok (.bipush 105, 2) := dk_16 105 (dk_at dksX13_init_23 6 rfl rfl)
theorem dX13_init_537 : decode cX13_init 537 = .ok (.bipush 110, 2) := dk_16 110 (dk_at dksX13_init_23 8 rfl rfl)
theorem dX13_init_539 : decode cX13_init 539 = .ok (.bipush 115, 2) := dk_16 115 (dk_at dksX13_init_23 10 rfl rfl)
theorem dX13_init_541 : decode cX13_init 541 = .ok (.iconst 0, 1) := dk_3 (dk_at dksX13_init_23 12 rfl rfl)
theorem dX13_init_542 : decode cX13_init 542 = .ok (.invokestatic 153, 3) := dk_184 0 153 (dk_at dksX13_init_23 13 rfl rfl)
theorem dX13_init_545 : decode cX13_init 545 = .ok (.lastore, 1) := dk_80 (dk_at dksX13_init_23 16 rfl rfl)
theorem dX13_init_546 : decode cX13_init 546 = .ok (.aload_n 0, 1) := dk_42 (dk_at dksX13_init_23 17 rfl rfl)
theorem dX13_init_547 : decode cX13_init 547 = .ok (.getfield 34, 3) := dk_180 0 34 (dk_at dksX13_init_23 18 rfl rfl)
theorem dX13_init_550 : decode cX13_init 550 = .ok (.bipush 8, 2) := dk_16 8 (dk_at dksX13_init_23 21 rfl rfl)
theorem dX13_init_552 : decode cX13_init 552 = .ok (.bipush 115, 2) := dk_16 115 (dk_at dksX13_init_24 0 rfl rfl)
theorem dX13_init_554 : decode cX13_init 554 = .ok (.bipush 101, 2) := dk_16 101 (dk_at dksX13_init_24 2 rfl rfl)
theorem dX13_init_556 : decode cX13_init 556 = .ok (.bipush 101, 2) := dk_16 101 (dk_at dksX13_init_24 4 rfl rfl)
theorem dX13_init_558 : decode cX13_init 558 = .ok (.bipush 100, 2) := dk_16 100 (dk_at dksX13_init_24 6 rfl rfl)
theorem dX13_init_560 : decode cX13_init 560 = .ok (.iconst 0, 1) := dk_3 (dk_at dksX13_init_24 8 rfl rfl)
theorem dX13_init_561 : decode cX13_init 561 = .ok (.iconst 0, 1) := dk_3 (dk_at dksX13_init_24 9 rfl rfl)
theorem dX13_init_562 : decode cX13_init 562 = .ok (.iconst 0, 1) := dk_3 (dk_at dksX13_init_24 10 rfl rfl)
theorem dX13_init_563 : decode cX13_init 563 = .ok (.invokestatic 153, 3) := dk_184 0 153 (dk_at dksX13_init_24 11 rfl rfl)
theorem dX13_init_566 : decode cX13_init 566 = .ok (.lastore, 1) := dk_80 (dk_at dksX13_init_24 14 rfl rfl)
theorem dX13_init_567 : decode cX13_init 567 = .ok (.aload_n 0, 1) := dk_42 (dk_at dksX13_init_24 15 rfl rfl)
theorem dX13_init_568 : decode cX13_init 568 = .ok (.getfield 34, 3) := dk_180 0 34 (dk_at dksX13_init_24 16 rfl rfl)
theorem dX13_init_571 : decode cX13_init 571 = .ok (.bipush 9, 2) := dk_16 9 (dk_at dksX13_init_24 19 rfl rfl)
theorem dX13_init_573 : decode cX13_init 573 = .ok (.bipush 105, 2) := dk_16 105 (dk_at dksX13_init_24 21 rfl rfl)
theorem dX13_init_575 : decode cX13_init 575 = .ok (.bipush 102, 2) := dk_16 102 (dk_at dksX13_init_25 0 rfl rfl)
theorem dX13_init_577 : decode cX13_init 577 = .ok (.iconst 0, 1) := dk_3 (dk_at dksX13_init_25 2 rfl rfl)
theorem dX13_init_578 : decode cX13_init 578 = .ok (.iconst 0, 1) := dk_3 (dk_at dksX13_init_25 3 rfl rfl)
theorem dX13_init_579 : decode cX13_init 579 = .ok (.iconst 0, 1) := dk_3 (dk_at dksX13_init_25 4 rfl rfl)
theorem dX13_init_580 : decode cX13_init 580 = .ok (.iconst 0, 1) := dk_3 (dk_at dksX13_init_25 5 rfl rfl)
theorem dX13_init_581 : decode cX13_init 581 = .ok (.iconst 0, 1) := dk_3 (dk_at dksX13_init_25 6 rfl rfl)
theorem dX13_init_582 : decode cX13_init 582 = .ok (.invokestatic 153, 3) := dk_184 0 153 (dk_at dksX13_init_25 7 rfl rfl)
theorem dX13_init_585 : decode cX13_init 585 = .ok (.lastore, 1) := dk_80 (dk_at dksX13_init_25 10 rfl rfl)
theorem dX13_init_586 : decode cX13_init 586 = .ok (.aload_n 0, 1) := dk_42 (dk_at dksX13_init_25 11 rfl rfl)
theorem dX13_init_587 : decode cX13_init 587 = .ok (.getfield 34, 3) := dk_180 0 34 (dk_at dksX13_init_25 12 rfl rfl)
theorem dX13_init_590 : decode cX13_init 590 = .ok (.bipush 10, 2) := dk_16 10 (dk_at dksX13_init_25 15 rfl rfl)
theorem dX13_init_592 : decode cX13_init 592 = .ok (.bipush 116, 2) := dk_16 116 (dk_at dksX13_init_25 17 rfl rfl)
theorem dX13_init_594 : decode cX13_init 594 = .ok (.bipush 104, 2) := dk_16 104 (dk_at dksX13_init_25 19 rfl rfl)
theorem dX13_init_596 : decode cX13_init 596 = .ok (.bipush 101, 2) := dk_16 101 (dk_at dksX13_init_25 21 rfl rfl)
theorem dX13_init_598 : decode cX13_init 598 = .ok (.bipush 110, 2) := dk_16 110 (dk_at dksX13_init_26 0 rfl rfl)
theorem dX13_init_600 : decode cX13_init 600 = .ok (.iconst 0, 1) := dk_3 (dk_at dksX13_init_26 2 rfl rfl)
theorem dX13_init_601 : decode cX13_init 601 = .ok (.iconst 0, 1) := dk_3 (dk_at dksX13_init_26 3 rfl rfl)
theorem dX13_init_602 : decode cX13_init 602 = .ok (.iconst 0, 1) := dk_3 (dk_at dksX13_init_26 4 rfl rfl)
theorem dX13_init_603 : decode cX13_init 603 = .ok (.invokestatic 153, 3) := dk_184 0 153 (dk_at dksX13_init_26 5 rfl rfl)
theorem dX13_init_606 : decode cX13_init 606 = .ok (.lastore, 1) := dk_80 (dk_at dksX13_init_26 8 rfl rfl)
theorem dX13_init_607 : decode cX13_init 607 = .ok (.aload_n 0, 1) := dk_42 (dk_at dksX13_init_26 9 rfl rfl)
theorem dX13_init_608 : decode cX13_init 608 = .ok (.getfield 34, 3) := dk_180 0 34 (dk_at dksX13_init_26 10 rfl rfl)
theorem dX13_init_611 : decode cX13_init 611 = .ok (.bipush 11, 2) := dk_16 11 (dk_at dksX13_init_26 13 rfl rfl)
theorem dX13_init_613 : decode cX13_init 613 = .ok (.bipush 101, 2) := dk_16 101 (dk_at dksX13_init_26 15 rfl rfl)
theorem dX13_init_615 : decode cX13_init 615 = .ok (.bipush 108, 2) := dk_16 108 (dk_at dksX13_init_26 17 rfl rfl)
theorem dX13_init_617 : decode cX13_init 617 = .ok (.bipush 115, 2) := dk_16 115 (dk_at dksX13_init_26 19 rfl rfl)
theorem dX13_init_619 : decode cX13_init 619 = .ok (.bipush 101, 2) := dk_16 101 (dk_at dksX13_init_26 21 rfl rfl)
theorem dX13_init_621 : decode cX13_init 621 = .ok (.iconst 0, 1) := dk_3 (dk_at dksX13_init_26 23 rfl rfl)
theorem dX13_init_622 : decode cX13_init 622 = .ok (.iconst 0, 1) := dk_3 (dk_at dksX13_init_27 0 rfl rfl)
theorem dX13_init_623 : decode cX13_init 623 = .ok (.iconst 0, 1) := dk_3 (dk_at dksX13_init_27 1 rfl rfl)
theorem dX13_init_624 : decode cX13_init 624 = .ok (.invokestatic 153, 3) := dk_184 0 153 (dk_at dksX13_init_27 2 rfl rfl)
theorem dX13_init_627 : decode cX13_init 627 = .ok (.lastore, 1) := dk_80 (dk_at dksX13_init_27 5 rfl rfl)
theorem dX13_init_628 : decode cX13_init 628 = .ok (.aload_n 0, 1) := dk_42 (dk_at dksX13_init_27 6 rfl rfl)
theorem dX13_init_629 : decode cX13_init 629 = .ok (.getfield 34, 3) := dk_180 0 34 (dk_at dksX13_init_27 7 rfl rfl)
theorem dX13_init_632 : decode cX13_init 632 = .ok (.bipush 12, 2) := dk_16 12 (dk_at dksX13_init_27 10 rfl rfl)
theorem dX13_init_634 : decode cX13_init 634 = .ok (.bipush 111, 2) := dk_16 111 (dk_at dksX13_init_27 12 rfl rfl)
theorem dX13_init_636 : decode cX13_init 636 = .ok (.bipush 119, 2) := dk_16 119 (dk_at dksX13_init_27 14 rfl rfl)
theorem dX13_init_638 : decode cX13_init 638 = .ok (.bipush 110, 2) := dk_16 110 (dk_at dksX13_init_27 16 rfl rfl)
theorem dX13_init_640 : decode cX13_init 640 = .ok (.iconst 0, 1) := dk_3 (dk_at dksX13_init_27 18 rfl rfl)
theorem dX13_init_641 : decode cX13_init 641 = .ok (.iconst 0, 1) := dk_3 (dk_at dksX13_init_27 19 rfl rfl)
theorem dX13_init_642 : decode cX13_init 642 = .ok (.iconst 0, 1) := dk_3 (dk_at dksX13_init_27 20 rfl rfl)
theorem dX13_init_643 : decode cX13_init 643 = .ok (.iconst 0, 1) := dk_3 (dk_at dksX13_init_27 21 rfl rfl)
theorem dX13_init_644 : decode cX13_init 644 = .ok (.invokestatic 153, 3) := dk_184 0 153 (dk_at dksX13_init_28 0 rfl rfl)
theorem dX13_init_647 : decode cX13_init 647 = .ok (.lastore, 1) := dk_80 (dk_at dksX13_init_28 3 rfl rfl)
theorem dX13_init_648 : decode cX13_init 648 = .ok (.aload_n 0, 1) := dk_42 (dk_at dksX13_init_28 4 rfl rfl)
theorem dX13_init_649 : decode cX13_init 649 = .ok (.getfield 34, 3) := dk_180 0 34 (dk_at dksX13_init_28 5 rfl rfl)
theorem dX13_init_652 : decode cX13_init 652 = .ok (.bipush 13, 2) := dk_16 13 (dk_at dksX13_init_28 8 rfl rfl)
theorem dX13_init_654 : decode cX13_init 654 = .ok (.bipush 98, 2) := dk_16 98 (dk_at dksX13_init_28 10 rfl rfl)
theorem dX13_init_656 : decode cX13_init 656 = .ok (.bipush 101, 2) := dk_16 101 (dk_at dksX13_init_28 12 rfl rfl)
theorem dX13_init_658 : decode cX13_init 658 = .ok (.bipush 102, 2) := dk_16 102 (dk_at dksX13_init_28 14 rfl rfl)
theorem dX13_init_660 : decode cX13_init 660 = .ok (.bipush 111, 2) := dk_16 111 (dk_at dksX13_init_28 16 rfl rfl)
theorem dX13_init_662 : decode cX13_init 662 = .ok (.bipush 114, 2) := dk_16 114 (dk_at dksX13_init_28 18 rfl rfl)
theorem dX13_init_664 : decode cX13_init 664 = .ok (.bipush 101, 2) := dk_16 101 (dk_at dksX13_init_28 20 rfl rfl)
theorem dX13_init_666 : decode cX13_init 666 = .ok (.iconst 0, 1) := dk_3 (dk_at dksX13_init_28 22 rfl rfl)
theorem dX13_init_667 : decode cX13_init 667 = .ok (.invokestatic 153, 3) := dk_184 0 153 (dk_at dksX13_init_29 0 rfl rfl)
theorem dX13_init_670 : decode cX13_init 670 = .ok (.lastore, 1) := dk_80 (dk_at dksX13_init_29 3 rfl rfl)
theorem dX13_init_671 : decode cX13_init 671 = .ok (.aload_n 0, 1) := dk_42 (dk_at dksX13_init_29 4 rfl rfl)
theorem dX13_init_672 : decode cX13_init 672 = .ok (.getfield 34, 3) := dk_180 0 34 (dk_at dksX13_init_29 5 rfl rfl)
theorem dX13_init_675 : decode cX13_init 675 = .ok (.bipush 14, 2) := dk_16 14 (dk_at dksX13_init_29 8 rfl rfl)
theorem dX13_init_677 : decode cX13_init 677 = .ok (.bipush 98, 2) := dk_16 98 (dk_at dksX13_init_29 10 rfl rfl)
theorem dX13_init_679 : decode cX13_init 679 = .ok (.bipush 101, 2) := dk_16 101 (dk_at dksX13_init_29 12 rfl rfl)
theorem dX13_init_681 : decode cX13_init 681 = .ok (.bipush 104, 2) := dk_16 104 (dk_at dksX13_init_29 14 rfl rfl)
theorem dX13_init_683 : decode cX13_init 683 = .ok (.bipush 105, 2) := dk_16 105 (dk_at dksX13_init_29 16 rfl rfl)
theorem dX13_init_685 : decode cX13_init 685 = .ok (.bipush 110, 2) := dk_16 110 (dk_at dksX13_init_29 18 rfl rfl)
theorem dX13_init_687 : decode cX13_init 687 = .ok (.bipush 100, 2) := dk_16 100 (dk_at dksX13_init_29 20 rfl rfl)
theorem dX13_init_689 : decode cX13_init 689 = .ok (.iconst 0, 1) := dk_3 (dk_at dksX13_init_29 22 rfl rfl)
theorem dX13_init_690 : decode cX13_init 690 = .ok (.invokestatic 153, 3) := dk_184 0 153 (dk_at dksX13_init_30 0 rfl rfl)
theorem dX13_init_693 : decode cX13_init 693 = .ok (.lastore, 1) := dk_80 (dk_at dksX13_init_30 3 rfl rfl)
theorem dX13_init_694 : decode cX13_init 694 = .ok (.aload_n 0, 1) := dk_42 (dk_at dksX13_init_30 4 rfl rfl)
theorem dX13_init_695 : decode cX13_init 695 = .ok (.getfield 34, 3) := dk_180 0 34 (dk_at dksX13_init_30 5 rfl rfl)
theorem dX13_init_698 : decode cX13_init 698 = .ok (.bipush 15, 2) := dk_16 15 (dk_at dksX13_init_30 8 rfl rfl)
theorem dX13_init_700 : decode cX13_init 700 = .ok (.bipush 104, 2) := dk_16 104 (dk_at dksX13_init_30 10 rfl rfl)
theorem dX13_init_702 : decode cX13_init 702 = .ok (.bipush 97, 2) := dk_16 97 (dk_at dksX13_init_30 12 rfl rfl)
theorem dX13_init_704 : decode cX13_init 704 = .ok (.bipush 98, 2) := dk_16 98 (dk_at dksX13_init_30 14 rfl rfl)
theorem dX13_init_706 : decode cX13_init 706 = .ok (.bipush 105, 2) := dk_16 105 (dk_at dksX13_init_30 16 rfl rfl)
theorem dX13_init_708 : decode cX13_init 708 = .ok (.bipush 116, 2) := dk_16 116 (dk_at dksX13_init_30 18 rfl rfl)
theorem dX13_init_710 : decode cX13_init 710 = .ok (.iconst 0, 1) := dk_3 (dk_at dksX13_init_30 20 rfl rfl)
theorem dX13_init_711 : decode cX13_init 711 = .ok (.iconst 0, 1) := dk_3 (dk_at dksX13_init_30 21 rfl rfl)
theorem dX13_init_712 : decode cX13_init 712 = .ok (.invokestatic 153, 3) := dk_184 0 153 (dk_at dksX13_init_31 0 rfl rfl)
theorem dX13_init_715 : decode cX13_init 715 = .ok (.lastore, 1) := dk_80 (dk_at dksX13_init_31 3 rfl rfl)
theorem dX13_init_716 : decode cX13_init 716 = .ok (.aload_n 0, 1) := dk_42 (dk_at dksX13_init_31 4 rfl rfl)
theorem dX13_init_717 : decode cX13_init 717 = .ok (.getfield 34, 3) := dk_180 0 34 (dk_at dksX13_init_31 5 rfl rfl)
theorem dX13_init_720 : decode cX13_init 720 = .ok (.bipush 16, 2) := dk_16 16 (dk_at dksX13_init_31 8 rfl rfl)
theorem dX13_init_722 : decode cX13_init 722 = .ok (.bipush 100, 2) := dk_16 100 (dk_at dksX13_init_31 10 rfl rfl)
theorem dX13_init_724 : decode cX13_init 724 = .ok (.bipush 114, 2) := dk_16 114 (dk_at dksX13_init_31 12 rfl rfl)
theorem dX13_init_726 : decode cX13_init 726 = .ok (.bipush 97, 2) := dk_16 97 (dk_at dksX13_init_31 14 rfl rfl)
theorem dX13_init_728 : decode cX13_init 728 = .ok (.bipush 102, 2) := dk_16 102 (dk_at dksX13_init_31 16 rfl rfl)
theorem dX13_init_730 : decode cX13_init 730 = .ok (.bipush 116, 2) := dk_16 116 (dk_at dksX13_init_31 18 rfl rfl)
theorem dX13_init_732 : decode cX13_init 732 = .ok (.iconst 0, 1) := dk_3 (dk_at dksX13_init_31 20 rfl rfl)
theorem dX13_init_733 : decode cX13_init 733 = .ok (.iconst 0, 1) := dk_3 (dk_at dksX13_init_31 21 rfl rfl)
theorem dX13_init_734 : decode cX13_init 734 = .ok (.invokestatic 153, 3) := dk_184 0 153 (dk_at dksX13_init_32 0 rfl rfl)
theorem dX13_init_737 : decode cX13_init 737 = .ok (.lastore, 1) := dk_80 (dk_at dksX13_init_32 3 rfl rfl)
theorem dX13_init_738 : decode cX13_init 738 = .ok (.aload_n 0, 1) := dk_42 (dk_at dksX13_init_32 4 rfl rfl)
theorem dX13_init_739 : decode cX13_init 739 = .ok (.getfield 34, 3) := dk_180 0 34 (dk_at dksX13_init_32 5 rfl rfl)
theorem dX13_init_742 : decode cX13_init 742 = .ok (.bipush 17, 2) := dk_16 17 (dk_at dksX13_init_32 8 rfl rfl)
theorem dX13_init_744 : decode cX13_init 744 = .ok (.bipush 104, 2) := dk_16 104 (dk_at dksX13_init_32 10 rfl rfl)
theorem dX13_init_746 : decode cX13_init 746 = .ok (.bipush 111, 2) := dk_16 111 (dk_at dksX13_init_32 12 rfl rfl)
theorem dX13_init_748 : decode cX13_init 748 = .ok (.bipush 117, 2) := dk_16 117 (dk_at dksX13_init_32 14 rfl rfl)
theorem dX13_init_750 : decode cX13_init 750 = .ok (.bipush 114, 2) := dk_16 114 (dk_at dksX13_init_32 16 rfl rfl)
theorem dX13_init_752 : decode cX13_init 752 = .ok (.iconst 0, 1) := dk_3 (dk_at dksX13_init_32 18 rfl rfl)
theorem dX13_init_753 : decode cX13_init 753 = .ok (.iconst 0, 1) := dk_3 (dk_at dksX13_init_32 19 rfl rfl)
theorem dX13_init_754 : decode cX13_init 754 = .ok (.iconst 0, 1) := dk_3 (dk_at dksX13_init_32 20 rfl rfl)
theorem dX13_init_755 : decode cX13_init 755 = .ok (.invokestatic 153, 3) := dk_184 0 153 (dk_at dksX13_init_32 21 rfl rfl)
theorem dX13_init_758 : decode cX13_init 758 = .ok (.lastore, 1) := dk_80 (dk_at dksX13_init_33 0 rfl rfl)
theorem dX13_init_759 : decode cX13_init 759 = .ok (.aload_n 0, 1) := dk_42 (dk_at dksX13_init_33 1 rfl rfl)
theorem dX13_init_760 : decode cX13_init 760 = .ok (.getfield 34, 3) := dk_180 0 34 (dk_at dksX13_init_33 2 rfl rfl)
theorem dX13_init_763 : decode cX13_init 763 = .ok (.bipush 18, 2) := dk_16 18 (dk_at dksX13_init_33 5 rfl rfl)
theorem dX13_init_765 : decode cX13_init 765 = .ok (.bipush 98, 2) := dk_16 98 (dk_at dksX13_init_33 7 rfl rfl)
theorem dX13_init_767 : decode cX13_init 767 = .ok (.bipush 101, 2) := dk_16 101 (dk_at dksX13_init_33 9 rfl rfl)
theorem dX13_init_769 : decode cX13_init 769 = .ok (.bipush 100, 2) := dk_16 100 (dk_at dksX13_init_33 11 rfl rfl)
theorem dX13_init_771 : decode cX13_init 771 = .ok (.iconst 0, 1) := dk_3 (dk_at dksX13_init_33 13 rfl rfl)
theorem dX13_init_772 : decode cX13_init 772 = .ok (.iconst 0, 1) := dk_3 (dk_at dksX13_init_33 14 rfl rfl)
theorem dX13_init_773 : decode cX13_init 773 = .ok (.iconst 0, 1) := dk_3 (dk_at dksX13_init_33 15 rfl rfl)
theorem dX13_init_774 : decode cX13_init 774 = .ok (.iconst 0, 1) := dk_3 (dk_at dksX13_init_33 16 rfl rfl)
theorem dX13_init_775 : decode cX13_init 775 = .ok (.invokestatic 153, 3) := dk_184 0 153 (dk_at dksX13_init_33 17 rfl rfl)
theorem dX13_init_778 : decode cX13_init 778 = .ok (.lastore, 1) := dk_80 (dk_at dksX13_init_33 20 rfl rfl)
theorem dX13_init_779 : decode cX13_init 779 = .ok (.aload_n 0, 1) := dk_42 (dk_at dksX13_init_33 21 rfl rfl)
theorem dX13_init_780 : decode cX13_init 780 = .ok (.getfield 34, 3) := dk_180 0 34 (dk_at dksX13_init_34 0 rfl rfl)
theorem dX13_init_783 : decode cX13_init 783 = .ok (.bipush 19, 2) := dk_16 19 (dk_at dksX13_init_34 3 rfl rfl)
theorem dX13_init_785 : decode cX13_init 785 = .ok (.bipush 109, 2) := dk_16 109 (dk_at dksX13_init_34 5 rfl rfl)
theorem dX13_init_787 : decode cX13_init 787 = .ok (.bipush 97, 2) := dk_16 97 (dk_at dksX13_init_34 7 rfl rfl)
theorem dX13_init_789 : decode cX13_init 789 = .ok (.bipush 110, 2) := dk_16 110 (dk_at dksX13_init_34 9 rfl rfl)
theorem dX13_init_791 : decode cX13_init 791 = .ok (.bipush 121, 2) := dk_16 121 (dk_at dksX13_init_34 11 rfl rfl)
theorem dX13_init_793 : decode cX13_init 793 = .ok (.iconst 0, 1) := dk_3 (dk_at dksX13_init_34 13 rfl rfl)
theorem dX13_init_794 : decode cX13_init 794 = .ok (.iconst 0, 1) := dk_3 (dk_at dksX13_init_34 14 rfl rfl)
theorem dX13_init_795 : decode cX13_init 795 = .ok (.iconst 0, 1) := dk_3 (dk_at dksX13_init_34 15 rfl rfl)
theorem dX13_init_796 : decode cX13_init 796 = .ok (.invokestatic 153, 3) := dk_184 0 153 (dk_at dksX13_init_34 16 rfl rfl)
theorem dX13_init_799 : decode cX13_init 799 = .ok (.lastore, 1) := dk_80 (dk_at dksX13_init_34 19 rfl rfl)
theorem dX13_init_800 : decode cX13_init 800 = .ok (.aload_n 0, 1) := dk_42 (dk_at dksX13_init_34 20 rfl rfl)
theorem dX13_init_801 : decode cX13_init 801 = .ok (.getfield 34, 3) := dk_180 0 34 (dk_at dksX13_init_34 21 rfl rfl)
theorem dX13_init_804 : decode cX13_init 804 = .ok (.bipush 20, 2) := dk_16 20 (dk_at dksX13_init_35 0 rfl rfl)
theorem dX13_init_806 : decode cX13_init 806 = .ok (.bipush 112, 2) := dk_16 112 (dk_at dksX13_init_35 2 rfl rfl)
theorem dX13_init_808 : decode cX13_init 808 = .ok (.bipush 97, 2) := dk_16 97 (dk_at dksX13_init_35 4 rfl rfl)
theorem dX13_init_810 : decode cX13_init 810 = .ok (.bipush 114, 2) := dk_16 114 (dk_at dksX13_init_35 6 rfl rfl)
theorem dX13_init_812 : decode cX13_init 812 = .ok (.bipush 116, 2) := dk_16 116 (dk_at dksX13_init_35 8 rfl rfl)
theorem dX13_init_814 : decode cX13_init 814 = .ok (.bipush 101, 2) := dk_16 101 (dk_at dksX13_init_35 10 rfl rfl)
theorem dX13_init_816 : decode cX13_init 816 = .ok (.bipush 100, 2) := dk_16 100 (dk_at dksX13_init_35 12 rfl rfl)
theorem dX13_init_818 : decode cX13_init 818 = .ok (.iconst 0, 1) := dk_3 (dk_at dksX13_init_35 14 rfl rfl)
theorem dX13_init_819 : decode cX13_init 819 = .ok (.invokestatic 153, 3) := dk_184 0 153 (dk_at dksX13_init_35 15 rfl rfl)
theorem dX13_init_822 : decode cX13_init 822 = .ok (.lastore, 1) := dk_80 (dk_at dksX13_init_35 18 rfl rfl)
theorem dX13_init_823 : decode cX13_init 823 = .ok (.aload_n 0, 1) := dk_42 (dk_at dksX13_init_35 19 rfl rfl)
theorem dX13_init_824 : decode cX13_init 824 = .ok (.invokevirtual 157, 3) := dk_182 0 157 (dk_at dksX13_init_35 20 rfl rfl)
theorem dX13_init_827 : decode cX13_init 827 = .ok (.aload_n 0, 1) := dk_42 (dk_at dksX13_init_35 23 rfl rfl)
theorem dX13_init_828 : decode cX13_init 828 = .ok (.invokevirtual 160, 3) := dk_182 0 160 (dk_at dksX13_init_36 0 rfl rfl)
theorem dX13_init_831 : decode cX13_init 831 = .ok (.return_, 1) := dk_177 (dk_at dksX13_init_36 3 rfl rfl)
abbrev cX13_plain : ByteArray := prog_21_method_19_code
def yX13_plain : MethodName := ⟨RX13, "plain", "(I)V"⟩
def dkwX13_plain_4 : List UInt8 := [42, 180, 0, 74, 7, 27, 104, 28, 96, 3, 79, 132, 2, 1, 167, 255, 226, 177]
abbrev dktX13_plain_4 : List UInt8 := dkwX13_plain_4 ++ []
def dkwX13_plain_3 : List UInt8 := [132, 2, 1, 167, 255, 223, 3, 61, 28, 7, 162, 0, 31, 42, 180, 0, 71, 7, 27, 104, 28, 96, 3, 79]
abbrev dktX13_plain_3 : List UInt8 := dkwX13_plain_3 ++ dktX13_plain_4
def dkwX13_plain_2 : List UInt8 := [180, 0, 52, 16, 9, 27, 104, 28, 96, 3, 79, 42, 180, 0, 58, 16, 9, 27, 104, 28, 96, 3, 84]
abbrev dktX13_plain_2 : List UInt8 := dkwX13_plain_2 ++ dktX13_plain_3
def dkwX13_plain_1 : List UInt8 := [180, 0, 65, 27, 3, 79, 42, 180, 0, 68, 27, 3, 79, 3, 61, 28, 16, 9, 162, 0, 33, 42]
abbrev dktX13_plain_1 : List UInt8 := dkwX13_plain_1 ++ dktX13_plain_2
def dkwX13_plain_0 : List UInt8 := [42, 180, 0, 43, 27, 3, 79, 42, 180, 0, 55, 27, 3, 79, 42, 180, 0, 62, 27, 3, 79, 42]
abbrev dktX13_plain_0 : List UInt8 := dkwX13_plain_0 ++ dktX13_plain_1
theorem dksX13_plain_0 : cX13_plain.data.toList.drop 0 = dktX13_plain_0 := by decide +kernel
theorem dksX13_plain_1 : cX13_plain.data.toList.drop 22 = dktX13_plain_1 := dk_seg dksX13_plain_0 22 rfl rfl
theorem dksX13_plain_2 : cX13_plain.data.toList.drop 44 = dktX13_plain_2 := dk_seg dksX13_plain_1 22 rfl rfl
theorem dksX13_plain_3 : cX13_plain.data.toList.drop 67 = dktX13_plain_3 := dk_seg dksX13_plain_2 23 rfl rfl
theorem dksX13_plain_4 : cX13_plain.data.toList.drop 91 = dktX13_plain_4 := dk_seg dksX13_plain_3 24 rfl rfl
theorem dX13_plain_0 : decode cX13_plain 0 = .ok (.aload_n 0, 1) := dk_42 (dk_at dksX13_plain_0 0 rfl rfl)
theorem dX13_plain_1 : decode cX13_plain 1 = .ok (.getfield 43, 3) := dk_180 0 43 (dk_at dksX13_plain_0 1 rfl rfl)
theorem dX13_plain_4 : decode cX13_plain 4 = .ok (.iload_n 1, 1) := dk_27 (dk_at dksX13_plain_0 4 rfl rfl)
theorem dX13_plain_5 : decode cX13_plain 5 = .ok (.iconst 0, 1) := dk_3 (dk_at dksX13_plain_0 5 rfl rfl)
theorem dX13_plain_6 : decode cX13_plain 6 = .ok (.iastore, 1) := dk_79 (dk_at dksX13_plain_0 6 rfl rfl)
theorem dX13_plain_7 : decode cX13_plain 7 = .ok (.aload_n 0, 1) := dk_42 (dk_at dksX13_plain_0 7 rfl rfl)
theorem dX13_plain_8 : decode cX13_plain 8 = .ok (.getfield 55, 3) := dk_180 0 55 (dk_at dksX13_plain_0 8 rfl rfl)
theorem dX13_plain_11 : decode cX13_plain 11 = .ok (.iload_n 1, 1) := dk_27 (dk_at dksX13_plain_0 11 rfl rfl)
theorem dX13_plain_12 : decode cX13_plain 12 = .ok (.iconst 0, 1) := dk_3 (dk_at dksX13_plain_0 12 rfl rfl)
theorem dX13_plain_13 : decode cX13_plain 13 = .ok (.iastore, 1) := dk_79 (dk_at dksX13_plain_0 13 rfl rfl)
theorem dX13_plain_14 : decode cX13_plain 14 = .ok (.aload_n 0, 1) := dk_42 (dk_at dksX13_plain_0 14 rfl rfl)
theorem dX13_plain_15 : decode cX13_plain 15 = .ok (.getfield 62, 3) := dk_180 0 62 (dk_at dksX13_plain_0 15 rfl rfl)
theorem dX13_plain_18 : decode cX13_plain 18 = .ok (.iload_n 1, 1) := dk_27 (dk_at dksX13_plain_0 18 rfl rfl)
theorem dX13_plain_19 : decode cX13_plain 19 = .ok (.iconst 0, 1) := dk_3 (dk_at dksX13_plain_0 19 rfl rfl)
theorem dX13_plain_20 : decode cX13_plain 20 = .ok (.iastore, 1) := dk_79 (dk_at dksX13_plain_0 20 rfl rfl)
theorem dX13_plain_21 : decode cX13_plain 21 = .ok (.aload_n 0, 1) := dk_42 (dk_at dksX13_plain_0 21 rfl rfl)
theorem dX13_plain_22 : decode cX13_plain 22 = .ok (.getfield 65, 3) := dk_180 0 65 (dk_at dksX13_plain_1 0 rfl rfl)
theorem dX13_plain_25 : decode cX13_plain 25 = .ok (.iload_n 1, 1) := dk_27 (dk_at dksX13_plain_1 3 rfl rfl)
theorem dX13_plain_26 : decode cX13_plain 26 = .ok (.iconst 0, 1) := dk_3 (dk_at dksX13_plain_1 4 rfl rfl)
theorem dX13_plain_27 : decode cX13_plain 27 = .ok (.iastore, 1) := dk_79 (dk_at dksX13_plain_1 5 rfl rfl)
theorem dX13_plain_28 : decode cX13_plain 28 = .ok (.aload_n 0, 1) := dk_42 (dk_at dksX13_plain_1 6 rfl rfl)
theorem dX13_plain_29 : decode cX13_plain 29 = .ok (.getfield 68, 3) := dk_180 0 68 (dk_at dksX13_plain_1 7 rfl rfl)
theorem dX13_plain_32 : decode cX13_plain 32 = .ok (.iload_n 1, 1) := dk_27 (dk_at dksX13_plain_1 10 rfl rfl)
theorem dX13_plain_33 : decode cX13_plain 33 = .ok (.iconst 0, 1) := dk_3 (dk_at dksX13_plain_1 11 rfl rfl)
theorem dX13_plain_34 : decode cX13_plain 34 = .ok (.iastore, 1) := dk_79 (dk_at dksX13_plain_1 12 rfl rfl)
theorem dX13_plain_35 : decode cX13_plain 35 = .ok (.iconst 0, 1) := dk_3 (dk_at dksX13_plain_1 13 rfl rfl)
theorem dX13_plain_36 : decode cX13_plain 36 = .ok (.istore_n 2, 1) := dk_61 (dk_at dksX13_plain_1 14 rfl rfl)
theorem dX13_plain_37 : decode cX13_plain 37 = .ok (.iload_n 2, 1) := dk_28 (dk_at dksX13_plain_1 15 rfl rfl)
theorem dX13_plain_38 : decode cX13_plain 38 = .ok (.bipush 9, 2) := dk_16 9 (dk_at dksX13_plain_1 16 rfl rfl)
theorem dX13_plain_40 : decode cX13_plain 40 = .ok (.if_icmp .ge 33, 3) := dk_162 0 33 (dk_at dksX13_plain_1 18 rfl rfl)
theorem dX13_plain_43 : decode cX13_plain 43 = .ok (.aload_n 0, 1) := dk_42 (dk_at dksX13_plain_1 21 rfl rfl)
theorem dX13_plain_44 : decode cX13_plain 44 = .ok (.getfield 52, 3) := dk_180 0 52 (dk_at dksX13_plain_2 0 rfl rfl)
theorem dX13_plain_47 : decode cX13_plain 47 = .ok (.bipush 9, 2) := dk_16 9 (dk_at dksX13_plain_2 3 rfl rfl)
theorem dX13_plain_49 : decode cX13_plain 49 = .ok (.iload_n 1, 1) := dk_27 (dk_at dksX13_plain_2 5 rfl rfl)
theorem dX13_plain_50 : decode cX13_plain 50 = .ok (.imul, 1) := dk_104 (dk_at dksX13_plain_2 6 rfl rfl)
theorem dX13_plain_51 : decode cX13_plain 51 = .ok (.iload_n 2, 1) := dk_28 (dk_at dksX13_plain_2 7 rfl rfl)
theorem dX13_plain_52 : decode cX13_plain 52 = .ok (.iadd, 1) := dk_96 (dk_at dksX13_plain_2 8 rfl rfl)
theorem dX13_plain_53 : decode cX13_plain 53 = .ok (.iconst 0, 1) := dk_3 (dk_at dksX13_plain_2 9 rfl rfl)
theorem dX13_plain_54 : decode cX13_plain 54 = .ok (.iastore, 1) := dk_79 (dk_at dksX13_plain_2 10 rfl rfl)
theorem dX13_plain_55 : decode cX13_plain 55 = .ok (.aload_n 0, 1) := dk_42 (dk_at dksX13_plain_2 11 rfl rfl)
theorem dX13_plain_56 : decode cX13_plain 56 = .ok (.getfield 58, 3) := dk_180 0 58 (dk_at dksX13_plain_2 12 rfl rfl)
theorem dX13_plain_59 : decode cX13_plain 59 = .ok (.bipush 9, 2) := dk_16 9 (dk_at dksX13_plain_2 15 rfl rfl)
theorem dX13_plain_61 : decode cX13_plain 61 = .ok (.iload_n 1, 1) := dk_27 (dk_at dksX13_plain_2 17 rfl rfl)
theorem dX13_plain_62 : decode cX13_plain 62 = .ok (.imul, 1) := dk_104 (dk_at dksX13_plain_2 18 rfl rfl)
theorem dX13_plain_63 : decode cX13_plain 63 = .ok (.iload_n 2, 1) := dk_28 (dk_at dksX13_plain_2 19 rfl rfl)
theorem dX13_plain_64 : decode cX13_plain 64 = .ok (.iadd, 1) := dk_96 (dk_at dksX13_plain_2 20 rfl rfl)
theorem dX13_plain_65 : decode cX13_plain 65 = .ok (.iconst 0, 1) := dk_3 (dk_at dksX13_plain_2 21 rfl rfl)
theorem dX13_plain_66 : decode cX13_plain 66 = .ok (.bastore, 1) := dk_84 (dk_at dksX13_plain_2 22 rfl rfl)
theorem dX13_plain_67 : decode cX13_plain 67 = .ok (.iinc 2 1, 3) := dk_132 2 1 (dk_at dksX13_plain_3 0 rfl rfl)
theorem dX13_plain_70 : decode cX13_plain 70 = .ok (.goto (-33), 3) := dk_167 255 223 (dk_at dksX13_plain_3 3 rfl rfl)
theorem dX13_plain_73 : decode cX13_plain 73 = .ok (.iconst 0, 1) := dk_3 (dk_at dksX13_plain_3 6 rfl rfl)
theorem dX13_plain_74 : decode cX13_plain 74 = .ok (.istore_n 2, 1) := dk_61 (dk_at dksX13_plain_3 7 rfl rfl)
theorem dX13_plain_75 : decode cX13_plain 75 = .ok (.iload_n 2, 1) := dk_28 (dk_at dksX13_plain_3 8 rfl rfl)
theorem dX13_plain_76 : decode cX13_plain 76 = .ok (.iconst 4, 1) := dk_7 (dk_at dksX13_plain_3 9 rfl rfl)
theorem dX13_plain_77 : decode cX13_plain 77 = .ok (.if_icmp .ge 31, 3) := dk_162 0 31 (dk_at dksX13_plain_3 10 rfl rfl)
theorem dX13_plain_80 : decode cX13_plain 80 = .ok (.aload_n 0, 1) := dk_42 (dk_at dksX13_plain_3 13 rfl rfl)
theorem dX13_plain_81 : decode cX13_plain 81 = .ok (.getfield 71, 3) := dk_180 0 71 (dk_at dksX13_plain_3 14 rfl rfl)
theorem dX13_plain_84 : decode cX13_plain 84 = .ok (.iconst 4, 1) := dk_7 (dk_at dksX13_plain_3 17 rfl rfl)
theorem dX13_plain_85 : decode cX13_plain 85 = .ok (.iload_n 1, 1) := dk_27 (dk_at dksX13_plain_3 18 rfl rfl)
theorem dX13_plain_86 : decode cX13_plain 86 = .ok (.imul, 1) := dk_104 (dk_at dksX13_plain_3 19 rfl rfl)
theorem dX13_plain_87 : decode cX13_plain 87 = .ok (.iload_n 2, 1) := dk_28 (dk_at dksX13_plain_3 20 rfl rfl)
theorem dX13_plain_88 : decode cX13_plain 88 = .ok (.iadd, 1) := dk_96 (dk_at dksX13_plain_3 21 rfl rfl)
theorem dX13_plain_89 : decode cX13_plain 89 = .ok (.iconst 0, 1) := dk_3 (dk_at dksX13_plain_3 22 rfl rfl)
theorem dX13_plain_90 : decode cX13_plain 90 = .ok (.iastore, 1) := dk_79 (dk_at dksX13_plain_3 23 rfl rfl)
theorem dX13_plain_91 : decode cX13_plain 91 = .ok (.aload_n 0, 1) := dk_42 (dk_at dksX13_plain_4 0 rfl rfl)
theorem dX13_plain_92 : decode cX13_plain 92 = .ok (.getfield 74, 3) := dk_180 0 74 (dk_at dksX13_plain_4 1 rfl rfl)
theorem dX13_plain_95 : decode cX13_plain 95 = .ok (.iconst 4, 1) := dk_7 (dk_at dksX13_plain_4 4 rfl rfl)
theorem dX13_plain_96 : decode cX13_plain 96 = .ok (.iload_n 1, 1) := dk_27 (dk_at dksX13_plain_4 5 rfl rfl)
theorem dX13_plain_97 : decode cX13_plain 97 = .ok (.imul, 1) := dk_104 (dk_at dksX13_plain_4 6 rfl rfl)
theorem dX13_plain_98 : decode cX13_plain 98 = .ok (.iload_n 2, 1) := dk_28 (dk_at dksX13_plain_4 7 rfl rfl)
theorem dX13_plain_99 : decode cX13_plain 99 = .ok (.iadd, 1) := dk_96 (dk_at dksX13_plain_4 8 rfl rfl)
theorem dX13_plain_100 : decode cX13_plain 100 = .ok (.iconst 0, 1) := dk_3 (dk_at dksX13_plain_4 9 rfl rfl)
theorem dX13_plain_101 : decode cX13_plain 101 = .ok (.iastore, 1) := dk_79 (dk_at dksX13_plain_4 10 rfl rfl)
theorem dX13_plain_102 : decode cX13_plain 102 = .ok (.iinc 2 1, 3) := dk_132 2 1 (dk_at dksX13_plain_4 11 rfl rfl)
theorem dX13_plain_105 : decode cX13_plain 105 = .ok (.goto (-30), 3) := dk_167 255 226 (dk_at dksX13_plain_4 14 rfl rfl)
theorem dX13_plain_108 : decode cX13_plain 108 = .ok (.return_, 1) := dk_177 (dk_at dksX13_plain_4 17 rfl rfl)
abbrev cX13_word : ByteArray := prog_21_method_10_code
def yX13_word : MethodName := ⟨RX13, "word", "(IIIIIII)J"⟩
def dkwX13_word_1 : List UInt8 := [184, 0, 174, 21, 6, 184, 0, 174, 173]
abbrev dktX13_word_1 : List UInt8 := dkwX13_word_1 ++ []
def dkwX13_word_0 : List UInt8 := [9, 26, 184, 0, 174, 27, 184, 0, 174, 28, 184, 0, 174, 29, 184, 0, 174, 21, 4, 184, 0, 174, 21, 5]
abbrev dktX13_word_0 : List UInt8 := dkwX13_word_0 ++ dktX13_word_1
theorem dksX13_word_0 : cX13_word.data.toList.drop 0 = dktX13_word_0 := by decide +kernel
theorem dksX13_word_1 : cX13_word.data.toList.drop 24 = dktX13_word_1 := dk_seg dksX13_word_0 24 rfl rfl
theorem dX13_word_0 : decode cX13_word 0 = .ok (.lconst 0, 1) := dk_9 (dk_at dksX13_word_0 0 rfl rfl)
theorem dX13_word_1 : decode cX13_word 1 = .ok (.iload_n 0, 1) := dk_26 (dk_at dksX13_word_0 1 rfl rfl)
theorem dX13_word_2 : decode cX13_word 2 = .ok (.invokestatic 174, 3) := dk_184 0 174 (dk_at dksX13_word_0 2 rfl rfl)
theorem dX13_word_5 : decode cX13_word 5 = .ok (.iload_n 1, 1) := dk_27 (dk_at dksX13_word_0 5 rfl rfl)
theorem dX13_word_6 : decode cX13_word 6 = .ok (.invokestatic 174, 3) := dk_184 0 174 (dk_at dksX13_word_0 6 rfl rfl)
theorem dX13_word_9 : decode cX13_word 9 = .ok (.iload_n 2, 1) := dk_28 (dk_at dksX13_word_0 9 rfl rfl)
theorem dX13_word_10 : decode cX13_word 10 = .ok (.invokestatic 174, 3) := dk_184 0 174 (dk_at dksX13_word_0 10 rfl rfl)
theorem dX13_word_13 : decode cX13_word 13 = .ok (.iload_n 3, 1) := dk_29 (dk_at dksX13_word_0 13 rfl rfl)
theorem dX13_word_14 : decode cX13_word 14 = .ok (.invokestatic 174, 3) := dk_184 0 174 (dk_at dksX13_word_0 14 rfl rfl)
theorem dX13_word_17 : decode cX13_word 17 = .ok (.iload 4, 2) := dk_21 4 (dk_at dksX13_word_0 17 rfl rfl)
theorem dX13_word_19 : decode cX13_word 19 = .ok (.invokestatic 174, 3) := dk_184 0 174 (dk_at dksX13_word_0 19 rfl rfl)
theorem dX13_word_22 : decode cX13_word 22 = .ok (.iload 5, 2) := dk_21 5 (dk_at dksX13_word_0 22 rfl rfl)
theorem dX13_word_24 : decode cX13_word 24 = .ok (.invokestatic 174, 3) := dk_184 0 174 (dk_at dksX13_word_1 0 rfl rfl)
theorem dX13_word_27 : decode cX13_word 27 = .ok (.iload 6, 2) := dk_21 6 (dk_at dksX13_word_1 3 rfl rfl)
theorem dX13_word_29 : decode cX13_word 29 = .ok (.invokestatic 174, 3) := dk_184 0 174 (dk_at dksX13_word_1 5 rfl rfl)
theorem dX13_word_32 : decode cX13_word 32 = .ok (.lreturn, 1) := dk_173 (dk_at dksX13_word_1 8 rfl rfl)
abbrev cX13_appends : ByteArray := prog_21_method_9_code
def yX13_appends : MethodName := ⟨RX13, "appends", "(JI)J"⟩
def dkwX13_appends_0 : List UInt8 := [28, 154, 0, 7, 30, 167, 0, 16, 20, 0, 172, 30, 105, 28, 16, 97, 100, 4, 96, 133, 97, 173]
abbrev dktX13_appends_0 : List UInt8 := dkwX13_appends_0 ++ []
theorem dksX13_appends_0 : cX13_appends.data.toList.drop 0 = dktX13_appends_0 := by decide +kernel
theorem dX13_appends_0 : decode cX13_appends 0 = .ok (.iload_n 2, 1) := dk_28 (dk_at dksX13_appends_0 0 rfl rfl)
theorem dX13_appends_1 : decode cX13_appends 1 = .ok (.ifCond .ne 7, 3) := dk_154 0 7 (dk_at dksX13_appends_0 1 rfl rfl)
theorem dX13_appends_4 : decode cX13_appends 4 = .ok (.lload_n 0, 1) := dk_30 (dk_at dksX13_appends_0 4 rfl rfl)
theorem dX13_appends_5 : decode cX13_appends 5 = .ok (.goto 16, 3) := dk_167 0 16 (dk_at dksX13_appends_0 5 rfl rfl)
theorem dX13_appends_8 : decode cX13_appends 8 = .ok (.ldc2_w 172, 3) := dk_20 0 172 (dk_at dksX13_appends_0 8 rfl rfl)
theorem dX13_appends_11 : decode cX13_appends 11 = .ok (.lload_n 0, 1) := dk_30 (dk_at dksX13_appends_0 11 rfl rfl)
theorem dX13_appends_12 : decode cX13_appends 12 = .ok (.lmul, 1) := dk_105 (dk_at dksX13_appends_0 12 rfl rfl)
theorem dX13_appends_13 : decode cX13_appends 13 = .ok (.iload_n 2, 1) := dk_28 (dk_at dksX13_appends_0 13 rfl rfl)
theorem dX13_appends_14 : decode cX13_appends 14 = .ok (.bipush 97, 2) := dk_16 97 (dk_at dksX13_appends_0 14 rfl rfl)
theorem dX13_appends_16 : decode cX13_appends 16 = .ok (.isub, 1) := dk_100 (dk_at dksX13_appends_0 16 rfl rfl)
theorem dX13_appends_17 : decode cX13_appends 17 = .ok (.iconst 1, 1) := dk_4 (dk_at dksX13_appends_0 17 rfl rfl)
theorem dX13_appends_18 : decode cX13_appends 18 = .ok (.iadd, 1) := dk_96 (dk_at dksX13_appends_0 18 rfl rfl)
theorem dX13_appends_19 : decode cX13_appends 19 = .ok (.i2l, 1) := dk_133 (dk_at dksX13_appends_0 19 rfl rfl)
theorem dX13_appends_20 : decode cX13_appends 20 = .ok (.ladd, 1) := dk_97 (dk_at dksX13_appends_0 20 rfl rfl)
theorem dX13_appends_21 : decode cX13_appends 21 = .ok (.lreturn, 1) := dk_173 (dk_at dksX13_appends_0 21 rfl rfl)
abbrev cX13_begins : ByteArray := prog_21_method_42_code
def yX13_begins : MethodName := ⟨RX13, "begins", "()V"⟩
def dkwX13_begins_5 : List UInt8 := [3, 181, 1, 62, 177]
abbrev dktX13_begins_5 : List UInt8 := dkwX13_begins_5 ++ []
def dkwX13_begins_4 : List UInt8 := [42, 180, 0, 65, 42, 180, 0, 230, 46, 79, 42, 42, 180, 0, 68, 42, 180, 0, 230, 46, 181, 1, 59, 42]
abbrev dktX13_begins_4 : List UInt8 := dkwX13_begins_4 ++ dktX13_begins_5
def dkwX13_begins_3 : List UInt8 := [46, 79, 42, 180, 0, 110, 16, 18, 27, 96, 27, 79, 132, 1, 1, 167, 255, 192, 42, 180, 0, 110, 16, 45]
abbrev dktX13_begins_3 : List UInt8 := dkwX13_begins_3 ++ dktX13_begins_4
def dkwX13_begins_2 : List UInt8 := [96, 46, 79, 42, 180, 0, 110, 16, 9, 27, 96, 42, 180, 0, 49, 16, 9, 42, 180, 0, 230, 104, 27, 96]
abbrev dktX13_begins_2 : List UInt8 := dkwX13_begins_2 ++ dktX13_begins_3
def dkwX13_begins_1 : List UInt8 := [42, 182, 1, 48, 162, 0, 62, 42, 180, 0, 110, 27, 42, 180, 0, 46, 16, 9, 42, 180, 0, 230, 104, 27]
abbrev dktX13_begins_1 : List UInt8 := dkwX13_begins_1 ++ dktX13_begins_2
def dkwX13_begins_0 : List UInt8 := [3, 60, 27, 16, 48, 162, 0, 16, 42, 180, 0, 110, 27, 3, 79, 132, 1, 1, 167, 255, 240, 3, 60, 27]
abbrev dktX13_begins_0 : List UInt8 := dkwX13_begins_0 ++ dktX13_begins_1
theorem dksX13_begins_0 : cX13_begins.data.toList.drop 0 = dktX13_begins_0 := by decide +kernel
theorem dksX13_begins_1 : cX13_begins.data.toList.drop 24 = dktX13_begins_1 := dk_seg dksX13_begins_0 24 rfl rfl
theorem dksX13_begins_2 : cX13_begins.data.toList.drop 48 = dktX13_begins_2 := dk_seg dksX13_begins_1 24 rfl rfl
theorem dksX13_begins_3 : cX13_begins.data.toList.drop 72 = dktX13_begins_3 := dk_seg dksX13_begins_2 24 rfl rfl
theorem dksX13_begins_4 : cX13_begins.data.toList.drop 96 = dktX13_begins_4 := dk_seg dksX13_begins_3 24 rfl rfl
theorem dksX13_begins_5 : cX13_begins.data.toList.drop 120 = dktX13_begins_5 := dk_seg dksX13_begins_4 24 rfl rfl
theorem dX13_begins_0 : decode cX13_begins 0 = .ok (.iconst 0, 1) := dk_3 (dk_at dksX13_begins_0 0 rfl rfl)
theorem dX13_begins_1 : decode cX13_begins 1 = .ok (.istore_n 1, 1) := dk_60 (dk_at dksX13_begins_0 1 rfl rfl)
theorem dX13_begins_2 : decode cX13_begins 2 = .ok (.iload_n 1, 1) := dk_27 (dk_at dksX13_begins_0 2 rfl rfl)
theorem dX13_begins_3 : decode cX13_begins 3 = .ok (.bipush 48, 2) := dk_16 48 (dk_at dksX13_begins_0 3 rfl rfl)
theorem dX13_begins_5 : decode cX13_begins 5 = .ok (.if_icmp .ge 16, 3) := dk_162 0 16 (dk_at dksX13_begins_0 5 rfl rfl)
theorem dX13_begins_8 : decode cX13_begins 8 = .ok (.aload_n 0, 1) := dk_42 (dk_at dksX13_begins_0 8 rfl rfl)
theorem dX13_begins_9 : decode cX13_begins 9 = .ok (.getfield 110, 3) := dk_180 0 110 (dk_at dksX13_begins_0 9 rfl rfl)
theorem dX13_begins_12 : decode cX13_begins 12 = .ok (.iload_n 1, 1) := dk_27 (dk_at dksX13_begins_0 12 rfl rfl)
theorem dX13_begins_13 : decode cX13_begins 13 = .ok (.iconst 0, 1) := dk_3 (dk_at dksX13_begins_0 13 rfl rfl)
theorem dX13_begins_14 : decode cX13_begins 14 = .ok (.iastore, 1) := dk_79 (dk_at dksX13_begins_0 14 rfl rfl)
theorem dX13_begins_15 : decode cX13_begins 15 = .ok (.iinc 1 1, 3) := dk_132 1 1 (dk_at dksX13_begins_0 15 rfl rfl)
theorem dX13_begins_18 : decode cX13_begins 18 = .ok (.goto (-16), 3) := dk_167 255 240 (dk_at dksX13_begins_0 18 rfl rfl)
theorem dX13_begins_21 : decode cX13_begins 21 = .ok (.iconst 0, 1) := dk_3 (dk_at dksX13_begins_0 21 rfl rfl)
theorem dX13_begins_22 : decode cX13_begins 22 = .ok (.istore_n 1, 1) := dk_60 (dk_at dksX13_begins_0 22 rfl rfl)
theorem dX13_begins_23 : decode cX13_begins 23 = .ok (.iload_n 1, 1) := dk_27 (dk_at dksX13_begins_0 23 rfl rfl)
theorem dX13_begins_24 : decode cX13_begins 24 = .ok (.aload_n 0, 1) := dk_42 (dk_at dksX13_begins_1 0 rfl rfl)
theorem dX13_begins_25 : decode cX13_begins 25 = .ok (.invokevirtual 304, 3) := dk_182 1 48 (dk_at dksX13_begins_1 1 rfl rfl)
theorem dX13_begins_28 : decode cX13_begins 28 = .ok (.if_icmp .ge 62, 3) := dk_162 0 62 (dk_at dksX13_begins_1 4 rfl rfl)
theorem dX13_begins_31 : decode cX13_begins 31 = .ok (.aload_n 0, 1) := dk_42 (dk_at dksX13_begins_1 7 rfl rfl)
theorem dX13_begins_32 : decode cX13_begins 32 = .ok (.getfield 110, 3) := dk_180 0 110 (dk_at dksX13_begins_1 8 rfl rfl)
theorem dX13_begins_35 : decode cX13_begins 35 = .ok (.iload_n 1, 1) := dk_27 (dk_at dksX13_begins_1 11 rfl rfl)
theorem dX13_begins_36 : decode cX13_begins 36 = .ok (.aload_n 0, 1) := dk_42 (dk_at dksX13_begins_1 12 rfl rfl)
theorem dX13_begins_37 : decode cX13_begins 37 = .ok (.getfield 46, 3) := dk_180 0 46 (dk_at dksX13_begins_1 13 rfl rfl)
theorem dX13_begins_40 : decode cX13_begins 40 = .ok (.bipush 9, 2) := dk_16 9 (dk_at dksX13_begins_1 16 rfl rfl)
theorem dX13_begins_42 : decode cX13_begins 42 = .ok (.aload_n 0, 1) := dk_42 (dk_at dksX13_begins_1 18 rfl rfl)
theorem dX13_begins_43 : decode cX13_begins 43 = .ok (.getfield 230, 3) := dk_180 0 230 (dk_at dksX13_begins_1 19 rfl rfl)
theorem dX13_begins_46 : decode cX13_begins 46 = .ok (.imul, 1) := dk_104 (dk_at dksX13_begins_1 22 rfl rfl)
theorem dX13_begins_47 : decode cX13_begins 47 = .ok (.iload_n 1, 1) := dk_27 (dk_at dksX13_begins_1 23 rfl rfl)
theorem dX13_begins_48 : decode cX13_begins 48 = .ok (.iadd, 1) := dk_96 (dk_at dksX13_begins_2 0 rfl rfl)
theorem dX13_begins_49 : decode cX13_begins 49 = .ok (.iaload, 1) := dk_46 (dk_at dksX13_begins_2 1 rfl rfl)
theorem dX13_begins_50 : decode cX13_begins 50 = .ok (.iastore, 1) := dk_79 (dk_at dksX13_begins_2 2 rfl rfl)
theorem dX13_begins_51 : decode cX13_begins 51 = .ok (.aload_n 0, 1) := dk_42 (dk_at dksX13_begins_2 3 rfl rfl)
theorem dX13_begins_52 : decode cX13_begins 52 = .ok (.getfield 110, 3) := dk_180 0 110 (dk_at dksX13_begins_2 4 rfl rfl)
theorem dX13_begins_55 : decode cX13_begins 55 = .ok (.bipush 9, 2) := dk_16 9 (dk_at dksX13_begins_2 7 rfl rfl)
theorem dX13_begins_57 : decode cX13_begins 57 = .ok (.iload_n 1, 1) := dk_27 (dk_at dksX13_begins_2 9 rfl rfl)
theorem dX13_begins_58 : decode cX13_begins 58 = .ok (.iadd, 1) := dk_96 (dk_at dksX13_begins_2 10 rfl rfl)
theorem dX13_begins_59 : decode cX13_begins 59 = .ok (.aload_n 0, 1) := dk_42 (dk_at dksX13_begins_2 11 rfl rfl)
theorem dX13_begins_60 : decode cX13_begins 60 = .ok (.getfield 49, 3) := dk_180 0 49 (dk_at dksX13_begins_2 12 rfl rfl)
theorem dX13_begins_63 : decode cX13_begins 63 = .ok (.bipush 9, 2) := dk_16 9 (dk_at dksX13_begins_2 15 rfl rfl)
theorem dX13_begins_65 : decode cX13_begins 65 = .ok (.aload_n 0, 1) := dk_42 (dk_at dksX13_begins_2 17 rfl rfl)
theorem dX13_begins_66 : decode cX13_begins 66 = .ok (.getfield 230, 3) := dk_180 0 230 (dk_at dksX13_begins_2 18 rfl rfl)
theorem dX13_begins_69 : decode cX13_begins 69 = .ok (.imul, 1) := dk_104 (dk_at dksX13_begins_2 21 rfl rfl)
theorem dX13_begins_70 : decode cX13_begins 70 = .ok (.iload_n 1, 1) := dk_27 (dk_at dksX13_begins_2 22 rfl rfl)
theorem dX13_begins_71 : decode cX13_begins 71 = .ok (.iadd, 1) := dk_96 (dk_at dksX13_begins_2 23 rfl rfl)
theorem dX13_begins_72 : decode cX13_begins 72 = .ok (.iaload, 1) := dk_46 (dk_at dksX13_begins_3 0 rfl rfl)
theorem dX13_begins_73 : decode cX13_begins 73 = .ok (.iastore, 1) := dk_79 (dk_at dksX13_begins_3 1 rfl rfl)
theorem dX13_begins_74 : decode cX13_begins 74 = .ok (.aload_n 0, 1) := dk_42 (dk_at dksX13_begins_3 2 rfl rfl)
theorem dX13_begins_75 : decode cX13_begins 75 = .ok (.getfield 110, 3) := dk_180 0 110 (dk_at dksX13_begins_3 3 rfl rfl)
theorem dX13_begins_78 : decode cX13_begins 78 = .ok (.bipush 18, 2) := dk_16 18 (dk_at dksX13_begins_3 6 rfl rfl)
theorem dX13_begins_80 : decode cX13_begins 80 = .ok (.iload_n 1, 1) := dk_27 (dk_at dksX13_begins_3 8 rfl rfl)
theorem dX13_begins_81 : decode cX13_begins 81 = .ok (.iadd, 1) := dk_96 (dk_at dksX13_begins_3 9 rfl rfl)
theorem dX13_begins_82 : decode cX13_begins 82 = .ok (.iload_n 1, 1) := dk_27 (dk_at dksX13_begins_3 10 rfl rfl)
theorem dX13_begins_83 : decode cX13_begins 83 = .ok (.iastore, 1) := dk_79 (dk_at dksX13_begins_3 11 rfl rfl)
theorem dX13_begins_84 : decode cX13_begins 84 = .ok (.iinc 1 1, 3) := dk_132 1 1 (dk_at dksX13_begins_3 12 rfl rfl)
theorem dX13_begins_87 : decode cX13_begins 87 = .ok (.goto (-64), 3) := dk_167 255 192 (dk_at dksX13_begins_3 15 rfl rfl)
theorem dX13_begins_90 : decode cX13_begins 90 = .ok (.aload_n 0, 1) := dk_42 (dk_at dksX13_begins_3 18 rfl rfl)
theorem dX13_begins_91 : decode cX13_begins 91 = .ok (.getfield 110, 3) := dk_180 0 110 (dk_at dksX13_begins_3 19 rfl rfl)
theorem dX13_begins_94 : decode cX13_begins 94 = .ok (.bipush 45, 2) := dk_16 45 (dk_at dksX13_begins_3 22 rfl rfl)
theorem dX13_begins_96 : decode cX13_begins 96 = .ok (.aload_n 0, 1) := dk_42 (dk_at dksX13_begins_4 0 rfl rfl)
theorem dX13_begins_97 : decode cX13_begins 97 = .ok (.getfield 65, 3) := dk_180 0 65 (dk_at dksX13_begins_4 1 rfl rfl)
theorem dX13_begins_100 : decode cX13_begins 100 = .ok (.aload_n 0, 1) := dk_42 (dk_at dksX13_begins_4 4 rfl rfl)
theorem dX13_begins_101 : decode cX13_begins 101 = .ok (.getfield 230, 3) := dk_180 0 230 (dk_at dksX13_begins_4 5 rfl rfl)
theorem dX13_begins_104 : decode cX13_begins 104 = .ok (.iaload, 1) := dk_46 (dk_at dksX13_begins_4 8 rfl rfl)
theorem dX13_begins_105 : decode cX13_begins 105 = .ok (.iastore, 1) := dk_79 (dk_at dksX13_begins_4 9 rfl rfl)
theorem dX13_begins_106 : decode cX13_begins 106 = .ok (.aload_n 0, 1) := dk_42 (dk_at dksX13_begins_4 10 rfl rfl)
theorem dX13_begins_107 : decode cX13_begins 107 = .ok (.aload_n 0, 1) := dk_42 (dk_at dksX13_begins_4 11 rfl rfl)
theorem dX13_begins_108 : decode cX13_begins 108 = .ok (.getfield 68, 3) := dk_180 0 68 (dk_at dksX13_begins_4 12 rfl rfl)
theorem dX13_begins_111 : decode cX13_begins 111 = .ok (.aload_n 0, 1) := dk_42 (dk_at dksX13_begins_4 15 rfl rfl)
theorem dX13_begins_112 : decode cX13_begins 112 = .ok (.getfield 230, 3) := dk_180 0 230 (dk_at dksX13_begins_4 16 rfl rfl)
theorem dX13_begins_115 : decode cX13_begins 115 = .ok (.iaload, 1) := dk_46 (dk_at dksX13_begins_4 19 rfl rfl)
theorem dX13_begins_116 : decode cX13_begins 116 = .ok (.putfield 315, 3) := dk_181 1 59 (dk_at dksX13_begins_4 20 rfl rfl)
theorem dX13_begins_119 : decode cX13_begins 119 = .ok (.aload_n 0, 1) := dk_42 (dk_at dksX13_begins_4 23 rfl rfl)
theorem dX13_begins_120 : decode cX13_begins 120 = .ok (.iconst 0, 1) := dk_3 (dk_at dksX13_begins_5 0 rfl rfl)
theorem dX13_begins_121 : decode cX13_begins 121 = .ok (.putfield 318, 3) := dk_181 1 62 (dk_at dksX13_begins_5 1 rfl rfl)
theorem dX13_begins_124 : decode cX13_begins 124 = .ok (.return_, 1) := dk_177 (dk_at dksX13_begins_5 4 rfl rfl)
abbrev cX13_many : ByteArray := prog_21_method_38_code
def yX13_many : MethodName := ⟨RX13, "many", "()I"⟩
def dkwX13_many_0 : List UInt8 := [42, 180, 0, 43, 42, 180, 0, 230, 46, 172]
abbrev dktX13_many_0 : List UInt8 := dkwX13_many_0 ++ []
theorem dksX13_many_0 : cX13_many.data.toList.drop 0 = dktX13_many_0 := by decide +kernel
theorem dX13_many_0 : decode cX13_many 0 = .ok (.aload_n 0, 1) := dk_42 (dk_at dksX13_many_0 0 rfl rfl)
theorem dX13_many_1 : decode cX13_many 1 = .ok (.getfield 43, 3) := dk_180 0 43 (dk_at dksX13_many_0 1 rfl rfl)
theorem dX13_many_4 : decode cX13_many 4 = .ok (.aload_n 0, 1) := dk_42 (dk_at dksX13_many_0 4 rfl rfl)
theorem dX13_many_5 : decode cX13_many 5 = .ok (.getfield 230, 3) := dk_180 0 230 (dk_at dksX13_many_0 5 rfl rfl)
theorem dX13_many_8 : decode cX13_many 8 = .ok (.iaload, 1) := dk_46 (dk_at dksX13_many_0 8 rfl rfl)
theorem dX13_many_9 : decode cX13_many 9 = .ok (.ireturn, 1) := dk_172 (dk_at dksX13_many_0 9 rfl rfl)
abbrev cX13_keepsRow : ByteArray := prog_21_method_43_code
def yX13_keepsRow : MethodName := ⟨RX13, "keepsRow", "()V"⟩
def dkwX13_keepsRow_1 : List UInt8 := [167, 255, 235, 177]
abbrev dktX13_keepsRow_1 : List UInt8 := dkwX13_keepsRow_1 ++ []
def dkwX13_keepsRow_0 : List UInt8 := [3, 60, 27, 16, 48, 162, 0, 21, 42, 180, 0, 107, 27, 42, 180, 0, 110, 27, 46, 79, 132, 1, 1]
abbrev dktX13_keepsRow_0 : List UInt8 := dkwX13_keepsRow_0 ++ dktX13_keepsRow_1
theorem dksX13_keepsRow_0 : cX13_keepsRow.data.toList.drop 0 = dktX13_keepsRow_0 := by decide +kernel
theorem dksX13_keepsRow_1 : cX13_keepsRow.data.toList.drop 23 = dktX13_keepsRow_1 := dk_seg dksX13_keepsRow_0 23 rfl rfl
theorem dX13_keepsRow_0 : decode cX13_keepsRow 0 = .ok (.iconst 0, 1) := dk_3 (dk_at dksX13_keepsRow_0 0 rfl rfl)
theorem dX13_keepsRow_1 : decode cX13_keepsRow 1 = .ok (.istore_n 1, 1) := dk_60 (dk_at dksX13_keepsRow_0 1 rfl rfl)
theorem dX13_keepsRow_2 : decode cX13_keepsRow 2 = .ok (.iload_n 1, 1) := dk_27 (dk_at dksX13_keepsRow_0 2 rfl rfl)
theorem dX13_keepsRow_3 : decode cX13_keepsRow 3 = .ok (.bipush 48, 2) := dk_16 48 (dk_at dksX13_keepsRow_0 3 rfl rfl)
theorem dX13_keepsRow_5 : decode cX13_keepsRow 5 = .ok (.if_icmp .ge 21, 3) := dk_162 0 21 (dk_at dksX13_keepsRow_0 5 rfl rfl)
theorem dX13_keepsRow_8 : decode cX13_keepsRow 8 = .ok (.aload_n 0, 1) := dk_42 (dk_at dksX13_keepsRow_0 8 rfl rfl)
theorem dX13_keepsRow_9 : decode cX13_keepsRow 9 = .ok (.getfield 107, 3) := dk_180 0 107 (dk_at dksX13_keepsRow_0 9 rfl rfl)
theorem dX13_keepsRow_12 : decode cX13_keepsRow 12 = .ok (.iload_n 1, 1) := dk_27 (dk_at dksX13_keepsRow_0 12 rfl rfl)
theorem dX13_keepsRow_13 : decode cX13_keepsRow 13 = .ok (.aload_n 0, 1) := dk_42 (dk_at dksX13_keepsRow_0 13 rfl rfl)
theorem dX13_keepsRow_14 : decode cX13_keepsRow 14 = .ok (.getfield 110, 3) := dk_180 0 110 (dk_at dksX13_keepsRow_0 14 rfl rfl)
theorem dX13_keepsRow_17 : decode cX13_keepsRow 17 = .ok (.iload_n 1, 1) := dk_27 (dk_at dksX13_keepsRow_0 17 rfl rfl)
theorem dX13_keepsRow_18 : decode cX13_keepsRow 18 = .ok (.iaload, 1) := dk_46 (dk_at dksX13_keepsRow_0 18 rfl rfl)
theorem dX13_keepsRow_19 : decode cX13_keepsRow 19 = .ok (.iastore, 1) := dk_79 (dk_at dksX13_keepsRow_0 19 rfl rfl)
theorem dX13_keepsRow_20 : decode cX13_keepsRow 20 = .ok (.iinc 1 1, 3) := dk_132 1 1 (dk_at dksX13_keepsRow_0 20 rfl rfl)
theorem dX13_keepsRow_23 : decode cX13_keepsRow 23 = .ok (.goto (-21), 3) := dk_167 255 235 (dk_at dksX13_keepsRow_1 0 rfl rfl)
theorem dX13_keepsRow_26 : decode cX13_keepsRow 26 = .ok (.return_, 1) := dk_177 (dk_at dksX13_keepsRow_1 3 rfl rfl)
abbrev cX13_feed : ByteArray := prog_21_method_3_code
def yX13_feed : MethodName := ⟨RX13, "feed", "(IIIII)I"⟩
def dkwX13_feed_2 : List UInt8 := [172]
abbrev dktX13_feed_2 : List UInt8 := dkwX13_feed_2 ++ []
def dkwX13_feed_1 : List UInt8 := [182, 0, 166, 42, 29, 182, 0, 166, 42, 21, 4, 182, 0, 166, 42, 21, 5, 182, 0, 166, 42, 180, 0, 163]
abbrev dktX13_feed_1 : List UInt8 := dkwX13_feed_1 ++ dktX13_feed_2
def dkwX13_feed_0 : List UInt8 := [42, 180, 0, 163, 16, 20, 96, 17, 7, 208, 164, 0, 5, 2, 172, 42, 27, 182, 0, 166, 42, 28]
abbrev dktX13_feed_0 : List UInt8 := dkwX13_feed_0 ++ dktX13_feed_1
theorem dksX13_feed_0 : cX13_feed.data.toList.drop 0 = dktX13_feed_0 := by decide +kernel
theorem dksX13_feed_1 : cX13_feed.data.toList.drop 22 = dktX13_feed_1 := dk_seg dksX13_feed_0 22 rfl rfl
theorem dksX13_feed_2 : cX13_feed.data.toList.drop 46 = dktX13_feed_2 := dk_seg dksX13_feed_1 24 rfl rfl
theorem dX13_feed_0 : decode cX13_feed 0 = .ok (.aload_n 0, 1) := dk_42 (dk_at dksX13_feed_0 0 rfl rfl)
theorem dX13_feed_1 : decode cX13_feed 1 = .ok (.getfield 163, 3) := dk_180 0 163 (dk_at dksX13_feed_0 1 rfl rfl)
theorem dX13_feed_4 : decode cX13_feed 4 = .ok (.bipush 20, 2) := dk_16 20 (dk_at dksX13_feed_0 4 rfl rfl)
theorem dX13_feed_6 : decode cX13_feed 6 = .ok (.iadd, 1) := dk_96 (dk_at dksX13_feed_0 6 rfl rfl)
theorem dX13_feed_7 : decode cX13_feed 7 = .ok (.sipush 2000, 3) := dk_17 7 208 (dk_at dksX13_feed_0 7 rfl rfl)
theorem dX13_feed_10 : decode cX13_feed 10 = .ok (.if_icmp .le 5, 3) := dk_164 0 5 (dk_at dksX13_feed_0 10 rfl rfl)
theorem dX13_feed_13 : decode cX13_feed 13 = .ok (.iconst (-1), 1) := dk_2 (dk_at dksX13_feed_0 13 rfl rfl)
theorem dX13_feed_14 : decode cX13_feed 14 = .ok (.ireturn, 1) := dk_172 (dk_at dksX13_feed_0 14 rfl rfl)
theorem dX13_feed_15 : decode cX13_feed 15 = .ok (.aload_n 0, 1) := dk_42 (dk_at dksX13_feed_0 15 rfl rfl)
theorem dX13_feed_16 : decode cX13_feed 16 = .ok (.iload_n 1, 1) := dk_27 (dk_at dksX13_feed_0 16 rfl rfl)
theorem dX13_feed_17 : decode cX13_feed 17 = .ok (.invokevirtual 166, 3) := dk_182 0 166 (dk_at dksX13_feed_0 17 rfl rfl)
theorem dX13_feed_20 : decode cX13_feed 20 = .ok (.aload_n 0, 1) := dk_42 (dk_at dksX13_feed_0 20 rfl rfl)
theorem dX13_feed_21 : decode cX13_feed 21 = .ok (.iload_n 2, 1) := dk_28 (dk_at dksX13_feed_0 21 rfl rfl)
theorem dX13_feed_22 : decode cX13_feed 22 = .ok (.invokevirtual 166, 3) := dk_182 0 166 (dk_at dksX13_feed_1 0 rfl rfl)
theorem dX13_feed_25 : decode cX13_feed 25 = .ok (.aload_n 0, 1) := dk_42 (dk_at dksX13_feed_1 3 rfl rfl)
theorem dX13_feed_26 : decode cX13_feed 26 = .ok (.iload_n 3, 1) := dk_29 (dk_at dksX13_feed_1 4 rfl rfl)
theorem dX13_feed_27 : decode cX13_feed 27 = .ok (.invokevirtual 166, 3) := dk_182 0 166 (dk_at dksX13_feed_1 5 rfl rfl)
theorem dX13_feed_30 : decode cX13_feed 30 = .ok (.aload_n 0, 1) := dk_42 (dk_at dksX13_feed_1 8 rfl rfl)
theorem dX13_feed_31 : decode cX13_feed 31 = .ok (.iload 4, 2) := dk_21 4 (dk_at dksX13_feed_1 9 rfl rfl)
theorem dX13_feed_33 : decode cX13_feed 33 = .ok (.invokevirtual 166, 3) := dk_182 0 166 (dk_at dksX13_feed_1 11 rfl rfl)
theorem dX13_feed_36 : decode cX13_feed 36 = .ok (.aload_n 0, 1) := dk_42 (dk_at dksX13_feed_1 14 rfl rfl)
theorem dX13_feed_37 : decode cX13_feed 37 = .ok (.iload 5, 2) := dk_21 5 (dk_at dksX13_feed_1 15 rfl rfl)
theorem dX13_feed_39 : decode cX13_feed 39 = .ok (.invokevirtual 166, 3) := dk_182 0 166 (dk_at dksX13_feed_1 17 rfl rfl)
theorem dX13_feed_42 : decode cX13_feed 42 = .ok (.aload_n 0, 1) := dk_42 (dk_at dksX13_feed_1 20 rfl rfl)
theorem dX13_feed_43 : decode cX13_feed 43 = .ok (.getfield 163, 3) := dk_180 0 163 (dk_at dksX13_feed_1 21 rfl rfl)
theorem dX13_feed_46 : decode cX13_feed 46 = .ok (.ireturn, 1) := dk_172 (dk_at dksX13_feed_2 0 rfl rfl)
abbrev cX13_put : ByteArray := prog_21_method_4_code
def yX13_put : MethodName := ⟨RX13, "put", "(I)V"⟩
def dkwX13_put_1 : List UInt8 := [180, 0, 163, 4, 96, 181, 0, 163, 132, 2, 248, 167, 255, 226, 177]
abbrev dktX13_put_1 : List UInt8 := dkwX13_put_1 ++ []
def dkwX13_put_0 : List UInt8 := [16, 24, 61, 28, 155, 0, 32, 42, 180, 0, 13, 42, 180, 0, 163, 27, 28, 122, 145, 84, 42, 89]
abbrev dktX13_put_0 : List UInt8 := dkwX13_put_0 ++ dktX13_put_1
theorem dksX13_put_0 : cX13_put.data.toList.drop 0 = dktX13_put_0 := by decide +kernel
theorem dksX13_put_1 : cX13_put.data.toList.drop 22 = dktX13_put_1 := dk_seg dksX13_put_0 22 rfl rfl
theorem dX13_put_0 : decode cX13_put 0 = .ok (.bipush 24, 2) := dk_16 24 (dk_at dksX13_put_0 0 rfl rfl)
theorem dX13_put_2 : decode cX13_put 2 = .ok (.istore_n 2, 1) := dk_61 (dk_at dksX13_put_0 2 rfl rfl)
theorem dX13_put_3 : decode cX13_put 3 = .ok (.iload_n 2, 1) := dk_28 (dk_at dksX13_put_0 3 rfl rfl)
theorem dX13_put_4 : decode cX13_put 4 = .ok (.ifCond .lt 32, 3) := dk_155 0 32 (dk_at dksX13_put_0 4 rfl rfl)
theorem dX13_put_7 : decode cX13_put 7 = .ok (.aload_n 0, 1) := dk_42 (dk_at dksX13_put_0 7 rfl rfl)
theorem dX13_put_8 : decode cX13_put 8 = .ok (.getfield 13, 3) := dk_180 0 13 (dk_at dksX13_put_0 8 rfl rfl)
theorem dX13_put_11 : decode cX13_put 11 = .ok (.aload_n 0, 1) := dk_42 (dk_at dksX13_put_0 11 rfl rfl)
theorem dX13_put_12 : decode cX13_put 12 = .ok (.getfield 163, 3) := dk_180 0 163 (dk_at dksX13_put_0 12 rfl rfl)
theorem dX13_put_15 : decode cX13_put 15 = .ok (.iload_n 1, 1) := dk_27 (dk_at dksX13_put_0 15 rfl rfl)
theorem dX13_put_16 : decode cX13_put 16 = .ok (.iload_n 2, 1) := dk_28 (dk_at dksX13_put_0 16 rfl rfl)
theorem dX13_put_17 : decode cX13_put 17 = .ok (.ishr, 1) := dk_122 (dk_at dksX13_put_0 17 rfl rfl)
theorem dX13_put_18 : decode cX13_put 18 = .ok (.i2b, 1) := dk_145 (dk_at dksX13_put_0 18 rfl rfl)
theorem dX13_put_19 : decode cX13_put 19 = .ok (.bastore, 1) := dk_84 (dk_at dksX13_put_0 19 rfl rfl)
theorem dX13_put_20 : decode cX13_put 20 = .ok (.aload_n 0, 1) := dk_42 (dk_at dksX13_put_0 20 rfl rfl)
theorem dX13_put_21 : decode cX13_put 21 = .ok (.dup, 1) := dk_89 (dk_at dksX13_put_0 21 rfl rfl)
theorem dX13_put_22 : decode cX13_put 22 = .ok (.getfield 163, 3) := dk_180 0 163 (dk_at dksX13_put_1 0 rfl rfl)
theorem dX13_put_25 : decode cX13_put 25 = .ok (.iconst 1, 1) := dk_4 (dk_at dksX13_put_1 3 rfl rfl)
theorem dX13_put_26 : decode cX13_put 26 = .ok (.iadd, 1) := dk_96 (dk_at dksX13_put_1 4 rfl rfl)
theorem dX13_put_27 : decode cX13_put 27 = .ok (.putfield 163, 3) := dk_181 0 163 (dk_at dksX13_put_1 5 rfl rfl)
theorem dX13_put_30 : decode cX13_put 30 = .ok (.iinc 2 (-8), 3) := dk_132 2 248 (dk_at dksX13_put_1 8 rfl rfl)
theorem dX13_put_33 : decode cX13_put 33 = .ok (.goto (-30), 3) := dk_167 255 226 (dk_at dksX13_put_1 11 rfl rfl)
theorem dX13_put_36 : decode cX13_put 36 = .ok (.return_, 1) := dk_177 (dk_at dksX13_put_1 14 rfl rfl)
abbrev cX13_back : ByteArray := prog_21_method_5_code
def yX13_back : MethodName := ⟨RX13, "back", "(I)I"⟩
def dkwX13_back_1 : List UInt8 := [42, 180, 0, 163, 172]
abbrev dktX13_back_1 : List UInt8 := dkwX13_back_1 ++ []
def dkwX13_back_0 : List UInt8 := [27, 155, 0, 11, 27, 42, 180, 0, 163, 164, 0, 5, 2, 172, 42, 89, 180, 0, 163, 27, 100, 181, 0, 163]
abbrev dktX13_back_0 : List UInt8 := dkwX13_back_0 ++ dktX13_back_1
theorem dksX13_back_0 : cX13_back.data.toList.drop 0 = dktX13_back_0 := by decide +kernel
theorem dksX13_back_1 : cX13_back.data.toList.drop 24 = dktX13_back_1 := dk_seg dksX13_back_0 24 rfl rfl
theorem dX13_back_0 : decode cX13_back 0 = .ok (.iload_n 1, 1) := dk_27 (dk_at dksX13_back_0 0 rfl rfl)
theorem dX13_back_1 : decode cX13_back 1 = .ok (.ifCond .lt 11, 3) := dk_155 0 11 (dk_at dksX13_back_0 1 rfl rfl)
theorem dX13_back_4 : decode cX13_back 4 = .ok (.iload_n 1, 1) := dk_27 (dk_at dksX13_back_0 4 rfl rfl)
theorem dX13_back_5 : decode cX13_back 5 = .ok (.aload_n 0, 1) := dk_42 (dk_at dksX13_back_0 5 rfl rfl)
theorem dX13_back_6 : decode cX13_back 6 = .ok (.getfield 163, 3) := dk_180 0 163 (dk_at dksX13_back_0 6 rfl rfl)
theorem dX13_back_9 : decode cX13_back 9 = .ok (.if_icmp .le 5, 3) := dk_164 0 5 (dk_at dksX13_back_0 9 rfl rfl)
theorem dX13_back_12 : decode cX13_back 12 = .ok (.iconst (-1), 1) := dk_2 (dk_at dksX13_back_0 12 rfl rfl)
theorem dX13_back_13 : decode cX13_back 13 = .ok (.ireturn, 1) := dk_172 (dk_at dksX13_back_0 13 rfl rfl)
theorem dX13_back_14 : decode cX13_back 14 = .ok (.aload_n 0, 1) := dk_42 (dk_at dksX13_back_0 14 rfl rfl)
theorem dX13_back_15 : decode cX13_back 15 = .ok (.dup, 1) := dk_89 (dk_at dksX13_back_0 15 rfl rfl)
theorem dX13_back_16 : decode cX13_back 16 = .ok (.getfield 163, 3) := dk_180 0 163 (dk_at dksX13_back_0 16 rfl rfl)
theorem dX13_back_19 : decode cX13_back 19 = .ok (.iload_n 1, 1) := dk_27 (dk_at dksX13_back_0 19 rfl rfl)
theorem dX13_back_20 : decode cX13_back 20 = .ok (.isub, 1) := dk_100 (dk_at dksX13_back_0 20 rfl rfl)
theorem dX13_back_21 : decode cX13_back 21 = .ok (.putfield 163, 3) := dk_181 0 163 (dk_at dksX13_back_0 21 rfl rfl)
theorem dX13_back_24 : decode cX13_back 24 = .ok (.aload_n 0, 1) := dk_42 (dk_at dksX13_back_1 0 rfl rfl)
theorem dX13_back_25 : decode cX13_back 25 = .ok (.getfield 163, 3) := dk_180 0 163 (dk_at dksX13_back_1 1 rfl rfl)
theorem dX13_back_28 : decode cX13_back 28 = .ok (.ireturn, 1) := dk_172 (dk_at dksX13_back_1 4 rfl rfl)
abbrev cX13_read : ByteArray := prog_21_method_20_code
def yX13_read : MethodName := ⟨RX13, "read", "()I"⟩
def dkwX13_read_11 : List UInt8 := [132, 1, 1, 167, 255, 241, 3, 172]
abbrev dktX13_read_11 : List UInt8 := dkwX13_read_11 ++ []
def dkwX13_read_10 : List UInt8 := [42, 3, 181, 1, 0, 42, 3, 181, 1, 3, 3, 60, 27, 6, 162, 0, 16, 42, 180, 0, 143, 27, 3, 84]
abbrev dktX13_read_10 : List UInt8 := dkwX13_read_10 ++ dktX13_read_11
def dkwX13_read_9 : List UInt8 := [158, 0, 8, 42, 180, 0, 209, 172, 42, 42, 180, 0, 233, 181, 0, 230, 42, 182, 0, 157, 42, 182, 0, 160]
abbrev dktX13_read_9 : List UInt8 := dkwX13_read_9 ++ dktX13_read_10
def dkwX13_read_8 : List UInt8 := [167, 0, 4, 2, 181, 0, 37, 42, 180, 0, 200, 158, 0, 8, 42, 180, 0, 200, 172, 42, 180, 0, 209]
abbrev dktX13_read_8 : List UInt8 := dkwX13_read_8 ++ dktX13_read_9
def dkwX13_read_7 : List UInt8 := [180, 0, 200, 158, 0, 10, 42, 180, 0, 206, 167, 0, 18, 42, 180, 0, 209, 158, 0, 10, 42, 180, 0, 212]
abbrev dktX13_read_7 : List UInt8 := dkwX13_read_7 ++ dktX13_read_8
def dkwX13_read_6 : List UInt8 := [154, 0, 20, 42, 182, 0, 248, 154, 0, 13, 42, 16, 6, 42, 180, 0, 203, 182, 0, 252, 42, 42]
abbrev dktX13_read_6 : List UInt8 := dkwX13_read_6 ++ dktX13_read_7
def dkwX13_read_5 : List UInt8 := [154, 0, 18, 42, 3, 182, 0, 218, 154, 0, 10, 42, 182, 0, 245, 167, 255, 237, 42, 180, 0, 200]
abbrev dktX13_read_5 : List UInt8 := dkwX13_read_5 ++ dktX13_read_6
def dkwX13_read_4 : List UInt8 := [180, 0, 233, 104, 181, 0, 239, 42, 17, 1, 164, 42, 180, 0, 233, 104, 181, 0, 242, 42, 180, 0, 200]
abbrev dktX13_read_4 : List UInt8 := dkwX13_read_4 ++ dktX13_read_5
def dkwX13_read_3 : List UInt8 := [100, 181, 0, 233, 42, 3, 181, 0, 236, 42, 42, 180, 0, 233, 182, 0, 149, 42, 17, 0, 130, 42]
abbrev dktX13_read_3 : List UInt8 := dkwX13_read_3 ++ dktX13_read_4
def dkwX13_read_2 : List UInt8 := [181, 0, 203, 42, 3, 181, 0, 227, 42, 3, 181, 0, 200, 42, 3, 181, 0, 209, 42, 4, 42, 180, 0, 230]
abbrev dktX13_read_2 : List UInt8 := dkwX13_read_2 ++ dktX13_read_3
def dkwX13_read_1 : List UInt8 := [180, 0, 13, 27, 51, 84, 132, 1, 1, 167, 255, 233, 42, 3, 181, 0, 163, 42, 182, 0, 224, 42, 3]
abbrev dktX13_read_1 : List UInt8 := dkwX13_read_1 ++ dktX13_read_2
def dkwX13_read_0 : List UInt8 := [42, 42, 180, 0, 163, 181, 0, 169, 3, 60, 27, 42, 180, 0, 169, 162, 0, 21, 42, 180, 0, 17, 27, 42]
abbrev dktX13_read_0 : List UInt8 := dkwX13_read_0 ++ dktX13_read_1
theorem dksX13_read_0 : cX13_read.data.toList.drop 0 = dktX13_read_0 := by decide +kernel
theorem dksX13_read_1 : cX13_read.data.toList.drop 24 = dktX13_read_1 := dk_seg dksX13_read_0 24 rfl rfl
theorem dksX13_read_2 : cX13_read.data.toList.drop 47 = dktX13_read_2 := dk_seg dksX13_read_1 23 rfl rfl
theorem dksX13_read_3 : cX13_read.data.toList.drop 71 = dktX13_read_3 := dk_seg dksX13_read_2 24 rfl rfl
theorem dksX13_read_4 : cX13_read.data.toList.drop 93 = dktX13_read_4 := dk_seg dksX13_read_3 22 rfl rfl
theorem dksX13_read_5 : cX13_read.data.toList.drop 116 = dktX13_read_5 := dk_seg dksX13_read_4 23 rfl rfl
theorem dksX13_read_6 : cX13_read.data.toList.drop 138 = dktX13_read_6 := dk_seg dksX13_read_5 22 rfl rfl
theorem dksX13_read_7 : cX13_read.data.toList.drop 160 = dktX13_read_7 := dk_seg dksX13_read_6 22 rfl rfl
theorem dksX13_read_8 : cX13_read.data.toList.drop 184 = dktX13_read_8 := dk_seg dksX13_read_7 24 rfl rfl
theorem dksX13_read_9 : cX13_read.data.toList.drop 207 = dktX13_read_9 := dk_seg dksX13_read_8 23 rfl rfl
theorem dksX13_read_10 : cX13_read.data.toList.drop 231 = dktX13_read_10 := dk_seg dksX13_read_9 24 rfl rfl
theorem dksX13_read_11 : cX13_read.data.toList.drop 255 = dktX13_read_11 := dk_seg dksX13_read_10 24 rfl rfl
theorem dX13_read_0 : decode cX13_read 0 = .ok (.aload_n 0, 1) := dk_42 (dk_at dksX13_read_0 0 rfl rfl)
theorem dX13_read_1 : decode cX13_read 1 = .ok (.aload_n 0, 1) := dk_42 (dk_at dksX13_read_0 1 rfl rfl)
theorem dX13_read_2 : decode cX13_read 2 = .ok (.getfield 163, 3) := dk_180 0 163 (dk_at dksX13_read_0 2 rfl rfl)
theorem dX13_read_5 : decode cX13_read 5 = .ok (.putfield 169, 3) := dk_181 0 169 (dk_at dksX13_read_0 5 rfl rfl)
theorem dX13_read_8 : decode cX13_read 8 = .ok (.iconst 0, 1) := dk_3 (dk_at dksX13_read_0 8 rfl rfl)
theorem dX13_read_9 : decode cX13_read 9 = .ok (.istore_n 1, 1) := dk_60 (dk_at dksX13_read_0 9 rfl rfl)
theorem dX13_read_10 : decode cX13_read 10 = .ok (.iload_n 1, 1) := dk_27 (dk_at dksX13_read_0 10 rfl rfl)
theorem dX13_read_11 : decode cX13_read 11 = .ok (.aload_n 0, 1) := dk_42 (dk_at dksX13_read_0 11 rfl rfl)
theorem dX13_read_12 : decode cX13_read 12 = .ok (.getfield 169, 3) := dk_180 0 169 (dk_at dksX13_read_0 12 rfl rfl)
theorem dX13_read_15 : decode cX13_read 15 = .ok (.if_icmp .ge 21, 3) := dk_162 0 21 (dk_at dksX13_read_0 15 rfl rfl)
theorem dX13_read_18 : decode cX13_read 18 = .ok (.aload_n 0, 1) := dk_42 (dk_at dksX13_read_0 18 rfl rfl)
theorem dX13_read_19 : decode cX13_read 19 = .ok (.getfield 17, 3) := dk_180 0 17 (dk_at dksX13_read_0 19 rfl rfl)
theorem dX13_read_22 : decode cX13_read 22 = .ok (.iload_n 1, 1) := dk_27 (dk_at dksX13_read_0 22 rfl rfl)
theorem dX13_read_23 : decode cX13_read 23 = .ok (.aload_n 0, 1) := dk_42 (dk_at dksX13_read_0 23 rfl rfl)
theorem dX13_read_24 : decode cX13_read 24 = .ok (.getfield 13, 3) := dk_180 0 13 (dk_at dksX13_read_1 0 rfl rfl)
theorem dX13_read_27 : decode cX13_read 27 = .ok (.iload_n 1, 1) := dk_27 (dk_at dksX13_read_1 3 rfl rfl)
theorem dX13_read_28 : decode cX13_read 28 = .ok (.baload, 1) := dk_51 (dk_at dksX13_read_1 4 rfl rfl)
theorem dX13_read_29 : decode cX13_read 29 = .ok (.bastore, 1) := dk_84 (dk_at dksX13_read_1 5 rfl rfl)
theorem dX13_read_30 : decode cX13_read 30 = .ok (.iinc 1 1, 3) := dk_132 1 1 (dk_at dksX13_read_1 6 rfl rfl)
theorem dX13_read_33 : decode cX13_read 33 = .ok (.goto (-23), 3) := dk_167 255 233 (dk_at dksX13_read_1 9 rfl rfl)
theorem dX13_read_36 : decode cX13_read 36 = .ok (.aload_n 0, 1) := dk_42 (dk_at dksX13_read_1 12 rfl rfl)
theorem dX13_read_37 : decode cX13_read 37 = .ok (.iconst 0, 1) := dk_3 (dk_at dksX13_read_1 13 rfl rfl)
theorem dX13_read_38 : decode cX13_read 38 = .ok (.putfield 163, 3) := dk_181 0 163 (dk_at dksX13_read_1 14 rfl rfl)
theorem dX13_read_41 : decode cX13_read 41 = .ok (.aload_n 0, 1) := dk_42 (dk_at dksX13_read_1 17 rfl rfl)
theorem dX13_read_42 : decode cX13_read 42 = .ok (.invokevirtual 224, 3) := dk_182 0 224 (dk_at dksX13_read_1 18 rfl rfl)
theorem dX13_read_45 : decode cX13_read 45 = .ok (.aload_n 0, 1) := dk_42 (dk_at dksX13_read_1 21 rfl rfl)
theorem dX13_read_46 : decode cX13_read 46 = .ok (.iconst 0, 1) := dk_3 (dk_at dksX13_read_1 22 rfl rfl)
theorem dX13_read_47 : decode cX13_read 47 = .ok (.putfield 203, 3) := dk_181 0 203 (dk_at dksX13_read_2 0 rfl rfl)
theorem dX13_read_50 : decode cX13_read 50 = .ok (.aload_n 0, 1) := dk_42 (dk_at dksX13_read_2 3 rfl rfl)
theorem dX13_read_51 : decode cX13_read 51 = .ok (.iconst 0, 1) := dk_3 (dk_at dksX13_read_2 4 rfl rfl)
theorem dX13_read_52 : decode cX13_read 52 = .ok (.putfield 227, 3) := dk_181 0 227 (dk_at dksX13_read_2 5 rfl rfl)
theorem dX13_read_55 : decode cX13_read 55 = .ok (.aload_n 0, 1) := dk_42 (dk_at dksX13_read_2 8 rfl rfl)
theorem dX13_read_56 : decode cX13_read 56 = .ok (.iconst 0, 1) := dk_3 (dk_at dksX13_read_2 9 rfl rfl)
theorem dX13_read_57 : decode cX13_read 57 = .ok (.putfield 200, 3) := dk_181 0 200 (dk_at dksX13_read_2 10 rfl rfl)
theorem dX13_read_60 : decode cX13_read 60 = .ok (.aload_n 0, 1) := dk_42 (dk_at dksX13_read_2 13 rfl rfl)
theorem dX13_read_61 : decode cX13_read 61 = .ok (.iconst 0, 1) := dk_3 (dk_at dksX13_read_2 14 rfl rfl)
theorem dX13_read_62 : decode cX13_read 62 = .ok (.putfield 209, 3) := dk_181 0 209 (dk_at dksX13_read_2 15 rfl rfl)
theorem dX13_read_65 : decode cX13_read 65 = .ok (.aload_n 0, 1) := dk_42 (dk_at dksX13_read_2 18 rfl rfl)
theorem dX13_read_66 : decode cX13_read 66 = .ok (.iconst 1, 1) := dk_4 (dk_at dksX13_read_2 19 rfl rfl)
theorem dX13_read_67 : decode cX13_read 67 = .ok (.aload_n 0, 1) := dk_42 (dk_at dksX13_read_2 20 rfl rfl)
theorem dX13_read_68 : decode cX13_read 68 = .ok (.getfield 230, 3) := dk_180 0 230 (dk_at dksX13_read_2 21 rfl rfl)
theorem dX13_read_71 : decode cX13_read 71 = .ok (.isub, 1) := dk_100 (dk_at dksX13_read_3 0 rfl rfl)
theorem dX13_read_72 : decode cX13_read 72 = .ok (.putfield 233, 3) := dk_181 0 233 (dk_at dksX13_read_3 1 rfl rfl)
theorem dX13_read_75 : decode cX13_read 75 = .ok (.aload_n 0, 1) := dk_42 (dk_at dksX13_read_3 4 rfl rfl)
theorem dX13_read_76 : decode cX13_read 76 = .ok (.iconst 0, 1) := dk_3 (dk_at dksX13_read_3 5 rfl rfl)
theorem dX13_read_77 : decode cX13_read 77 = .ok (.putfield 236, 3) := dk_181 0 236 (dk_at dksX13_read_3 6 rfl rfl)
theorem dX13_read_80 : decode cX13_read 80 = .ok (.aload_n 0, 1) := dk_42 (dk_at dksX13_read_3 9 rfl rfl)
theorem dX13_read_81 : decode cX13_read 81 = .ok (.aload_n 0, 1) := dk_42 (dk_at dksX13_read_3 10 rfl rfl)
theorem dX13_read_82 : decode cX13_read 82 = .ok (.getfield 233, 3) := dk_180 0 233 (dk_at dksX13_read_3 11 rfl rfl)
theorem dX13_read_85 : decode cX13_read 85 = .ok (.invokevirtual 149, 3) := dk_182 0 149 (dk_at dksX13_read_3 14 rfl rfl)
theorem dX13_read_88 : decode cX13_read 88 = .ok (.aload_n 0, 1) := dk_42 (dk_at dksX13_read_3 17 rfl rfl)
theorem dX13_read_89 : decode cX13_read 89 = .ok (.sipush 130, 3) := dk_17 0 130 (dk_at dksX13_read_3 18 rfl rfl)
theorem dX13_read_92 : decode cX13_read 92 = .ok (.aload_n 0, 1) := dk_42 (dk_at dksX13_read_3 21 rfl rfl)
theorem dX13_read_93 : decode cX13_read 93 = .ok (.getfield 233, 3) := dk_180 0 233 (dk_at dksX13_read_4 0 rfl rfl)
theorem dX13_read_96 : decode cX13_read 96 = .ok (.imul, 1) := dk_104 (dk_at dksX13_read_4 3 rfl rfl)
theorem dX13_read_97 : decode cX13_read 97 = .ok (.putfield 239, 3) := dk_181 0 239 (dk_at dksX13_read_4 4 rfl rfl)
theorem dX13_read_100 : decode cX13_read 100 = .ok (.aload_n 0, 1) := dk_42 (dk_at dksX13_read_4 7 rfl rfl)
theorem dX13_read_101 : decode cX13_read 101 = .ok (.sipush 420, 3) := dk_17 1 164 (dk_at dksX13_read_4 8 rfl rfl)
theorem dX13_read_104 : decode cX13_read 104 = .ok (.aload_n 0, 1) := dk_42 (dk_at dksX13_read_4 11 rfl rfl)
theorem dX13_read_105 : decode cX13_read 105 = .ok (.getfield 233, 3) := dk_180 0 233 (dk_at dksX13_read_4 12 rfl rfl)
theorem dX13_read_108 : decode cX13_read 108 = .ok (.imul, 1) := dk_104 (dk_at dksX13_read_4 15 rfl rfl)
theorem dX13_read_109 : decode cX13_read 109 = .ok (.putfield 242, 3) := dk_181 0 242 (dk_at dksX13_read_4 16 rfl rfl)
theorem dX13_read_112 : decode cX13_read 112 = .ok (.aload_n 0, 1) := dk_42 (dk_at dksX13_read_4 19 rfl rfl)
theorem dX13_read_113 : decode cX13_read 113 = .ok (.getfield 200, 3) := dk_180 0 200 (dk_at dksX13_read_4 20 rfl rfl)
theorem dX13_read_116 : decode cX13_read 116 = .ok (.ifCond .ne 18, 3) := dk_154 0 18 (dk_at dksX13_read_5 0 rfl rfl)
theorem dX13_read_119 : decode cX13_read 119 = .ok (.aload_n 0, 1) := dk_42 (dk_at dksX13_read_5 3 rfl rfl)
theorem dX13_read_120 : decode cX13_read 120 = .ok (.iconst 0, 1) := dk_3 (dk_at dksX13_read_5 4 rfl rfl)
theorem dX13_read_121 : decode cX13_read 121 = .ok (.invokevirtual 218, 3) := dk_182 0 218 (dk_at dksX13_read_5 5 rfl rfl)
theorem dX13_read_124 : decode cX13_read 124 = .ok (.ifCond .ne 10, 3) := dk_154 0 10 (dk_at dksX13_read_5 8 rfl rfl)
theorem dX13_read_127 : decode cX13_read 127 = .ok (.aload_n 0, 1) := dk_42 (dk_at dksX13_read_5 11 rfl rfl)
theorem dX13_read_128 : decode cX13_read 128 = .ok (.invokevirtual 245, 3) := dk_182 0 245 (dk_at dksX13_read_5 12 rfl rfl)
theorem dX13_read_131 : decode cX13_read 131 = .ok (.goto (-19), 3) := dk_167 255 237 (dk_at dksX13_read_5 15 rfl rfl)
theorem dX13_read_134 : decode cX13_read 134 = .ok (.aload_n 0, 1) := dk_42 (dk_at dksX13_read_5 18 rfl rfl)
theorem dX13_read_135 : decode cX13_read 135 = .ok (.getfield 200, 3) := dk_180 0 200 (dk_at dksX13_read_5 19 rfl rfl)
theorem dX13_read_138 : decode cX13_read 138 = .ok (.ifCond .ne 20, 3) := dk_154 0 20 (dk_at dksX13_read_6 0 rfl rfl)
theorem dX13_read_141 : decode cX13_read 141 = .ok (.aload_n 0, 1) := dk_42 (dk_at dksX13_read_6 3 rfl rfl)
theorem dX13_read_142 : decode cX13_read 142 = .ok (.invokevirtual 248, 3) := dk_182 0 248 (dk_at dksX13_read_6 4 rfl rfl)
theorem dX13_read_145 : decode cX13_read 145 = .ok (.ifCond .ne 13, 3) := dk_154 0 13 (dk_at dksX13_read_6 7 rfl rfl)
theorem dX13_read_148 : decode cX13_read 148 = .ok (.aload_n 0, 1) := dk_42 (dk_at dksX13_read_6 10 rfl rfl)
theorem dX13_read_149 : decode cX13_read 149 = .ok (.bipush 6, 2) := dk_16 6 (dk_at dksX13_read_6 11 rfl rfl)
theorem dX13_read_151 : decode cX13_read 151 = .ok (.aload_n 0, 1) := dk_42 (dk_at dksX13_read_6 13 rfl rfl)
theorem dX13_read_152 : decode cX13_read 152 = .ok (.getfield 203, 3) := dk_180 0 203 (dk_at dksX13_read_6 14 rfl rfl)
theorem dX13_read_155 : decode cX13_read 155 = .ok (.invokevirtual 252, 3) := dk_182 0 252 (dk_at dksX13_read_6 17 rfl rfl)
theorem dX13_read_158 : decode cX13_read 158 = .ok (.aload_n 0, 1) := dk_42 (dk_at dksX13_read_6 20 rfl rfl)
theorem dX13_read_159 : decode cX13_read 159 = .ok (.aload_n 0, 1) := dk_42 (dk_at dksX13_read_6 21 rfl rfl)
theorem dX13_read_160 : decode cX13_read 160 = .ok (.getfield 200, 3) := dk_180 0 200 (dk_at dksX13_read_7 0 rfl rfl)
theorem dX13_read_163 : decode cX13_read 163 = .ok (.ifCond .le 10, 3) := dk_158 0 10 (dk_at dksX13_read_7 3 rfl rfl)
theorem dX13_read_166 : decode cX13_read 166 = .ok (.aload_n 0, 1) := dk_42 (dk_at dksX13_read_7 6 rfl rfl)
theorem dX13_read_167 : decode cX13_read 167 = .ok (.getfield 206, 3) := dk_180 0 206 (dk_at dksX13_read_7 7 rfl rfl)
theorem dX13_read_170 : decode cX13_read 170 = .ok (.goto 18, 3) := dk_167 0 18 (dk_at dksX13_read_7 10 rfl rfl)
theorem dX13_read_173 : decode cX13_read 173 = .ok (.aload_n 0, 1) := dk_42 (dk_at dksX13_read_7 13 rfl rfl)
theorem dX13_read_174 : decode cX13_read 174 = .ok (.getfield 209, 3) := dk_180 0 209 (dk_at dksX13_read_7 14 rfl rfl)
theorem dX13_read_177 : decode cX13_read 177 = .ok (.ifCond .le 10, 3) := dk_158 0 10 (dk_at dksX13_read_7 17 rfl rfl)
theorem dX13_read_180 : decode cX13_read 180 = .ok (.aload_n 0, 1) := dk_42 (dk_at dksX13_read_7 20 rfl rfl)
theorem dX13_read_181 : decode cX13_read 181 = .ok (.getfield 212, 3) := dk_180 0 212 (dk_at dksX13_read_7 21 rfl rfl)
theorem dX13_read_184 : decode cX13_read 184 = .ok (.goto 4, 3) := dk_167 0 4 (dk_at dksX13_read_8 0 rfl rfl)
theorem dX13_read_187 : decode cX13_read 187 = .ok (.iconst (-1), 1) := dk_2 (dk_at dksX13_read_8 3 rfl rfl)
theorem dX13_read_188 : decode cX13_read 188 = .ok (.putfield 37, 3) := dk_181 0 37 (dk_at dksX13_read_8 4 rfl rfl)
theorem dX13_read_191 : decode cX13_read 191 = .ok (.aload_n 0, 1) := dk_42 (dk_at dksX13_read_8 7 rfl rfl)
theorem dX13_read_192 : decode cX13_read 192 = .ok (.getfield 200, 3) := dk_180 0 200 (dk_at dksX13_read_8 8 rfl rfl)
theorem dX13_read_195 : decode cX13_read 195 = .ok (.ifCond .le 8, 3) := dk_158 0 8 (dk_at dksX13_read_8 11 rfl rfl)
theorem dX13_read_198 : decode cX13_read 198 = .ok (.aload_n 0, 1) := dk_42 (dk_at dksX13_read_8 14 rfl rfl)
theorem dX13_read_199 : decode cX13_read 199 = .ok (.getfield 200, 3) := dk_180 0 200 (dk_at dksX13_read_8 15 rfl rfl)
theorem dX13_read_202 : decode cX13_read 202 = .ok (.ireturn, 1) := dk_172 (dk_at dksX13_read_8 18 rfl rfl)
theorem dX13_read_203 : decode cX13_read 203 = .ok (.aload_n 0, 1) := dk_42 (dk_at dksX13_read_8 19 rfl rfl)
theorem dX13_read_204 : decode cX13_read 204 = .ok (.getfield 209, 3) := dk_180 0 209 (dk_at dksX13_read_8 20 rfl rfl)
theorem dX13_read_207 : decode cX13_read 207 = .ok (.ifCond .le 8, 3) := dk_158 0 8 (dk_at dksX13_read_9 0 rfl rfl)
theorem dX13_read_210 : decode cX13_read 210 = .ok (.aload_n 0, 1) := dk_42 (dk_at dksX13_read_9 3 rfl rfl)
theorem dX13_read_211 : decode cX13_read 211 = .ok (.getfield 209, 3) := dk_180 0 209 (dk_at dksX13_read_9 4 rfl rfl)
theorem dX13_read_214 : decode cX13_read 214 = .ok (.ireturn, 1) := dk_172 (dk_at dksX13_read_9 7 rfl rfl)
theorem dX13_read_215 : decode cX13_read 215 = .ok (.aload_n 0, 1) := dk_42 (dk_at dksX13_read_9 8 rfl rfl)
theorem dX13_read_216 : decode cX13_read 216 = .ok (.aload_n 0, 1) := dk_42 (dk_at dksX13_read_9 9 rfl rfl)
theorem dX13_read_217 : decode cX13_read 217 = .ok (.getfield 233, 3) := dk_180 0 233 (dk_at dksX13_read_9 10 rfl rfl)
theorem dX13_read_220 : decode cX13_read 220 = .ok (.putfield 230, 3) := dk_181 0 230 (dk_at dksX13_read_9 13 rfl rfl)
theorem dX13_read_223 : decode cX13_read 223 = .ok (.aload_n 0, 1) := dk_42 (dk_at dksX13_read_9 16 rfl rfl)
theorem dX13_read_224 : decode cX13_read 224 = .ok (.invokevirtual 157, 3) := dk_182 0 157 (dk_at dksX13_read_9 17 rfl rfl)
theorem dX13_read_227 : decode cX13_read 227 = .ok (.aload_n 0, 1) := dk_42 (dk_at dksX13_read_9 20 rfl rfl)
theorem dX13_read_228 : decode cX13_read 228 = .ok (.invokevirtual 160, 3) := dk_182 0 160 (dk_at dksX13_read_9 21 rfl rfl)
theorem dX13_read_231 : decode cX13_read 231 = .ok (.aload_n 0, 1) := dk_42 (dk_at dksX13_read_10 0 rfl rfl)
theorem dX13_read_232 : decode cX13_read 232 = .ok (.iconst 0, 1) := dk_3 (dk_at dksX13_read_10 1 rfl rfl)
theorem dX13_read_233 : decode cX13_read 233 = .ok (.putfield 256, 3) := dk_181 1 0 (dk_at dksX13_read_10 2 rfl rfl)
theorem dX13_read_236 : decode cX13_read 236 = .ok (.aload_n 0, 1) := dk_42 (dk_at dksX13_read_10 5 rfl rfl)
theorem dX13_read_237 : decode cX13_read 237 = .ok (.iconst 0, 1) := dk_3 (dk_at dksX13_read_10 6 rfl rfl)
theorem dX13_read_238 : decode cX13_read 238 = .ok (.putfield 259, 3) := dk_181 1 3 (dk_at dksX13_read_10 7 rfl rfl)
theorem dX13_read_241 : decode cX13_read 241 = .ok (.iconst 0, 1) := dk_3 (dk_at dksX13_read_10 10 rfl rfl)
theorem dX13_read_242 : decode cX13_read 242 = .ok (.istore_n 1, 1) := dk_60 (dk_at dksX13_read_10 11 rfl rfl)
theorem dX13_read_243 : decode cX13_read 243 = .ok (.iload_n 1, 1) := dk_27 (dk_at dksX13_read_10 12 rfl rfl)
theorem dX13_read_244 : decode cX13_read 244 = .ok (.iconst 3, 1) := dk_6 (dk_at dksX13_read_10 13 rfl rfl)
theorem dX13_read_245 : decode cX13_read 245 = .ok (.if_icmp .ge 16, 3) := dk_162 0 16 (dk_at dksX13_read_10 14 rfl rfl)
theorem dX13_read_248 : decode cX13_read 248 = .ok (.aload_n 0, 1) := dk_42 (dk_at dksX13_read_10 17 rfl rfl)
theorem dX13_read_249 : decode cX13_read 249 = .ok (.getfield 143, 3) := dk_180 0 143 (dk_at dksX13_read_10 18 rfl rfl)
theorem dX13_read_252 : decode cX13_read 252 = .ok (.iload_n 1, 1) := dk_27 (dk_at dksX13_read_10 21 rfl rfl)
theorem dX13_read_253 : decode cX13_read 253 = .ok (.iconst 0, 1) := dk_3 (dk_at dksX13_read_10 22 rfl rfl)
theorem dX13_read_254 : decode cX13_read 254 = .ok (.bastore, 1) := dk_84 (dk_at dksX13_read_10 23 rfl rfl)
theorem dX13_read_255 : decode cX13_read 255 = .ok (.iinc 1 1, 3) := dk_132 1 1 (dk_at dksX13_read_11 0 rfl rfl)
theorem dX13_read_258 : decode cX13_read 258 = .ok (.goto (-15), 3) := dk_167 255 241 (dk_at dksX13_read_11 3 rfl rfl)
theorem dX13_read_261 : decode cX13_read 261 = .ok (.iconst 0, 1) := dk_3 (dk_at dksX13_read_11 6 rfl rfl)
theorem dX13_read_262 : decode cX13_read 262 = .ok (.ireturn, 1) := dk_172 (dk_at dksX13_read_11 7 rfl rfl)
abbrev cX13_cut : ByteArray := prog_21_method_12_code
def yX13_cut : MethodName := ⟨RX13, "cut", "()V"⟩
def dkwX13_cut_12 : List UInt8 := [4, 96, 182, 0, 181, 182, 0, 196, 96, 60, 167, 254, 228, 177]
abbrev dktX13_cut_12 : List UInt8 := dkwX13_cut_12 ++ []
def dkwX13_cut_11 : List UInt8 := [167, 0, 4, 5, 27, 21, 4, 9, 182, 0, 185, 27, 29, 96, 60, 167, 0, 19, 27, 42, 27, 28, 42, 27]
abbrev dktX13_cut_11 : List UInt8 := dkwX13_cut_11 ++ dktX13_cut_12
def dkwX13_cut_10 : List UInt8 := [96, 182, 0, 181, 96, 16, 48, 100, 54, 4, 132, 3, 1, 167, 255, 217, 42, 29, 7, 164, 0, 7, 6]
abbrev dktX13_cut_10 : List UInt8 := dkwX13_cut_10 ++ dktX13_cut_11
def dkwX13_cut_9 : List UInt8 := [29, 96, 182, 0, 181, 184, 0, 193, 153, 0, 32, 29, 7, 162, 0, 21, 16, 10, 21, 4, 104, 42, 27, 29]
abbrev dktX13_cut_9 : List UInt8 := dkwX13_cut_9 ++ dktX13_cut_10
def dkwX13_cut_8 : List UInt8 := [182, 0, 185, 27, 29, 96, 60, 167, 0, 98, 28, 184, 0, 193, 153, 0, 75, 3, 62, 3, 54, 4, 42, 27]
abbrev dktX13_cut_8 : List UInt8 := dkwX13_cut_8 ++ dktX13_cut_9
def dkwX13_cut_7 : List UInt8 := [154, 0, 10, 16, 20, 21, 7, 96, 54, 6, 132, 7, 1, 167, 255, 226, 42, 21, 6, 27, 3, 22, 4]
abbrev dktX13_cut_7 : List UInt8 := dkwX13_cut_7 ++ dktX13_cut_8
def dkwX13_cut_6 : List UInt8 := [163, 0, 39, 3, 54, 7, 21, 7, 16, 21, 162, 0, 29, 42, 180, 0, 34, 21, 7, 47, 22, 4, 148]
abbrev dktX13_cut_6 : List UInt8 := dkwX13_cut_6 ++ dktX13_cut_7
def dkwX13_cut_5 : List UInt8 := [55, 4, 132, 3, 1, 167, 255, 220, 29, 16, 8, 164, 0, 7, 6, 167, 0, 4, 4, 54, 6, 29, 16, 8]
abbrev dktX13_cut_5 : List UInt8 := dkwX13_cut_5 ++ dktX13_cut_6
def dkwX13_cut_4 : List UInt8 := [184, 0, 189, 153, 0, 29, 29, 16, 8, 162, 0, 17, 22, 4, 42, 27, 29, 96, 182, 0, 181, 184, 0, 174]
abbrev dktX13_cut_4 : List UInt8 := dkwX13_cut_4 ++ dktX13_cut_5
def dkwX13_cut_3 : List UInt8 := [167, 0, 221, 28, 184, 0, 189, 153, 0, 119, 3, 62, 9, 55, 4, 42, 27, 29, 96, 182, 0, 181]
abbrev dktX13_cut_3 : List UInt8 := dkwX13_cut_3 ++ dktX13_cut_4
def dkwX13_cut_2 : List UInt8 := [159, 0, 21, 28, 16, 10, 159, 0, 15, 28, 16, 13, 159, 0, 9, 28, 16, 32, 160, 0, 9, 132, 1, 1]
abbrev dktX13_cut_2 : List UInt8 := dkwX13_cut_2 ++ dktX13_cut_3
def dkwX13_cut_1 : List UInt8 := [42, 180, 0, 169, 161, 0, 15, 42, 3, 42, 180, 0, 169, 3, 9, 182, 0, 185, 177, 28, 16, 9]
abbrev dktX13_cut_1 : List UInt8 := dkwX13_cut_1 ++ dktX13_cut_2
def dkwX13_cut_0 : List UInt8 := [42, 3, 181, 0, 178, 3, 60, 42, 180, 0, 178, 17, 1, 144, 163, 1, 24, 42, 27, 182, 0, 181, 61, 27]
abbrev dktX13_cut_0 : List UInt8 := dkwX13_cut_0 ++ dktX13_cut_1
theorem dksX13_cut_0 : cX13_cut.data.toList.drop 0 = dktX13_cut_0 := by decide +kernel
theorem dksX13_cut_1 : cX13_cut.data.toList.drop 24 = dktX13_cut_1 := dk_seg dksX13_cut_0 24 rfl rfl
theorem dksX13_cut_2 : cX13_cut.data.toList.drop 46 = dktX13_cut_2 := dk_seg dksX13_cut_1 22 rfl rfl
theorem dksX13_cut_3 : cX13_cut.data.toList.drop 70 = dktX13_cut_3 := dk_seg dksX13_cut_2 24 rfl rfl
theorem dksX13_cut_4 : cX13_cut.data.toList.drop 92 = dktX13_cut_4 := dk_seg dksX13_cut_3 22 rfl rfl
theorem dksX13_cut_5 : cX13_cut.data.toList.drop 116 = dktX13_cut_5 := dk_seg dksX13_cut_4 24 rfl rfl
theorem dksX13_cut_6 : cX13_cut.data.toList.drop 140 = dktX13_cut_6 := dk_seg dksX13_cut_5 24 rfl rfl
theorem dksX13_cut_7 : cX13_cut.data.toList.drop 163 = dktX13_cut_7 := dk_seg dksX13_cut_6 23 rfl rfl
theorem dksX13_cut_8 : cX13_cut.data.toList.drop 186 = dktX13_cut_8 := dk_seg dksX13_cut_7 23 rfl rfl
theorem dksX13_cut_9 : cX13_cut.data.toList.drop 210 = dktX13_cut_9 := dk_seg dksX13_cut_8 24 rfl rfl
theorem dksX13_cut_10 : cX13_cut.data.toList.drop 234 = dktX13_cut_10 := dk_seg dksX13_cut_9 24 rfl rfl
theorem dksX13_cut_11 : cX13_cut.data.toList.drop 257 = dktX13_cut_11 := dk_seg dksX13_cut_10 23 rfl rfl
theorem dksX13_cut_12 : cX13_cut.data.toList.drop 281 = dktX13_cut_12 := dk_seg dksX13_cut_11 24 rfl rfl
theorem dX13_cut_0 : decode cX13_cut 0 = .ok (.aload_n 0, 1) := dk_42 (dk_at dksX13_cut_0 0 rfl rfl)
theorem dX13_cut_1 : decode cX13_cut 1 = .ok (.iconst 0, 1) := dk_3 (dk_at dksX13_cut_0 1 rfl rfl)
theorem dX13_cut_2 : decode cX13_cut 2 = .ok (.putfield 178, 3) := dk_181 0 178 (dk_at dksX13_cut_0 2 rfl rfl)
theorem dX13_cut_5 : decode cX13_cut 5 = .ok (.iconst 0, 1) := dk_3 (dk_at dksX13_cut_0 5 rfl rfl)
theorem dX13_cut_6 : decode cX13_cut 6 = .ok (.istore_n 1, 1) := dk_60 (dk_at dksX13_cut_0 6 rfl rfl)
theorem dX13_cut_7 : decode cX13_cut 7 = .ok (.aload_n 0, 1) := dk_42 (dk_at dksX13_cut_0 7 rfl rfl)
theorem dX13_cut_8 : decode cX13_cut 8 = .ok (.getfield 178, 3) := dk_180 0 178 (dk_at dksX13_cut_0 8 rfl rfl)
theorem dX13_cut_11 : decode cX13_cut 11 = .ok (.sipush 400, 3) := dk_17 1 144 (dk_at dksX13_cut_0 11 rfl rfl)
theorem dX13_cut_14 : decode cX13_cut 14 = .ok (.if_icmp .gt 280, 3) := dk_163 1 24 (dk_at dksX13_cut_0 14 rfl rfl)
theorem dX13_cut_17 : decode cX13_cut 17 = .ok (.aload_n 0, 1) := dk_42 (dk_at dksX13_cut_0 17 rfl rfl)
theorem dX13_cut_18 : decode cX13_cut 18 = .ok (.iload_n 1, 1) := dk_27 (dk_at dksX13_cut_0 18 rfl rfl)
theorem dX13_cut_19 : decode cX13_cut 19 = .ok (.invokevirtual 181, 3) := dk_182 0 181 (dk_at dksX13_cut_0 19 rfl rfl)
theorem dX13_cut_22 : decode cX13_cut 22 = .ok (.istore_n 2, 1) := dk_61 (dk_at dksX13_cut_0 22 rfl rfl)
theorem dX13_cut_23 : decode cX13_cut 23 = .ok (.iload_n 1, 1) := dk_27 (dk_at dksX13_cut_0 23 rfl rfl)
theorem dX13_cut_24 : decode cX13_cut 24 = .ok (.aload_n 0, 1) := dk_42 (dk_at dksX13_cut_1 0 rfl rfl)
theorem dX13_cut_25 : decode cX13_cut 25 = .ok (.getfield 169, 3) := dk_180 0 169 (dk_at dksX13_cut_1 1 rfl rfl)
theorem dX13_cut_28 : decode cX13_cut 28 = .ok (.if_icmp .lt 15, 3) := dk_161 0 15 (dk_at dksX13_cut_1 4 rfl rfl)
theorem dX13_cut_31 : decode cX13_cut 31 = .ok (.aload_n 0, 1) := dk_42 (dk_at dksX13_cut_1 7 rfl rfl)
theorem dX13_cut_32 : decode cX13_cut 32 = .ok (.iconst 0, 1) := dk_3 (dk_at dksX13_cut_1 8 rfl rfl)
theorem dX13_cut_33 : decode cX13_cut 33 = .ok (.aload_n 0, 1) := dk_42 (dk_at dksX13_cut_1 9 rfl rfl)
theorem dX13_cut_34 : decode cX13_cut 34 = .ok (.getfield 169, 3) := dk_180 0 169 (dk_at dksX13_cut_1 10 rfl rfl)
theorem dX13_cut_37 : decode cX13_cut 37 = .ok (.iconst 0, 1) := dk_3 (dk_at dksX13_cut_1 13 rfl rfl)
theorem dX13_cut_38 : decode cX13_cut 38 = .ok (.lconst 0, 1) := dk_9 (dk_at dksX13_cut_1 14 rfl rfl)
theorem dX13_cut_39 : decode cX13_cut 39 = .ok (.invokevirtual 185, 3) := dk_182 0 185 (dk_at dksX13_cut_1 15 rfl rfl)
theorem dX13_cut_42 : decode cX13_cut 42 = .ok (.return_, 1) := dk_177 (dk_at dksX13_cut_1 18 rfl rfl)
theorem dX13_cut_43 : decode cX13_cut 43 = .ok (.iload_n 2, 1) := dk_28 (dk_at dksX13_cut_1 19 rfl rfl)
theorem dX13_cut_44 : decode cX13_cut 44 = .ok (.bipush 9, 2) := dk_16 9 (dk_at dksX13_cut_1 20 rfl rfl)
theorem dX13_cut_46 : decode cX13_cut 46 = .ok (.if_icmp .eq 21, 3) := dk_159 0 21 (dk_at dksX13_cut_2 0 rfl rfl)
theorem dX13_cut_49 : decode cX13_cut 49 = .ok (.iload_n 2, 1) := dk_28 (dk_at dksX13_cut_2 3 rfl rfl)
theorem dX13_cut_50 : decode cX13_cut 50 = .ok (.bipush 10, 2) := dk_16 10 (dk_at dksX13_cut_2 4 rfl rfl)
theorem dX13_cut_52 : decode cX13_cut 52 = .ok (.if_icmp .eq 15, 3) := dk_159 0 15 (dk_at dksX13_cut_2 6 rfl rfl)
theorem dX13_cut_55 : decode cX13_cut 55 = .ok (.iload_n 2, 1) := dk_28 (dk_at dksX13_cut_2 9 rfl rfl)
theorem dX13_cut_56 : decode cX13_cut 56 = .ok (.bipush 13, 2) := dk_16 13 (dk_at dksX13_cut_2 10 rfl rfl)
theorem dX13_cut_58 : decode cX13_cut 58 = .ok (.if_icmp .eq 9, 3) := dk_159 0 9 (dk_at dksX13_cut_2 12 rfl rfl)
theorem dX13_cut_61 : decode cX13_cut 61 = .ok (.iload_n 2, 1) := dk_28 (dk_at dksX13_cut_2 15 rfl rfl)
theorem dX13_cut_62 : decode cX13_cut 62 = .ok (.bipush 32, 2) := dk_16 32 (dk_at dksX13_cut_2 16 rfl rfl)
theorem dX13_cut_64 : decode cX13_cut 64 = .ok (.if_icmp .ne 9, 3) := dk_160 0 9 (dk_at dksX13_cut_2 18 rfl rfl)
theorem dX13_cut_67 : decode cX13_cut 67 = .ok (.iinc 1 1, 3) := dk_132 1 1 (dk_at dksX13_cut_2 21 rfl rfl)
theorem dX13_cut_70 : decode cX13_cut 70 = .ok (.goto 221, 3) := dk_167 0 221 (dk_at dksX13_cut_3 0 rfl rfl)
theorem dX13_cut_73 : decode cX13_cut 73 = .ok (.iload_n 2, 1) := dk_28 (dk_at dksX13_cut_3 3 rfl rfl)
theorem dX13_cut_74 : decode cX13_cut 74 = .ok (.invokestatic 189, 3) := dk_184 0 189 (dk_at dksX13_cut_3 4 rfl rfl)
theorem dX13_cut_77 : decode cX13_cut 77 = .ok (.ifCond .eq 119, 3) := dk_153 0 119 (dk_at dksX13_cut_3 7 rfl rfl)
theorem dX13_cut_80 : decode cX13_cut 80 = .ok (.iconst 0, 1) := dk_3 (dk_at dksX13_cut_3 10 rfl rfl)
theorem dX13_cut_81 : decode cX13_cut 81 = .ok (.istore_n 3, 1) := dk_62 (dk_at dksX13_cut_3 11 rfl rfl)
theorem dX13_cut_82 : decode cX13_cut 82 = .ok (.lconst 0, 1) := dk_9 (dk_at dksX13_cut_3 12 rfl rfl)
theorem dX13_cut_83 : decode cX13_cut 83 = .ok (.lstore 4, 2) := dk_55 4 (dk_at dksX13_cut_3 13 rfl rfl)
theorem dX13_cut_85 : decode cX13_cut 85 = .ok (.aload_n 0, 1) := dk_42 (dk_at dksX13_cut_3 15 rfl rfl)
theorem dX13_cut_86 : decode cX13_cut 86 = .ok (.iload_n 1, 1) := dk_27 (dk_at dksX13_cut_3 16 rfl rfl)
theorem dX13_cut_87 : decode cX13_cut 87 = .ok (.iload_n 3, 1) := dk_29 (dk_at dksX13_cut_3 17 rfl rfl)
theorem dX13_cut_88 : decode cX13_cut 88 = .ok (.iadd, 1) := dk_96 (dk_at dksX13_cut_3 18 rfl rfl)
theorem dX13_cut_89 : decode cX13_cut 89 = .ok (.invokevirtual 181, 3) := dk_182 0 181 (dk_at dksX13_cut_3 19 rfl rfl)
theorem dX13_cut_92 : decode cX13_cut 92 = .ok (.invokestatic 189, 3) := dk_184 0 189 (dk_at dksX13_cut_4 0 rfl rfl)
theorem dX13_cut_95 : decode cX13_cut 95 = .ok (.ifCond .eq 29, 3) := dk_153 0 29 (dk_at dksX13_cut_4 3 rfl rfl)
theorem dX13_cut_98 : decode cX13_cut 98 = .ok (.iload_n 3, 1) := dk_29 (dk_at dksX13_cut_4 6 rfl rfl)
theorem dX13_cut_99 : decode cX13_cut 99 = .ok (.bipush 8, 2) := dk_16 8 (dk_at dksX13_cut_4 7 rfl rfl)
theorem dX13_cut_101 : decode cX13_cut 101 = .ok (.if_icmp .ge 17, 3) := dk_162 0 17 (dk_at dksX13_cut_4 9 rfl rfl)
theorem dX13_cut_104 : decode cX13_cut 104 = .ok (.lload 4, 2) := dk_22 4 (dk_at dksX13_cut_4 12 rfl rfl)
theorem dX13_cut_106 : decode cX13_cut 106 = .ok (.aload_n 0, 1) := dk_42 (dk_at dksX13_cut_4 14 rfl rfl)
theorem dX13_cut_107 : decode cX13_cut 107 = .ok (.iload_n 1, 1) := dk_27 (dk_at dksX13_cut_4 15 rfl rfl)
theorem dX13_cut_108 : decode cX13_cut 108 = .ok (.iload_n 3, 1) := dk_29 (dk_at dksX13_cut_4 16 rfl rfl)
theorem dX13_cut_109 : decode cX13_cut 109 = .ok (.iadd, 1) := dk_96 (dk_at dksX13_cut_4 17 rfl rfl)
theorem dX13_cut_110 : decode cX13_cut 110 = .ok (.invokevirtual 181, 3) := dk_182 0 181 (dk_at dksX13_cut_4 18 rfl rfl)
theorem dX13_cut_113 : decode cX13_cut 113 = .ok (.invokestatic 174, 3) := dk_184 0 174 (dk_at dksX13_cut_4 21 rfl rfl)
theorem dX13_cut_116 : decode cX13_cut 116 = .ok (.lstore 4, 2) := dk_55 4 (dk_at dksX13_cut_5 0 rfl rfl)
theorem dX13_cut_118 : decode cX13_cut 118 = .ok (.iinc 3 1, 3) := dk_132 3 1 (dk_at dksX13_cut_5 2 rfl rfl)
theorem dX13_cut_121 : decode cX13_cut 121 = .ok (.goto (-36), 3) := dk_167 255 220 (dk_at dksX13_cut_5 5 rfl rfl)
theorem dX13_cut_124 : decode cX13_cut 124 = .ok (.iload_n 3, 1) := dk_29 (dk_at dksX13_cut_5 8 rfl rfl)
theorem dX13_cut_125 : decode cX13_cut 125 = .ok (.bipush 8, 2) := dk_16 8 (dk_at dksX13_cut_5 9 rfl rfl)
theorem dX13_cut_127 : decode cX13_cut 127 = .ok (.if_icmp .le 7, 3) := dk_164 0 7 (dk_at dksX13_cut_5 11 rfl rfl)
theorem dX13_cut_130 : decode cX13_cut 130 = .ok (.iconst 3, 1) := dk_6 (dk_at dksX13_cut_5 14 rfl rfl)
theorem dX13_cut_131 : decode cX13_cut 131 = .ok (.goto 4, 3) := dk_167 0 4 (dk_at dksX13_cut_5 15 rfl rfl)
theorem dX13_cut_134 : decode cX13_cut 134 = .ok (.iconst 1, 1) := dk_4 (dk_at dksX13_cut_5 18 rfl rfl)
theorem dX13_cut_135 : decode cX13_cut 135 = .ok (.istore 6, 2) := dk_54 6 (dk_at dksX13_cut_5 19 rfl rfl)
theorem dX13_cut_137 : decode cX13_cut 137 = .ok (.iload_n 3, 1) := dk_29 (dk_at dksX13_cut_5 21 rfl rfl)
theorem dX13_cut_138 : decode cX13_cut 138 = .ok (.bipush 8, 2) := dk_16 8 (dk_at dksX13_cut_5 22 rfl rfl)
theorem dX13_cut_140 : decode cX13_cut 140 = .ok (.if_icmp .gt 39, 3) := dk_163 0 39 (dk_at dksX13_cut_6 0 rfl rfl)
theorem dX13_cut_143 : decode cX13_cut 143 = .ok (.iconst 0, 1) := dk_3 (dk_at dksX13_cut_6 3 rfl rfl)
theorem dX13_cut_144 : decode cX13_cut 144 = .ok (.istore 7, 2) := dk_54 7 (dk_at dksX13_cut_6 4 rfl rfl)
theorem dX13_cut_146 : decode cX13_cut 146 = .ok (.iload 7, 2) := dk_21 7 (dk_at dksX13_cut_6 6 rfl rfl)
theorem dX13_cut_148 : decode cX13_cut 148 = .ok (.bipush 21, 2) := dk_16 21 (dk_at dksX13_cut_6 8 rfl rfl)
theorem dX13_cut_150 : decode cX13_cut 150 = .ok (.if_icmp .ge 29, 3) := dk_162 0 29 (dk_at dksX13_cut_6 10 rfl rfl)
theorem dX13_cut_153 : decode cX13_cut 153 = .ok (.aload_n 0, 1) := dk_42 (dk_at dksX13_cut_6 13 rfl rfl)
theorem dX13_cut_154 : decode cX13_cut 154 = .ok (.getfield 34, 3) := dk_180 0 34 (dk_at dksX13_cut_6 14 rfl rfl)
theorem dX13_cut_157 : decode cX13_cut 157 = .ok (.iload 7, 2) := dk_21 7 (dk_at dksX13_cut_6 17 rfl rfl)
theorem dX13_cut_159 : decode cX13_cut 159 = .ok (.laload, 1) := dk_47 (dk_at dksX13_cut_6 19 rfl rfl)
theorem dX13_cut_160 : decode cX13_cut 160 = .ok (.lload 4, 2) := dk_22 4 (dk_at dksX13_cut_6 20 rfl rfl)
theorem dX13_cut_162 : decode cX13_cut 162 = .ok (.lcmp, 1) := dk_148 (dk_at dksX13_cut_6 22 rfl rfl)
theorem dX13_cut_163 : decode cX13_cut 163 = .ok (.ifCond .ne 10, 3) := dk_154 0 10 (dk_at dksX13_cut_7 0 rfl rfl)
theorem dX13_cut_166 : decode cX13_cut 166 = .ok (.bipush 20, 2) := dk_16 20 (dk_at dksX13_cut_7 3 rfl rfl)
theorem dX13_cut_168 : decode cX13_cut 168 = .ok (.iload 7, 2) := dk_21 7 (dk_at dksX13_cut_7 5 rfl rfl)
theorem dX13_cut_170 : decode cX13_cut 170 = .ok (.iadd, 1) := dk_96 (dk_at dksX13_cut_7 7 rfl rfl)
theorem dX13_cut_171 : decode cX13_cut 171 = .ok (.istore 6, 2) := dk_54 6 (dk_at dksX13_cut_7 8 rfl rfl)
theorem dX13_cut_173 : decode cX13_cut 173 = .ok (.iinc 7 1, 3) := dk_132 7 1 (dk_at dksX13_cut_7 10 rfl rfl)
theorem dX13_cut_176 : decode cX13_cut 176 = .ok (.goto (-30), 3) := dk_167 255 226 (dk_at dksX13_cut_7 13 rfl rfl)
theorem dX13_cut_179 : decode cX13_cut 179 = .ok (.aload_n 0, 1) := dk_42 (dk_at dksX13_cut_7 16 rfl rfl)
theorem dX13_cut_180 : decode cX13_cut 180 = .ok (.iload 6, 2) := dk_21 6 (dk_at dksX13_cut_7 17 rfl rfl)
theorem dX13_cut_182 : decode cX13_cut 182 = .ok (.iload_n 1, 1) := dk_27 (dk_at dksX13_cut_7 19 rfl rfl)
theorem dX13_cut_183 : decode cX13_cut 183 = .ok (.iconst 0, 1) := dk_3 (dk_at dksX13_cut_7 20 rfl rfl)
theorem dX13_cut_184 : decode cX13_cut 184 = .ok (.lload 4, 2) := dk_22 4 (dk_at dksX13_cut_7 21 rfl rfl)
theorem dX13_cut_186 : decode cX13_cut 186 = .ok (.invokevirtual 185, 3) := dk_182 0 185 (dk_at dksX13_cut_8 0 rfl rfl)
theorem dX13_cut_189 : decode cX13_cut 189 = .ok (.iload_n 1, 1) := dk_27 (dk_at dksX13_cut_8 3 rfl rfl)
theorem dX13_cut_190 : decode cX13_cut 190 = .ok (.iload_n 3, 1) := dk_29 (dk_at dksX13_cut_8 4 rfl rfl)
theorem dX13_cut_191 : decode cX13_cut 191 = .ok (.iadd, 1) := dk_96 (dk_at dksX13_cut_8 5 rfl rfl)
theorem dX13_cut_192 : decode cX13_cut 192 = .ok (.istore_n 1, 1) := dk_60 (dk_at dksX13_cut_8 6 rfl rfl)
theorem dX13_cut_193 : decode cX13_cut 193 = .ok (.goto 98, 3) := dk_167 0 98 (dk_at dksX13_cut_8 7 rfl rfl)
theorem dX13_cut_196 : decode cX13_cut 196 = .ok (.iload_n 2, 1) := dk_28 (dk_at dksX13_cut_8 10 rfl rfl)
theorem dX13_cut_197 : decode cX13_cut 197 = .ok (.invokestatic 193, 3) := dk_184 0 193 (dk_at dksX13_cut_8 11 rfl rfl)
theorem dX13_cut_200 : decode cX13_cut 200 = .ok (.ifCond .eq 75, 3) := dk_153 0 75 (dk_at dksX13_cut_8 14 rfl rfl)
theorem dX13_cut_203 : decode cX13_cut 203 = .ok (.iconst 0, 1) := dk_3 (dk_at dksX13_cut_8 17 rfl rfl)
theorem dX13_cut_204 : decode cX13_cut 204 = .ok (.istore_n 3, 1) := dk_62 (dk_at dksX13_cut_8 18 rfl rfl)
theorem dX13_cut_205 : decode cX13_cut 205 = .ok (.iconst 0, 1) := dk_3 (dk_at dksX13_cut_8 19 rfl rfl)
theorem dX13_cut_206 : decode cX13_cut 206 = .ok (.istore 4, 2) := dk_54 4 (dk_at dksX13_cut_8 20 rfl rfl)
theorem dX13_cut_208 : decode cX13_cut 208 = .ok (.aload_n 0, 1) := dk_42 (dk_at dksX13_cut_8 22 rfl rfl)
theorem dX13_cut_209 : decode cX13_cut 209 = .ok (.iload_n 1, 1) := dk_27 (dk_at dksX13_cut_8 23 rfl rfl)
theorem dX13_cut_210 : decode cX13_cut 210 = .ok (.iload_n 3, 1) := dk_29 (dk_at dksX13_cut_9 0 rfl rfl)
theorem dX13_cut_211 : decode cX13_cut 211 = .ok (.iadd, 1) := dk_96 (dk_at dksX13_cut_9 1 rfl rfl)
theorem dX13_cut_212 : decode cX13_cut 212 = .ok (.invokevirtual 181, 3) := dk_182 0 181 (dk_at dksX13_cut_9 2 rfl rfl)
theorem dX13_cut_215 : decode cX13_cut 215 = .ok (.invokestatic 193, 3) := dk_184 0 193 (dk_at dksX13_cut_9 5 rfl rfl)
theorem dX13_cut_218 : decode cX13_cut 218 = .ok (.ifCond .eq 32, 3) := dk_153 0 32 (dk_at dksX13_cut_9 8 rfl rfl)
theorem dX13_cut_221 : decode cX13_cut 221 = .ok (.iload_n 3, 1) := dk_29 (dk_at dksX13_cut_9 11 rfl rfl)
theorem dX13_cut_222 : decode cX13_cut 222 = .ok (.iconst 4, 1) := dk_7 (dk_at dksX13_cut_9 12 rfl rfl)
theorem dX13_cut_223 : decode cX13_cut 223 = .ok (.if_icmp .ge 21, 3) := dk_162 0 21 (dk_at dksX13_cut_9 13 rfl rfl)
theorem dX13_cut_226 : decode cX13_cut 226 = .ok (.bipush 10, 2) := dk_16 10 (dk_at dksX13_cut_9 16 rfl rfl)
theorem dX13_cut_228 : decode cX13_cut 228 = .ok (.iload 4, 2) := dk_21 4 (dk_at dksX13_cut_9 18 rfl rfl)
theorem dX13_cut_230 : decode cX13_cut 230 = .ok (.imul, 1) := dk_104 (dk_at dksX13_cut_9 20 rfl rfl)
theorem dX13_cut_231 : decode cX13_cut 231 = .ok (.aload_n 0, 1) := dk_42 (dk_at dksX13_cut_9 21 rfl rfl)
theorem dX13_cut_232 : decode cX13_cut 232 = .ok (.iload_n 1, 1) := dk_27 (dk_at dksX13_cut_9 22 rfl rfl)
theorem dX13_cut_233 : decode cX13_cut 233 = .ok (.iload_n 3, 1) := dk_29 (dk_at dksX13_cut_9 23 rfl rfl)
theorem dX13_cut_234 : decode cX13_cut 234 = .ok (.iadd, 1) := dk_96 (dk_at dksX13_cut_10 0 rfl rfl)
theorem dX13_cut_235 : decode cX13_cut 235 = .ok (.invokevirtual 181, 3) := dk_182 0 181 (dk_at dksX13_cut_10 1 rfl rfl)
theorem dX13_cut_238 : decode cX13_cut 238 = .ok (.iadd, 1) := dk_96 (dk_at dksX13_cut_10 4 rfl rfl)
theorem dX13_cut_239 : decode cX13_cut 239 = .ok (.bipush 48, 2) := dk_16 48 (dk_at dksX13_cut_10 5 rfl rfl)
theorem dX13_cut_241 : decode cX13_cut 241 = .ok (.isub, 1) := dk_100 (dk_at dksX13_cut_10 7 rfl rfl)
theorem dX13_cut_242 : decode cX13_cut 242 = .ok (.istore 4, 2) := dk_54 4 (dk_at dksX13_cut_10 8 rfl rfl)
theorem dX13_cut_244 : decode cX13_cut 244 = .ok (.iinc 3 1, 3) := dk_132 3 1 (dk_at dksX13_cut_10 10 rfl rfl)
theorem dX13_cut_247 : decode cX13_cut 247 = .ok (.goto (-39), 3) := dk_167 255 217 (dk_at dksX13_cut_10 13 rfl rfl)
theorem dX13_cut_250 : decode cX13_cut 250 = .ok (.aload_n 0, 1) := dk_42 (dk_at dksX13_cut_10 16 rfl rfl)
theorem dX13_cut_251 : decode cX13_cut 251 = .ok (.iload_n 3, 1) := dk_29 (dk_at dksX13_cut_10 17 rfl rfl)
theorem dX13_cut_252 : decode cX13_cut 252 = .ok (.iconst 4, 1) := dk_7 (dk_at dksX13_cut_10 18 rfl rfl)
theorem dX13_cut_253 : decode cX13_cut 253 = .ok (.if_icmp .le 7, 3) := dk_164 0 7 (dk_at dksX13_cut_10 19 rfl rfl)
theorem dX13_cut_256 : decode cX13_cut 256 = .ok (.iconst 3, 1) := dk_6 (dk_at dksX13_cut_10 22 rfl rfl)
theorem dX13_cut_257 : decode cX13_cut 257 = .ok (.goto 4, 3) := dk_167 0 4 (dk_at dksX13_cut_11 0 rfl rfl)
theorem dX13_cut_260 : decode cX13_cut 260 = .ok (.iconst 2, 1) := dk_5 (dk_at dksX13_cut_11 3 rfl rfl)
theorem dX13_cut_261 : decode cX13_cut 261 = .ok (.iload_n 1, 1) := dk_27 (dk_at dksX13_cut_11 4 rfl rfl)
theorem dX13_cut_262 : decode cX13_cut 262 = .ok (.iload 4, 2) := dk_21 4 (dk_at dksX13_cut_11 5 rfl rfl)
theorem dX13_cut_264 : decode cX13_cut 264 = .ok (.lconst 0, 1) := dk_9 (dk_at dksX13_cut_11 7 rfl rfl)
theorem dX13_cut_265 : decode cX13_cut 265 = .ok (.invokevirtual 185, 3) := dk_182 0 185 (dk_at dksX13_cut_11 8 rfl rfl)
theorem dX13_cut_268 : decode cX13_cut 268 = .ok (.iload_n 1, 1) := dk_27 (dk_at dksX13_cut_11 11 rfl rfl)
theorem dX13_cut_269 : decode cX13_cut 269 = .ok (.iload_n 3, 1) := dk_29 (dk_at dksX13_cut_11 12 rfl rfl)
theorem dX13_cut_270 : decode cX13_cut 270 = .ok (.iadd, 1) := dk_96 (dk_at dksX13_cut_11 13 rfl rfl)
theorem dX13_cut_271 : decode cX13_cut 271 = .ok (.istore_n 1, 1) := dk_60 (dk_at dksX13_cut_11 14 rfl rfl)
theorem dX13_cut_272 : decode cX13_cut 272 = .ok (.goto 19, 3) := dk_167 0 19 (dk_at dksX13_cut_11 15 rfl rfl)
theorem dX13_cut_275 : decode cX13_cut 275 = .ok (.iload_n 1, 1) := dk_27 (dk_at dksX13_cut_11 18 rfl rfl)
theorem dX13_cut_276 : decode cX13_cut 276 = .ok (.aload_n 0, 1) := dk_42 (dk_at dksX13_cut_11 19 rfl rfl)
theorem dX13_cut_277 : decode cX13_cut 277 = .ok (.iload_n 1, 1) := dk_27 (dk_at dksX13_cut_11 20 rfl rfl)
theorem dX13_cut_278 : decode cX13_cut 278 = .ok (.iload_n 2, 1) := dk_28 (dk_at dksX13_cut_11 21 rfl rfl)
theorem dX13_cut_279 : decode cX13_cut 279 = .ok (.aload_n 0, 1) := dk_42 (dk_at dksX13_cut_11 22 rfl rfl)
theorem dX13_cut_280 : decode cX13_cut 280 = .ok (.iload_n 1, 1) := dk_27 (dk_at dksX13_cut_11 23 rfl rfl)
theorem dX13_cut_281 : decode cX13_cut 281 = .ok (.iconst 1, 1) := dk_4 (dk_at dksX13_cut_12 0 rfl rfl)
theorem dX13_cut_282 : decode cX13_cut 282 = .ok (.iadd, 1) := dk_96 (dk_at dksX13_cut_12 1 rfl rfl)
theorem dX13_cut_283 : decode cX13_cut 283 = .ok (.invokevirtual 181, 3) := dk_182 0 181 (dk_at dksX13_cut_12 2 rfl rfl)
theorem dX13_cut_286 : decode cX13_cut 286 = .ok (.invokevirtual 196, 3) := dk_182 0 196 (dk_at dksX13_cut_12 5 rfl rfl)
theorem dX13_cut_289 : decode cX13_cut 289 = .ok (.iadd, 1) := dk_96 (dk_at dksX13_cut_12 8 rfl rfl)
theorem dX13_cut_290 : decode cX13_cut 290 = .ok (.istore_n 1, 1) := dk_60 (dk_at dksX13_cut_12 9 rfl rfl)
theorem dX13_cut_291 : decode cX13_cut 291 = .ok (.goto (-284), 3) := dk_167 254 228 (dk_at dksX13_cut_12 10 rfl rfl)
theorem dX13_cut_294 : decode cX13_cut 294 = .ok (.return_, 1) := dk_177 (dk_at dksX13_cut_12 13 rfl rfl)
abbrev cX13_byteAt : ByteArray := prog_21_method_6_code
def yX13_byteAt : MethodName := ⟨RX13, "byteAt", "(I)I"⟩
def dkwX13_byteAt_0 : List UInt8 := [27, 42, 180, 0, 169, 162, 0, 16, 42, 180, 0, 17, 27, 51, 17, 0, 255, 126, 167, 0, 4, 3, 172]
abbrev dktX13_byteAt_0 : List UInt8 := dkwX13_byteAt_0 ++ []
theorem dksX13_byteAt_0 : cX13_byteAt.data.toList.drop 0 = dktX13_byteAt_0 := by decide +kernel
theorem dX13_byteAt_0 : decode cX13_byteAt 0 = .ok (.iload_n 1, 1) := dk_27 (dk_at dksX13_byteAt_0 0 rfl rfl)
theorem dX13_byteAt_1 : decode cX13_byteAt 1 = .ok (.aload_n 0, 1) := dk_42 (dk_at dksX13_byteAt_0 1 rfl rfl)
theorem dX13_byteAt_2 : decode cX13_byteAt 2 = .ok (.getfield 169, 3) := dk_180 0 169 (dk_at dksX13_byteAt_0 2 rfl rfl)
theorem dX13_byteAt_5 : decode cX13_byteAt 5 = .ok (.if_icmp .ge 16, 3) := dk_162 0 16 (dk_at dksX13_byteAt_0 5 rfl rfl)
theorem dX13_byteAt_8 : decode cX13_byteAt 8 = .ok (.aload_n 0, 1) := dk_42 (dk_at dksX13_byteAt_0 8 rfl rfl)
theorem dX13_byteAt_9 : decode cX13_byteAt 9 = .ok (.getfield 17, 3) := dk_180 0 17 (dk_at dksX13_byteAt_0 9 rfl rfl)
theorem dX13_byteAt_12 : decode cX13_byteAt 12 = .ok (.iload_n 1, 1) := dk_27 (dk_at dksX13_byteAt_0 12 rfl rfl)
theorem dX13_byteAt_13 : decode cX13_byteAt 13 = .ok (.baload, 1) := dk_51 (dk_at dksX13_byteAt_0 13 rfl rfl)
theorem dX13_byteAt_14 : decode cX13_byteAt 14 = .ok (.sipush 255, 3) := dk_17 0 255 (dk_at dksX13_byteAt_0 14 rfl rfl)
theorem dX13_byteAt_17 : decode cX13_byteAt 17 = .ok (.iand, 1) := dk_126 (dk_at dksX13_byteAt_0 17 rfl rfl)
theorem dX13_byteAt_18 : decode cX13_byteAt 18 = .ok (.goto 4, 3) := dk_167 0 4 (dk_at dksX13_byteAt_0 18 rfl rfl)
theorem dX13_byteAt_21 : decode cX13_byteAt 21 = .ok (.iconst 0, 1) := dk_3 (dk_at dksX13_byteAt_0 21 rfl rfl)
theorem dX13_byteAt_22 : decode cX13_byteAt 22 = .ok (.ireturn, 1) := dk_172 (dk_at dksX13_byteAt_0 22 rfl rfl)
abbrev cX13_token : ByteArray := prog_21_method_11_code
def yX13_token : MethodName := ⟨RX13, "token", "(IIIJ)V"⟩
def dkwX13_token_2 : List UInt8 := [181, 0, 178, 177]
abbrev dktX13_token_2 : List UInt8 := dkwX13_token_2 ++ []
def dkwX13_token_1 : List UInt8 := [42, 180, 0, 178, 29, 79, 42, 180, 0, 30, 42, 180, 0, 178, 22, 4, 80, 42, 89, 180, 0, 178, 4, 96]
abbrev dktX13_token_1 : List UInt8 := dkwX13_token_1 ++ dktX13_token_2
def dkwX13_token_0 : List UInt8 := [42, 180, 0, 20, 42, 180, 0, 178, 27, 79, 42, 180, 0, 24, 42, 180, 0, 178, 28, 79, 42, 180, 0, 27]
abbrev dktX13_token_0 : List UInt8 := dkwX13_token_0 ++ dktX13_token_1
theorem dksX13_token_0 : cX13_token.data.toList.drop 0 = dktX13_token_0 := by decide +kernel
theorem dksX13_token_1 : cX13_token.data.toList.drop 24 = dktX13_token_1 := dk_seg dksX13_token_0 24 rfl rfl
theorem dksX13_token_2 : cX13_token.data.toList.drop 48 = dktX13_token_2 := dk_seg dksX13_token_1 24 rfl rfl
theorem dX13_token_0 : decode cX13_token 0 = .ok (.aload_n 0, 1) := dk_42 (dk_at dksX13_token_0 0 rfl rfl)
theorem dX13_token_1 : decode cX13_token 1 = .ok (.getfield 20, 3) := dk_180 0 20 (dk_at dksX13_token_0 1 rfl rfl)
theorem dX13_token_4 : decode cX13_token 4 = .ok (.aload_n 0, 1) := dk_42 (dk_at dksX13_token_0 4 rfl rfl)
theorem dX13_token_5 : decode cX13_token 5 = .ok (.getfield 178, 3) := dk_180 0 178 (dk_at dksX13_token_0 5 rfl rfl)
theorem dX13_token_8 : decode cX13_token 8 = .ok (.iload_n 1, 1) := dk_27 (dk_at dksX13_token_0 8 rfl rfl)
theorem dX13_token_9 : decode cX13_token 9 = .ok (.iastore, 1) := dk_79 (dk_at dksX13_token_0 9 rfl rfl)
theorem dX13_token_10 : decode cX13_token 10 = .ok (.aload_n 0, 1) := dk_42 (dk_at dksX13_token_0 10 rfl rfl)
theorem dX13_token_11 : decode cX13_token 11 = .ok (.getfield 24, 3) := dk_180 0 24 (dk_at dksX13_token_0 11 rfl rfl)
theorem dX13_token_14 : decode cX13_token 14 = .ok (.aload_n 0, 1) := dk_42 (dk_at dksX13_token_0 14 rfl rfl)
theorem dX13_token_15 : decode cX13_token 15 = .ok (.getfield 178, 3) := dk_180 0 178 (dk_at dksX13_token_0 15 rfl rfl)
theorem dX13_token_18 : decode cX13_token 18 = .ok (.iload_n 2, 1) := dk_28 (dk_at dksX13_token_0 18 rfl rfl)
theorem dX13_token_19 : decode cX13_token 19 = .ok (.iastore, 1) := dk_79 (dk_at dksX13_token_0 19 rfl rfl)
theorem dX13_token_20 : decode cX13_token 20 = .ok (.aload_n 0, 1) := dk_42 (dk_at dksX13_token_0 20 rfl rfl)
theorem dX13_token_21 : decode cX13_token 21 = .ok (.getfield 27, 3) := dk_180 0 27 (dk_at dksX13_token_0 21 rfl rfl)
theorem dX13_token_24 : decode cX13_token 24 = .ok (.aload_n 0, 1) := dk_42 (dk_at dksX13_token_1 0 rfl rfl)
theorem dX13_token_25 : decode cX13_token 25 = .ok (.getfield 178, 3) := dk_180 0 178 (dk_at dksX13_token_1 1 rfl rfl)
theorem dX13_token_28 : decode cX13_token 28 = .ok (.iload_n 3, 1) := dk_29 (dk_at dksX13_token_1 4 rfl rfl)
theorem dX13_token_29 : decode cX13_token 29 = .ok (.iastore, 1) := dk_79 (dk_at dksX13_token_1 5 rfl rfl)
theorem dX13_token_30 : decode cX13_token 30 = .ok (.aload_n 0, 1) := dk_42 (dk_at dksX13_token_1 6 rfl rfl)
theorem dX13_token_31 : decode cX13_token 31 = .ok (.getfield 30, 3) := dk_180 0 30 (dk_at dksX13_token_1 7 rfl rfl)
theorem dX13_token_34 : decode cX13_token 34 = .ok (.aload_n 0, 1) := dk_42 (dk_at dksX13_token_1 10 rfl rfl)
theorem dX13_token_35 : decode cX13_token 35 = .ok (.getfield 178, 3) := dk_180 0 178 (dk_at dksX13_token_1 11 rfl rfl)
theorem dX13_token_38 : decode cX13_token 38 = .ok (.lload 4, 2) := dk_22 4 (dk_at dksX13_token_1 14 rfl rfl)
theorem dX13_token_40 : decode cX13_token 40 = .ok (.lastore, 1) := dk_80 (dk_at dksX13_token_1 16 rfl rfl)
theorem dX13_token_41 : decode cX13_token 41 = .ok (.aload_n 0, 1) := dk_42 (dk_at dksX13_token_1 17 rfl rfl)
theorem dX13_token_42 : decode cX13_token 42 = .ok (.dup, 1) := dk_89 (dk_at dksX13_token_1 18 rfl rfl)
theorem dX13_token_43 : decode cX13_token 43 = .ok (.getfield 178, 3) := dk_180 0 178 (dk_at dksX13_token_1 19 rfl rfl)
theorem dX13_token_46 : decode cX13_token 46 = .ok (.iconst 1, 1) := dk_4 (dk_at dksX13_token_1 22 rfl rfl)
theorem dX13_token_47 : decode cX13_token 47 = .ok (.iadd, 1) := dk_96 (dk_at dksX13_token_1 23 rfl rfl)
theorem dX13_token_48 : decode cX13_token 48 = .ok (.putfield 178, 3) := dk_181 0 178 (dk_at dksX13_token_2 0 rfl rfl)
theorem dX13_token_51 : decode cX13_token 51 = .ok (.return_, 1) := dk_177 (dk_at dksX13_token_2 3 rfl rfl)
abbrev cX13_isLetter : ByteArray := prog_21_method_8_code
def yX13_isLetter : MethodName := ⟨RX13, "isLetter", "(I)Z"⟩
def dkwX13_isLetter_0 : List UInt8 := [26, 16, 97, 161, 0, 13, 26, 16, 122, 163, 0, 7, 4, 167, 0, 4, 3, 172]
abbrev dktX13_isLetter_0 : List UInt8 := dkwX13_isLetter_0 ++ []
theorem dksX13_isLetter_0 : cX13_isLetter.data.toList.drop 0 = dktX13_isLetter_0 := by decide +kernel
theorem dX13_isLetter_0 : decode cX13_isLetter 0 = .ok (.iload_n 0, 1) := dk_26 (dk_at dksX13_isLetter_0 0 rfl rfl)
theorem dX13_isLetter_1 : decode cX13_isLetter 1 = .ok (.bipush 97, 2) := dk_16 97 (dk_at dksX13_isLetter_0 1 rfl rfl)
theorem dX13_isLetter_3 : decode cX13_isLetter 3 = .ok (.if_icmp .lt 13, 3) := dk_161 0 13 (dk_at dksX13_isLetter_0 3 rfl rfl)
theorem dX13_isLetter_6 : decode cX13_isLetter 6 = .ok (.iload_n 0, 1) := dk_26 (dk_at dksX13_isLetter_0 6 rfl rfl)
theorem dX13_isLetter_7 : decode cX13_isLetter 7 = .ok (.bipush 122, 2) := dk_16 122 (dk_at dksX13_isLetter_0 7 rfl rfl)
theorem dX13_isLetter_9 : decode cX13_isLetter 9 = .ok (.if_icmp .gt 7, 3) := dk_163 0 7 (dk_at dksX13_isLetter_0 9 rfl rfl)
theorem dX13_isLetter_12 : decode cX13_isLetter 12 = .ok (.iconst 1, 1) := dk_4 (dk_at dksX13_isLetter_0 12 rfl rfl)
theorem dX13_isLetter_13 : decode cX13_isLetter 13 = .ok (.goto 4, 3) := dk_167 0 4 (dk_at dksX13_isLetter_0 13 rfl rfl)
theorem dX13_isLetter_16 : decode cX13_isLetter 16 = .ok (.iconst 0, 1) := dk_3 (dk_at dksX13_isLetter_0 16 rfl rfl)
theorem dX13_isLetter_17 : decode cX13_isLetter 17 = .ok (.ireturn, 1) := dk_172 (dk_at dksX13_isLetter_0 17 rfl rfl)
abbrev cX13_isDigit : ByteArray := prog_21_method_7_code
def yX13_isDigit : MethodName := ⟨RX13, "isDigit", "(I)Z"⟩
def dkwX13_isDigit_0 : List UInt8 := [26, 16, 48, 161, 0, 13, 26, 16, 57, 163, 0, 7, 4, 167, 0, 4, 3, 172]
abbrev dktX13_isDigit_0 : List UInt8 := dkwX13_isDigit_0 ++ []
theorem dksX13_isDigit_0 : cX13_isDigit.data.toList.drop 0 = dktX13_isDigit_0 := by decide +kernel
theorem dX13_isDigit_0 : decode cX13_isDigit 0 = .ok (.iload_n 0, 1) := dk_26 (dk_at dksX13_isDigit_0 0 rfl rfl)
theorem dX13_isDigit_1 : decode cX13_isDigit 1 = .ok (.bipush 48, 2) := dk_16 48 (dk_at dksX13_isDigit_0 1 rfl rfl)
theorem dX13_isDigit_3 : decode cX13_isDigit 3 = .ok (.if_icmp .lt 13, 3) := dk_161 0 13 (dk_at dksX13_isDigit_0 3 rfl rfl)
theorem dX13_isDigit_6 : decode cX13_isDigit 6 = .ok (.iload_n 0, 1) := dk_26 (dk_at dksX13_isDigit_0 6 rfl rfl)
theorem dX13_isDigit_7 : decode cX13_isDigit 7 = .ok (.bipush 57, 2) := dk_16 57 (dk_at dksX13_isDigit_0 7 rfl rfl)
theorem dX13_isDigit_9 : decode cX13_isDigit 9 = .ok (.if_icmp .gt 7, 3) := dk_163 0 7 (dk_at dksX13_isDigit_0 9 rfl rfl)
theorem dX13_isDigit_12 : decode cX13_isDigit 12 = .ok (.iconst 1, 1) := dk_4 (dk_at dksX13_isDigit_0 12 rfl rfl)
theorem dX13_isDigit_13 : decode cX13_isDigit 13 = .ok (.goto 4, 3) := dk_167 0 4 (dk_at dksX13_isDigit_0 13 rfl rfl)
theorem dX13_isDigit_16 : decode cX13_isDigit 16 = .ok (.iconst 0, 1) := dk_3 (dk_at dksX13_isDigit_0 16 rfl rfl)
theorem dX13_isDigit_17 : decode cX13_isDigit 17 = .ok (.ireturn, 1) := dk_172 (dk_at dksX13_isDigit_0 17 rfl rfl)
abbrev cX13_sign : ByteArray := prog_21_method_13_code
def yX13_sign : MethodName := ⟨RX13, "sign", "(III)I"⟩
def dkwX13_sign_4 : List UInt8 := [16, 13, 54, 4, 42, 21, 4, 27, 3, 9, 182, 0, 185, 4, 172]
abbrev dktX13_sign_4 : List UInt8 := dkwX13_sign_4 ++ []
def dkwX13_sign_3 : List UInt8 := [160, 0, 7, 16, 10, 54, 4, 28, 16, 47, 160, 0, 7, 16, 15, 54, 4, 28, 16, 60, 160, 0, 7]
abbrev dktX13_sign_3 : List UInt8 := dkwX13_sign_3 ++ dktX13_sign_4
def dkwX13_sign_2 : List UInt8 := [16, 43, 160, 0, 7, 16, 8, 54, 4, 28, 16, 45, 160, 0, 7, 16, 9, 54, 4, 28, 16, 42]
abbrev dktX13_sign_2 : List UInt8 := dkwX13_sign_2 ++ dktX13_sign_3
def dkwX13_sign_1 : List UInt8 := [160, 0, 8, 16, 6, 167, 0, 15, 28, 16, 41, 160, 0, 8, 16, 7, 167, 0, 4, 6, 54, 4, 28]
abbrev dktX13_sign_1 : List UInt8 := dkwX13_sign_1 ++ dktX13_sign_2
def dkwX13_sign_0 : List UInt8 := [28, 16, 59, 160, 0, 7, 7, 167, 0, 36, 28, 16, 61, 160, 0, 7, 8, 167, 0, 26, 28, 16, 40]
abbrev dktX13_sign_0 : List UInt8 := dkwX13_sign_0 ++ dktX13_sign_1
theorem dksX13_sign_0 : cX13_sign.data.toList.drop 0 = dktX13_sign_0 := by decide +kernel
theorem dksX13_sign_1 : cX13_sign.data.toList.drop 23 = dktX13_sign_1 := dk_seg dksX13_sign_0 23 rfl rfl
theorem dksX13_sign_2 : cX13_sign.data.toList.drop 46 = dktX13_sign_2 := dk_seg dksX13_sign_1 23 rfl rfl
theorem dksX13_sign_3 : cX13_sign.data.toList.drop 68 = dktX13_sign_3 := dk_seg dksX13_sign_2 22 rfl rfl
theorem dksX13_sign_4 : cX13_sign.data.toList.drop 91 = dktX13_sign_4 := dk_seg dksX13_sign_3 23 rfl rfl
theorem dX13_sign_0 : decode cX13_sign 0 = .ok (.iload_n 2, 1) := dk_28 (dk_at dksX13_sign_0 0 rfl rfl)
theorem dX13_sign_1 : decode cX13_sign 1 = .ok (.bipush 59, 2) := dk_16 59 (dk_at dksX13_sign_0 1 rfl rfl)
theorem dX13_sign_3 : decode cX13_sign 3 = .ok (.if_icmp .ne 7, 3) := dk_160 0 7 (dk_at dksX13_sign_0 3 rfl rfl)
theorem dX13_sign_6 : decode cX13_sign 6 = .ok (.iconst 4, 1) := dk_7 (dk_at dksX13_sign_0 6 rfl rfl)
theorem dX13_sign_7 : decode cX13_sign 7 = .ok (.goto 36, 3) := dk_167 0 36 (dk_at dksX13_sign_0 7 rfl rfl)
theorem dX13_sign_10 : decode cX13_sign 10 = .ok (.iload_n 2, 1) := dk_28 (dk_at dksX13_sign_0 10 rfl rfl)
theorem dX13_sign_11 : decode cX13_sign 11 = .ok (.bipush 61, 2) := dk_16 61 (dk_at dksX13_sign_0 11 rfl rfl)
theorem dX13_sign_13 : decode cX13_sign 13 = .ok (.if_icmp .ne 7, 3) := dk_160 0 7 (dk_at dksX13_sign_0 13 rfl rfl)
theorem dX13_sign_16 : decode cX13_sign 16 = .ok (.iconst 5, 1) := dk_8 (dk_at dksX13_sign_0 16 rfl rfl)
theorem dX13_sign_17 : decode cX13_sign 17 = .ok (.goto 26, 3) := dk_167 0 26 (dk_at dksX13_sign_0 17 rfl rfl)
theorem dX13_sign_20 : decode cX13_sign 20 = .ok (.iload_n 2, 1) := dk_28 (dk_at dksX13_sign_0 20 rfl rfl)
theorem dX13_sign_21 : decode cX13_sign 21 = .ok (.bipush 40, 2) := dk_16 40 (dk_at dksX13_sign_0 21 rfl rfl)
theorem dX13_sign_23 : decode cX13_sign 23 = .ok (.if_icmp .ne 8, 3) := dk_160 0 8 (dk_at dksX13_sign_1 0 rfl rfl)
theorem dX13_sign_26 : decode cX13_sign 26 = .ok (.bipush 6, 2) := dk_16 6 (dk_at dksX13_sign_1 3 rfl rfl)
theorem dX13_sign_28 : decode cX13_sign 28 = .ok (.goto 15, 3) := dk_167 0 15 (dk_at dksX13_sign_1 5 rfl rfl)
theorem dX13_sign_31 : decode cX13_sign 31 = .ok (.iload_n 2, 1) := dk_28 (dk_at dksX13_sign_1 8 rfl rfl)
theorem dX13_sign_32 : decode cX13_sign 32 = .ok (.bipush 41, 2) := dk_16 41 (dk_at dksX13_sign_1 9 rfl rfl)
theorem dX13_sign_34 : decode cX13_sign 34 = .ok (.if_icmp .ne 8, 3) := dk_160 0 8 (dk_at dksX13_sign_1 11 rfl rfl)
theorem dX13_sign_37 : decode cX13_sign 37 = .ok (.bipush 7, 2) := dk_16 7 (dk_at dksX13_sign_1 14 rfl rfl)
theorem dX13_sign_39 : decode cX13_sign 39 = .ok (.goto 4, 3) := dk_167 0 4 (dk_at dksX13_sign_1 16 rfl rfl)
theorem dX13_sign_42 : decode cX13_sign 42 = .ok (.iconst 3, 1) := dk_6 (dk_at dksX13_sign_1 19 rfl rfl)
theorem dX13_sign_43 : decode cX13_sign 43 = .ok (.istore 4, 2) := dk_54 4 (dk_at dksX13_sign_1 20 rfl rfl)
theorem dX13_sign_45 : decode cX13_sign 45 = .ok (.iload_n 2, 1) := dk_28 (dk_at dksX13_sign_1 22 rfl rfl)
theorem dX13_sign_46 : decode cX13_sign 46 = .ok (.bipush 43, 2) := dk_16 43 (dk_at dksX13_sign_2 0 rfl rfl)
theorem dX13_sign_48 : decode cX13_sign 48 = .ok (.if_icmp .ne 7, 3) := dk_160 0 7 (dk_at dksX13_sign_2 2 rfl rfl)
theorem dX13_sign_51 : decode cX13_sign 51 = .ok (.bipush 8, 2) := dk_16 8 (dk_at dksX13_sign_2 5 rfl rfl)
theorem dX13_sign_53 : decode cX13_sign 53 = .ok (.istore 4, 2) := dk_54 4 (dk_at dksX13_sign_2 7 rfl rfl)
theorem dX13_sign_55 : decode cX13_sign 55 = .ok (.iload_n 2, 1) := dk_28 (dk_at dksX13_sign_2 9 rfl rfl)
theorem dX13_sign_56 : decode cX13_sign 56 = .ok (.bipush 45, 2) := dk_16 45 (dk_at dksX13_sign_2 10 rfl rfl)
theorem dX13_sign_58 : decode cX13_sign 58 = .ok (.if_icmp .ne 7, 3) := dk_160 0 7 (dk_at dksX13_sign_2 12 rfl rfl)
theorem dX13_sign_61 : decode cX13_sign 61 = .ok (.bipush 9, 2) := dk_16 9 (dk_at dksX13_sign_2 15 rfl rfl)
theorem dX13_sign_63 : decode cX13_sign 63 = .ok (.istore 4, 2) := dk_54 4 (dk_at dksX13_sign_2 17 rfl rfl)
theorem dX13_sign_65 : decode cX13_sign 65 = .ok (.iload_n 2, 1) := dk_28 (dk_at dksX13_sign_2 19 rfl rfl)
theorem dX13_sign_66 : decode cX13_sign 66 = .ok (.bipush 42, 2) := dk_16 42 (dk_at dksX13_sign_2 20 rfl rfl)
theorem dX13_sign_68 : decode cX13_sign 68 = .ok (.if_icmp .ne 7, 3) := dk_160 0 7 (dk_at dksX13_sign_3 0 rfl rfl)
theorem dX13_sign_71 : decode cX13_sign 71 = .ok (.bipush 10, 2) := dk_16 10 (dk_at dksX13_sign_3 3 rfl rfl)
theorem dX13_sign_73 : decode cX13_sign 73 = .ok (.istore 4, 2) := dk_54 4 (dk_at dksX13_sign_3 5 rfl rfl)
theorem dX13_sign_75 : decode cX13_sign 75 = .ok (.iload_n 2, 1) := dk_28 (dk_at dksX13_sign_3 7 rfl rfl)
theorem dX13_sign_76 : decode cX13_sign 76 = .ok (.bipush 47, 2) := dk_16 47 (dk_at dksX13_sign_3 8 rfl rfl)
theorem dX13_sign_78 : decode cX13_sign 78 = .ok (.if_icmp .ne 7, 3) := dk_160 0 7 (dk_at dksX13_sign_3 10 rfl rfl)
theorem dX13_sign_81 : decode cX13_sign 81 = .ok (.bipush 15, 2) := dk_16 15 (dk_at dksX13_sign_3 13 rfl rfl)
theorem dX13_sign_83 : decode cX13_sign 83 = .ok (.istore 4, 2) := dk_54 4 (dk_at dksX13_sign_3 15 rfl rfl)
theorem dX13_sign_85 : decode cX13_sign 85 = .ok (.iload_n 2, 1) := dk_28 (dk_at dksX13_sign_3 17 rfl rfl)
theorem dX13_sign_86 : decode cX13_sign 86 = .ok (.bipush 60, 2) := dk_16 60 (dk_at dksX13_sign_3 18 rfl rfl)
theorem dX13_sign_88 : decode cX13_sign 88 = .ok (.if_icmp .ne 7, 3) := dk_160 0 7 (dk_at dksX13_sign_3 20 rfl rfl)
theorem dX13_sign_91 : decode cX13_sign 91 = .ok (.bipush 13, 2) := dk_16 13 (dk_at dksX13_sign_4 0 rfl rfl)
theorem dX13_sign_93 : decode cX13_sign 93 = .ok (.istore 4, 2) := dk_54 4 (dk_at dksX13_sign_4 2 rfl rfl)
theorem dX13_sign_95 : decode cX13_sign 95 = .ok (.aload_n 0, 1) := dk_42 (dk_at dksX13_sign_4 4 rfl rfl)
theorem dX13_sign_96 : decode cX13_sign 96 = .ok (.iload 4, 2) := dk_21 4 (dk_at dksX13_sign_4 5 rfl rfl)
theorem dX13_sign_98 : decode cX13_sign 98 = .ok (.iload_n 1, 1) := dk_27 (dk_at dksX13_sign_4 7 rfl rfl)
theorem dX13_sign_99 : decode cX13_sign 99 = .ok (.iconst 0, 1) := dk_3 (dk_at dksX13_sign_4 8 rfl rfl)
theorem dX13_sign_100 : decode cX13_sign 100 = .ok (.lconst 0, 1) := dk_9 (dk_at dksX13_sign_4 9 rfl rfl)
theorem dX13_sign_101 : decode cX13_sign 101 = .ok (.invokevirtual 185, 3) := dk_182 0 185 (dk_at dksX13_sign_4 10 rfl rfl)
theorem dX13_sign_104 : decode cX13_sign 104 = .ok (.iconst 1, 1) := dk_4 (dk_at dksX13_sign_4 13 rfl rfl)
theorem dX13_sign_105 : decode cX13_sign 105 = .ok (.ireturn, 1) := dk_172 (dk_at dksX13_sign_4 14 rfl rfl)
abbrev cX13_is : ByteArray := prog_21_method_14_code
def yX13_is : MethodName := ⟨RX13, "is", "(I)Z"⟩
def dkwX13_is_1 : List UInt8 := [3, 172]
abbrev dktX13_is_1 : List UInt8 := dkwX13_is_1 ++ []
def dkwX13_is_0 : List UInt8 := [42, 180, 0, 200, 154, 0, 20, 42, 180, 0, 20, 42, 180, 0, 203, 46, 27, 160, 0, 7, 4, 167, 0, 4]
abbrev dktX13_is_0 : List UInt8 := dkwX13_is_0 ++ dktX13_is_1
theorem dksX13_is_0 : cX13_is.data.toList.drop 0 = dktX13_is_0 := by decide +kernel
theorem dksX13_is_1 : cX13_is.data.toList.drop 24 = dktX13_is_1 := dk_seg dksX13_is_0 24 rfl rfl
theorem dX13_is_0 : decode cX13_is 0 = .ok (.aload_n 0, 1) := dk_42 (dk_at dksX13_is_0 0 rfl rfl)
theorem dX13_is_1 : decode cX13_is 1 = .ok (.getfield 200, 3) := dk_180 0 200 (dk_at dksX13_is_0 1 rfl rfl)
theorem dX13_is_4 : decode cX13_is 4 = .ok (.ifCond .ne 20, 3) := dk_154 0 20 (dk_at dksX13_is_0 4 rfl rfl)
theorem dX13_is_7 : decode cX13_is 7 = .ok (.aload_n 0, 1) := dk_42 (dk_at dksX13_is_0 7 rfl rfl)
theorem dX13_is_8 : decode cX13_is 8 = .ok (.getfield 20, 3) := dk_180 0 20 (dk_at dksX13_is_0 8 rfl rfl)
theorem dX13_is_11 : decode cX13_is 11 = .ok (.aload_n 0, 1) := dk_42 (dk_at dksX13_is_0 11 rfl rfl)
theorem dX13_is_12 : decode cX13_is 12 = .ok (.getfield 203, 3) := dk_180 0 203 (dk_at dksX13_is_0 12 rfl rfl)
theorem dX13_is_15 : decode cX13_is 15 = .ok (.iaload, 1) := dk_46 (dk_at dksX13_is_0 15 rfl rfl)
theorem dX13_is_16 : decode cX13_is 16 = .ok (.iload_n 1, 1) := dk_27 (dk_at dksX13_is_0 16 rfl rfl)
theorem dX13_is_17 : decode cX13_is 17 = .ok (.if_icmp .ne 7, 3) := dk_160 0 7 (dk_at dksX13_is_0 17 rfl rfl)
theorem dX13_is_20 : decode cX13_is 20 = .ok (.iconst 1, 1) := dk_4 (dk_at dksX13_is_0 20 rfl rfl)
theorem dX13_is_21 : decode cX13_is 21 = .ok (.goto 4, 3) := dk_167 0 4 (dk_at dksX13_is_0 21 rfl rfl)
theorem dX13_is_24 : decode cX13_is 24 = .ok (.iconst 0, 1) := dk_3 (dk_at dksX13_is_1 0 rfl rfl)
theorem dX13_is_25 : decode cX13_is 25 = .ok (.ireturn, 1) := dk_172 (dk_at dksX13_is_1 1 rfl rfl)
abbrev cX13_tellOne : ByteArray := prog_21_method_25_code
def yX13_tellOne : MethodName := ⟨RX13, "tellOne", "()V"⟩
def dkwX13_tellOne_12 : List UInt8 := [27, 182, 1, 22, 177]
abbrev dktX13_tellOne_12 : List UInt8 := dkwX13_tellOne_12 ++ []
def dkwX13_tellOne_11 : List UInt8 := [46, 16, 25, 164, 0, 8, 42, 4, 182, 0, 215, 42, 180, 0, 200, 158, 0, 4, 177, 42, 182, 0, 221, 42]
abbrev dktX13_tellOne_11 : List UInt8 := dkwX13_tellOne_11 ++ dktX13_tellOne_12
def dkwX13_tellOne_10 : List UInt8 := [180, 0, 20, 42, 180, 0, 203, 46, 16, 22, 100, 60, 27, 155, 0, 17, 42, 180, 0, 20, 42, 180, 0, 203]
abbrev dktX13_tellOne_10 : List UInt8 := dkwX13_tellOne_10 ++ dktX13_tellOne_11
def dkwX13_tellOne_9 : List UInt8 := [167, 0, 76, 42, 180, 0, 68, 42, 180, 0, 233, 42, 3, 17, 39, 15, 182, 1, 19, 79, 167, 0, 56, 42]
abbrev dktX13_tellOne_9 : List UInt8 := dkwX13_tellOne_9 ++ dktX13_tellOne_10
def dkwX13_tellOne_8 : List UInt8 := [182, 1, 19, 79, 167, 0, 95, 42, 180, 0, 65, 42, 180, 0, 233, 42, 3, 16, 23, 182, 1, 19, 79]
abbrev dktX13_tellOne_8 : List UInt8 := dkwX13_tellOne_8 ++ dktX13_tellOne_9
def dkwX13_tellOne_7 : List UInt8 := [180, 0, 233, 104, 27, 96, 4, 84, 167, 0, 113, 42, 180, 0, 62, 42, 180, 0, 233, 42, 3, 4]
abbrev dktX13_tellOne_7 : List UInt8 := dkwX13_tellOne_7 ++ dktX13_tellOne_8
def dkwX13_tellOne_6 : List UInt8 := [42, 180, 0, 52, 16, 9, 42, 180, 0, 233, 104, 27, 96, 28, 79, 42, 180, 0, 58, 16, 9, 42]
abbrev dktX13_tellOne_6 : List UInt8 := dkwX13_tellOne_6 ++ dktX13_tellOne_7
def dkwX13_tellOne_5 : List UInt8 := [7, 182, 1, 10, 42, 180, 0, 55, 42, 180, 0, 233, 92, 46, 4, 96, 79, 27, 16, 8, 164, 0, 4, 177]
abbrev dktX13_tellOne_5 : List UInt8 := dkwX13_tellOne_5 ++ dktX13_tellOne_6
def dkwX13_tellOne_4 : List UInt8 := [180, 0, 200, 158, 0, 4, 177, 42, 3, 16, 8, 182, 1, 6, 60, 42, 3, 16, 99, 182, 1, 6, 61, 42]
abbrev dktX13_tellOne_4 : List UInt8 := dkwX13_tellOne_4 ++ dktX13_tellOne_5
def dkwX13_tellOne_3 : List UInt8 := [182, 1, 16, 167, 0, 210, 42, 42, 180, 0, 55, 42, 180, 0, 233, 46, 16, 9, 182, 1, 13, 42]
abbrev dktX13_tellOne_3 : List UInt8 := dkwX13_tellOne_3 ++ dktX13_tellOne_4
def dkwX13_tellOne_2 : List UInt8 := [42, 42, 180, 0, 43, 42, 180, 0, 233, 46, 16, 9, 182, 1, 13, 42, 180, 0, 200, 154, 0, 217, 42]
abbrev dktX13_tellOne_2 : List UInt8 := dkwX13_tellOne_2 ++ dktX13_tellOne_3
def dkwX13_tellOne_1 : List UInt8 := [170, 0, 0, 0, 0, 0, 234, 0, 0, 0, 20, 0, 0, 0, 28, 0, 0, 0, 51, 0, 0, 0, 80, 0, 0, 0, 234, 0, 0, 0, 234, 0, 0, 0, 234, 0, 0, 0, 234, 0, 0, 0, 177, 0, 0, 0, 195, 0, 0, 0, 214]
abbrev dktX13_tellOne_1 : List UInt8 := dkwX13_tellOne_1 ++ dktX13_tellOne_2
def dkwX13_tellOne_0 : List UInt8 := [42, 180, 0, 20, 42, 180, 0, 203, 46]
abbrev dktX13_tellOne_0 : List UInt8 := dkwX13_tellOne_0 ++ dktX13_tellOne_1
theorem dksX13_tellOne_0 : cX13_tellOne.data.toList.drop 0 = dktX13_tellOne_0 := by decide +kernel
theorem dksX13_tellOne_1 : cX13_tellOne.data.toList.drop 9 = dktX13_tellOne_1 := dk_seg dksX13_tellOne_0 9 rfl rfl
theorem dksX13_tellOne_2 : cX13_tellOne.data.toList.drop 60 = dktX13_tellOne_2 := dk_seg dksX13_tellOne_1 51 rfl rfl
theorem dksX13_tellOne_3 : cX13_tellOne.data.toList.drop 83 = dktX13_tellOne_3 := dk_seg dksX13_tellOne_2 23 rfl rfl
theorem dksX13_tellOne_4 : cX13_tellOne.data.toList.drop 105 = dktX13_tellOne_4 := dk_seg dksX13_tellOne_3 22 rfl rfl
theorem dksX13_tellOne_5 : cX13_tellOne.data.toList.drop 129 = dktX13_tellOne_5 := dk_seg dksX13_tellOne_4 24 rfl rfl
theorem dksX13_tellOne_6 : cX13_tellOne.data.toList.drop 153 = dktX13_tellOne_6 := dk_seg dksX13_tellOne_5 24 rfl rfl
theorem dksX13_tellOne_7 : cX13_tellOne.data.toList.drop 175 = dktX13_tellOne_7 := dk_seg dksX13_tellOne_6 22 rfl rfl
theorem dksX13_tellOne_8 : cX13_tellOne.data.toList.drop 197 = dktX13_tellOne_8 := dk_seg dksX13_tellOne_7 22 rfl rfl
theorem dksX13_tellOne_9 : cX13_tellOne.data.toList.drop 220 = dktX13_tellOne_9 := dk_seg dksX13_tellOne_8 23 rfl rfl
theorem dksX13_tellOne_10 : cX13_tellOne.data.toList.drop 244 = dktX13_tellOne_10 := dk_seg dksX13_tellOne_9 24 rfl rfl
theorem dksX13_tellOne_11 : cX13_tellOne.data.toList.drop 268 = dktX13_tellOne_11 := dk_seg dksX13_tellOne_10 24 rfl rfl
theorem dksX13_tellOne_12 : cX13_tellOne.data.toList.drop 292 = dktX13_tellOne_12 := dk_seg dksX13_tellOne_11 24 rfl rfl
theorem dX13_tellOne_0 : decode cX13_tellOne 0 = .ok (.aload_n 0, 1) := dk_42 (dk_at dksX13_tellOne_0 0 rfl rfl)
theorem dX13_tellOne_1 : decode cX13_tellOne 1 = .ok (.getfield 20, 3) := dk_180 0 20 (dk_at dksX13_tellOne_0 1 rfl rfl)
theorem dX13_tellOne_4 : decode cX13_tellOne 4 = .ok (.aload_n 0, 1) := dk_42 (dk_at dksX13_tellOne_0 4 rfl rfl)
theorem dX13_tellOne_5 : decode cX13_tellOne 5 = .ok (.getfield 203, 3) := dk_180 0 203 (dk_at dksX13_tellOne_0 5 rfl rfl)
theorem dX13_tellOne_8 : decode cX13_tellOne 8 = .ok (.iaload, 1) := dk_46 (dk_at dksX13_tellOne_0 8 rfl rfl)
theorem dX13_tellOne_9 : decode cX13_tellOne 9 = .ok (.tableswitch 234 20 28 #[51, 80, 234, 234, 234, 234, 177, 195, 214], 51) := by decide +kernel
theorem dX13_tellOne_60 : decode cX13_tellOne 60 = .ok (.aload_n 0, 1) := dk_42 (dk_at dksX13_tellOne_2 0 rfl rfl)
theorem dX13_tellOne_61 : decode cX13_tellOne 61 = .ok (.aload_n 0, 1) := dk_42 (dk_at dksX13_tellOne_2 1 rfl rfl)
theorem dX13_tellOne_62 : decode cX13_tellOne 62 = .ok (.getfield 43, 3) := dk_180 0 43 (dk_at dksX13_tellOne_2 2 rfl rfl)
theorem dX13_tellOne_65 : decode cX13_tellOne 65 = .ok (.aload_n 0, 1) := dk_42 (dk_at dksX13_tellOne_2 5 rfl rfl)
theorem dX13_tellOne_66 : decode cX13_tellOne 66 = .ok (.getfield 233, 3) := dk_180 0 233 (dk_at dksX13_tellOne_2 6 rfl rfl)
theorem dX13_tellOne_69 : decode cX13_tellOne 69 = .ok (.iaload, 1) := dk_46 (dk_at dksX13_tellOne_2 9 rfl rfl)
theorem dX13_tellOne_70 : decode cX13_tellOne 70 = .ok (.bipush 9, 2) := dk_16 9 (dk_at dksX13_tellOne_2 10 rfl rfl)
theorem dX13_tellOne_72 : decode cX13_tellOne 72 = .ok (.invokevirtual 269, 3) := dk_182 1 13 (dk_at dksX13_tellOne_2 12 rfl rfl)
theorem dX13_tellOne_75 : decode cX13_tellOne 75 = .ok (.aload_n 0, 1) := dk_42 (dk_at dksX13_tellOne_2 15 rfl rfl)
theorem dX13_tellOne_76 : decode cX13_tellOne 76 = .ok (.getfield 200, 3) := dk_180 0 200 (dk_at dksX13_tellOne_2 16 rfl rfl)
theorem dX13_tellOne_79 : decode cX13_tellOne 79 = .ok (.ifCond .ne 217, 3) := dk_154 0 217 (dk_at dksX13_tellOne_2 19 rfl rfl)
theorem dX13_tellOne_82 : decode cX13_tellOne 82 = .ok (.aload_n 0, 1) := dk_42 (dk_at dksX13_tellOne_2 22 rfl rfl)
theorem dX13_tellOne_83 : decode cX13_tellOne 83 = .ok (.invokevirtual 272, 3) := dk_182 1 16 (dk_at dksX13_tellOne_3 0 rfl rfl)
theorem dX13_tellOne_86 : decode cX13_tellOne 86 = .ok (.goto 210, 3) := dk_167 0 210 (dk_at dksX13_tellOne_3 3 rfl rfl)
theorem dX13_tellOne_89 : decode cX13_tellOne 89 = .ok (.aload_n 0, 1) := dk_42 (dk_at dksX13_tellOne_3 6 rfl rfl)
theorem dX13_tellOne_90 : decode cX13_tellOne 90 = .ok (.aload_n 0, 1) := dk_42 (dk_at dksX13_tellOne_3 7 rfl rfl)
theorem dX13_tellOne_91 : decode cX13_tellOne 91 = .ok (.getfield 55, 3) := dk_180 0 55 (dk_at dksX13_tellOne_3 8 rfl rfl)
theorem dX13_tellOne_94 : decode cX13_tellOne 94 = .ok (.aload_n 0, 1) := dk_42 (dk_at dksX13_tellOne_3 11 rfl rfl)
theorem dX13_tellOne_95 : decode cX13_tellOne 95 = .ok (.getfield 233, 3) := dk_180 0 233 (dk_at dksX13_tellOne_3 12 rfl rfl)
theorem dX13_tellOne_98 : decode cX13_tellOne 98 = .ok (.iaload, 1) := dk_46 (dk_at dksX13_tellOne_3 15 rfl rfl)
theorem dX13_tellOne_99 : decode cX13_tellOne 99 = .ok (.bipush 9, 2) := dk_16 9 (dk_at dksX13_tellOne_3 16 rfl rfl)
theorem dX13_tellOne_101 : decode cX13_tellOne 101 = .ok (.invokevirtual 269, 3) := dk_182 1 13 (dk_at dksX13_tellOne_3 18 rfl rfl)
theorem dX13_tellOne_104 : decode cX13_tellOne 104 = .ok (.aload_n 0, 1) := dk_42 (dk_at dksX13_tellOne_3 21 rfl rfl)
theorem dX13_tellOne_105 : decode cX13_tellOne 105 = .ok (.getfield 200, 3) := dk_180 0 200 (dk_at dksX13_tellOne_4 0 rfl rfl)
theorem dX13_tellOne_108 : decode cX13_tellOne 108 = .ok (.ifCond .le 4, 3) := dk_158 0 4 (dk_at dksX13_tellOne_4 3 rfl rfl)
theorem dX13_tellOne_111 : decode cX13_tellOne 111 = .ok (.return_, 1) := dk_177 (dk_at dksX13_tellOne_4 6 rfl rfl)
theorem dX13_tellOne_112 : decode cX13_tellOne 112 = .ok (.aload_n 0, 1) := dk_42 (dk_at dksX13_tellOne_4 7 rfl rfl)
theorem dX13_tellOne_113 : decode cX13_tellOne 113 = .ok (.iconst 0, 1) := dk_3 (dk_at dksX13_tellOne_4 8 rfl rfl)
theorem dX13_tellOne_114 : decode cX13_tellOne 114 = .ok (.bipush 8, 2) := dk_16 8 (dk_at dksX13_tellOne_4 9 rfl rfl)
theorem dX13_tellOne_116 : decode cX13_tellOne 116 = .ok (.invokevirtual 262, 3) := dk_182 1 6 (dk_at dksX13_tellOne_4 11 rfl rfl)
theorem dX13_tellOne_119 : decode cX13_tellOne 119 = .ok (.istore_n 1, 1) := dk_60 (dk_at dksX13_tellOne_4 14 rfl rfl)
theorem dX13_tellOne_120 : decode cX13_tellOne 120 = .ok (.aload_n 0, 1) := dk_42 (dk_at dksX13_tellOne_4 15 rfl rfl)
theorem dX13_tellOne_121 : decode cX13_tellOne 121 = .ok (.iconst 0, 1) := dk_3 (dk_at dksX13_tellOne_4 16 rfl rfl)
theorem dX13_tellOne_122 : decode cX13_tellOne 122 = .ok (.bipush 99, 2) := dk_16 99 (dk_at dksX13_tellOne_4 17 rfl rfl)
theorem dX13_tellOne_124 : decode cX13_tellOne 124 = .ok (.invokevirtual 262, 3) := dk_182 1 6 (dk_at dksX13_tellOne_4 19 rfl rfl)
theorem dX13_tellOne_127 : decode cX13_tellOne 127 = .ok (.istore_n 2, 1) := dk_61 (dk_at dksX13_tellOne_4 22 rfl rfl)
theorem dX13_tellOne_128 : decode cX13_tellOne 128 = .ok (.aload_n 0, 1) := dk_42 (dk_at dksX13_tellOne_4 23 rfl rfl)
theorem dX13_tellOne_129 : decode cX13_tellOne 129 = .ok (.iconst 4, 1) := dk_7 (dk_at dksX13_tellOne_5 0 rfl rfl)
theorem dX13_tellOne_130 : decode cX13_tellOne 130 = .ok (.invokevirtual 266, 3) := dk_182 1 10 (dk_at dksX13_tellOne_5 1 rfl rfl)
theorem dX13_tellOne_133 : decode cX13_tellOne 133 = .ok (.aload_n 0, 1) := dk_42 (dk_at dksX13_tellOne_5 4 rfl rfl)
theorem dX13_tellOne_134 : decode cX13_tellOne 134 = .ok (.getfield 55, 3) := dk_180 0 55 (dk_at dksX13_tellOne_5 5 rfl rfl)
theorem dX13_tellOne_137 : decode cX13_tellOne 137 = .ok (.aload_n 0, 1) := dk_42 (dk_at dksX13_tellOne_5 8 rfl rfl)
theorem dX13_tellOne_138 : decode cX13_tellOne 138 = .ok (.getfield 233, 3) := dk_180 0 233 (dk_at dksX13_tellOne_5 9 rfl rfl)
theorem dX13_tellOne_141 : decode cX13_tellOne 141 = .ok (.dup2, 1) := dk_92 (dk_at dksX13_tellOne_5 12 rfl rfl)
theorem dX13_tellOne_142 : decode cX13_tellOne 142 = .ok (.iaload, 1) := dk_46 (dk_at dksX13_tellOne_5 13 rfl rfl)
theorem dX13_tellOne_143 : decode cX13_tellOne 143 = .ok (.iconst 1, 1) := dk_4 (dk_at dksX13_tellOne_5 14 rfl rfl)
theorem dX13_tellOne_144 : decode cX13_tellOne 144 = .ok (.iadd, 1) := dk_96 (dk_at dksX13_tellOne_5 15 rfl rfl)
theorem dX13_tellOne_145 : decode cX13_tellOne 145 = .ok (.iastore, 1) := dk_79 (dk_at dksX13_tellOne_5 16 rfl rfl)
theorem dX13_tellOne_146 : decode cX13_tellOne 146 = .ok (.iload_n 1, 1) := dk_27 (dk_at dksX13_tellOne_5 17 rfl rfl)
theorem dX13_tellOne_147 : decode cX13_tellOne 147 = .ok (.bipush 8, 2) := dk_16 8 (dk_at dksX13_tellOne_5 18 rfl rfl)
theorem dX13_tellOne_149 : decode cX13_tellOne 149 = .ok (.if_icmp .le 4, 3) := dk_164 0 4 (dk_at dksX13_tellOne_5 20 rfl rfl)
theorem dX13_tellOne_152 : decode cX13_tellOne 152 = .ok (.return_, 1) := dk_177 (dk_at dksX13_tellOne_5 23 rfl rfl)
theorem dX13_tellOne_153 : decode cX13_tellOne 153 = .ok (.aload_n 0, 1) := dk_42 (dk_at dksX13_tellOne_6 0 rfl rfl)
theorem dX13_tellOne_154 : decode cX13_tellOne 154 = .ok (.getfield 52, 3) := dk_180 0 52 (dk_at dksX13_tellOne_6 1 rfl rfl)
theorem dX13_tellOne_157 : decode cX13_tellOne 157 = .ok (.bipush 9, 2) := dk_16 9 (dk_at dksX13_tellOne_6 4 rfl rfl)
theorem dX13_tellOne_159 : decode cX13_tellOne 159 = .ok (.aload_n 0, 1) := dk_42 (dk_at dksX13_tellOne_6 6 rfl rfl)
theorem dX13_tellOne_160 : decode cX13_tellOne 160 = .ok (.getfield 233, 3) := dk_180 0 233 (dk_at dksX13_tellOne_6 7 rfl rfl)
theorem dX13_tellOne_163 : decode cX13_tellOne 163 = .ok (.imul, 1) := dk_104 (dk_at dksX13_tellOne_6 10 rfl rfl)
theorem dX13_tellOne_164 : decode cX13_tellOne 164 = .ok (.iload_n 1, 1) := dk_27 (dk_at dksX13_tellOne_6 11 rfl rfl)
theorem dX13_tellOne_165 : decode cX13_tellOne 165 = .ok (.iadd, 1) := dk_96 (dk_at dksX13_tellOne_6 12 rfl rfl)
theorem dX13_tellOne_166 : decode cX13_tellOne 166 = .ok (.iload_n 2, 1) := dk_28 (dk_at dksX13_tellOne_6 13 rfl rfl)
theorem dX13_tellOne_167 : decode cX13_tellOne 167 = .ok (.iastore, 1) := dk_79 (dk_at dksX13_tellOne_6 14 rfl rfl)
theorem dX13_tellOne_168 : decode cX13_tellOne 168 = .ok (.aload_n 0, 1) := dk_42 (dk_at dksX13_tellOne_6 15 rfl rfl)
theorem dX13_tellOne_169 : decode cX13_tellOne 169 = .ok (.getfield 58, 3) := dk_180 0 58 (dk_at dksX13_tellOne_6 16 rfl rfl)
theorem dX13_tellOne_172 : decode cX13_tellOne 172 = .ok (.bipush 9, 2) := dk_16 9 (dk_at dksX13_tellOne_6 19 rfl rfl)
theorem dX13_tellOne_174 : decode cX13_tellOne 174 = .ok (.aload_n 0, 1) := dk_42 (dk_at dksX13_tellOne_6 21 rfl rfl)
theorem dX13_tellOne_175 : decode cX13_tellOne 175 = .ok (.getfield 233, 3) := dk_180 0 233 (dk_at dksX13_tellOne_7 0 rfl rfl)
theorem dX13_tellOne_178 : decode cX13_tellOne 178 = .ok (.imul, 1) := dk_104 (dk_at dksX13_tellOne_7 3 rfl rfl)
theorem dX13_tellOne_179 : decode cX13_tellOne 179 = .ok (.iload_n 1, 1) := dk_27 (dk_at dksX13_tellOne_7 4 rfl rfl)
theorem dX13_tellOne_180 : decode cX13_tellOne 180 = .ok (.iadd, 1) := dk_96 (dk_at dksX13_tellOne_7 5 rfl rfl)
theorem dX13_tellOne_181 : decode cX13_tellOne 181 = .ok (.iconst 1, 1) := dk_4 (dk_at dksX13_tellOne_7 6 rfl rfl)
theorem dX13_tellOne_182 : decode cX13_tellOne 182 = .ok (.bastore, 1) := dk_84 (dk_at dksX13_tellOne_7 7 rfl rfl)
theorem dX13_tellOne_183 : decode cX13_tellOne 183 = .ok (.goto 113, 3) := dk_167 0 113 (dk_at dksX13_tellOne_7 8 rfl rfl)
theorem dX13_tellOne_186 : decode cX13_tellOne 186 = .ok (.aload_n 0, 1) := dk_42 (dk_at dksX13_tellOne_7 11 rfl rfl)
theorem dX13_tellOne_187 : decode cX13_tellOne 187 = .ok (.getfield 62, 3) := dk_180 0 62 (dk_at dksX13_tellOne_7 12 rfl rfl)
theorem dX13_tellOne_190 : decode cX13_tellOne 190 = .ok (.aload_n 0, 1) := dk_42 (dk_at dksX13_tellOne_7 15 rfl rfl)
theorem dX13_tellOne_191 : decode cX13_tellOne 191 = .ok (.getfield 233, 3) := dk_180 0 233 (dk_at dksX13_tellOne_7 16 rfl rfl)
theorem dX13_tellOne_194 : decode cX13_tellOne 194 = .ok (.aload_n 0, 1) := dk_42 (dk_at dksX13_tellOne_7 19 rfl rfl)
theorem dX13_tellOne_195 : decode cX13_tellOne 195 = .ok (.iconst 0, 1) := dk_3 (dk_at dksX13_tellOne_7 20 rfl rfl)
theorem dX13_tellOne_196 : decode cX13_tellOne 196 = .ok (.iconst 1, 1) := dk_4 (dk_at dksX13_tellOne_7 21 rfl rfl)
theorem dX13_tellOne_197 : decode cX13_tellOne 197 = .ok (.invokevirtual 275, 3) := dk_182 1 19 (dk_at dksX13_tellOne_8 0 rfl rfl)
theorem dX13_tellOne_200 : decode cX13_tellOne 200 = .ok (.iastore, 1) := dk_79 (dk_at dksX13_tellOne_8 3 rfl rfl)
theorem dX13_tellOne_201 : decode cX13_tellOne 201 = .ok (.goto 95, 3) := dk_167 0 95 (dk_at dksX13_tellOne_8 4 rfl rfl)
theorem dX13_tellOne_204 : decode cX13_tellOne 204 = .ok (.aload_n 0, 1) := dk_42 (dk_at dksX13_tellOne_8 7 rfl rfl)
theorem dX13_tellOne_205 : decode cX13_tellOne 205 = .ok (.getfield 65, 3) := dk_180 0 65 (dk_at dksX13_tellOne_8 8 rfl rfl)
theorem dX13_tellOne_208 : decode cX13_tellOne 208 = .ok (.aload_n 0, 1) := dk_42 (dk_at dksX13_tellOne_8 11 rfl rfl)
theorem dX13_tellOne_209 : decode cX13_tellOne 209 = .ok (.getfield 233, 3) := dk_180 0 233 (dk_at dksX13_tellOne_8 12 rfl rfl)
theorem dX13_tellOne_212 : decode cX13_tellOne 212 = .ok (.aload_n 0, 1) := dk_42 (dk_at dksX13_tellOne_8 15 rfl rfl)
theorem dX13_tellOne_213 : decode cX13_tellOne 213 = .ok (.iconst 0, 1) := dk_3 (dk_at dksX13_tellOne_8 16 rfl rfl)
theorem dX13_tellOne_214 : decode cX13_tellOne 214 = .ok (.bipush 23, 2) := dk_16 23 (dk_at dksX13_tellOne_8 17 rfl rfl)
theorem dX13_tellOne_216 : decode cX13_tellOne 216 = .ok (.invokevirtual 275, 3) := dk_182 1 19 (dk_at dksX13_tellOne_8 19 rfl rfl)
theorem dX13_tellOne_219 : decode cX13_tellOne 219 = .ok (.iastore, 1) := dk_79 (dk_at dksX13_tellOne_8 22 rfl rfl)
theorem dX13_tellOne_220 : decode cX13_tellOne 220 = .ok (.goto 76, 3) := dk_167 0 76 (dk_at dksX13_tellOne_9 0 rfl rfl)
theorem dX13_tellOne_223 : decode cX13_tellOne 223 = .ok (.aload_n 0, 1) := dk_42 (dk_at dksX13_tellOne_9 3 rfl rfl)
theorem dX13_tellOne_224 : decode cX13_tellOne 224 = .ok (.getfield 68, 3) := dk_180 0 68 (dk_at dksX13_tellOne_9 4 rfl rfl)
theorem dX13_tellOne_227 : decode cX13_tellOne 227 = .ok (.aload_n 0, 1) := dk_42 (dk_at dksX13_tellOne_9 7 rfl rfl)
theorem dX13_tellOne_228 : decode cX13_tellOne 228 = .ok (.getfield 233, 3) := dk_180 0 233 (dk_at dksX13_tellOne_9 8 rfl rfl)
theorem dX13_tellOne_231 : decode cX13_tellOne 231 = .ok (.aload_n 0, 1) := dk_42 (dk_at dksX13_tellOne_9 11 rfl rfl)
theorem dX13_tellOne_232 : decode cX13_tellOne 232 = .ok (.iconst 0, 1) := dk_3 (dk_at dksX13_tellOne_9 12 rfl rfl)
theorem dX13_tellOne_233 : decode cX13_tellOne 233 = .ok (.sipush 9999, 3) := dk_17 39 15 (dk_at dksX13_tellOne_9 13 rfl rfl)
theorem dX13_tellOne_236 : decode cX13_tellOne 236 = .ok (.invokevirtual 275, 3) := dk_182 1 19 (dk_at dksX13_tellOne_9 16 rfl rfl)
theorem dX13_tellOne_239 : decode cX13_tellOne 239 = .ok (.iastore, 1) := dk_79 (dk_at dksX13_tellOne_9 19 rfl rfl)
theorem dX13_tellOne_240 : decode cX13_tellOne 240 = .ok (.goto 56, 3) := dk_167 0 56 (dk_at dksX13_tellOne_9 20 rfl rfl)
theorem dX13_tellOne_243 : decode cX13_tellOne 243 = .ok (.aload_n 0, 1) := dk_42 (dk_at dksX13_tellOne_9 23 rfl rfl)
theorem dX13_tellOne_244 : decode cX13_tellOne 244 = .ok (.getfield 20, 3) := dk_180 0 20 (dk_at dksX13_tellOne_10 0 rfl rfl)
theorem dX13_tellOne_247 : decode cX13_tellOne 247 = .ok (.aload_n 0, 1) := dk_42 (dk_at dksX13_tellOne_10 3 rfl rfl)
theorem dX13_tellOne_248 : decode cX13_tellOne 248 = .ok (.getfield 203, 3) := dk_180 0 203 (dk_at dksX13_tellOne_10 4 rfl rfl)
theorem dX13_tellOne_251 : decode cX13_tellOne 251 = .ok (.iaload, 1) := dk_46 (dk_at dksX13_tellOne_10 7 rfl rfl)
theorem dX13_tellOne_252 : decode cX13_tellOne 252 = .ok (.bipush 22, 2) := dk_16 22 (dk_at dksX13_tellOne_10 8 rfl rfl)
theorem dX13_tellOne_254 : decode cX13_tellOne 254 = .ok (.isub, 1) := dk_100 (dk_at dksX13_tellOne_10 10 rfl rfl)
theorem dX13_tellOne_255 : decode cX13_tellOne 255 = .ok (.istore_n 1, 1) := dk_60 (dk_at dksX13_tellOne_10 11 rfl rfl)
theorem dX13_tellOne_256 : decode cX13_tellOne 256 = .ok (.iload_n 1, 1) := dk_27 (dk_at dksX13_tellOne_10 12 rfl rfl)
theorem dX13_tellOne_257 : decode cX13_tellOne 257 = .ok (.ifCond .lt 17, 3) := dk_155 0 17 (dk_at dksX13_tellOne_10 13 rfl rfl)
theorem dX13_tellOne_260 : decode cX13_tellOne 260 = .ok (.aload_n 0, 1) := dk_42 (dk_at dksX13_tellOne_10 16 rfl rfl)
theorem dX13_tellOne_261 : decode cX13_tellOne 261 = .ok (.getfield 20, 3) := dk_180 0 20 (dk_at dksX13_tellOne_10 17 rfl rfl)
theorem dX13_tellOne_264 : decode cX13_tellOne 264 = .ok (.aload_n 0, 1) := dk_42 (dk_at dksX13_tellOne_10 20 rfl rfl)
theorem dX13_tellOne_265 : decode cX13_tellOne 265 = .ok (.getfield 203, 3) := dk_180 0 203 (dk_at dksX13_tellOne_10 21 rfl rfl)
theorem dX13_tellOne_268 : decode cX13_tellOne 268 = .ok (.iaload, 1) := dk_46 (dk_at dksX13_tellOne_11 0 rfl rfl)
theorem dX13_tellOne_269 : decode cX13_tellOne 269 = .ok (.bipush 25, 2) := dk_16 25 (dk_at dksX13_tellOne_11 1 rfl rfl)
theorem dX13_tellOne_271 : decode cX13_tellOne 271 = .ok (.if_icmp .le 8, 3) := dk_164 0 8 (dk_at dksX13_tellOne_11 3 rfl rfl)
theorem dX13_tellOne_274 : decode cX13_tellOne 274 = .ok (.aload_n 0, 1) := dk_42 (dk_at dksX13_tellOne_11 6 rfl rfl)
theorem dX13_tellOne_275 : decode cX13_tellOne 275 = .ok (.iconst 1, 1) := dk_4 (dk_at dksX13_tellOne_11 7 rfl rfl)
theorem dX13_tellOne_276 : decode cX13_tellOne 276 = .ok (.invokevirtual 215, 3) := dk_182 0 215 (dk_at dksX13_tellOne_11 8 rfl rfl)
theorem dX13_tellOne_279 : decode cX13_tellOne 279 = .ok (.aload_n 0, 1) := dk_42 (dk_at dksX13_tellOne_11 11 rfl rfl)
theorem dX13_tellOne_280 : decode cX13_tellOne 280 = .ok (.getfield 200, 3) := dk_180 0 200 (dk_at dksX13_tellOne_11 12 rfl rfl)
theorem dX13_tellOne_283 : decode cX13_tellOne 283 = .ok (.ifCond .le 4, 3) := dk_158 0 4 (dk_at dksX13_tellOne_11 15 rfl rfl)
theorem dX13_tellOne_286 : decode cX13_tellOne 286 = .ok (.return_, 1) := dk_177 (dk_at dksX13_tellOne_11 18 rfl rfl)
theorem dX13_tellOne_287 : decode cX13_tellOne 287 = .ok (.aload_n 0, 1) := dk_42 (dk_at dksX13_tellOne_11 19 rfl rfl)
theorem dX13_tellOne_288 : decode cX13_tellOne 288 = .ok (.invokevirtual 221, 3) := dk_182 0 221 (dk_at dksX13_tellOne_11 20 rfl rfl)
theorem dX13_tellOne_291 : decode cX13_tellOne 291 = .ok (.aload_n 0, 1) := dk_42 (dk_at dksX13_tellOne_11 23 rfl rfl)
theorem dX13_tellOne_292 : decode cX13_tellOne 292 = .ok (.iload_n 1, 1) := dk_27 (dk_at dksX13_tellOne_12 0 rfl rfl)
theorem dX13_tellOne_293 : decode cX13_tellOne 293 = .ok (.invokevirtual 278, 3) := dk_182 1 22 (dk_at dksX13_tellOne_12 1 rfl rfl)
theorem dX13_tellOne_296 : decode cX13_tellOne 296 = .ok (.return_, 1) := dk_177 (dk_at dksX13_tellOne_12 4 rfl rfl)
abbrev cX13_roomFor : ByteArray := prog_21_method_23_code
def yX13_roomFor : MethodName := ⟨RX13, "roomFor", "(II)V"⟩
def dkwX13_roomFor_0 : List UInt8 := [27, 28, 160, 0, 8, 42, 5, 182, 0, 215, 42, 180, 0, 200, 154, 0, 7, 42, 182, 0, 221, 177]
abbrev dktX13_roomFor_0 : List UInt8 := dkwX13_roomFor_0 ++ []
theorem dksX13_roomFor_0 : cX13_roomFor.data.toList.drop 0 = dktX13_roomFor_0 := by decide +kernel
theorem dX13_roomFor_0 : decode cX13_roomFor 0 = .ok (.iload_n 1, 1) := dk_27 (dk_at dksX13_roomFor_0 0 rfl rfl)
theorem dX13_roomFor_1 : decode cX13_roomFor 1 = .ok (.iload_n 2, 1) := dk_28 (dk_at dksX13_roomFor_0 1 rfl rfl)
theorem dX13_roomFor_2 : decode cX13_roomFor 2 = .ok (.if_icmp .ne 8, 3) := dk_160 0 8 (dk_at dksX13_roomFor_0 2 rfl rfl)
theorem dX13_roomFor_5 : decode cX13_roomFor 5 = .ok (.aload_n 0, 1) := dk_42 (dk_at dksX13_roomFor_0 5 rfl rfl)
theorem dX13_roomFor_6 : decode cX13_roomFor 6 = .ok (.iconst 2, 1) := dk_5 (dk_at dksX13_roomFor_0 6 rfl rfl)
theorem dX13_roomFor_7 : decode cX13_roomFor 7 = .ok (.invokevirtual 215, 3) := dk_182 0 215 (dk_at dksX13_roomFor_0 7 rfl rfl)
theorem dX13_roomFor_10 : decode cX13_roomFor 10 = .ok (.aload_n 0, 1) := dk_42 (dk_at dksX13_roomFor_0 10 rfl rfl)
theorem dX13_roomFor_11 : decode cX13_roomFor 11 = .ok (.getfield 200, 3) := dk_180 0 200 (dk_at dksX13_roomFor_0 11 rfl rfl)
theorem dX13_roomFor_14 : decode cX13_roomFor 14 = .ok (.ifCond .ne 7, 3) := dk_154 0 7 (dk_at dksX13_roomFor_0 14 rfl rfl)
theorem dX13_roomFor_17 : decode cX13_roomFor 17 = .ok (.aload_n 0, 1) := dk_42 (dk_at dksX13_roomFor_0 17 rfl rfl)
theorem dX13_roomFor_18 : decode cX13_roomFor 18 = .ok (.invokevirtual 221, 3) := dk_182 0 221 (dk_at dksX13_roomFor_0 18 rfl rfl)
theorem dX13_roomFor_21 : decode cX13_roomFor 21 = .ok (.return_, 1) := dk_177 (dk_at dksX13_roomFor_0 21 rfl rfl)
abbrev cX13_fail : ByteArray := prog_21_method_15_code
def yX13_fail : MethodName := ⟨RX13, "fail", "(I)V"⟩
def dkwX13_fail_1 : List UInt8 := [181, 0, 206, 177]
abbrev dktX13_fail_1 : List UInt8 := dkwX13_fail_1 ++ []
def dkwX13_fail_0 : List UInt8 := [42, 180, 0, 200, 158, 0, 4, 177, 42, 27, 181, 0, 200, 42, 42, 180, 0, 24, 42, 180, 0, 203, 46]
abbrev dktX13_fail_0 : List UInt8 := dkwX13_fail_0 ++ dktX13_fail_1
theorem dksX13_fail_0 : cX13_fail.data.toList.drop 0 = dktX13_fail_0 := by decide +kernel
theorem dksX13_fail_1 : cX13_fail.data.toList.drop 23 = dktX13_fail_1 := dk_seg dksX13_fail_0 23 rfl rfl
theorem dX13_fail_0 : decode cX13_fail 0 = .ok (.aload_n 0, 1) := dk_42 (dk_at dksX13_fail_0 0 rfl rfl)
theorem dX13_fail_1 : decode cX13_fail 1 = .ok (.getfield 200, 3) := dk_180 0 200 (dk_at dksX13_fail_0 1 rfl rfl)
theorem dX13_fail_4 : decode cX13_fail 4 = .ok (.ifCond .le 4, 3) := dk_158 0 4 (dk_at dksX13_fail_0 4 rfl rfl)
theorem dX13_fail_7 : decode cX13_fail 7 = .ok (.return_, 1) := dk_177 (dk_at dksX13_fail_0 7 rfl rfl)
theorem dX13_fail_8 : decode cX13_fail 8 = .ok (.aload_n 0, 1) := dk_42 (dk_at dksX13_fail_0 8 rfl rfl)
theorem dX13_fail_9 : decode cX13_fail 9 = .ok (.iload_n 1, 1) := dk_27 (dk_at dksX13_fail_0 9 rfl rfl)
theorem dX13_fail_10 : decode cX13_fail 10 = .ok (.putfield 200, 3) := dk_181 0 200 (dk_at dksX13_fail_0 10 rfl rfl)
theorem dX13_fail_13 : decode cX13_fail 13 = .ok (.aload_n 0, 1) := dk_42 (dk_at dksX13_fail_0 13 rfl rfl)
theorem dX13_fail_14 : decode cX13_fail 14 = .ok (.aload_n 0, 1) := dk_42 (dk_at dksX13_fail_0 14 rfl rfl)
theorem dX13_fail_15 : decode cX13_fail 15 = .ok (.getfield 24, 3) := dk_180 0 24 (dk_at dksX13_fail_0 15 rfl rfl)
theorem dX13_fail_18 : decode cX13_fail 18 = .ok (.aload_n 0, 1) := dk_42 (dk_at dksX13_fail_0 18 rfl rfl)
theorem dX13_fail_19 : decode cX13_fail 19 = .ok (.getfield 203, 3) := dk_180 0 203 (dk_at dksX13_fail_0 19 rfl rfl)
theorem dX13_fail_22 : decode cX13_fail 22 = .ok (.iaload, 1) := dk_46 (dk_at dksX13_fail_0 22 rfl rfl)
theorem dX13_fail_23 : decode cX13_fail 23 = .ok (.putfield 206, 3) := dk_181 0 206 (dk_at dksX13_fail_1 0 rfl rfl)
theorem dX13_fail_26 : decode cX13_fail 26 = .ok (.return_, 1) := dk_177 (dk_at dksX13_fail_1 3 rfl rfl)
abbrev cX13_goesOn : ByteArray := prog_21_method_17_code
def yX13_goesOn : MethodName := ⟨RX13, "goesOn", "()V"⟩
def dkwX13_goesOn_1 : List UInt8 := [96, 181, 0, 203, 177]
abbrev dktX13_goesOn_1 : List UInt8 := dkwX13_goesOn_1 ++ []
def dkwX13_goesOn_0 : List UInt8 := [42, 180, 0, 203, 17, 1, 144, 160, 0, 11, 42, 5, 182, 0, 215, 167, 0, 13, 42, 89, 180, 0, 203, 4]
abbrev dktX13_goesOn_0 : List UInt8 := dkwX13_goesOn_0 ++ dktX13_goesOn_1
theorem dksX13_goesOn_0 : cX13_goesOn.data.toList.drop 0 = dktX13_goesOn_0 := by decide +kernel
theorem dksX13_goesOn_1 : cX13_goesOn.data.toList.drop 24 = dktX13_goesOn_1 := dk_seg dksX13_goesOn_0 24 rfl rfl
theorem dX13_goesOn_0 : decode cX13_goesOn 0 = .ok (.aload_n 0, 1) := dk_42 (dk_at dksX13_goesOn_0 0 rfl rfl)
theorem dX13_goesOn_1 : decode cX13_goesOn 1 = .ok (.getfield 203, 3) := dk_180 0 203 (dk_at dksX13_goesOn_0 1 rfl rfl)
theorem dX13_goesOn_4 : decode cX13_goesOn 4 = .ok (.sipush 400, 3) := dk_17 1 144 (dk_at dksX13_goesOn_0 4 rfl rfl)
theorem dX13_goesOn_7 : decode cX13_goesOn 7 = .ok (.if_icmp .ne 11, 3) := dk_160 0 11 (dk_at dksX13_goesOn_0 7 rfl rfl)
theorem dX13_goesOn_10 : decode cX13_goesOn 10 = .ok (.aload_n 0, 1) := dk_42 (dk_at dksX13_goesOn_0 10 rfl rfl)
theorem dX13_goesOn_11 : decode cX13_goesOn 11 = .ok (.iconst 2, 1) := dk_5 (dk_at dksX13_goesOn_0 11 rfl rfl)
theorem dX13_goesOn_12 : decode cX13_goesOn 12 = .ok (.invokevirtual 215, 3) := dk_182 0 215 (dk_at dksX13_goesOn_0 12 rfl rfl)
theorem dX13_goesOn_15 : decode cX13_goesOn 15 = .ok (.goto 13, 3) := dk_167 0 13 (dk_at dksX13_goesOn_0 15 rfl rfl)
theorem dX13_goesOn_18 : decode cX13_goesOn 18 = .ok (.aload_n 0, 1) := dk_42 (dk_at dksX13_goesOn_0 18 rfl rfl)
theorem dX13_goesOn_19 : decode cX13_goesOn 19 = .ok (.dup, 1) := dk_89 (dk_at dksX13_goesOn_0 19 rfl rfl)
theorem dX13_goesOn_20 : decode cX13_goesOn 20 = .ok (.getfield 203, 3) := dk_180 0 203 (dk_at dksX13_goesOn_0 20 rfl rfl)
theorem dX13_goesOn_23 : decode cX13_goesOn 23 = .ok (.iconst 1, 1) := dk_4 (dk_at dksX13_goesOn_0 23 rfl rfl)
theorem dX13_goesOn_24 : decode cX13_goesOn 24 = .ok (.iadd, 1) := dk_96 (dk_at dksX13_goesOn_1 0 rfl rfl)
theorem dX13_goesOn_25 : decode cX13_goesOn 25 = .ok (.putfield 203, 3) := dk_181 0 203 (dk_at dksX13_goesOn_1 1 rfl rfl)
theorem dX13_goesOn_28 : decode cX13_goesOn 28 = .ok (.return_, 1) := dk_177 (dk_at dksX13_goesOn_1 4 rfl rfl)
abbrev cX13_tellSleeper : ByteArray := prog_21_method_27_code
def yX13_tellSleeper : MethodName := ⟨RX13, "tellSleeper", "()V"⟩
def dkwX13_tellSleeper_6 : List UInt8 := [42, 180, 0, 233, 92, 46, 4, 96, 79, 177]
abbrev dktX13_tellSleeper_6 : List UInt8 := dkwX13_tellSleeper_6 ++ []
def dkwX13_tellSleeper_5 : List UInt8 := [180, 0, 236, 42, 180, 0, 30, 28, 47, 80, 42, 89, 180, 0, 236, 4, 96, 181, 0, 236, 42, 180, 0, 43]
abbrev dktX13_tellSleeper_5 : List UInt8 := dkwX13_tellSleeper_5 ++ dktX13_tellSleeper_6
def dkwX13_tellSleeper_4 : List UInt8 := [182, 1, 6, 79, 42, 7, 182, 1, 10, 42, 180, 0, 200, 158, 0, 4, 177, 42, 180, 0, 40, 42]
abbrev dktX13_tellSleeper_4 : List UInt8 := dkwX13_tellSleeper_4 ++ dktX13_tellSleeper_5
def dkwX13_tellSleeper_3 : List UInt8 := [167, 255, 216, 42, 180, 0, 46, 27, 42, 3, 4, 182, 1, 6, 79, 42, 180, 0, 49, 27, 42, 3, 16, 9]
abbrev dktX13_tellSleeper_3 : List UInt8 := dkwX13_tellSleeper_3 ++ dktX13_tellSleeper_4
def dkwX13_tellSleeper_2 : List UInt8 := [180, 0, 40, 29, 47, 42, 180, 0, 30, 28, 47, 148, 154, 0, 9, 42, 6, 28, 182, 0, 252, 132, 3, 1]
abbrev dktX13_tellSleeper_2 : List UInt8 := dkwX13_tellSleeper_2 ++ dktX13_tellSleeper_3
def dkwX13_tellSleeper_1 : List UInt8 := [4, 182, 1, 10, 3, 62, 29, 42, 180, 0, 236, 162, 0, 38, 42, 180, 0, 200, 154, 0, 31, 42]
abbrev dktX13_tellSleeper_1 : List UInt8 := dkwX13_tellSleeper_1 ++ dktX13_tellSleeper_2
def dkwX13_tellSleeper_0 : List UInt8 := [16, 9, 42, 180, 0, 233, 104, 42, 180, 0, 43, 42, 180, 0, 233, 46, 96, 60, 42, 180, 0, 203, 61, 42]
abbrev dktX13_tellSleeper_0 : List UInt8 := dkwX13_tellSleeper_0 ++ dktX13_tellSleeper_1
theorem dksX13_tellSleeper_0 : cX13_tellSleeper.data.toList.drop 0 = dktX13_tellSleeper_0 := by decide +kernel
theorem dksX13_tellSleeper_1 : cX13_tellSleeper.data.toList.drop 24 = dktX13_tellSleeper_1 := dk_seg dksX13_tellSleeper_0 24 rfl rfl
theorem dksX13_tellSleeper_2 : cX13_tellSleeper.data.toList.drop 46 = dktX13_tellSleeper_2 := dk_seg dksX13_tellSleeper_1 22 rfl rfl
theorem dksX13_tellSleeper_3 : cX13_tellSleeper.data.toList.drop 70 = dktX13_tellSleeper_3 := dk_seg dksX13_tellSleeper_2 24 rfl rfl
theorem dksX13_tellSleeper_4 : cX13_tellSleeper.data.toList.drop 94 = dktX13_tellSleeper_4 := dk_seg dksX13_tellSleeper_3 24 rfl rfl
theorem dksX13_tellSleeper_5 : cX13_tellSleeper.data.toList.drop 116 = dktX13_tellSleeper_5 := dk_seg dksX13_tellSleeper_4 22 rfl rfl
theorem dksX13_tellSleeper_6 : cX13_tellSleeper.data.toList.drop 140 = dktX13_tellSleeper_6 := dk_seg dksX13_tellSleeper_5 24 rfl rfl
theorem dX13_tellSleeper_0 : decode cX13_tellSleeper 0 = .ok (.bipush 9, 2) := dk_16 9 (dk_at dksX13_tellSleeper_0 0 rfl rfl)
theorem dX13_tellSleeper_2 : decode cX13_tellSleeper 2 = .ok (.aload_n 0, 1) := dk_42 (dk_at dksX13_tellSleeper_0 2 rfl rfl)
theorem dX13_tellSleeper_3 : decode cX13_tellSleeper 3 = .ok (.getfield 233, 3) := dk_180 0 233 (dk_at dksX13_tellSleeper_0 3 rfl rfl)
theorem dX13_tellSleeper_6 : decode cX13_tellSleeper 6 = .ok (.imul, 1) := dk_104 (dk_at dksX13_tellSleeper_0 6 rfl rfl)
theorem dX13_tellSleeper_7 : decode cX13_tellSleeper 7 = .ok (.aload_n 0, 1) := dk_42 (dk_at dksX13_tellSleeper_0 7 rfl rfl)
theorem dX13_tellSleeper_8 : decode cX13_tellSleeper 8 = .ok (.getfield 43, 3) := dk_180 0 43 (dk_at dksX13_tellSleeper_0 8 rfl rfl)
theorem dX13_tellSleeper_11 : decode cX13_tellSleeper 11 = .ok (.aload_n 0, 1) := dk_42 (dk_at dksX13_tellSleeper_0 11 rfl rfl)
theorem dX13_tellSleeper_12 : decode cX13_tellSleeper 12 = .ok (.getfield 233, 3) := dk_180 0 233 (dk_at dksX13_tellSleeper_0 12 rfl rfl)
theorem dX13_tellSleeper_15 : decode cX13_tellSleeper 15 = .ok (.iaload, 1) := dk_46 (dk_at dksX13_tellSleeper_0 15 rfl rfl)
theorem dX13_tellSleeper_16 : decode cX13_tellSleeper 16 = .ok (.iadd, 1) := dk_96 (dk_at dksX13_tellSleeper_0 16 rfl rfl)
theorem dX13_tellSleeper_17 : decode cX13_tellSleeper 17 = .ok (.istore_n 1, 1) := dk_60 (dk_at dksX13_tellSleeper_0 17 rfl rfl)
theorem dX13_tellSleeper_18 : decode cX13_tellSleeper 18 = .ok (.aload_n 0, 1) := dk_42 (dk_at dksX13_tellSleeper_0 18 rfl rfl)
theorem dX13_tellSleeper_19 : decode cX13_tellSleeper 19 = .ok (.getfield 203, 3) := dk_180 0 203 (dk_at dksX13_tellSleeper_0 19 rfl rfl)
theorem dX13_tellSleeper_22 : decode cX13_tellSleeper 22 = .ok (.istore_n 2, 1) := dk_61 (dk_at dksX13_tellSleeper_0 22 rfl rfl)
theorem dX13_tellSleeper_23 : decode cX13_tellSleeper 23 = .ok (.aload_n 0, 1) := dk_42 (dk_at dksX13_tellSleeper_0 23 rfl rfl)
theorem dX13_tellSleeper_24 : decode cX13_tellSleeper 24 = .ok (.iconst 1, 1) := dk_4 (dk_at dksX13_tellSleeper_1 0 rfl rfl)
theorem dX13_tellSleeper_25 : decode cX13_tellSleeper 25 = .ok (.invokevirtual 266, 3) := dk_182 1 10 (dk_at dksX13_tellSleeper_1 1 rfl rfl)
theorem dX13_tellSleeper_28 : decode cX13_tellSleeper 28 = .ok (.iconst 0, 1) := dk_3 (dk_at dksX13_tellSleeper_1 4 rfl rfl)
theorem dX13_tellSleeper_29 : decode cX13_tellSleeper 29 = .ok (.istore_n 3, 1) := dk_62 (dk_at dksX13_tellSleeper_1 5 rfl rfl)
theorem dX13_tellSleeper_30 : decode cX13_tellSleeper 30 = .ok (.iload_n 3, 1) := dk_29 (dk_at dksX13_tellSleeper_1 6 rfl rfl)
theorem dX13_tellSleeper_31 : decode cX13_tellSleeper 31 = .ok (.aload_n 0, 1) := dk_42 (dk_at dksX13_tellSleeper_1 7 rfl rfl)
theorem dX13_tellSleeper_32 : decode cX13_tellSleeper 32 = .ok (.getfield 236, 3) := dk_180 0 236 (dk_at dksX13_tellSleeper_1 8 rfl rfl)
theorem dX13_tellSleeper_35 : decode cX13_tellSleeper 35 = .ok (.if_icmp .ge 38, 3) := dk_162 0 38 (dk_at dksX13_tellSleeper_1 11 rfl rfl)
theorem dX13_tellSleeper_38 : decode cX13_tellSleeper 38 = .ok (.aload_n 0, 1) := dk_42 (dk_at dksX13_tellSleeper_1 14 rfl rfl)
theorem dX13_tellSleeper_39 : decode cX13_tellSleeper 39 = .ok (.getfield 200, 3) := dk_180 0 200 (dk_at dksX13_tellSleeper_1 15 rfl rfl)
theorem dX13_tellSleeper_42 : decode cX13_tellSleeper 42 = .ok (.ifCond .ne 31, 3) := dk_154 0 31 (dk_at dksX13_tellSleeper_1 18 rfl rfl)
theorem dX13_tellSleeper_45 : decode cX13_tellSleeper 45 = .ok (.aload_n 0, 1) := dk_42 (dk_at dksX13_tellSleeper_1 21 rfl rfl)
theorem dX13_tellSleeper_46 : decode cX13_tellSleeper 46 = .ok (.getfield 40, 3) := dk_180 0 40 (dk_at dksX13_tellSleeper_2 0 rfl rfl)
theorem dX13_tellSleeper_49 : decode cX13_tellSleeper 49 = .ok (.iload_n 3, 1) := dk_29 (dk_at dksX13_tellSleeper_2 3 rfl rfl)
theorem dX13_tellSleeper_50 : decode cX13_tellSleeper 50 = .ok (.laload, 1) := dk_47 (dk_at dksX13_tellSleeper_2 4 rfl rfl)
theorem dX13_tellSleeper_51 : decode cX13_tellSleeper 51 = .ok (.aload_n 0, 1) := dk_42 (dk_at dksX13_tellSleeper_2 5 rfl rfl)
theorem dX13_tellSleeper_52 : decode cX13_tellSleeper 52 = .ok (.getfield 30, 3) := dk_180 0 30 (dk_at dksX13_tellSleeper_2 6 rfl rfl)
theorem dX13_tellSleeper_55 : decode cX13_tellSleeper 55 = .ok (.iload_n 2, 1) := dk_28 (dk_at dksX13_tellSleeper_2 9 rfl rfl)
theorem dX13_tellSleeper_56 : decode cX13_tellSleeper 56 = .ok (.laload, 1) := dk_47 (dk_at dksX13_tellSleeper_2 10 rfl rfl)
theorem dX13_tellSleeper_57 : decode cX13_tellSleeper 57 = .ok (.lcmp, 1) := dk_148 (dk_at dksX13_tellSleeper_2 11 rfl rfl)
theorem dX13_tellSleeper_58 : decode cX13_tellSleeper 58 = .ok (.ifCond .ne 9, 3) := dk_154 0 9 (dk_at dksX13_tellSleeper_2 12 rfl rfl)
theorem dX13_tellSleeper_61 : decode cX13_tellSleeper 61 = .ok (.aload_n 0, 1) := dk_42 (dk_at dksX13_tellSleeper_2 15 rfl rfl)
theorem dX13_tellSleeper_62 : decode cX13_tellSleeper 62 = .ok (.iconst 3, 1) := dk_6 (dk_at dksX13_tellSleeper_2 16 rfl rfl)
theorem dX13_tellSleeper_63 : decode cX13_tellSleeper 63 = .ok (.iload_n 2, 1) := dk_28 (dk_at dksX13_tellSleeper_2 17 rfl rfl)
theorem dX13_tellSleeper_64 : decode cX13_tellSleeper 64 = .ok (.invokevirtual 252, 3) := dk_182 0 252 (dk_at dksX13_tellSleeper_2 18 rfl rfl)
theorem dX13_tellSleeper_67 : decode cX13_tellSleeper 67 = .ok (.iinc 3 1, 3) := dk_132 3 1 (dk_at dksX13_tellSleeper_2 21 rfl rfl)
theorem dX13_tellSleeper_70 : decode cX13_tellSleeper 70 = .ok (.goto (-40), 3) := dk_167 255 216 (dk_at dksX13_tellSleeper_3 0 rfl rfl)
theorem dX13_tellSleeper_73 : decode cX13_tellSleeper 73 = .ok (.aload_n 0, 1) := dk_42 (dk_at dksX13_tellSleeper_3 3 rfl rfl)
theorem dX13_tellSleeper_74 : decode cX13_tellSleeper 74 = .ok (.getfield 46, 3) := dk_180 0 46 (dk_at dksX13_tellSleeper_3 4 rfl rfl)
theorem dX13_tellSleeper_77 : decode cX13_tellSleeper 77 = .ok (.iload_n 1, 1) := dk_27 (dk_at dksX13_tellSleeper_3 7 rfl rfl)
theorem dX13_tellSleeper_78 : decode cX13_tellSleeper 78 = .ok (.aload_n 0, 1) := dk_42 (dk_at dksX13_tellSleeper_3 8 rfl rfl)
theorem dX13_tellSleeper_79 : decode cX13_tellSleeper 79 = .ok (.iconst 0, 1) := dk_3 (dk_at dksX13_tellSleeper_3 9 rfl rfl)
theorem dX13_tellSleeper_80 : decode cX13_tellSleeper 80 = .ok (.iconst 1, 1) := dk_4 (dk_at dksX13_tellSleeper_3 10 rfl rfl)
theorem dX13_tellSleeper_81 : decode cX13_tellSleeper 81 = .ok (.invokevirtual 262, 3) := dk_182 1 6 (dk_at dksX13_tellSleeper_3 11 rfl rfl)
theorem dX13_tellSleeper_84 : decode cX13_tellSleeper 84 = .ok (.iastore, 1) := dk_79 (dk_at dksX13_tellSleeper_3 14 rfl rfl)
theorem dX13_tellSleeper_85 : decode cX13_tellSleeper 85 = .ok (.aload_n 0, 1) := dk_42 (dk_at dksX13_tellSleeper_3 15 rfl rfl)
theorem dX13_tellSleeper_86 : decode cX13_tellSleeper 86 = .ok (.getfield 49, 3) := dk_180 0 49 (dk_at dksX13_tellSleeper_3 16 rfl rfl)
theorem dX13_tellSleeper_89 : decode cX13_tellSleeper 89 = .ok (.iload_n 1, 1) := dk_27 (dk_at dksX13_tellSleeper_3 19 rfl rfl)
theorem dX13_tellSleeper_90 : decode cX13_tellSleeper 90 = .ok (.aload_n 0, 1) := dk_42 (dk_at dksX13_tellSleeper_3 20 rfl rfl)
theorem dX13_tellSleeper_91 : decode cX13_tellSleeper 91 = .ok (.iconst 0, 1) := dk_3 (dk_at dksX13_tellSleeper_3 21 rfl rfl)
theorem dX13_tellSleeper_92 : decode cX13_tellSleeper 92 = .ok (.bipush 9, 2) := dk_16 9 (dk_at dksX13_tellSleeper_3 22 rfl rfl)
theorem dX13_tellSleeper_94 : decode cX13_tellSleeper 94 = .ok (.invokevirtual 262, 3) := dk_182 1 6 (dk_at dksX13_tellSleeper_4 0 rfl rfl)
theorem dX13_tellSleeper_97 : decode cX13_tellSleeper 97 = .ok (.iastore, 1) := dk_79 (dk_at dksX13_tellSleeper_4 3 rfl rfl)
theorem dX13_tellSleeper_98 : decode cX13_tellSleeper 98 = .ok (.aload_n 0, 1) := dk_42 (dk_at dksX13_tellSleeper_4 4 rfl rfl)
theorem dX13_tellSleeper_99 : decode cX13_tellSleeper 99 = .ok (.iconst 4, 1) := dk_7 (dk_at dksX13_tellSleeper_4 5 rfl rfl)
theorem dX13_tellSleeper_100 : decode cX13_tellSleeper 100 = .ok (.invokevirtual 266, 3) := dk_182 1 10 (dk_at dksX13_tellSleeper_4 6 rfl rfl)
theorem dX13_tellSleeper_103 : decode cX13_tellSleeper 103 = .ok (.aload_n 0, 1) := dk_42 (dk_at dksX13_tellSleeper_4 9 rfl rfl)
theorem dX13_tellSleeper_104 : decode cX13_tellSleeper 104 = .ok (.getfield 200, 3) := dk_180 0 200 (dk_at dksX13_tellSleeper_4 10 rfl rfl)
theorem dX13_tellSleeper_107 : decode cX13_tellSleeper 107 = .ok (.ifCond .le 4, 3) := dk_158 0 4 (dk_at dksX13_tellSleeper_4 13 rfl rfl)
theorem dX13_tellSleeper_110 : decode cX13_tellSleeper 110 = .ok (.return_, 1) := dk_177 (dk_at dksX13_tellSleeper_4 16 rfl rfl)
theorem dX13_tellSleeper_111 : decode cX13_tellSleeper 111 = .ok (.aload_n 0, 1) := dk_42 (dk_at dksX13_tellSleeper_4 17 rfl rfl)
theorem dX13_tellSleeper_112 : decode cX13_tellSleeper 112 = .ok (.getfield 40, 3) := dk_180 0 40 (dk_at dksX13_tellSleeper_4 18 rfl rfl)
theorem dX13_tellSleeper_115 : decode cX13_tellSleeper 115 = .ok (.aload_n 0, 1) := dk_42 (dk_at dksX13_tellSleeper_4 21 rfl rfl)
theorem dX13_tellSleeper_116 : decode cX13_tellSleeper 116 = .ok (.getfield 236, 3) := dk_180 0 236 (dk_at dksX13_tellSleeper_5 0 rfl rfl)
theorem dX13_tellSleeper_119 : decode cX13_tellSleeper 119 = .ok (.aload_n 0, 1) := dk_42 (dk_at dksX13_tellSleeper_5 3 rfl rfl)
theorem dX13_tellSleeper_120 : decode cX13_tellSleeper 120 = .ok (.getfield 30, 3) := dk_180 0 30 (dk_at dksX13_tellSleeper_5 4 rfl rfl)
theorem dX13_tellSleeper_123 : decode cX13_tellSleeper 123 = .ok (.iload_n 2, 1) := dk_28 (dk_at dksX13_tellSleeper_5 7 rfl rfl)
theorem dX13_tellSleeper_124 : decode cX13_tellSleeper 124 = .ok (.laload, 1) := dk_47 (dk_at dksX13_tellSleeper_5 8 rfl rfl)
theorem dX13_tellSleeper_125 : decode cX13_tellSleeper 125 = .ok (.lastore, 1) := dk_80 (dk_at dksX13_tellSleeper_5 9 rfl rfl)
theorem dX13_tellSleeper_126 : decode cX13_tellSleeper 126 = .ok (.aload_n 0, 1) := dk_42 (dk_at dksX13_tellSleeper_5 10 rfl rfl)
theorem dX13_tellSleeper_127 : decode cX13_tellSleeper 127 = .ok (.dup, 1) := dk_89 (dk_at dksX13_tellSleeper_5 11 rfl rfl)
theorem dX13_tellSleeper_128 : decode cX13_tellSleeper 128 = .ok (.getfield 236, 3) := dk_180 0 236 (dk_at dksX13_tellSleeper_5 12 rfl rfl)
theorem dX13_tellSleeper_131 : decode cX13_tellSleeper 131 = .ok (.iconst 1, 1) := dk_4 (dk_at dksX13_tellSleeper_5 15 rfl rfl)
theorem dX13_tellSleeper_132 : decode cX13_tellSleeper 132 = .ok (.iadd, 1) := dk_96 (dk_at dksX13_tellSleeper_5 16 rfl rfl)
theorem dX13_tellSleeper_133 : decode cX13_tellSleeper 133 = .ok (.putfield 236, 3) := dk_181 0 236 (dk_at dksX13_tellSleeper_5 17 rfl rfl)
theorem dX13_tellSleeper_136 : decode cX13_tellSleeper 136 = .ok (.aload_n 0, 1) := dk_42 (dk_at dksX13_tellSleeper_5 20 rfl rfl)
theorem dX13_tellSleeper_137 : decode cX13_tellSleeper 137 = .ok (.getfield 43, 3) := dk_180 0 43 (dk_at dksX13_tellSleeper_5 21 rfl rfl)
theorem dX13_tellSleeper_140 : decode cX13_tellSleeper 140 = .ok (.aload_n 0, 1) := dk_42 (dk_at dksX13_tellSleeper_6 0 rfl rfl)
theorem dX13_tellSleeper_141 : decode cX13_tellSleeper 141 = .ok (.getfield 233, 3) := dk_180 0 233 (dk_at dksX13_tellSleeper_6 1 rfl rfl)
theorem dX13_tellSleeper_144 : decode cX13_tellSleeper 144 = .ok (.dup2, 1) := dk_92 (dk_at dksX13_tellSleeper_6 4 rfl rfl)
theorem dX13_tellSleeper_145 : decode cX13_tellSleeper 145 = .ok (.iaload, 1) := dk_46 (dk_at dksX13_tellSleeper_6 5 rfl rfl)
theorem dX13_tellSleeper_146 : decode cX13_tellSleeper 146 = .ok (.iconst 1, 1) := dk_4 (dk_at dksX13_tellSleeper_6 6 rfl rfl)
theorem dX13_tellSleeper_147 : decode cX13_tellSleeper 147 = .ok (.iadd, 1) := dk_96 (dk_at dksX13_tellSleeper_6 7 rfl rfl)
theorem dX13_tellSleeper_148 : decode cX13_tellSleeper 148 = .ok (.iastore, 1) := dk_79 (dk_at dksX13_tellSleeper_6 8 rfl rfl)
theorem dX13_tellSleeper_149 : decode cX13_tellSleeper 149 = .ok (.return_, 1) := dk_177 (dk_at dksX13_tellSleeper_6 9 rfl rfl)
abbrev cX13_must : ByteArray := prog_21_method_18_code
def yX13_must : MethodName := ⟨RX13, "must", "(I)V"⟩
def dkwX13_must_0 : List UInt8 := [42, 27, 182, 0, 218, 153, 0, 10, 42, 182, 0, 221, 167, 0, 8, 42, 4, 182, 0, 215, 177]
abbrev dktX13_must_0 : List UInt8 := dkwX13_must_0 ++ []
theorem dksX13_must_0 : cX13_must.data.toList.drop 0 = dktX13_must_0 := by decide +kernel
theorem dX13_must_0 : decode cX13_must 0 = .ok (.aload_n 0, 1) := dk_42 (dk_at dksX13_must_0 0 rfl rfl)
theorem dX13_must_1 : decode cX13_must 1 = .ok (.iload_n 1, 1) := dk_27 (dk_at dksX13_must_0 1 rfl rfl)
theorem dX13_must_2 : decode cX13_must 2 = .ok (.invokevirtual 218, 3) := dk_182 0 218 (dk_at dksX13_must_0 2 rfl rfl)
theorem dX13_must_5 : decode cX13_must 5 = .ok (.ifCond .eq 10, 3) := dk_153 0 10 (dk_at dksX13_must_0 5 rfl rfl)
theorem dX13_must_8 : decode cX13_must 8 = .ok (.aload_n 0, 1) := dk_42 (dk_at dksX13_must_0 8 rfl rfl)
theorem dX13_must_9 : decode cX13_must 9 = .ok (.invokevirtual 221, 3) := dk_182 0 221 (dk_at dksX13_must_0 9 rfl rfl)
theorem dX13_must_12 : decode cX13_must 12 = .ok (.goto 8, 3) := dk_167 0 8 (dk_at dksX13_must_0 12 rfl rfl)
theorem dX13_must_15 : decode cX13_must 15 = .ok (.aload_n 0, 1) := dk_42 (dk_at dksX13_must_0 15 rfl rfl)
theorem dX13_must_16 : decode cX13_must 16 = .ok (.iconst 1, 1) := dk_4 (dk_at dksX13_must_0 16 rfl rfl)
theorem dX13_must_17 : decode cX13_must 17 = .ok (.invokevirtual 215, 3) := dk_182 0 215 (dk_at dksX13_must_0 17 rfl rfl)
theorem dX13_must_20 : decode cX13_must 20 = .ok (.return_, 1) := dk_177 (dk_at dksX13_must_0 20 rfl rfl)
abbrev cX13_wrong : ByteArray := prog_21_method_16_code
def yX13_wrong : MethodName := ⟨RX13, "wrong", "(II)V"⟩
def dkwX13_wrong_2 : List UInt8 := [27, 181, 0, 209, 42, 29, 181, 0, 212, 177]
abbrev dktX13_wrong_2 : List UInt8 := dkwX13_wrong_2 ++ []
def dkwX13_wrong_1 : List UInt8 := [180, 0, 212, 163, 0, 19, 29, 42, 180, 0, 212, 160, 0, 12, 27, 42, 180, 0, 209, 161, 0, 4, 177, 42]
abbrev dktX13_wrong_1 : List UInt8 := dkwX13_wrong_1 ++ dktX13_wrong_2
def dkwX13_wrong_0 : List UInt8 := [42, 180, 0, 24, 28, 46, 62, 42, 180, 0, 200, 157, 0, 34, 42, 180, 0, 209, 153, 0, 28, 29, 42]
abbrev dktX13_wrong_0 : List UInt8 := dkwX13_wrong_0 ++ dktX13_wrong_1
theorem dksX13_wrong_0 : cX13_wrong.data.toList.drop 0 = dktX13_wrong_0 := by decide +kernel
theorem dksX13_wrong_1 : cX13_wrong.data.toList.drop 23 = dktX13_wrong_1 := dk_seg dksX13_wrong_0 23 rfl rfl
theorem dksX13_wrong_2 : cX13_wrong.data.toList.drop 47 = dktX13_wrong_2 := dk_seg dksX13_wrong_1 24 rfl rfl
theorem dX13_wrong_0 : decode cX13_wrong 0 = .ok (.aload_n 0, 1) := dk_42 (dk_at dksX13_wrong_0 0 rfl rfl)
theorem dX13_wrong_1 : decode cX13_wrong 1 = .ok (.getfield 24, 3) := dk_180 0 24 (dk_at dksX13_wrong_0 1 rfl rfl)
theorem dX13_wrong_4 : decode cX13_wrong 4 = .ok (.iload_n 2, 1) := dk_28 (dk_at dksX13_wrong_0 4 rfl rfl)
theorem dX13_wrong_5 : decode cX13_wrong 5 = .ok (.iaload, 1) := dk_46 (dk_at dksX13_wrong_0 5 rfl rfl)
theorem dX13_wrong_6 : decode cX13_wrong 6 = .ok (.istore_n 3, 1) := dk_62 (dk_at dksX13_wrong_0 6 rfl rfl)
theorem dX13_wrong_7 : decode cX13_wrong 7 = .ok (.aload_n 0, 1) := dk_42 (dk_at dksX13_wrong_0 7 rfl rfl)
theorem dX13_wrong_8 : decode cX13_wrong 8 = .ok (.getfield 200, 3) := dk_180 0 200 (dk_at dksX13_wrong_0 8 rfl rfl)
theorem dX13_wrong_11 : decode cX13_wrong 11 = .ok (.ifCond .gt 34, 3) := dk_157 0 34 (dk_at dksX13_wrong_0 11 rfl rfl)
theorem dX13_wrong_14 : decode cX13_wrong 14 = .ok (.aload_n 0, 1) := dk_42 (dk_at dksX13_wrong_0 14 rfl rfl)
theorem dX13_wrong_15 : decode cX13_wrong 15 = .ok (.getfield 209, 3) := dk_180 0 209 (dk_at dksX13_wrong_0 15 rfl rfl)
theorem dX13_wrong_18 : decode cX13_wrong 18 = .ok (.ifCond .eq 28, 3) := dk_153 0 28 (dk_at dksX13_wrong_0 18 rfl rfl)
theorem dX13_wrong_21 : decode cX13_wrong 21 = .ok (.iload_n 3, 1) := dk_29 (dk_at dksX13_wrong_0 21 rfl rfl)
theorem dX13_wrong_22 : decode cX13_wrong 22 = .ok (.aload_n 0, 1) := dk_42 (dk_at dksX13_wrong_0 22 rfl rfl)
theorem dX13_wrong_23 : decode cX13_wrong 23 = .ok (.getfield 212, 3) := dk_180 0 212 (dk_at dksX13_wrong_1 0 rfl rfl)
theorem dX13_wrong_26 : decode cX13_wrong 26 = .ok (.if_icmp .gt 19, 3) := dk_163 0 19 (dk_at dksX13_wrong_1 3 rfl rfl)
theorem dX13_wrong_29 : decode cX13_wrong 29 = .ok (.iload_n 3, 1) := dk_29 (dk_at dksX13_wrong_1 6 rfl rfl)
theorem dX13_wrong_30 : decode cX13_wrong 30 = .ok (.aload_n 0, 1) := dk_42 (dk_at dksX13_wrong_1 7 rfl rfl)
theorem dX13_wrong_31 : decode cX13_wrong 31 = .ok (.getfield 212, 3) := dk_180 0 212 (dk_at dksX13_wrong_1 8 rfl rfl)
theorem dX13_wrong_34 : decode cX13_wrong 34 = .ok (.if_icmp .ne 12, 3) := dk_160 0 12 (dk_at dksX13_wrong_1 11 rfl rfl)
theorem dX13_wrong_37 : decode cX13_wrong 37 = .ok (.iload_n 1, 1) := dk_27 (dk_at dksX13_wrong_1 14 rfl rfl)
theorem dX13_wrong_38 : decode cX13_wrong 38 = .ok (.aload_n 0, 1) := dk_42 (dk_at dksX13_wrong_1 15 rfl rfl)
theorem dX13_wrong_39 : decode cX13_wrong 39 = .ok (.getfield 209, 3) := dk_180 0 209 (dk_at dksX13_wrong_1 16 rfl rfl)
theorem dX13_wrong_42 : decode cX13_wrong 42 = .ok (.if_icmp .lt 4, 3) := dk_161 0 4 (dk_at dksX13_wrong_1 19 rfl rfl)
theorem dX13_wrong_45 : decode cX13_wrong 45 = .ok (.return_, 1) := dk_177 (dk_at dksX13_wrong_1 22 rfl rfl)
theorem dX13_wrong_46 : decode cX13_wrong 46 = .ok (.aload_n 0, 1) := dk_42 (dk_at dksX13_wrong_1 23 rfl rfl)
theorem dX13_wrong_47 : decode cX13_wrong 47 = .ok (.iload_n 1, 1) := dk_27 (dk_at dksX13_wrong_2 0 rfl rfl)
theorem dX13_wrong_48 : decode cX13_wrong 48 = .ok (.putfield 209, 3) := dk_181 0 209 (dk_at dksX13_wrong_2 1 rfl rfl)
theorem dX13_wrong_51 : decode cX13_wrong 51 = .ok (.aload_n 0, 1) := dk_42 (dk_at dksX13_wrong_2 4 rfl rfl)
theorem dX13_wrong_52 : decode cX13_wrong 52 = .ok (.iload_n 3, 1) := dk_29 (dk_at dksX13_wrong_2 5 rfl rfl)
theorem dX13_wrong_53 : decode cX13_wrong 53 = .ok (.putfield 212, 3) := dk_181 0 212 (dk_at dksX13_wrong_2 6 rfl rfl)
theorem dX13_wrong_56 : decode cX13_wrong 56 = .ok (.return_, 1) := dk_177 (dk_at dksX13_wrong_2 9 rfl rfl)
abbrev cX13_bounded : ByteArray := prog_21_method_26_code
def yX13_bounded : MethodName := ⟨RX13, "bounded", "(II)I"⟩
def dkwX13_bounded_2 : List UInt8 := [180, 0, 203, 182, 0, 252, 42, 182, 0, 221, 29, 172]
abbrev dktX13_bounded_2 : List UInt8 := dkwX13_bounded_2 ++ []
def dkwX13_bounded_1 : List UInt8 := [180, 0, 27, 42, 180, 0, 203, 46, 62, 29, 27, 161, 0, 8, 29, 28, 164, 0, 12, 42, 8, 42]
abbrev dktX13_bounded_1 : List UInt8 := dkwX13_bounded_1 ++ dktX13_bounded_2
def dkwX13_bounded_0 : List UInt8 := [42, 180, 0, 200, 157, 0, 11, 42, 5, 182, 0, 218, 154, 0, 10, 42, 4, 182, 0, 215, 27, 172, 42]
abbrev dktX13_bounded_0 : List UInt8 := dkwX13_bounded_0 ++ dktX13_bounded_1
theorem dksX13_bounded_0 : cX13_bounded.data.toList.drop 0 = dktX13_bounded_0 := by decide +kernel
theorem dksX13_bounded_1 : cX13_bounded.data.toList.drop 23 = dktX13_bounded_1 := dk_seg dksX13_bounded_0 23 rfl rfl
theorem dksX13_bounded_2 : cX13_bounded.data.toList.drop 45 = dktX13_bounded_2 := dk_seg dksX13_bounded_1 22 rfl rfl
theorem dX13_bounded_0 : decode cX13_bounded 0 = .ok (.aload_n 0, 1) := dk_42 (dk_at dksX13_bounded_0 0 rfl rfl)
theorem dX13_bounded_1 : decode cX13_bounded 1 = .ok (.getfield 200, 3) := dk_180 0 200 (dk_at dksX13_bounded_0 1 rfl rfl)
theorem dX13_bounded_4 : decode cX13_bounded 4 = .ok (.ifCond .gt 11, 3) := dk_157 0 11 (dk_at dksX13_bounded_0 4 rfl rfl)
theorem dX13_bounded_7 : decode cX13_bounded 7 = .ok (.aload_n 0, 1) := dk_42 (dk_at dksX13_bounded_0 7 rfl rfl)
theorem dX13_bounded_8 : decode cX13_bounded 8 = .ok (.iconst 2, 1) := dk_5 (dk_at dksX13_bounded_0 8 rfl rfl)
theorem dX13_bounded_9 : decode cX13_bounded 9 = .ok (.invokevirtual 218, 3) := dk_182 0 218 (dk_at dksX13_bounded_0 9 rfl rfl)
theorem dX13_bounded_12 : decode cX13_bounded 12 = .ok (.ifCond .ne 10, 3) := dk_154 0 10 (dk_at dksX13_bounded_0 12 rfl rfl)
theorem dX13_bounded_15 : decode cX13_bounded 15 = .ok (.aload_n 0, 1) := dk_42 (dk_at dksX13_bounded_0 15 rfl rfl)
theorem dX13_bounded_16 : decode cX13_bounded 16 = .ok (.iconst 1, 1) := dk_4 (dk_at dksX13_bounded_0 16 rfl rfl)
theorem dX13_bounded_17 : decode cX13_bounded 17 = .ok (.invokevirtual 215, 3) := dk_182 0 215 (dk_at dksX13_bounded_0 17 rfl rfl)
theorem dX13_bounded_20 : decode cX13_bounded 20 = .ok (.iload_n 1, 1) := dk_27 (dk_at dksX13_bounded_0 20 rfl rfl)
theorem dX13_bounded_21 : decode cX13_bounded 21 = .ok (.ireturn, 1) := dk_172 (dk_at dksX13_bounded_0 21 rfl rfl)
theorem dX13_bounded_22 : decode cX13_bounded 22 = .ok (.aload_n 0, 1) := dk_42 (dk_at dksX13_bounded_0 22 rfl rfl)
theorem dX13_bounded_23 : decode cX13_bounded 23 = .ok (.getfield 27, 3) := dk_180 0 27 (dk_at dksX13_bounded_1 0 rfl rfl)
theorem dX13_bounded_26 : decode cX13_bounded 26 = .ok (.aload_n 0, 1) := dk_42 (dk_at dksX13_bounded_1 3 rfl rfl)
theorem dX13_bounded_27 : decode cX13_bounded 27 = .ok (.getfield 203, 3) := dk_180 0 203 (dk_at dksX13_bounded_1 4 rfl rfl)
theorem dX13_bounded_30 : decode cX13_bounded 30 = .ok (.iaload, 1) := dk_46 (dk_at dksX13_bounded_1 7 rfl rfl)
theorem dX13_bounded_31 : decode cX13_bounded 31 = .ok (.istore_n 3, 1) := dk_62 (dk_at dksX13_bounded_1 8 rfl rfl)
theorem dX13_bounded_32 : decode cX13_bounded 32 = .ok (.iload_n 3, 1) := dk_29 (dk_at dksX13_bounded_1 9 rfl rfl)
theorem dX13_bounded_33 : decode cX13_bounded 33 = .ok (.iload_n 1, 1) := dk_27 (dk_at dksX13_bounded_1 10 rfl rfl)
theorem dX13_bounded_34 : decode cX13_bounded 34 = .ok (.if_icmp .lt 8, 3) := dk_161 0 8 (dk_at dksX13_bounded_1 11 rfl rfl)
theorem dX13_bounded_37 : decode cX13_bounded 37 = .ok (.iload_n 3, 1) := dk_29 (dk_at dksX13_bounded_1 14 rfl rfl)
theorem dX13_bounded_38 : decode cX13_bounded 38 = .ok (.iload_n 2, 1) := dk_28 (dk_at dksX13_bounded_1 15 rfl rfl)
theorem dX13_bounded_39 : decode cX13_bounded 39 = .ok (.if_icmp .le 12, 3) := dk_164 0 12 (dk_at dksX13_bounded_1 16 rfl rfl)
theorem dX13_bounded_42 : decode cX13_bounded 42 = .ok (.aload_n 0, 1) := dk_42 (dk_at dksX13_bounded_1 19 rfl rfl)
theorem dX13_bounded_43 : decode cX13_bounded 43 = .ok (.iconst 5, 1) := dk_8 (dk_at dksX13_bounded_1 20 rfl rfl)
theorem dX13_bounded_44 : decode cX13_bounded 44 = .ok (.aload_n 0, 1) := dk_42 (dk_at dksX13_bounded_1 21 rfl rfl)
theorem dX13_bounded_45 : decode cX13_bounded 45 = .ok (.getfield 203, 3) := dk_180 0 203 (dk_at dksX13_bounded_2 0 rfl rfl)
theorem dX13_bounded_48 : decode cX13_bounded 48 = .ok (.invokevirtual 252, 3) := dk_182 0 252 (dk_at dksX13_bounded_2 3 rfl rfl)
theorem dX13_bounded_51 : decode cX13_bounded 51 = .ok (.aload_n 0, 1) := dk_42 (dk_at dksX13_bounded_2 6 rfl rfl)
theorem dX13_bounded_52 : decode cX13_bounded 52 = .ok (.invokevirtual 221, 3) := dk_182 0 221 (dk_at dksX13_bounded_2 7 rfl rfl)
theorem dX13_bounded_55 : decode cX13_bounded 55 = .ok (.iload_n 3, 1) := dk_29 (dk_at dksX13_bounded_2 10 rfl rfl)
theorem dX13_bounded_56 : decode cX13_bounded 56 = .ok (.ireturn, 1) := dk_172 (dk_at dksX13_bounded_2 11 rfl rfl)
abbrev cX13_toldInt : ByteArray := prog_21_method_24_code
def yX13_toldInt : MethodName := ⟨RX13, "toldInt", "(II)I"⟩
def dkwX13_toldInt_0 : List UInt8 := [42, 182, 0, 221, 42, 27, 28, 182, 1, 6, 62, 42, 7, 182, 1, 10, 29, 172]
abbrev dktX13_toldInt_0 : List UInt8 := dkwX13_toldInt_0 ++ []
theorem dksX13_toldInt_0 : cX13_toldInt.data.toList.drop 0 = dktX13_toldInt_0 := by decide +kernel
theorem dX13_toldInt_0 : decode cX13_toldInt 0 = .ok (.aload_n 0, 1) := dk_42 (dk_at dksX13_toldInt_0 0 rfl rfl)
theorem dX13_toldInt_1 : decode cX13_toldInt 1 = .ok (.invokevirtual 221, 3) := dk_182 0 221 (dk_at dksX13_toldInt_0 1 rfl rfl)
theorem dX13_toldInt_4 : decode cX13_toldInt 4 = .ok (.aload_n 0, 1) := dk_42 (dk_at dksX13_toldInt_0 4 rfl rfl)
theorem dX13_toldInt_5 : decode cX13_toldInt 5 = .ok (.iload_n 1, 1) := dk_27 (dk_at dksX13_toldInt_0 5 rfl rfl)
theorem dX13_toldInt_6 : decode cX13_toldInt 6 = .ok (.iload_n 2, 1) := dk_28 (dk_at dksX13_toldInt_0 6 rfl rfl)
theorem dX13_toldInt_7 : decode cX13_toldInt 7 = .ok (.invokevirtual 262, 3) := dk_182 1 6 (dk_at dksX13_toldInt_0 7 rfl rfl)
theorem dX13_toldInt_10 : decode cX13_toldInt 10 = .ok (.istore_n 3, 1) := dk_62 (dk_at dksX13_toldInt_0 10 rfl rfl)
theorem dX13_toldInt_11 : decode cX13_toldInt 11 = .ok (.aload_n 0, 1) := dk_42 (dk_at dksX13_toldInt_0 11 rfl rfl)
theorem dX13_toldInt_12 : decode cX13_toldInt 12 = .ok (.iconst 4, 1) := dk_7 (dk_at dksX13_toldInt_0 12 rfl rfl)
theorem dX13_toldInt_13 : decode cX13_toldInt 13 = .ok (.invokevirtual 266, 3) := dk_182 1 10 (dk_at dksX13_toldInt_0 13 rfl rfl)
theorem dX13_toldInt_16 : decode cX13_toldInt 16 = .ok (.iload_n 3, 1) := dk_29 (dk_at dksX13_toldInt_0 16 rfl rfl)
theorem dX13_toldInt_17 : decode cX13_toldInt 17 = .ok (.ireturn, 1) := dk_172 (dk_at dksX13_toldInt_0 17 rfl rfl)
abbrev cX13_tellLaw : ByteArray := prog_21_method_28_code
def yX13_tellLaw : MethodName := ⟨RX13, "tellLaw", "(I)V"⟩
def dkwX13_tellLaw_8 : List UInt8 := [180, 0, 239, 79, 177]
abbrev dktX13_tellLaw_8 : List UInt8 := dkwX13_tellLaw_8 ++ []
def dkwX13_tellLaw_7 : List UInt8 := [42, 180, 0, 233, 104, 27, 96, 28, 79, 42, 180, 0, 74, 7, 42, 180, 0, 233, 104, 27, 96, 42]
abbrev dktX13_tellLaw_7 : List UInt8 := dkwX13_tellLaw_7 ++ dktX13_tellLaw_8
def dkwX13_tellLaw_6 : List UInt8 := [3, 84, 42, 182, 1, 28, 42, 7, 182, 1, 10, 42, 180, 0, 200, 158, 0, 4, 177, 42, 180, 0, 71, 7]
abbrev dktX13_tellLaw_6 : List UInt8 := dkwX13_tellLaw_6 ++ dktX13_tellLaw_7
def dkwX13_tellLaw_5 : List UInt8 := [182, 1, 10, 42, 182, 1, 28, 42, 16, 31, 182, 1, 10, 167, 255, 142, 42, 180, 0, 77, 42, 180, 0, 239]
abbrev dktX13_tellLaw_5 : List UInt8 := dkwX13_tellLaw_5 ++ dktX13_tellLaw_6
def dkwX13_tellLaw_4 : List UInt8 := [180, 0, 239, 42, 180, 0, 242, 79, 42, 180, 0, 200, 154, 0, 7, 42, 182, 1, 25, 42, 16, 30]
abbrev dktX13_tellLaw_4 : List UInt8 := dkwX13_tellLaw_4 ++ dktX13_tellLaw_5
def dkwX13_tellLaw_3 : List UInt8 := [180, 0, 239, 42, 180, 0, 242, 79, 42, 182, 1, 25, 42, 16, 13, 182, 1, 10, 42, 180, 0, 83, 42]
abbrev dktX13_tellLaw_3 : List UInt8 := dkwX13_tellLaw_3 ++ dktX13_tellLaw_4
def dkwX13_tellLaw_2 : List UInt8 := [132, 3, 1, 42, 182, 0, 221, 42, 180, 0, 77, 42, 180, 0, 239, 4, 84, 42, 180, 0, 80, 42]
abbrev dktX13_tellLaw_2 : List UInt8 := dkwX13_tellLaw_2 ++ dktX13_tellLaw_3
def dkwX13_tellLaw_1 : List UInt8 := [182, 0, 218, 153, 0, 104, 29, 7, 160, 0, 8, 42, 5, 182, 0, 215, 42, 180, 0, 200, 158, 0, 4, 177]
abbrev dktX13_tellLaw_1 : List UInt8 := dkwX13_tellLaw_1 ++ dktX13_tellLaw_2
def dkwX13_tellLaw_0 : List UInt8 := [42, 8, 182, 1, 10, 42, 180, 0, 239, 61, 3, 62, 42, 180, 0, 200, 154, 0, 113, 42, 16, 29]
abbrev dktX13_tellLaw_0 : List UInt8 := dkwX13_tellLaw_0 ++ dktX13_tellLaw_1
theorem dksX13_tellLaw_0 : cX13_tellLaw.data.toList.drop 0 = dktX13_tellLaw_0 := by decide +kernel
theorem dksX13_tellLaw_1 : cX13_tellLaw.data.toList.drop 22 = dktX13_tellLaw_1 := dk_seg dksX13_tellLaw_0 22 rfl rfl
theorem dksX13_tellLaw_2 : cX13_tellLaw.data.toList.drop 46 = dktX13_tellLaw_2 := dk_seg dksX13_tellLaw_1 24 rfl rfl
theorem dksX13_tellLaw_3 : cX13_tellLaw.data.toList.drop 68 = dktX13_tellLaw_3 := dk_seg dksX13_tellLaw_2 22 rfl rfl
theorem dksX13_tellLaw_4 : cX13_tellLaw.data.toList.drop 91 = dktX13_tellLaw_4 := dk_seg dksX13_tellLaw_3 23 rfl rfl
theorem dksX13_tellLaw_5 : cX13_tellLaw.data.toList.drop 113 = dktX13_tellLaw_5 := dk_seg dksX13_tellLaw_4 22 rfl rfl
theorem dksX13_tellLaw_6 : cX13_tellLaw.data.toList.drop 137 = dktX13_tellLaw_6 := dk_seg dksX13_tellLaw_5 24 rfl rfl
theorem dksX13_tellLaw_7 : cX13_tellLaw.data.toList.drop 161 = dktX13_tellLaw_7 := dk_seg dksX13_tellLaw_6 24 rfl rfl
theorem dksX13_tellLaw_8 : cX13_tellLaw.data.toList.drop 183 = dktX13_tellLaw_8 := dk_seg dksX13_tellLaw_7 22 rfl rfl
theorem dX13_tellLaw_0 : decode cX13_tellLaw 0 = .ok (.aload_n 0, 1) := dk_42 (dk_at dksX13_tellLaw_0 0 rfl rfl)
theorem dX13_tellLaw_1 : decode cX13_tellLaw 1 = .ok (.iconst 5, 1) := dk_8 (dk_at dksX13_tellLaw_0 1 rfl rfl)
theorem dX13_tellLaw_2 : decode cX13_tellLaw 2 = .ok (.invokevirtual 266, 3) := dk_182 1 10 (dk_at dksX13_tellLaw_0 2 rfl rfl)
theorem dX13_tellLaw_5 : decode cX13_tellLaw 5 = .ok (.aload_n 0, 1) := dk_42 (dk_at dksX13_tellLaw_0 5 rfl rfl)
theorem dX13_tellLaw_6 : decode cX13_tellLaw 6 = .ok (.getfield 239, 3) := dk_180 0 239 (dk_at dksX13_tellLaw_0 6 rfl rfl)
theorem dX13_tellLaw_9 : decode cX13_tellLaw 9 = .ok (.istore_n 2, 1) := dk_61 (dk_at dksX13_tellLaw_0 9 rfl rfl)
theorem dX13_tellLaw_10 : decode cX13_tellLaw 10 = .ok (.iconst 0, 1) := dk_3 (dk_at dksX13_tellLaw_0 10 rfl rfl)
theorem dX13_tellLaw_11 : decode cX13_tellLaw 11 = .ok (.istore_n 3, 1) := dk_62 (dk_at dksX13_tellLaw_0 11 rfl rfl)
theorem dX13_tellLaw_12 : decode cX13_tellLaw 12 = .ok (.aload_n 0, 1) := dk_42 (dk_at dksX13_tellLaw_0 12 rfl rfl)
theorem dX13_tellLaw_13 : decode cX13_tellLaw 13 = .ok (.getfield 200, 3) := dk_180 0 200 (dk_at dksX13_tellLaw_0 13 rfl rfl)
theorem dX13_tellLaw_16 : decode cX13_tellLaw 16 = .ok (.ifCond .ne 113, 3) := dk_154 0 113 (dk_at dksX13_tellLaw_0 16 rfl rfl)
theorem dX13_tellLaw_19 : decode cX13_tellLaw 19 = .ok (.aload_n 0, 1) := dk_42 (dk_at dksX13_tellLaw_0 19 rfl rfl)
theorem dX13_tellLaw_20 : decode cX13_tellLaw 20 = .ok (.bipush 29, 2) := dk_16 29 (dk_at dksX13_tellLaw_0 20 rfl rfl)
theorem dX13_tellLaw_22 : decode cX13_tellLaw 22 = .ok (.invokevirtual 218, 3) := dk_182 0 218 (dk_at dksX13_tellLaw_1 0 rfl rfl)
theorem dX13_tellLaw_25 : decode cX13_tellLaw 25 = .ok (.ifCond .eq 104, 3) := dk_153 0 104 (dk_at dksX13_tellLaw_1 3 rfl rfl)
theorem dX13_tellLaw_28 : decode cX13_tellLaw 28 = .ok (.iload_n 3, 1) := dk_29 (dk_at dksX13_tellLaw_1 6 rfl rfl)
theorem dX13_tellLaw_29 : decode cX13_tellLaw 29 = .ok (.iconst 4, 1) := dk_7 (dk_at dksX13_tellLaw_1 7 rfl rfl)
theorem dX13_tellLaw_30 : decode cX13_tellLaw 30 = .ok (.if_icmp .ne 8, 3) := dk_160 0 8 (dk_at dksX13_tellLaw_1 8 rfl rfl)
theorem dX13_tellLaw_33 : decode cX13_tellLaw 33 = .ok (.aload_n 0, 1) := dk_42 (dk_at dksX13_tellLaw_1 11 rfl rfl)
theorem dX13_tellLaw_34 : decode cX13_tellLaw 34 = .ok (.iconst 2, 1) := dk_5 (dk_at dksX13_tellLaw_1 12 rfl rfl)
theorem dX13_tellLaw_35 : decode cX13_tellLaw 35 = .ok (.invokevirtual 215, 3) := dk_182 0 215 (dk_at dksX13_tellLaw_1 13 rfl rfl)
theorem dX13_tellLaw_38 : decode cX13_tellLaw 38 = .ok (.aload_n 0, 1) := dk_42 (dk_at dksX13_tellLaw_1 16 rfl rfl)
theorem dX13_tellLaw_39 : decode cX13_tellLaw 39 = .ok (.getfield 200, 3) := dk_180 0 200 (dk_at dksX13_tellLaw_1 17 rfl rfl)
theorem dX13_tellLaw_42 : decode cX13_tellLaw 42 = .ok (.ifCond .le 4, 3) := dk_158 0 4 (dk_at dksX13_tellLaw_1 20 rfl rfl)
theorem dX13_tellLaw_45 : decode cX13_tellLaw 45 = .ok (.return_, 1) := dk_177 (dk_at dksX13_tellLaw_1 23 rfl rfl)
theorem dX13_tellLaw_46 : decode cX13_tellLaw 46 = .ok (.iinc 3 1, 3) := dk_132 3 1 (dk_at dksX13_tellLaw_2 0 rfl rfl)
theorem dX13_tellLaw_49 : decode cX13_tellLaw 49 = .ok (.aload_n 0, 1) := dk_42 (dk_at dksX13_tellLaw_2 3 rfl rfl)
theorem dX13_tellLaw_50 : decode cX13_tellLaw 50 = .ok (.invokevirtual 221, 3) := dk_182 0 221 (dk_at dksX13_tellLaw_2 4 rfl rfl)
theorem dX13_tellLaw_53 : decode cX13_tellLaw 53 = .ok (.aload_n 0, 1) := dk_42 (dk_at dksX13_tellLaw_2 7 rfl rfl)
theorem dX13_tellLaw_54 : decode cX13_tellLaw 54 = .ok (.getfield 77, 3) := dk_180 0 77 (dk_at dksX13_tellLaw_2 8 rfl rfl)
theorem dX13_tellLaw_57 : decode cX13_tellLaw 57 = .ok (.aload_n 0, 1) := dk_42 (dk_at dksX13_tellLaw_2 11 rfl rfl)
theorem dX13_tellLaw_58 : decode cX13_tellLaw 58 = .ok (.getfield 239, 3) := dk_180 0 239 (dk_at dksX13_tellLaw_2 12 rfl rfl)
theorem dX13_tellLaw_61 : decode cX13_tellLaw 61 = .ok (.iconst 1, 1) := dk_4 (dk_at dksX13_tellLaw_2 15 rfl rfl)
theorem dX13_tellLaw_62 : decode cX13_tellLaw 62 = .ok (.bastore, 1) := dk_84 (dk_at dksX13_tellLaw_2 16 rfl rfl)
theorem dX13_tellLaw_63 : decode cX13_tellLaw 63 = .ok (.aload_n 0, 1) := dk_42 (dk_at dksX13_tellLaw_2 17 rfl rfl)
theorem dX13_tellLaw_64 : decode cX13_tellLaw 64 = .ok (.getfield 80, 3) := dk_180 0 80 (dk_at dksX13_tellLaw_2 18 rfl rfl)
theorem dX13_tellLaw_67 : decode cX13_tellLaw 67 = .ok (.aload_n 0, 1) := dk_42 (dk_at dksX13_tellLaw_2 21 rfl rfl)
theorem dX13_tellLaw_68 : decode cX13_tellLaw 68 = .ok (.getfield 239, 3) := dk_180 0 239 (dk_at dksX13_tellLaw_3 0 rfl rfl)
theorem dX13_tellLaw_71 : decode cX13_tellLaw 71 = .ok (.aload_n 0, 1) := dk_42 (dk_at dksX13_tellLaw_3 3 rfl rfl)
theorem dX13_tellLaw_72 : decode cX13_tellLaw 72 = .ok (.getfield 242, 3) := dk_180 0 242 (dk_at dksX13_tellLaw_3 4 rfl rfl)
theorem dX13_tellLaw_75 : decode cX13_tellLaw 75 = .ok (.iastore, 1) := dk_79 (dk_at dksX13_tellLaw_3 7 rfl rfl)
theorem dX13_tellLaw_76 : decode cX13_tellLaw 76 = .ok (.aload_n 0, 1) := dk_42 (dk_at dksX13_tellLaw_3 8 rfl rfl)
theorem dX13_tellLaw_77 : decode cX13_tellLaw 77 = .ok (.invokevirtual 281, 3) := dk_182 1 25 (dk_at dksX13_tellLaw_3 9 rfl rfl)
theorem dX13_tellLaw_80 : decode cX13_tellLaw 80 = .ok (.aload_n 0, 1) := dk_42 (dk_at dksX13_tellLaw_3 12 rfl rfl)
theorem dX13_tellLaw_81 : decode cX13_tellLaw 81 = .ok (.bipush 13, 2) := dk_16 13 (dk_at dksX13_tellLaw_3 13 rfl rfl)
theorem dX13_tellLaw_83 : decode cX13_tellLaw 83 = .ok (.invokevirtual 266, 3) := dk_182 1 10 (dk_at dksX13_tellLaw_3 15 rfl rfl)
theorem dX13_tellLaw_86 : decode cX13_tellLaw 86 = .ok (.aload_n 0, 1) := dk_42 (dk_at dksX13_tellLaw_3 18 rfl rfl)
theorem dX13_tellLaw_87 : decode cX13_tellLaw 87 = .ok (.getfield 83, 3) := dk_180 0 83 (dk_at dksX13_tellLaw_3 19 rfl rfl)
theorem dX13_tellLaw_90 : decode cX13_tellLaw 90 = .ok (.aload_n 0, 1) := dk_42 (dk_at dksX13_tellLaw_3 22 rfl rfl)
theorem dX13_tellLaw_91 : decode cX13_tellLaw 91 = .ok (.getfield 239, 3) := dk_180 0 239 (dk_at dksX13_tellLaw_4 0 rfl rfl)
theorem dX13_tellLaw_94 : decode cX13_tellLaw 94 = .ok (.aload_n 0, 1) := dk_42 (dk_at dksX13_tellLaw_4 3 rfl rfl)
theorem dX13_tellLaw_95 : decode cX13_tellLaw 95 = .ok (.getfield 242, 3) := dk_180 0 242 (dk_at dksX13_tellLaw_4 4 rfl rfl)
theorem dX13_tellLaw_98 : decode cX13_tellLaw 98 = .ok (.iastore, 1) := dk_79 (dk_at dksX13_tellLaw_4 7 rfl rfl)
theorem dX13_tellLaw_99 : decode cX13_tellLaw 99 = .ok (.aload_n 0, 1) := dk_42 (dk_at dksX13_tellLaw_4 8 rfl rfl)
theorem dX13_tellLaw_100 : decode cX13_tellLaw 100 = .ok (.getfield 200, 3) := dk_180 0 200 (dk_at dksX13_tellLaw_4 9 rfl rfl)
theorem dX13_tellLaw_103 : decode cX13_tellLaw 103 = .ok (.ifCond .ne 7, 3) := dk_154 0 7 (dk_at dksX13_tellLaw_4 12 rfl rfl)
theorem dX13_tellLaw_106 : decode cX13_tellLaw 106 = .ok (.aload_n 0, 1) := dk_42 (dk_at dksX13_tellLaw_4 15 rfl rfl)
theorem dX13_tellLaw_107 : decode cX13_tellLaw 107 = .ok (.invokevirtual 281, 3) := dk_182 1 25 (dk_at dksX13_tellLaw_4 16 rfl rfl)
theorem dX13_tellLaw_110 : decode cX13_tellLaw 110 = .ok (.aload_n 0, 1) := dk_42 (dk_at dksX13_tellLaw_4 19 rfl rfl)
theorem dX13_tellLaw_111 : decode cX13_tellLaw 111 = .ok (.bipush 30, 2) := dk_16 30 (dk_at dksX13_tellLaw_4 20 rfl rfl)
theorem dX13_tellLaw_113 : decode cX13_tellLaw 113 = .ok (.invokevirtual 266, 3) := dk_182 1 10 (dk_at dksX13_tellLaw_5 0 rfl rfl)
theorem dX13_tellLaw_116 : decode cX13_tellLaw 116 = .ok (.aload_n 0, 1) := dk_42 (dk_at dksX13_tellLaw_5 3 rfl rfl)
theorem dX13_tellLaw_117 : decode cX13_tellLaw 117 = .ok (.invokevirtual 284, 3) := dk_182 1 28 (dk_at dksX13_tellLaw_5 4 rfl rfl)
theorem dX13_tellLaw_120 : decode cX13_tellLaw 120 = .ok (.aload_n 0, 1) := dk_42 (dk_at dksX13_tellLaw_5 7 rfl rfl)
theorem dX13_tellLaw_121 : decode cX13_tellLaw 121 = .ok (.bipush 31, 2) := dk_16 31 (dk_at dksX13_tellLaw_5 8 rfl rfl)
theorem dX13_tellLaw_123 : decode cX13_tellLaw 123 = .ok (.invokevirtual 266, 3) := dk_182 1 10 (dk_at dksX13_tellLaw_5 10 rfl rfl)
theorem dX13_tellLaw_126 : decode cX13_tellLaw 126 = .ok (.goto (-114), 3) := dk_167 255 142 (dk_at dksX13_tellLaw_5 13 rfl rfl)
theorem dX13_tellLaw_129 : decode cX13_tellLaw 129 = .ok (.aload_n 0, 1) := dk_42 (dk_at dksX13_tellLaw_5 16 rfl rfl)
theorem dX13_tellLaw_130 : decode cX13_tellLaw 130 = .ok (.getfield 77, 3) := dk_180 0 77 (dk_at dksX13_tellLaw_5 17 rfl rfl)
theorem dX13_tellLaw_133 : decode cX13_tellLaw 133 = .ok (.aload_n 0, 1) := dk_42 (dk_at dksX13_tellLaw_5 20 rfl rfl)
theorem dX13_tellLaw_134 : decode cX13_tellLaw 134 = .ok (.getfield 239, 3) := dk_180 0 239 (dk_at dksX13_tellLaw_5 21 rfl rfl)
theorem dX13_tellLaw_137 : decode cX13_tellLaw 137 = .ok (.iconst 0, 1) := dk_3 (dk_at dksX13_tellLaw_6 0 rfl rfl)
theorem dX13_tellLaw_138 : decode cX13_tellLaw 138 = .ok (.bastore, 1) := dk_84 (dk_at dksX13_tellLaw_6 1 rfl rfl)
theorem dX13_tellLaw_139 : decode cX13_tellLaw 139 = .ok (.aload_n 0, 1) := dk_42 (dk_at dksX13_tellLaw_6 2 rfl rfl)
theorem dX13_tellLaw_140 : decode cX13_tellLaw 140 = .ok (.invokevirtual 284, 3) := dk_182 1 28 (dk_at dksX13_tellLaw_6 3 rfl rfl)
theorem dX13_tellLaw_143 : decode cX13_tellLaw 143 = .ok (.aload_n 0, 1) := dk_42 (dk_at dksX13_tellLaw_6 6 rfl rfl)
theorem dX13_tellLaw_144 : decode cX13_tellLaw 144 = .ok (.iconst 4, 1) := dk_7 (dk_at dksX13_tellLaw_6 7 rfl rfl)
theorem dX13_tellLaw_145 : decode cX13_tellLaw 145 = .ok (.invokevirtual 266, 3) := dk_182 1 10 (dk_at dksX13_tellLaw_6 8 rfl rfl)
theorem dX13_tellLaw_148 : decode cX13_tellLaw 148 = .ok (.aload_n 0, 1) := dk_42 (dk_at dksX13_tellLaw_6 11 rfl rfl)
theorem dX13_tellLaw_149 : decode cX13_tellLaw 149 = .ok (.getfield 200, 3) := dk_180 0 200 (dk_at dksX13_tellLaw_6 12 rfl rfl)
theorem dX13_tellLaw_152 : decode cX13_tellLaw 152 = .ok (.ifCond .le 4, 3) := dk_158 0 4 (dk_at dksX13_tellLaw_6 15 rfl rfl)
theorem dX13_tellLaw_155 : decode cX13_tellLaw 155 = .ok (.return_, 1) := dk_177 (dk_at dksX13_tellLaw_6 18 rfl rfl)
theorem dX13_tellLaw_156 : decode cX13_tellLaw 156 = .ok (.aload_n 0, 1) := dk_42 (dk_at dksX13_tellLaw_6 19 rfl rfl)
theorem dX13_tellLaw_157 : decode cX13_tellLaw 157 = .ok (.getfield 71, 3) := dk_180 0 71 (dk_at dksX13_tellLaw_6 20 rfl rfl)
theorem dX13_tellLaw_160 : decode cX13_tellLaw 160 = .ok (.iconst 4, 1) := dk_7 (dk_at dksX13_tellLaw_6 23 rfl rfl)
theorem dX13_tellLaw_161 : decode cX13_tellLaw 161 = .ok (.aload_n 0, 1) := dk_42 (dk_at dksX13_tellLaw_7 0 rfl rfl)
theorem dX13_tellLaw_162 : decode cX13_tellLaw 162 = .ok (.getfield 233, 3) := dk_180 0 233 (dk_at dksX13_tellLaw_7 1 rfl rfl)
theorem dX13_tellLaw_165 : decode cX13_tellLaw 165 = .ok (.imul, 1) := dk_104 (dk_at dksX13_tellLaw_7 4 rfl rfl)
theorem dX13_tellLaw_166 : decode cX13_tellLaw 166 = .ok (.iload_n 1, 1) := dk_27 (dk_at dksX13_tellLaw_7 5 rfl rfl)
theorem dX13_tellLaw_167 : decode cX13_tellLaw 167 = .ok (.iadd, 1) := dk_96 (dk_at dksX13_tellLaw_7 6 rfl rfl)
theorem dX13_tellLaw_168 : decode cX13_tellLaw 168 = .ok (.iload_n 2, 1) := dk_28 (dk_at dksX13_tellLaw_7 7 rfl rfl)
theorem dX13_tellLaw_169 : decode cX13_tellLaw 169 = .ok (.iastore, 1) := dk_79 (dk_at dksX13_tellLaw_7 8 rfl rfl)
theorem dX13_tellLaw_170 : decode cX13_tellLaw 170 = .ok (.aload_n 0, 1) := dk_42 (dk_at dksX13_tellLaw_7 9 rfl rfl)
theorem dX13_tellLaw_171 : decode cX13_tellLaw 171 = .ok (.getfield 74, 3) := dk_180 0 74 (dk_at dksX13_tellLaw_7 10 rfl rfl)
theorem dX13_tellLaw_174 : decode cX13_tellLaw 174 = .ok (.iconst 4, 1) := dk_7 (dk_at dksX13_tellLaw_7 13 rfl rfl)
theorem dX13_tellLaw_175 : decode cX13_tellLaw 175 = .ok (.aload_n 0, 1) := dk_42 (dk_at dksX13_tellLaw_7 14 rfl rfl)
theorem dX13_tellLaw_176 : decode cX13_tellLaw 176 = .ok (.getfield 233, 3) := dk_180 0 233 (dk_at dksX13_tellLaw_7 15 rfl rfl)
theorem dX13_tellLaw_179 : decode cX13_tellLaw 179 = .ok (.imul, 1) := dk_104 (dk_at dksX13_tellLaw_7 18 rfl rfl)
theorem dX13_tellLaw_180 : decode cX13_tellLaw 180 = .ok (.iload_n 1, 1) := dk_27 (dk_at dksX13_tellLaw_7 19 rfl rfl)
theorem dX13_tellLaw_181 : decode cX13_tellLaw 181 = .ok (.iadd, 1) := dk_96 (dk_at dksX13_tellLaw_7 20 rfl rfl)
theorem dX13_tellLaw_182 : decode cX13_tellLaw 182 = .ok (.aload_n 0, 1) := dk_42 (dk_at dksX13_tellLaw_7 21 rfl rfl)
theorem dX13_tellLaw_183 : decode cX13_tellLaw 183 = .ok (.getfield 239, 3) := dk_180 0 239 (dk_at dksX13_tellLaw_8 0 rfl rfl)
theorem dX13_tellLaw_186 : decode cX13_tellLaw 186 = .ok (.iastore, 1) := dk_79 (dk_at dksX13_tellLaw_8 3 rfl rfl)
theorem dX13_tellLaw_187 : decode cX13_tellLaw 187 = .ok (.return_, 1) := dk_177 (dk_at dksX13_tellLaw_8 4 rfl rfl)
abbrev cX13_expression : ByteArray := prog_21_method_32_code
def yX13_expression : MethodName := ⟨RX13, "expression", "()V"⟩
def dkwX13_expression_11 : List UInt8 := [180, 1, 31, 4, 96, 181, 1, 31, 42, 182, 0, 221, 167, 254, 255, 177]
abbrev dktX13_expression_11 : List UInt8 := dkwX13_expression_11 ++ []
def dkwX13_expression_10 : List UInt8 := [182, 1, 40, 42, 180, 0, 98, 42, 180, 1, 31, 42, 180, 0, 20, 42, 180, 0, 203, 46, 79, 42, 89]
abbrev dktX13_expression_10 : List UInt8 := dkwX13_expression_10 ++ dktX13_expression_11
def dkwX13_expression_9 : List UInt8 := [16, 10, 182, 0, 218, 154, 0, 12, 42, 16, 15, 182, 0, 218, 153, 0, 7, 4, 167, 0, 4, 3]
abbrev dktX13_expression_9 : List UInt8 := dkwX13_expression_9 ++ dktX13_expression_10
def dkwX13_expression_8 : List UInt8 := [154, 0, 22, 42, 180, 0, 227, 27, 164, 0, 8, 42, 4, 182, 0, 215, 42, 3, 182, 1, 40, 177, 42, 42]
abbrev dktX13_expression_8 : List UInt8 := dkwX13_expression_8 ++ dktX13_expression_9
def dkwX13_expression_7 : List UInt8 := [182, 0, 218, 154, 0, 12, 42, 16, 15, 182, 0, 218, 153, 0, 7, 4, 167, 0, 4, 3, 61, 28]
abbrev dktX13_expression_7 : List UInt8 := dkwX13_expression_7 ++ dktX13_expression_8
def dkwX13_expression_6 : List UInt8 := [167, 255, 210, 42, 16, 8, 182, 0, 218, 154, 0, 30, 42, 16, 9, 182, 0, 218, 154, 0, 21, 42, 16, 10]
abbrev dktX13_expression_6 : List UInt8 := dkwX13_expression_6 ++ dktX13_expression_7
def dkwX13_expression_5 : List UInt8 := [180, 1, 31, 4, 100, 181, 1, 31, 42, 89, 180, 0, 227, 4, 100, 181, 0, 227, 42, 182, 0, 221]
abbrev dktX13_expression_5 : List UInt8 := dkwX13_expression_5 ++ dktX13_expression_6
def dkwX13_expression_4 : List UInt8 := [42, 16, 7, 182, 0, 218, 153, 0, 43, 42, 180, 0, 227, 27, 164, 0, 35, 42, 3, 182, 1, 40, 42, 89]
abbrev dktX13_expression_4 : List UInt8 := dkwX13_expression_4 ++ dktX13_expression_5
def dkwX13_expression_3 : List UInt8 := [89, 180, 1, 31, 4, 96, 181, 1, 31, 167, 255, 198, 42, 182, 1, 37, 42, 180, 0, 200, 158, 0, 4, 177]
abbrev dktX13_expression_3 : List UInt8 := dkwX13_expression_3 ++ dktX13_expression_4
def dkwX13_expression_2 : List UInt8 := [180, 0, 227, 4, 96, 181, 0, 227, 42, 182, 0, 221, 42, 180, 0, 98, 42, 180, 1, 31, 16, 6, 79, 42]
abbrev dktX13_expression_2 : List UInt8 := dkwX13_expression_2 ++ dktX13_expression_3
def dkwX13_expression_1 : List UInt8 := [16, 6, 182, 0, 218, 153, 0, 55, 42, 180, 0, 227, 16, 6, 160, 0, 8, 42, 5, 182, 0, 215, 42, 89]
abbrev dktX13_expression_1 : List UInt8 := dkwX13_expression_1 ++ dktX13_expression_2
def dkwX13_expression_0 : List UInt8 := [42, 3, 181, 1, 31, 42, 180, 0, 227, 60, 4, 61, 28, 153, 1, 3, 42, 180, 0, 200, 154, 0, 252, 42]
abbrev dktX13_expression_0 : List UInt8 := dkwX13_expression_0 ++ dktX13_expression_1
theorem dksX13_expression_0 : cX13_expression.data.toList.drop 0 = dktX13_expression_0 := by decide +kernel
theorem dksX13_expression_1 : cX13_expression.data.toList.drop 24 = dktX13_expression_1 := dk_seg dksX13_expression_0 24 rfl rfl
theorem dksX13_expression_2 : cX13_expression.data.toList.drop 48 = dktX13_expression_2 := dk_seg dksX13_expression_1 24 rfl rfl
theorem dksX13_expression_3 : cX13_expression.data.toList.drop 72 = dktX13_expression_3 := dk_seg dksX13_expression_2 24 rfl rfl
theorem dksX13_expression_4 : cX13_expression.data.toList.drop 96 = dktX13_expression_4 := dk_seg dksX13_expression_3 24 rfl rfl
theorem dksX13_expression_5 : cX13_expression.data.toList.drop 120 = dktX13_expression_5 := dk_seg dksX13_expression_4 24 rfl rfl
theorem dksX13_expression_6 : cX13_expression.data.toList.drop 142 = dktX13_expression_6 := dk_seg dksX13_expression_5 22 rfl rfl
theorem dksX13_expression_7 : cX13_expression.data.toList.drop 166 = dktX13_expression_7 := dk_seg dksX13_expression_6 24 rfl rfl
theorem dksX13_expression_8 : cX13_expression.data.toList.drop 188 = dktX13_expression_8 := dk_seg dksX13_expression_7 22 rfl rfl
theorem dksX13_expression_9 : cX13_expression.data.toList.drop 212 = dktX13_expression_9 := dk_seg dksX13_expression_8 24 rfl rfl
theorem dksX13_expression_10 : cX13_expression.data.toList.drop 234 = dktX13_expression_10 := dk_seg dksX13_expression_9 22 rfl rfl
theorem dksX13_expression_11 : cX13_expression.data.toList.drop 257 = dktX13_expression_11 := dk_seg dksX13_expression_10 23 rfl rfl
theorem dX13_expression_0 : decode cX13_expression 0 = .ok (.aload_n 0, 1) := dk_42 (dk_at dksX13_expression_0 0 rfl rfl)
theorem dX13_expression_1 : decode cX13_expression 1 = .ok (.iconst 0, 1) := dk_3 (dk_at dksX13_expression_0 1 rfl rfl)
theorem dX13_expression_2 : decode cX13_expression 2 = .ok (.putfield 287, 3) := dk_181 1 31 (dk_at dksX13_expression_0 2 rfl rfl)
theorem dX13_expression_5 : decode cX13_expression 5 = .ok (.aload_n 0, 1) := dk_42 (dk_at dksX13_expression_0 5 rfl rfl)
theorem dX13_expression_6 : decode cX13_expression 6 = .ok (.getfield 227, 3) := dk_180 0 227 (dk_at dksX13_expression_0 6 rfl rfl)
theorem dX13_expression_9 : decode cX13_expression 9 = .ok (.istore_n 1, 1) := dk_60 (dk_at dksX13_expression_0 9 rfl rfl)
theorem dX13_expression_10 : decode cX13_expression 10 = .ok (.iconst 1, 1) := dk_4 (dk_at dksX13_expression_0 10 rfl rfl)
theorem dX13_expression_11 : decode cX13_expression 11 = .ok (.istore_n 2, 1) := dk_61 (dk_at dksX13_expression_0 11 rfl rfl)
theorem dX13_expression_12 : decode cX13_expression 12 = .ok (.iload_n 2, 1) := dk_28 (dk_at dksX13_expression_0 12 rfl rfl)
theorem dX13_expression_13 : decode cX13_expression 13 = .ok (.ifCond .eq 259, 3) := dk_153 1 3 (dk_at dksX13_expression_0 13 rfl rfl)
theorem dX13_expression_16 : decode cX13_expression 16 = .ok (.aload_n 0, 1) := dk_42 (dk_at dksX13_expression_0 16 rfl rfl)
theorem dX13_expression_17 : decode cX13_expression 17 = .ok (.getfield 200, 3) := dk_180 0 200 (dk_at dksX13_expression_0 17 rfl rfl)
theorem dX13_expression_20 : decode cX13_expression 20 = .ok (.ifCond .ne 252, 3) := dk_154 0 252 (dk_at dksX13_expression_0 20 rfl rfl)
theorem dX13_expression_23 : decode cX13_expression 23 = .ok (.aload_n 0, 1) := dk_42 (dk_at dksX13_expression_0 23 rfl rfl)
theorem dX13_expression_24 : decode cX13_expression 24 = .ok (.bipush 6, 2) := dk_16 6 (dk_at dksX13_expression_1 0 rfl rfl)
theorem dX13_expression_26 : decode cX13_expression 26 = .ok (.invokevirtual 218, 3) := dk_182 0 218 (dk_at dksX13_expression_1 2 rfl rfl)
theorem dX13_expression_29 : decode cX13_expression 29 = .ok (.ifCond .eq 55, 3) := dk_153 0 55 (dk_at dksX13_expression_1 5 rfl rfl)
theorem dX13_expression_32 : decode cX13_expression 32 = .ok (.aload_n 0, 1) := dk_42 (dk_at dksX13_expression_1 8 rfl rfl)
theorem dX13_expression_33 : decode cX13_expression 33 = .ok (.getfield 227, 3) := dk_180 0 227 (dk_at dksX13_expression_1 9 rfl rfl)
theorem dX13_expression_36 : decode cX13_expression 36 = .ok (.bipush 6, 2) := dk_16 6 (dk_at dksX13_expression_1 12 rfl rfl)
theorem dX13_expression_38 : decode cX13_expression 38 = .ok (.if_icmp .ne 8, 3) := dk_160 0 8 (dk_at dksX13_expression_1 14 rfl rfl)
theorem dX13_expression_41 : decode cX13_expression 41 = .ok (.aload_n 0, 1) := dk_42 (dk_at dksX13_expression_1 17 rfl rfl)
theorem dX13_expression_42 : decode cX13_expression 42 = .ok (.iconst 2, 1) := dk_5 (dk_at dksX13_expression_1 18 rfl rfl)
theorem dX13_expression_43 : decode cX13_expression 43 = .ok (.invokevirtual 215, 3) := dk_182 0 215 (dk_at dksX13_expression_1 19 rfl rfl)
theorem dX13_expression_46 : decode cX13_expression 46 = .ok (.aload_n 0, 1) := dk_42 (dk_at dksX13_expression_1 22 rfl rfl)
theorem dX13_expression_47 : decode cX13_expression 47 = .ok (.dup, 1) := dk_89 (dk_at dksX13_expression_1 23 rfl rfl)
theorem dX13_expression_48 : decode cX13_expression 48 = .ok (.getfield 227, 3) := dk_180 0 227 (dk_at dksX13_expression_2 0 rfl rfl)
theorem dX13_expression_51 : decode cX13_expression 51 = .ok (.iconst 1, 1) := dk_4 (dk_at dksX13_expression_2 3 rfl rfl)
theorem dX13_expression_52 : decode cX13_expression 52 = .ok (.iadd, 1) := dk_96 (dk_at dksX13_expression_2 4 rfl rfl)
theorem dX13_expression_53 : decode cX13_expression 53 = .ok (.putfield 227, 3) := dk_181 0 227 (dk_at dksX13_expression_2 5 rfl rfl)
theorem dX13_expression_56 : decode cX13_expression 56 = .ok (.aload_n 0, 1) := dk_42 (dk_at dksX13_expression_2 8 rfl rfl)
theorem dX13_expression_57 : decode cX13_expression 57 = .ok (.invokevirtual 221, 3) := dk_182 0 221 (dk_at dksX13_expression_2 9 rfl rfl)
theorem dX13_expression_60 : decode cX13_expression 60 = .ok (.aload_n 0, 1) := dk_42 (dk_at dksX13_expression_2 12 rfl rfl)
theorem dX13_expression_61 : decode cX13_expression 61 = .ok (.getfield 98, 3) := dk_180 0 98 (dk_at dksX13_expression_2 13 rfl rfl)
theorem dX13_expression_64 : decode cX13_expression 64 = .ok (.aload_n 0, 1) := dk_42 (dk_at dksX13_expression_2 16 rfl rfl)
theorem dX13_expression_65 : decode cX13_expression 65 = .ok (.getfield 287, 3) := dk_180 1 31 (dk_at dksX13_expression_2 17 rfl rfl)
theorem dX13_expression_68 : decode cX13_expression 68 = .ok (.bipush 6, 2) := dk_16 6 (dk_at dksX13_expression_2 20 rfl rfl)
theorem dX13_expression_70 : decode cX13_expression 70 = .ok (.iastore, 1) := dk_79 (dk_at dksX13_expression_2 22 rfl rfl)
theorem dX13_expression_71 : decode cX13_expression 71 = .ok (.aload_n 0, 1) := dk_42 (dk_at dksX13_expression_2 23 rfl rfl)
theorem dX13_expression_72 : decode cX13_expression 72 = .ok (.dup, 1) := dk_89 (dk_at dksX13_expression_3 0 rfl rfl)
theorem dX13_expression_73 : decode cX13_expression 73 = .ok (.getfield 287, 3) := dk_180 1 31 (dk_at dksX13_expression_3 1 rfl rfl)
theorem dX13_expression_76 : decode cX13_expression 76 = .ok (.iconst 1, 1) := dk_4 (dk_at dksX13_expression_3 4 rfl rfl)
theorem dX13_expression_77 : decode cX13_expression 77 = .ok (.iadd, 1) := dk_96 (dk_at dksX13_expression_3 5 rfl rfl)
theorem dX13_expression_78 : decode cX13_expression 78 = .ok (.putfield 287, 3) := dk_181 1 31 (dk_at dksX13_expression_3 6 rfl rfl)
theorem dX13_expression_81 : decode cX13_expression 81 = .ok (.goto (-58), 3) := dk_167 255 198 (dk_at dksX13_expression_3 9 rfl rfl)
theorem dX13_expression_84 : decode cX13_expression 84 = .ok (.aload_n 0, 1) := dk_42 (dk_at dksX13_expression_3 12 rfl rfl)
theorem dX13_expression_85 : decode cX13_expression 85 = .ok (.invokevirtual 293, 3) := dk_182 1 37 (dk_at dksX13_expression_3 13 rfl rfl)
theorem dX13_expression_88 : decode cX13_expression 88 = .ok (.aload_n 0, 1) := dk_42 (dk_at dksX13_expression_3 16 rfl rfl)
theorem dX13_expression_89 : decode cX13_expression 89 = .ok (.getfield 200, 3) := dk_180 0 200 (dk_at dksX13_expression_3 17 rfl rfl)
theorem dX13_expression_92 : decode cX13_expression 92 = .ok (.ifCond .le 4, 3) := dk_158 0 4 (dk_at dksX13_expression_3 20 rfl rfl)
theorem dX13_expression_95 : decode cX13_expression 95 = .ok (.return_, 1) := dk_177 (dk_at dksX13_expression_3 23 rfl rfl)
theorem dX13_expression_96 : decode cX13_expression 96 = .ok (.aload_n 0, 1) := dk_42 (dk_at dksX13_expression_4 0 rfl rfl)
theorem dX13_expression_97 : decode cX13_expression 97 = .ok (.bipush 7, 2) := dk_16 7 (dk_at dksX13_expression_4 1 rfl rfl)
theorem dX13_expression_99 : decode cX13_expression 99 = .ok (.invokevirtual 218, 3) := dk_182 0 218 (dk_at dksX13_expression_4 3 rfl rfl)
theorem dX13_expression_102 : decode cX13_expression 102 = .ok (.ifCond .eq 43, 3) := dk_153 0 43 (dk_at dksX13_expression_4 6 rfl rfl)
theorem dX13_expression_105 : decode cX13_expression 105 = .ok (.aload_n 0, 1) := dk_42 (dk_at dksX13_expression_4 9 rfl rfl)
theorem dX13_expression_106 : decode cX13_expression 106 = .ok (.getfield 227, 3) := dk_180 0 227 (dk_at dksX13_expression_4 10 rfl rfl)
theorem dX13_expression_109 : decode cX13_expression 109 = .ok (.iload_n 1, 1) := dk_27 (dk_at dksX13_expression_4 13 rfl rfl)
theorem dX13_expression_110 : decode cX13_expression 110 = .ok (.if_icmp .le 35, 3) := dk_164 0 35 (dk_at dksX13_expression_4 14 rfl rfl)
theorem dX13_expression_113 : decode cX13_expression 113 = .ok (.aload_n 0, 1) := dk_42 (dk_at dksX13_expression_4 17 rfl rfl)
theorem dX13_expression_114 : decode cX13_expression 114 = .ok (.iconst 0, 1) := dk_3 (dk_at dksX13_expression_4 18 rfl rfl)
theorem dX13_expression_115 : decode cX13_expression 115 = .ok (.invokevirtual 296, 3) := dk_182 1 40 (dk_at dksX13_expression_4 19 rfl rfl)
theorem dX13_expression_118 : decode cX13_expression 118 = .ok (.aload_n 0, 1) := dk_42 (dk_at dksX13_expression_4 22 rfl rfl)
theorem dX13_expression_119 : decode cX13_expression 119 = .ok (.dup, 1) := dk_89 (dk_at dksX13_expression_4 23 rfl rfl)
theorem dX13_expression_120 : decode cX13_expression 120 = .ok (.getfield 287, 3) := dk_180 1 31 (dk_at dksX13_expression_5 0 rfl rfl)
theorem dX13_expression_123 : decode cX13_expression 123 = .ok (.iconst 1, 1) := dk_4 (dk_at dksX13_expression_5 3 rfl rfl)
theorem dX13_expression_124 : decode cX13_expression 124 = .ok (.isub, 1) := dk_100 (dk_at dksX13_expression_5 4 rfl rfl)
theorem dX13_expression_125 : decode cX13_expression 125 = .ok (.putfield 287, 3) := dk_181 1 31 (dk_at dksX13_expression_5 5 rfl rfl)
theorem dX13_expression_128 : decode cX13_expression 128 = .ok (.aload_n 0, 1) := dk_42 (dk_at dksX13_expression_5 8 rfl rfl)
theorem dX13_expression_129 : decode cX13_expression 129 = .ok (.dup, 1) := dk_89 (dk_at dksX13_expression_5 9 rfl rfl)
theorem dX13_expression_130 : decode cX13_expression 130 = .ok (.getfield 227, 3) := dk_180 0 227 (dk_at dksX13_expression_5 10 rfl rfl)
theorem dX13_expression_133 : decode cX13_expression 133 = .ok (.iconst 1, 1) := dk_4 (dk_at dksX13_expression_5 13 rfl rfl)
theorem dX13_expression_134 : decode cX13_expression 134 = .ok (.isub, 1) := dk_100 (dk_at dksX13_expression_5 14 rfl rfl)
theorem dX13_expression_135 : decode cX13_expression 135 = .ok (.putfield 227, 3) := dk_181 0 227 (dk_at dksX13_expression_5 15 rfl rfl)
theorem dX13_expression_138 : decode cX13_expression 138 = .ok (.aload_n 0, 1) := dk_42 (dk_at dksX13_expression_5 18 rfl rfl)
theorem dX13_expression_139 : decode cX13_expression 139 = .ok (.invokevirtual 221, 3) := dk_182 0 221 (dk_at dksX13_expression_5 19 rfl rfl)
theorem dX13_expression_142 : decode cX13_expression 142 = .ok (.goto (-46), 3) := dk_167 255 210 (dk_at dksX13_expression_6 0 rfl rfl)
theorem dX13_expression_145 : decode cX13_expression 145 = .ok (.aload_n 0, 1) := dk_42 (dk_at dksX13_expression_6 3 rfl rfl)
theorem dX13_expression_146 : decode cX13_expression 146 = .ok (.bipush 8, 2) := dk_16 8 (dk_at dksX13_expression_6 4 rfl rfl)
theorem dX13_expression_148 : decode cX13_expression 148 = .ok (.invokevirtual 218, 3) := dk_182 0 218 (dk_at dksX13_expression_6 6 rfl rfl)
theorem dX13_expression_151 : decode cX13_expression 151 = .ok (.ifCond .ne 30, 3) := dk_154 0 30 (dk_at dksX13_expression_6 9 rfl rfl)
theorem dX13_expression_154 : decode cX13_expression 154 = .ok (.aload_n 0, 1) := dk_42 (dk_at dksX13_expression_6 12 rfl rfl)
theorem dX13_expression_155 : decode cX13_expression 155 = .ok (.bipush 9, 2) := dk_16 9 (dk_at dksX13_expression_6 13 rfl rfl)
theorem dX13_expression_157 : decode cX13_expression 157 = .ok (.invokevirtual 218, 3) := dk_182 0 218 (dk_at dksX13_expression_6 15 rfl rfl)
theorem dX13_expression_160 : decode cX13_expression 160 = .ok (.ifCond .ne 21, 3) := dk_154 0 21 (dk_at dksX13_expression_6 18 rfl rfl)
theorem dX13_expression_163 : decode cX13_expression 163 = .ok (.aload_n 0, 1) := dk_42 (dk_at dksX13_expression_6 21 rfl rfl)
theorem dX13_expression_164 : decode cX13_expression 164 = .ok (.bipush 10, 2) := dk_16 10 (dk_at dksX13_expression_6 22 rfl rfl)
theorem dX13_expression_166 : decode cX13_expression 166 = .ok (.invokevirtual 218, 3) := dk_182 0 218 (dk_at dksX13_expression_7 0 rfl rfl)
theorem dX13_expression_169 : decode cX13_expression 169 = .ok (.ifCond .ne 12, 3) := dk_154 0 12 (dk_at dksX13_expression_7 3 rfl rfl)
theorem dX13_expression_172 : decode cX13_expression 172 = .ok (.aload_n 0, 1) := dk_42 (dk_at dksX13_expression_7 6 rfl rfl)
theorem dX13_expression_173 : decode cX13_expression 173 = .ok (.bipush 15, 2) := dk_16 15 (dk_at dksX13_expression_7 7 rfl rfl)
theorem dX13_expression_175 : decode cX13_expression 175 = .ok (.invokevirtual 218, 3) := dk_182 0 218 (dk_at dksX13_expression_7 9 rfl rfl)
theorem dX13_expression_178 : decode cX13_expression 178 = .ok (.ifCond .eq 7, 3) := dk_153 0 7 (dk_at dksX13_expression_7 12 rfl rfl)
theorem dX13_expression_181 : decode cX13_expression 181 = .ok (.iconst 1, 1) := dk_4 (dk_at dksX13_expression_7 15 rfl rfl)
theorem dX13_expression_182 : decode cX13_expression 182 = .ok (.goto 4, 3) := dk_167 0 4 (dk_at dksX13_expression_7 16 rfl rfl)
theorem dX13_expression_185 : decode cX13_expression 185 = .ok (.iconst 0, 1) := dk_3 (dk_at dksX13_expression_7 19 rfl rfl)
theorem dX13_expression_186 : decode cX13_expression 186 = .ok (.istore_n 2, 1) := dk_61 (dk_at dksX13_expression_7 20 rfl rfl)
theorem dX13_expression_187 : decode cX13_expression 187 = .ok (.iload_n 2, 1) := dk_28 (dk_at dksX13_expression_7 21 rfl rfl)
theorem dX13_expression_188 : decode cX13_expression 188 = .ok (.ifCond .ne 22, 3) := dk_154 0 22 (dk_at dksX13_expression_8 0 rfl rfl)
theorem dX13_expression_191 : decode cX13_expression 191 = .ok (.aload_n 0, 1) := dk_42 (dk_at dksX13_expression_8 3 rfl rfl)
theorem dX13_expression_192 : decode cX13_expression 192 = .ok (.getfield 227, 3) := dk_180 0 227 (dk_at dksX13_expression_8 4 rfl rfl)
theorem dX13_expression_195 : decode cX13_expression 195 = .ok (.iload_n 1, 1) := dk_27 (dk_at dksX13_expression_8 7 rfl rfl)
theorem dX13_expression_196 : decode cX13_expression 196 = .ok (.if_icmp .le 8, 3) := dk_164 0 8 (dk_at dksX13_expression_8 8 rfl rfl)
theorem dX13_expression_199 : decode cX13_expression 199 = .ok (.aload_n 0, 1) := dk_42 (dk_at dksX13_expression_8 11 rfl rfl)
theorem dX13_expression_200 : decode cX13_expression 200 = .ok (.iconst 1, 1) := dk_4 (dk_at dksX13_expression_8 12 rfl rfl)
theorem dX13_expression_201 : decode cX13_expression 201 = .ok (.invokevirtual 215, 3) := dk_182 0 215 (dk_at dksX13_expression_8 13 rfl rfl)
theorem dX13_expression_204 : decode cX13_expression 204 = .ok (.aload_n 0, 1) := dk_42 (dk_at dksX13_expression_8 16 rfl rfl)
theorem dX13_expression_205 : decode cX13_expression 205 = .ok (.iconst 0, 1) := dk_3 (dk_at dksX13_expression_8 17 rfl rfl)
theorem dX13_expression_206 : decode cX13_expression 206 = .ok (.invokevirtual 296, 3) := dk_182 1 40 (dk_at dksX13_expression_8 18 rfl rfl)
theorem dX13_expression_209 : decode cX13_expression 209 = .ok (.return_, 1) := dk_177 (dk_at dksX13_expression_8 21 rfl rfl)
theorem dX13_expression_210 : decode cX13_expression 210 = .ok (.aload_n 0, 1) := dk_42 (dk_at dksX13_expression_8 22 rfl rfl)
theorem dX13_expression_211 : decode cX13_expression 211 = .ok (.aload_n 0, 1) := dk_42 (dk_at dksX13_expression_8 23 rfl rfl)
theorem dX13_expression_212 : decode cX13_expression 212 = .ok (.bipush 10, 2) := dk_16 10 (dk_at dksX13_expression_9 0 rfl rfl)
theorem dX13_expression_214 : decode cX13_expression 214 = .ok (.invokevirtual 218, 3) := dk_182 0 218 (dk_at dksX13_expression_9 2 rfl rfl)
theorem dX13_expression_217 : decode cX13_expression 217 = .ok (.ifCond .ne 12, 3) := dk_154 0 12 (dk_at dksX13_expression_9 5 rfl rfl)
theorem dX13_expression_220 : decode cX13_expression 220 = .ok (.aload_n 0, 1) := dk_42 (dk_at dksX13_expression_9 8 rfl rfl)
theorem dX13_expression_221 : decode cX13_expression 221 = .ok (.bipush 15, 2) := dk_16 15 (dk_at dksX13_expression_9 9 rfl rfl)
theorem dX13_expression_223 : decode cX13_expression 223 = .ok (.invokevirtual 218, 3) := dk_182 0 218 (dk_at dksX13_expression_9 11 rfl rfl)
theorem dX13_expression_226 : decode cX13_expression 226 = .ok (.ifCond .eq 7, 3) := dk_153 0 7 (dk_at dksX13_expression_9 14 rfl rfl)
theorem dX13_expression_229 : decode cX13_expression 229 = .ok (.iconst 1, 1) := dk_4 (dk_at dksX13_expression_9 17 rfl rfl)
theorem dX13_expression_230 : decode cX13_expression 230 = .ok (.goto 4, 3) := dk_167 0 4 (dk_at dksX13_expression_9 18 rfl rfl)
theorem dX13_expression_233 : decode cX13_expression 233 = .ok (.iconst 0, 1) := dk_3 (dk_at dksX13_expression_9 21 rfl rfl)
theorem dX13_expression_234 : decode cX13_expression 234 = .ok (.invokevirtual 296, 3) := dk_182 1 40 (dk_at dksX13_expression_10 0 rfl rfl)
theorem dX13_expression_237 : decode cX13_expression 237 = .ok (.aload_n 0, 1) := dk_42 (dk_at dksX13_expression_10 3 rfl rfl)
theorem dX13_expression_238 : decode cX13_expression 238 = .ok (.getfield 98, 3) := dk_180 0 98 (dk_at dksX13_expression_10 4 rfl rfl)
theorem dX13_expression_241 : decode cX13_expression 241 = .ok (.aload_n 0, 1) := dk_42 (dk_at dksX13_expression_10 7 rfl rfl)
theorem dX13_expression_242 : decode cX13_expression 242 = .ok (.getfield 287, 3) := dk_180 1 31 (dk_at dksX13_expression_10 8 rfl rfl)
theorem dX13_expression_245 : decode cX13_expression 245 = .ok (.aload_n 0, 1) := dk_42 (dk_at dksX13_expression_10 11 rfl rfl)
theorem dX13_expression_246 : decode cX13_expression 246 = .ok (.getfield 20, 3) := dk_180 0 20 (dk_at dksX13_expression_10 12 rfl rfl)
theorem dX13_expression_249 : decode cX13_expression 249 = .ok (.aload_n 0, 1) := dk_42 (dk_at dksX13_expression_10 15 rfl rfl)
theorem dX13_expression_250 : decode cX13_expression 250 = .ok (.getfield 203, 3) := dk_180 0 203 (dk_at dksX13_expression_10 16 rfl rfl)
theorem dX13_expression_253 : decode cX13_expression 253 = .ok (.iaload, 1) := dk_46 (dk_at dksX13_expression_10 19 rfl rfl)
theorem dX13_expression_254 : decode cX13_expression 254 = .ok (.iastore, 1) := dk_79 (dk_at dksX13_expression_10 20 rfl rfl)
theorem dX13_expression_255 : decode cX13_expression 255 = .ok (.aload_n 0, 1) := dk_42 (dk_at dksX13_expression_10 21 rfl rfl)
theorem dX13_expression_256 : decode cX13_expression 256 = .ok (.dup, 1) := dk_89 (dk_at dksX13_expression_10 22 rfl rfl)
theorem dX13_expression_257 : decode cX13_expression 257 = .ok (.getfield 287, 3) := dk_180 1 31 (dk_at dksX13_expression_11 0 rfl rfl)
theorem dX13_expression_260 : decode cX13_expression 260 = .ok (.iconst 1, 1) := dk_4 (dk_at dksX13_expression_11 3 rfl rfl)
theorem dX13_expression_261 : decode cX13_expression 261 = .ok (.iadd, 1) := dk_96 (dk_at dksX13_expression_11 4 rfl rfl)
theorem dX13_expression_262 : decode cX13_expression 262 = .ok (.putfield 287, 3) := dk_181 1 31 (dk_at dksX13_expression_11 5 rfl rfl)
theorem dX13_expression_265 : decode cX13_expression 265 = .ok (.aload_n 0, 1) := dk_42 (dk_at dksX13_expression_11 8 rfl rfl)
theorem dX13_expression_266 : decode cX13_expression 266 = .ok (.invokevirtual 221, 3) := dk_182 0 221 (dk_at dksX13_expression_11 9 rfl rfl)
theorem dX13_expression_269 : decode cX13_expression 269 = .ok (.goto (-257), 3) := dk_167 254 255 (dk_at dksX13_expression_11 12 rfl rfl)
theorem dX13_expression_272 : decode cX13_expression 272 = .ok (.return_, 1) := dk_177 (dk_at dksX13_expression_11 15 rfl rfl)
abbrev cX13_unit : ByteArray := prog_21_method_33_code
def yX13_unit : MethodName := ⟨RX13, "unit", "()V"⟩
def dkwX13_unit_3 : List UInt8 := [180, 0, 203, 46, 16, 32, 100, 182, 1, 34, 42, 182, 0, 221, 167, 0, 8, 42, 4, 182, 0, 215, 177]
abbrev dktX13_unit_3 : List UInt8 := dkwX13_unit_3 ++ []
def dkwX13_unit_2 : List UInt8 := [161, 0, 41, 42, 180, 0, 20, 42, 180, 0, 203, 46, 16, 40, 163, 0, 27, 42, 4, 42, 180, 0, 20, 42]
abbrev dktX13_unit_2 : List UInt8 := dkwX13_unit_2 ++ dktX13_unit_3
def dkwX13_unit_1 : List UInt8 := [182, 0, 221, 167, 0, 67, 42, 180, 0, 200, 154, 0, 55, 42, 180, 0, 20, 42, 180, 0, 203, 46, 16, 32]
abbrev dktX13_unit_1 : List UInt8 := dkwX13_unit_1 ++ dktX13_unit_2
def dkwX13_unit_0 : List UInt8 := [42, 5, 182, 0, 218, 153, 0, 24, 42, 3, 42, 180, 0, 27, 42, 180, 0, 203, 46, 182, 1, 34, 42]
abbrev dktX13_unit_0 : List UInt8 := dkwX13_unit_0 ++ dktX13_unit_1
theorem dksX13_unit_0 : cX13_unit.data.toList.drop 0 = dktX13_unit_0 := by decide +kernel
theorem dksX13_unit_1 : cX13_unit.data.toList.drop 23 = dktX13_unit_1 := dk_seg dksX13_unit_0 23 rfl rfl
theorem dksX13_unit_2 : cX13_unit.data.toList.drop 47 = dktX13_unit_2 := dk_seg dksX13_unit_1 24 rfl rfl
theorem dksX13_unit_3 : cX13_unit.data.toList.drop 71 = dktX13_unit_3 := dk_seg dksX13_unit_2 24 rfl rfl
theorem dX13_unit_0 : decode cX13_unit 0 = .ok (.aload_n 0, 1) := dk_42 (dk_at dksX13_unit_0 0 rfl rfl)
theorem dX13_unit_1 : decode cX13_unit 1 = .ok (.iconst 2, 1) := dk_5 (dk_at dksX13_unit_0 1 rfl rfl)
theorem dX13_unit_2 : decode cX13_unit 2 = .ok (.invokevirtual 218, 3) := dk_182 0 218 (dk_at dksX13_unit_0 2 rfl rfl)
theorem dX13_unit_5 : decode cX13_unit 5 = .ok (.ifCond .eq 24, 3) := dk_153 0 24 (dk_at dksX13_unit_0 5 rfl rfl)
theorem dX13_unit_8 : decode cX13_unit 8 = .ok (.aload_n 0, 1) := dk_42 (dk_at dksX13_unit_0 8 rfl rfl)
theorem dX13_unit_9 : decode cX13_unit 9 = .ok (.iconst 0, 1) := dk_3 (dk_at dksX13_unit_0 9 rfl rfl)
theorem dX13_unit_10 : decode cX13_unit 10 = .ok (.aload_n 0, 1) := dk_42 (dk_at dksX13_unit_0 10 rfl rfl)
theorem dX13_unit_11 : decode cX13_unit 11 = .ok (.getfield 27, 3) := dk_180 0 27 (dk_at dksX13_unit_0 11 rfl rfl)
theorem dX13_unit_14 : decode cX13_unit 14 = .ok (.aload_n 0, 1) := dk_42 (dk_at dksX13_unit_0 14 rfl rfl)
theorem dX13_unit_15 : decode cX13_unit 15 = .ok (.getfield 203, 3) := dk_180 0 203 (dk_at dksX13_unit_0 15 rfl rfl)
theorem dX13_unit_18 : decode cX13_unit 18 = .ok (.iaload, 1) := dk_46 (dk_at dksX13_unit_0 18 rfl rfl)
theorem dX13_unit_19 : decode cX13_unit 19 = .ok (.invokevirtual 290, 3) := dk_182 1 34 (dk_at dksX13_unit_0 19 rfl rfl)
theorem dX13_unit_22 : decode cX13_unit 22 = .ok (.aload_n 0, 1) := dk_42 (dk_at dksX13_unit_0 22 rfl rfl)
theorem dX13_unit_23 : decode cX13_unit 23 = .ok (.invokevirtual 221, 3) := dk_182 0 221 (dk_at dksX13_unit_1 0 rfl rfl)
theorem dX13_unit_26 : decode cX13_unit 26 = .ok (.goto 67, 3) := dk_167 0 67 (dk_at dksX13_unit_1 3 rfl rfl)
theorem dX13_unit_29 : decode cX13_unit 29 = .ok (.aload_n 0, 1) := dk_42 (dk_at dksX13_unit_1 6 rfl rfl)
theorem dX13_unit_30 : decode cX13_unit 30 = .ok (.getfield 200, 3) := dk_180 0 200 (dk_at dksX13_unit_1 7 rfl rfl)
theorem dX13_unit_33 : decode cX13_unit 33 = .ok (.ifCond .ne 55, 3) := dk_154 0 55 (dk_at dksX13_unit_1 10 rfl rfl)
theorem dX13_unit_36 : decode cX13_unit 36 = .ok (.aload_n 0, 1) := dk_42 (dk_at dksX13_unit_1 13 rfl rfl)
theorem dX13_unit_37 : decode cX13_unit 37 = .ok (.getfield 20, 3) := dk_180 0 20 (dk_at dksX13_unit_1 14 rfl rfl)
theorem dX13_unit_40 : decode cX13_unit 40 = .ok (.aload_n 0, 1) := dk_42 (dk_at dksX13_unit_1 17 rfl rfl)
theorem dX13_unit_41 : decode cX13_unit 41 = .ok (.getfield 203, 3) := dk_180 0 203 (dk_at dksX13_unit_1 18 rfl rfl)
theorem dX13_unit_44 : decode cX13_unit 44 = .ok (.iaload, 1) := dk_46 (dk_at dksX13_unit_1 21 rfl rfl)
theorem dX13_unit_45 : decode cX13_unit 45 = .ok (.bipush 32, 2) := dk_16 32 (dk_at dksX13_unit_1 22 rfl rfl)
theorem dX13_unit_47 : decode cX13_unit 47 = .ok (.if_icmp .lt 41, 3) := dk_161 0 41 (dk_at dksX13_unit_2 0 rfl rfl)
theorem dX13_unit_50 : decode cX13_unit 50 = .ok (.aload_n 0, 1) := dk_42 (dk_at dksX13_unit_2 3 rfl rfl)
theorem dX13_unit_51 : decode cX13_unit 51 = .ok (.getfield 20, 3) := dk_180 0 20 (dk_at dksX13_unit_2 4 rfl rfl)
theorem dX13_unit_54 : decode cX13_unit 54 = .ok (.aload_n 0, 1) := dk_42 (dk_at dksX13_unit_2 7 rfl rfl)
theorem dX13_unit_55 : decode cX13_unit 55 = .ok (.getfield 203, 3) := dk_180 0 203 (dk_at dksX13_unit_2 8 rfl rfl)
theorem dX13_unit_58 : decode cX13_unit 58 = .ok (.iaload, 1) := dk_46 (dk_at dksX13_unit_2 11 rfl rfl)
theorem dX13_unit_59 : decode cX13_unit 59 = .ok (.bipush 40, 2) := dk_16 40 (dk_at dksX13_unit_2 12 rfl rfl)
theorem dX13_unit_61 : decode cX13_unit 61 = .ok (.if_icmp .gt 27, 3) := dk_163 0 27 (dk_at dksX13_unit_2 14 rfl rfl)
theorem dX13_unit_64 : decode cX13_unit 64 = .ok (.aload_n 0, 1) := dk_42 (dk_at dksX13_unit_2 17 rfl rfl)
theorem dX13_unit_65 : decode cX13_unit 65 = .ok (.iconst 1, 1) := dk_4 (dk_at dksX13_unit_2 18 rfl rfl)
theorem dX13_unit_66 : decode cX13_unit 66 = .ok (.aload_n 0, 1) := dk_42 (dk_at dksX13_unit_2 19 rfl rfl)
theorem dX13_unit_67 : decode cX13_unit 67 = .ok (.getfield 20, 3) := dk_180 0 20 (dk_at dksX13_unit_2 20 rfl rfl)
theorem dX13_unit_70 : decode cX13_unit 70 = .ok (.aload_n 0, 1) := dk_42 (dk_at dksX13_unit_2 23 rfl rfl)
theorem dX13_unit_71 : decode cX13_unit 71 = .ok (.getfield 203, 3) := dk_180 0 203 (dk_at dksX13_unit_3 0 rfl rfl)
theorem dX13_unit_74 : decode cX13_unit 74 = .ok (.iaload, 1) := dk_46 (dk_at dksX13_unit_3 3 rfl rfl)
theorem dX13_unit_75 : decode cX13_unit 75 = .ok (.bipush 32, 2) := dk_16 32 (dk_at dksX13_unit_3 4 rfl rfl)
theorem dX13_unit_77 : decode cX13_unit 77 = .ok (.isub, 1) := dk_100 (dk_at dksX13_unit_3 6 rfl rfl)
theorem dX13_unit_78 : decode cX13_unit 78 = .ok (.invokevirtual 290, 3) := dk_182 1 34 (dk_at dksX13_unit_3 7 rfl rfl)
theorem dX13_unit_81 : decode cX13_unit 81 = .ok (.aload_n 0, 1) := dk_42 (dk_at dksX13_unit_3 10 rfl rfl)
theorem dX13_unit_82 : decode cX13_unit 82 = .ok (.invokevirtual 221, 3) := dk_182 0 221 (dk_at dksX13_unit_3 11 rfl rfl)
theorem dX13_unit_85 : decode cX13_unit 85 = .ok (.goto 8, 3) := dk_167 0 8 (dk_at dksX13_unit_3 14 rfl rfl)
theorem dX13_unit_88 : decode cX13_unit 88 = .ok (.aload_n 0, 1) := dk_42 (dk_at dksX13_unit_3 17 rfl rfl)
theorem dX13_unit_89 : decode cX13_unit 89 = .ok (.iconst 1, 1) := dk_4 (dk_at dksX13_unit_3 18 rfl rfl)
theorem dX13_unit_90 : decode cX13_unit 90 = .ok (.invokevirtual 215, 3) := dk_182 0 215 (dk_at dksX13_unit_3 19 rfl rfl)
theorem dX13_unit_93 : decode cX13_unit 93 = .ok (.return_, 1) := dk_177 (dk_at dksX13_unit_3 22 rfl rfl)
abbrev cX13_emit : ByteArray := prog_21_method_30_code
def yX13_emit : MethodName := ⟨RX13, "emit", "(II)V"⟩
def dkwX13_emit_1 : List UInt8 := [180, 0, 242, 4, 96, 181, 0, 242, 177]
abbrev dktX13_emit_1 : List UInt8 := dkwX13_emit_1 ++ []
def dkwX13_emit_0 : List UInt8 := [42, 180, 0, 92, 42, 180, 0, 242, 27, 79, 42, 180, 0, 95, 42, 180, 0, 242, 28, 79, 42, 89]
abbrev dktX13_emit_0 : List UInt8 := dkwX13_emit_0 ++ dktX13_emit_1
theorem dksX13_emit_0 : cX13_emit.data.toList.drop 0 = dktX13_emit_0 := by decide +kernel
theorem dksX13_emit_1 : cX13_emit.data.toList.drop 22 = dktX13_emit_1 := dk_seg dksX13_emit_0 22 rfl rfl
theorem dX13_emit_0 : decode cX13_emit 0 = .ok (.aload_n 0, 1) := dk_42 (dk_at dksX13_emit_0 0 rfl rfl)
theorem dX13_emit_1 : decode cX13_emit 1 = .ok (.getfield 92, 3) := dk_180 0 92 (dk_at dksX13_emit_0 1 rfl rfl)
theorem dX13_emit_4 : decode cX13_emit 4 = .ok (.aload_n 0, 1) := dk_42 (dk_at dksX13_emit_0 4 rfl rfl)
theorem dX13_emit_5 : decode cX13_emit 5 = .ok (.getfield 242, 3) := dk_180 0 242 (dk_at dksX13_emit_0 5 rfl rfl)
theorem dX13_emit_8 : decode cX13_emit 8 = .ok (.iload_n 1, 1) := dk_27 (dk_at dksX13_emit_0 8 rfl rfl)
theorem dX13_emit_9 : decode cX13_emit 9 = .ok (.iastore, 1) := dk_79 (dk_at dksX13_emit_0 9 rfl rfl)
theorem dX13_emit_10 : decode cX13_emit 10 = .ok (.aload_n 0, 1) := dk_42 (dk_at dksX13_emit_0 10 rfl rfl)
theorem dX13_emit_11 : decode cX13_emit 11 = .ok (.getfield 95, 3) := dk_180 0 95 (dk_at dksX13_emit_0 11 rfl rfl)
theorem dX13_emit_14 : decode cX13_emit 14 = .ok (.aload_n 0, 1) := dk_42 (dk_at dksX13_emit_0 14 rfl rfl)
theorem dX13_emit_15 : decode cX13_emit 15 = .ok (.getfield 242, 3) := dk_180 0 242 (dk_at dksX13_emit_0 15 rfl rfl)
theorem dX13_emit_18 : decode cX13_emit 18 = .ok (.iload_n 2, 1) := dk_28 (dk_at dksX13_emit_0 18 rfl rfl)
theorem dX13_emit_19 : decode cX13_emit 19 = .ok (.iastore, 1) := dk_79 (dk_at dksX13_emit_0 19 rfl rfl)
theorem dX13_emit_20 : decode cX13_emit 20 = .ok (.aload_n 0, 1) := dk_42 (dk_at dksX13_emit_0 20 rfl rfl)
theorem dX13_emit_21 : decode cX13_emit 21 = .ok (.dup, 1) := dk_89 (dk_at dksX13_emit_0 21 rfl rfl)
theorem dX13_emit_22 : decode cX13_emit 22 = .ok (.getfield 242, 3) := dk_180 0 242 (dk_at dksX13_emit_1 0 rfl rfl)
theorem dX13_emit_25 : decode cX13_emit 25 = .ok (.iconst 1, 1) := dk_4 (dk_at dksX13_emit_1 3 rfl rfl)
theorem dX13_emit_26 : decode cX13_emit 26 = .ok (.iadd, 1) := dk_96 (dk_at dksX13_emit_1 4 rfl rfl)
theorem dX13_emit_27 : decode cX13_emit 27 = .ok (.putfield 242, 3) := dk_181 0 242 (dk_at dksX13_emit_1 5 rfl rfl)
theorem dX13_emit_30 : decode cX13_emit 30 = .ok (.return_, 1) := dk_177 (dk_at dksX13_emit_1 8 rfl rfl)
abbrev cX13_comesOut : ByteArray := prog_21_method_31_code
def yX13_comesOut : MethodName := ⟨RX13, "comesOut", "(Z)V"⟩
def dkwX13_comesOut_4 : List UInt8 := [167, 255, 168, 177]
abbrev dktX13_comesOut_4 : List UInt8 := dkwX13_comesOut_4 ++ []
def dkwX13_comesOut_3 : List UInt8 := [160, 0, 7, 6, 167, 0, 14, 28, 16, 10, 160, 0, 7, 7, 167, 0, 4, 8, 3, 182, 1, 34]
abbrev dktX13_comesOut_3 : List UInt8 := dkwX13_comesOut_3 ++ dktX13_comesOut_4
def dkwX13_comesOut_2 : List UInt8 := [180, 1, 31, 4, 100, 181, 1, 31, 42, 28, 16, 8, 160, 0, 7, 5, 167, 0, 24, 28, 16, 9]
abbrev dktX13_comesOut_2 : List UInt8 := dkwX13_comesOut_2 ++ dktX13_comesOut_3
def dkwX13_comesOut_1 : List UInt8 := [159, 0, 19, 27, 153, 0, 16, 28, 16, 8, 159, 0, 9, 28, 16, 9, 160, 0, 4, 177, 42, 89]
abbrev dktX13_comesOut_1 : List UInt8 := dkwX13_comesOut_1 ++ dktX13_comesOut_2
def dkwX13_comesOut_0 : List UInt8 := [42, 180, 1, 31, 158, 0, 87, 42, 180, 0, 98, 42, 180, 1, 31, 4, 100, 46, 61, 28, 16, 6]
abbrev dktX13_comesOut_0 : List UInt8 := dkwX13_comesOut_0 ++ dktX13_comesOut_1
theorem dksX13_comesOut_0 : cX13_comesOut.data.toList.drop 0 = dktX13_comesOut_0 := by decide +kernel
theorem dksX13_comesOut_1 : cX13_comesOut.data.toList.drop 22 = dktX13_comesOut_1 := dk_seg dksX13_comesOut_0 22 rfl rfl
theorem dksX13_comesOut_2 : cX13_comesOut.data.toList.drop 44 = dktX13_comesOut_2 := dk_seg dksX13_comesOut_1 22 rfl rfl
theorem dksX13_comesOut_3 : cX13_comesOut.data.toList.drop 66 = dktX13_comesOut_3 := dk_seg dksX13_comesOut_2 22 rfl rfl
theorem dksX13_comesOut_4 : cX13_comesOut.data.toList.drop 88 = dktX13_comesOut_4 := dk_seg dksX13_comesOut_3 22 rfl rfl
theorem dX13_comesOut_0 : decode cX13_comesOut 0 = .ok (.aload_n 0, 1) := dk_42 (dk_at dksX13_comesOut_0 0 rfl rfl)
theorem dX13_comesOut_1 : decode cX13_comesOut 1 = .ok (.getfield 287, 3) := dk_180 1 31 (dk_at dksX13_comesOut_0 1 rfl rfl)
theorem dX13_comesOut_4 : decode cX13_comesOut 4 = .ok (.ifCond .le 87, 3) := dk_158 0 87 (dk_at dksX13_comesOut_0 4 rfl rfl)
theorem dX13_comesOut_7 : decode cX13_comesOut 7 = .ok (.aload_n 0, 1) := dk_42 (dk_at dksX13_comesOut_0 7 rfl rfl)
theorem dX13_comesOut_8 : decode cX13_comesOut 8 = .ok (.getfield 98, 3) := dk_180 0 98 (dk_at dksX13_comesOut_0 8 rfl rfl)
theorem dX13_comesOut_11 : decode cX13_comesOut 11 = .ok (.aload_n 0, 1) := dk_42 (dk_at dksX13_comesOut_0 11 rfl rfl)
theorem dX13_comesOut_12 : decode cX13_comesOut 12 = .ok (.getfield 287, 3) := dk_180 1 31 (dk_at dksX13_comesOut_0 12 rfl rfl)
theorem dX13_comesOut_15 : decode cX13_comesOut 15 = .ok (.iconst 1, 1) := dk_4 (dk_at dksX13_comesOut_0 15 rfl rfl)
theorem dX13_comesOut_16 : decode cX13_comesOut 16 = .ok (.isub, 1) := dk_100 (dk_at dksX13_comesOut_0 16 rfl rfl)
theorem dX13_comesOut_17 : decode cX13_comesOut 17 = .ok (.iaload, 1) := dk_46 (dk_at dksX13_comesOut_0 17 rfl rfl)
theorem dX13_comesOut_18 : decode cX13_comesOut 18 = .ok (.istore_n 2, 1) := dk_61 (dk_at dksX13_comesOut_0 18 rfl rfl)
theorem dX13_comesOut_19 : decode cX13_comesOut 19 = .ok (.iload_n 2, 1) := dk_28 (dk_at dksX13_comesOut_0 19 rfl rfl)
theorem dX13_comesOut_20 : decode cX13_comesOut 20 = .ok (.bipush 6, 2) := dk_16 6 (dk_at dksX13_comesOut_0 20 rfl rfl)
theorem dX13_comesOut_22 : decode cX13_comesOut 22 = .ok (.if_icmp .eq 19, 3) := dk_159 0 19 (dk_at dksX13_comesOut_1 0 rfl rfl)
theorem dX13_comesOut_25 : decode cX13_comesOut 25 = .ok (.iload_n 1, 1) := dk_27 (dk_at dksX13_comesOut_1 3 rfl rfl)
theorem dX13_comesOut_26 : decode cX13_comesOut 26 = .ok (.ifCond .eq 16, 3) := dk_153 0 16 (dk_at dksX13_comesOut_1 4 rfl rfl)
theorem dX13_comesOut_29 : decode cX13_comesOut 29 = .ok (.iload_n 2, 1) := dk_28 (dk_at dksX13_comesOut_1 7 rfl rfl)
theorem dX13_comesOut_30 : decode cX13_comesOut 30 = .ok (.bipush 8, 2) := dk_16 8 (dk_at dksX13_comesOut_1 8 rfl rfl)
theorem dX13_comesOut_32 : decode cX13_comesOut 32 = .ok (.if_icmp .eq 9, 3) := dk_159 0 9 (dk_at dksX13_comesOut_1 10 rfl rfl)
theorem dX13_comesOut_35 : decode cX13_comesOut 35 = .ok (.iload_n 2, 1) := dk_28 (dk_at dksX13_comesOut_1 13 rfl rfl)
theorem dX13_comesOut_36 : decode cX13_comesOut 36 = .ok (.bipush 9, 2) := dk_16 9 (dk_at dksX13_comesOut_1 14 rfl rfl)
theorem dX13_comesOut_38 : decode cX13_comesOut 38 = .ok (.if_icmp .ne 4, 3) := dk_160 0 4 (dk_at dksX13_comesOut_1 16 rfl rfl)
theorem dX13_comesOut_41 : decode cX13_comesOut 41 = .ok (.return_, 1) := dk_177 (dk_at dksX13_comesOut_1 19 rfl rfl)
theorem dX13_comesOut_42 : decode cX13_comesOut 42 = .ok (.aload_n 0, 1) := dk_42 (dk_at dksX13_comesOut_1 20 rfl rfl)
theorem dX13_comesOut_43 : decode cX13_comesOut 43 = .ok (.dup, 1) := dk_89 (dk_at dksX13_comesOut_1 21 rfl rfl)
theorem dX13_comesOut_44 : decode cX13_comesOut 44 = .ok (.getfield 287, 3) := dk_180 1 31 (dk_at dksX13_comesOut_2 0 rfl rfl)
theorem dX13_comesOut_47 : decode cX13_comesOut 47 = .ok (.iconst 1, 1) := dk_4 (dk_at dksX13_comesOut_2 3 rfl rfl)
theorem dX13_comesOut_48 : decode cX13_comesOut 48 = .ok (.isub, 1) := dk_100 (dk_at dksX13_comesOut_2 4 rfl rfl)
theorem dX13_comesOut_49 : decode cX13_comesOut 49 = .ok (.putfield 287, 3) := dk_181 1 31 (dk_at dksX13_comesOut_2 5 rfl rfl)
theorem dX13_comesOut_52 : decode cX13_comesOut 52 = .ok (.aload_n 0, 1) := dk_42 (dk_at dksX13_comesOut_2 8 rfl rfl)
theorem dX13_comesOut_53 : decode cX13_comesOut 53 = .ok (.iload_n 2, 1) := dk_28 (dk_at dksX13_comesOut_2 9 rfl rfl)
theorem dX13_comesOut_54 : decode cX13_comesOut 54 = .ok (.bipush 8, 2) := dk_16 8 (dk_at dksX13_comesOut_2 10 rfl rfl)
theorem dX13_comesOut_56 : decode cX13_comesOut 56 = .ok (.if_icmp .ne 7, 3) := dk_160 0 7 (dk_at dksX13_comesOut_2 12 rfl rfl)
theorem dX13_comesOut_59 : decode cX13_comesOut 59 = .ok (.iconst 2, 1) := dk_5 (dk_at dksX13_comesOut_2 15 rfl rfl)
theorem dX13_comesOut_60 : decode cX13_comesOut 60 = .ok (.goto 24, 3) := dk_167 0 24 (dk_at dksX13_comesOut_2 16 rfl rfl)
theorem dX13_comesOut_63 : decode cX13_comesOut 63 = .ok (.iload_n 2, 1) := dk_28 (dk_at dksX13_comesOut_2 19 rfl rfl)
theorem dX13_comesOut_64 : decode cX13_comesOut 64 = .ok (.bipush 9, 2) := dk_16 9 (dk_at dksX13_comesOut_2 20 rfl rfl)
theorem dX13_comesOut_66 : decode cX13_comesOut 66 = .ok (.if_icmp .ne 7, 3) := dk_160 0 7 (dk_at dksX13_comesOut_3 0 rfl rfl)
theorem dX13_comesOut_69 : decode cX13_comesOut 69 = .ok (.iconst 3, 1) := dk_6 (dk_at dksX13_comesOut_3 3 rfl rfl)
theorem dX13_comesOut_70 : decode cX13_comesOut 70 = .ok (.goto 14, 3) := dk_167 0 14 (dk_at dksX13_comesOut_3 4 rfl rfl)
theorem dX13_comesOut_73 : decode cX13_comesOut 73 = .ok (.iload_n 2, 1) := dk_28 (dk_at dksX13_comesOut_3 7 rfl rfl)
theorem dX13_comesOut_74 : decode cX13_comesOut 74 = .ok (.bipush 10, 2) := dk_16 10 (dk_at dksX13_comesOut_3 8 rfl rfl)
theorem dX13_comesOut_76 : decode cX13_comesOut 76 = .ok (.if_icmp .ne 7, 3) := dk_160 0 7 (dk_at dksX13_comesOut_3 10 rfl rfl)
theorem dX13_comesOut_79 : decode cX13_comesOut 79 = .ok (.iconst 4, 1) := dk_7 (dk_at dksX13_comesOut_3 13 rfl rfl)
theorem dX13_comesOut_80 : decode cX13_comesOut 80 = .ok (.goto 4, 3) := dk_167 0 4 (dk_at dksX13_comesOut_3 14 rfl rfl)
theorem dX13_comesOut_83 : decode cX13_comesOut 83 = .ok (.iconst 5, 1) := dk_8 (dk_at dksX13_comesOut_3 17 rfl rfl)
theorem dX13_comesOut_84 : decode cX13_comesOut 84 = .ok (.iconst 0, 1) := dk_3 (dk_at dksX13_comesOut_3 18 rfl rfl)
theorem dX13_comesOut_85 : decode cX13_comesOut 85 = .ok (.invokevirtual 290, 3) := dk_182 1 34 (dk_at dksX13_comesOut_3 19 rfl rfl)
theorem dX13_comesOut_88 : decode cX13_comesOut 88 = .ok (.goto (-88), 3) := dk_167 255 168 (dk_at dksX13_comesOut_4 0 rfl rfl)
theorem dX13_comesOut_91 : decode cX13_comesOut 91 = .ok (.return_, 1) := dk_177 (dk_at dksX13_comesOut_4 3 rfl rfl)
abbrev cX13_term : ByteArray := prog_21_method_29_code
def yX13_term : MethodName := ⟨RX13, "term", "()V"⟩
def dkwX13_term_1 : List UInt8 := [42, 180, 0, 89, 42, 180, 0, 239, 42, 180, 0, 242, 79, 42, 89, 180, 0, 239, 4, 96, 181, 0, 239, 177]
abbrev dktX13_term_1 : List UInt8 := dkwX13_term_1 ++ []
def dkwX13_term_0 : List UInt8 := [42, 180, 0, 86, 42, 180, 0, 239, 42, 180, 0, 242, 79, 42, 180, 0, 200, 154, 0, 7, 42, 182, 1, 25]
abbrev dktX13_term_0 : List UInt8 := dkwX13_term_0 ++ dktX13_term_1
theorem dksX13_term_0 : cX13_term.data.toList.drop 0 = dktX13_term_0 := by decide +kernel
theorem dksX13_term_1 : cX13_term.data.toList.drop 24 = dktX13_term_1 := dk_seg dksX13_term_0 24 rfl rfl
theorem dX13_term_0 : decode cX13_term 0 = .ok (.aload_n 0, 1) := dk_42 (dk_at dksX13_term_0 0 rfl rfl)
theorem dX13_term_1 : decode cX13_term 1 = .ok (.getfield 86, 3) := dk_180 0 86 (dk_at dksX13_term_0 1 rfl rfl)
theorem dX13_term_4 : decode cX13_term 4 = .ok (.aload_n 0, 1) := dk_42 (dk_at dksX13_term_0 4 rfl rfl)
theorem dX13_term_5 : decode cX13_term 5 = .ok (.getfield 239, 3) := dk_180 0 239 (dk_at dksX13_term_0 5 rfl rfl)
theorem dX13_term_8 : decode cX13_term 8 = .ok (.aload_n 0, 1) := dk_42 (dk_at dksX13_term_0 8 rfl rfl)
theorem dX13_term_9 : decode cX13_term 9 = .ok (.getfield 242, 3) := dk_180 0 242 (dk_at dksX13_term_0 9 rfl rfl)
theorem dX13_term_12 : decode cX13_term 12 = .ok (.iastore, 1) := dk_79 (dk_at dksX13_term_0 12 rfl rfl)
theorem dX13_term_13 : decode cX13_term 13 = .ok (.aload_n 0, 1) := dk_42 (dk_at dksX13_term_0 13 rfl rfl)
theorem dX13_term_14 : decode cX13_term 14 = .ok (.getfield 200, 3) := dk_180 0 200 (dk_at dksX13_term_0 14 rfl rfl)
theorem dX13_term_17 : decode cX13_term 17 = .ok (.ifCond .ne 7, 3) := dk_154 0 7 (dk_at dksX13_term_0 17 rfl rfl)
theorem dX13_term_20 : decode cX13_term 20 = .ok (.aload_n 0, 1) := dk_42 (dk_at dksX13_term_0 20 rfl rfl)
theorem dX13_term_21 : decode cX13_term 21 = .ok (.invokevirtual 281, 3) := dk_182 1 25 (dk_at dksX13_term_0 21 rfl rfl)
theorem dX13_term_24 : decode cX13_term 24 = .ok (.aload_n 0, 1) := dk_42 (dk_at dksX13_term_1 0 rfl rfl)
theorem dX13_term_25 : decode cX13_term 25 = .ok (.getfield 89, 3) := dk_180 0 89 (dk_at dksX13_term_1 1 rfl rfl)
theorem dX13_term_28 : decode cX13_term 28 = .ok (.aload_n 0, 1) := dk_42 (dk_at dksX13_term_1 4 rfl rfl)
theorem dX13_term_29 : decode cX13_term 29 = .ok (.getfield 239, 3) := dk_180 0 239 (dk_at dksX13_term_1 5 rfl rfl)
theorem dX13_term_32 : decode cX13_term 32 = .ok (.aload_n 0, 1) := dk_42 (dk_at dksX13_term_1 8 rfl rfl)
theorem dX13_term_33 : decode cX13_term 33 = .ok (.getfield 242, 3) := dk_180 0 242 (dk_at dksX13_term_1 9 rfl rfl)
theorem dX13_term_36 : decode cX13_term 36 = .ok (.iastore, 1) := dk_79 (dk_at dksX13_term_1 12 rfl rfl)
theorem dX13_term_37 : decode cX13_term 37 = .ok (.aload_n 0, 1) := dk_42 (dk_at dksX13_term_1 13 rfl rfl)
theorem dX13_term_38 : decode cX13_term 38 = .ok (.dup, 1) := dk_89 (dk_at dksX13_term_1 14 rfl rfl)
theorem dX13_term_39 : decode cX13_term 39 = .ok (.getfield 239, 3) := dk_180 0 239 (dk_at dksX13_term_1 15 rfl rfl)
theorem dX13_term_42 : decode cX13_term 42 = .ok (.iconst 1, 1) := dk_4 (dk_at dksX13_term_1 18 rfl rfl)
theorem dX13_term_43 : decode cX13_term 43 = .ok (.iadd, 1) := dk_96 (dk_at dksX13_term_1 19 rfl rfl)
theorem dX13_term_44 : decode cX13_term 44 = .ok (.putfield 239, 3) := dk_181 0 239 (dk_at dksX13_term_1 20 rfl rfl)
theorem dX13_term_47 : decode cX13_term 47 = .ok (.return_, 1) := dk_177 (dk_at dksX13_term_1 23 rfl rfl)
abbrev cX13_areBeds : ByteArray := prog_21_method_22_code
def yX13_areBeds : MethodName := ⟨RX13, "areBeds", "()Z"⟩
def dkwX13_areBeds_1 : List UInt8 := [180, 0, 233, 104, 27, 96, 51, 153, 0, 5, 3, 172, 132, 1, 1, 167, 255, 228, 4, 172]
abbrev dktX13_areBeds_1 : List UInt8 := dkwX13_areBeds_1 ++ []
def dkwX13_areBeds_0 : List UInt8 := [42, 180, 0, 43, 42, 180, 0, 233, 46, 60, 27, 16, 9, 162, 0, 28, 42, 180, 0, 58, 16, 9, 42]
abbrev dktX13_areBeds_0 : List UInt8 := dkwX13_areBeds_0 ++ dktX13_areBeds_1
theorem dksX13_areBeds_0 : cX13_areBeds.data.toList.drop 0 = dktX13_areBeds_0 := by decide +kernel
theorem dksX13_areBeds_1 : cX13_areBeds.data.toList.drop 23 = dktX13_areBeds_1 := dk_seg dksX13_areBeds_0 23 rfl rfl
theorem dX13_areBeds_0 : decode cX13_areBeds 0 = .ok (.aload_n 0, 1) := dk_42 (dk_at dksX13_areBeds_0 0 rfl rfl)
theorem dX13_areBeds_1 : decode cX13_areBeds 1 = .ok (.getfield 43, 3) := dk_180 0 43 (dk_at dksX13_areBeds_0 1 rfl rfl)
theorem dX13_areBeds_4 : decode cX13_areBeds 4 = .ok (.aload_n 0, 1) := dk_42 (dk_at dksX13_areBeds_0 4 rfl rfl)
theorem dX13_areBeds_5 : decode cX13_areBeds 5 = .ok (.getfield 233, 3) := dk_180 0 233 (dk_at dksX13_areBeds_0 5 rfl rfl)
theorem dX13_areBeds_8 : decode cX13_areBeds 8 = .ok (.iaload, 1) := dk_46 (dk_at dksX13_areBeds_0 8 rfl rfl)
theorem dX13_areBeds_9 : decode cX13_areBeds 9 = .ok (.istore_n 1, 1) := dk_60 (dk_at dksX13_areBeds_0 9 rfl rfl)
theorem dX13_areBeds_10 : decode cX13_areBeds 10 = .ok (.iload_n 1, 1) := dk_27 (dk_at dksX13_areBeds_0 10 rfl rfl)
theorem dX13_areBeds_11 : decode cX13_areBeds 11 = .ok (.bipush 9, 2) := dk_16 9 (dk_at dksX13_areBeds_0 11 rfl rfl)
theorem dX13_areBeds_13 : decode cX13_areBeds 13 = .ok (.if_icmp .ge 28, 3) := dk_162 0 28 (dk_at dksX13_areBeds_0 13 rfl rfl)
theorem dX13_areBeds_16 : decode cX13_areBeds 16 = .ok (.aload_n 0, 1) := dk_42 (dk_at dksX13_areBeds_0 16 rfl rfl)
theorem dX13_areBeds_17 : decode cX13_areBeds 17 = .ok (.getfield 58, 3) := dk_180 0 58 (dk_at dksX13_areBeds_0 17 rfl rfl)
theorem dX13_areBeds_20 : decode cX13_areBeds 20 = .ok (.bipush 9, 2) := dk_16 9 (dk_at dksX13_areBeds_0 20 rfl rfl)
theorem dX13_areBeds_22 : decode cX13_areBeds 22 = .ok (.aload_n 0, 1) := dk_42 (dk_at dksX13_areBeds_0 22 rfl rfl)
theorem dX13_areBeds_23 : decode cX13_areBeds 23 = .ok (.getfield 233, 3) := dk_180 0 233 (dk_at dksX13_areBeds_1 0 rfl rfl)
theorem dX13_areBeds_26 : decode cX13_areBeds 26 = .ok (.imul, 1) := dk_104 (dk_at dksX13_areBeds_1 3 rfl rfl)
theorem dX13_areBeds_27 : decode cX13_areBeds 27 = .ok (.iload_n 1, 1) := dk_27 (dk_at dksX13_areBeds_1 4 rfl rfl)
theorem dX13_areBeds_28 : decode cX13_areBeds 28 = .ok (.iadd, 1) := dk_96 (dk_at dksX13_areBeds_1 5 rfl rfl)
theorem dX13_areBeds_29 : decode cX13_areBeds 29 = .ok (.baload, 1) := dk_51 (dk_at dksX13_areBeds_1 6 rfl rfl)
theorem dX13_areBeds_30 : decode cX13_areBeds 30 = .ok (.ifCond .eq 5, 3) := dk_153 0 5 (dk_at dksX13_areBeds_1 7 rfl rfl)
theorem dX13_areBeds_33 : decode cX13_areBeds 33 = .ok (.iconst 0, 1) := dk_3 (dk_at dksX13_areBeds_1 10 rfl rfl)
theorem dX13_areBeds_34 : decode cX13_areBeds 34 = .ok (.ireturn, 1) := dk_172 (dk_at dksX13_areBeds_1 11 rfl rfl)
theorem dX13_areBeds_35 : decode cX13_areBeds 35 = .ok (.iinc 1 1, 3) := dk_132 1 1 (dk_at dksX13_areBeds_1 12 rfl rfl)
theorem dX13_areBeds_38 : decode cX13_areBeds 38 = .ok (.goto (-28), 3) := dk_167 255 228 (dk_at dksX13_areBeds_1 15 rfl rfl)
theorem dX13_areBeds_41 : decode cX13_areBeds 41 = .ok (.iconst 1, 1) := dk_4 (dk_at dksX13_areBeds_1 18 rfl rfl)
theorem dX13_areBeds_42 : decode cX13_areBeds 42 = .ok (.ireturn, 1) := dk_172 (dk_at dksX13_areBeds_1 19 rfl rfl)
abbrev cX13_place : ByteArray := prog_21_method_21_code
def yX13_place : MethodName := ⟨RX13, "place", "()I"⟩
theorem dX13_place_0 : decode cX13_place 0 = .ok (.aload_n 0, 1) := by decide +kernel
theorem dX13_place_1 : decode cX13_place 1 = .ok (.getfield 37, 3) := by decide +kernel
theorem dX13_place_4 : decode cX13_place 4 = .ok (.ireturn, 1) := by decide +kernel
abbrev cX13_sleeper : ByteArray := prog_21_method_61_code
def yX13_sleeper : MethodName := ⟨RX13, "sleeper", "(II)I"⟩
def dkwX13_sleeper_5 : List UInt8 := [182, 1, 118, 172, 42, 180, 0, 110, 16, 36, 27, 96, 46, 172, 19, 1, 117, 172]
abbrev dktX13_sleeper_5 : List UInt8 := dkwX13_sleeper_5 ++ []
def dkwX13_sleeper_4 : List UInt8 := [27, 96, 46, 172, 42, 27, 182, 1, 93, 172, 42, 27, 182, 1, 90, 172, 42, 27, 182, 1, 99, 172, 42, 27]
abbrev dktX13_sleeper_4 : List UInt8 := dkwX13_sleeper_4 ++ dktX13_sleeper_5
def dkwX13_sleeper_3 : List UInt8 := [96, 46, 172, 42, 180, 0, 52, 16, 9, 42, 180, 0, 230, 104, 27, 96, 46, 172, 42, 180, 0, 110, 16, 18]
abbrev dktX13_sleeper_3 : List UInt8 := dkwX13_sleeper_3 ++ dktX13_sleeper_4
def dkwX13_sleeper_2 : List UInt8 := [42, 180, 0, 110, 27, 46, 172, 42, 180, 0, 110, 16, 9, 27, 96, 46, 172, 42, 180, 0, 110, 16, 27, 27]
abbrev dktX13_sleeper_2 : List UInt8 := dkwX13_sleeper_2 ++ dktX13_sleeper_3
def dkwX13_sleeper_1 : List UInt8 := [170, 0, 0, 0, 0, 0, 141, 0, 0, 0, 0, 0, 0, 0, 9, 0, 0, 0, 55, 0, 0, 0, 62, 0, 0, 0, 72, 0, 0, 0, 82, 0, 0, 0, 97, 0, 0, 0, 107, 0, 0, 0, 113, 0, 0, 0, 119, 0, 0, 0, 125, 0, 0, 0, 131]
abbrev dktX13_sleeper_1 : List UInt8 := dkwX13_sleeper_1 ++ dktX13_sleeper_2
def dkwX13_sleeper_0 : List UInt8 := [42, 27, 182, 1, 72, 154, 0, 7, 19, 1, 117, 172, 42, 182, 1, 65, 28]
abbrev dktX13_sleeper_0 : List UInt8 := dkwX13_sleeper_0 ++ dktX13_sleeper_1
theorem dksX13_sleeper_0 : cX13_sleeper.data.toList.drop 0 = dktX13_sleeper_0 := by decide +kernel
theorem dksX13_sleeper_1 : cX13_sleeper.data.toList.drop 17 = dktX13_sleeper_1 := dk_seg dksX13_sleeper_0 17 rfl rfl
theorem dksX13_sleeper_2 : cX13_sleeper.data.toList.drop 72 = dktX13_sleeper_2 := dk_seg dksX13_sleeper_1 55 rfl rfl
theorem dksX13_sleeper_3 : cX13_sleeper.data.toList.drop 96 = dktX13_sleeper_3 := dk_seg dksX13_sleeper_2 24 rfl rfl
theorem dksX13_sleeper_4 : cX13_sleeper.data.toList.drop 120 = dktX13_sleeper_4 := dk_seg dksX13_sleeper_3 24 rfl rfl
theorem dksX13_sleeper_5 : cX13_sleeper.data.toList.drop 144 = dktX13_sleeper_5 := dk_seg dksX13_sleeper_4 24 rfl rfl
theorem dX13_sleeper_0 : decode cX13_sleeper 0 = .ok (.aload_n 0, 1) := dk_42 (dk_at dksX13_sleeper_0 0 rfl rfl)
theorem dX13_sleeper_1 : decode cX13_sleeper 1 = .ok (.iload_n 1, 1) := dk_27 (dk_at dksX13_sleeper_0 1 rfl rfl)
theorem dX13_sleeper_2 : decode cX13_sleeper 2 = .ok (.invokevirtual 328, 3) := dk_182 1 72 (dk_at dksX13_sleeper_0 2 rfl rfl)
theorem dX13_sleeper_5 : decode cX13_sleeper 5 = .ok (.ifCond .ne 7, 3) := dk_154 0 7 (dk_at dksX13_sleeper_0 5 rfl rfl)
theorem dX13_sleeper_8 : decode cX13_sleeper 8 = .ok (.ldc_w 373, 3) := dk_19 1 117 (dk_at dksX13_sleeper_0 8 rfl rfl)
theorem dX13_sleeper_11 : decode cX13_sleeper 11 = .ok (.ireturn, 1) := dk_172 (dk_at dksX13_sleeper_0 11 rfl rfl)
theorem dX13_sleeper_12 : decode cX13_sleeper 12 = .ok (.aload_n 0, 1) := dk_42 (dk_at dksX13_sleeper_0 12 rfl rfl)
theorem dX13_sleeper_13 : decode cX13_sleeper 13 = .ok (.invokevirtual 321, 3) := dk_182 1 65 (dk_at dksX13_sleeper_0 13 rfl rfl)
theorem dX13_sleeper_16 : decode cX13_sleeper 16 = .ok (.iload_n 2, 1) := dk_28 (dk_at dksX13_sleeper_0 16 rfl rfl)
theorem dX13_sleeper_17 : decode cX13_sleeper 17 = .ok (.tableswitch 141 0 9 #[55, 62, 72, 82, 97, 107, 113, 119, 125, 131], 55) := by decide +kernel
theorem dX13_sleeper_72 : decode cX13_sleeper 72 = .ok (.aload_n 0, 1) := dk_42 (dk_at dksX13_sleeper_2 0 rfl rfl)
theorem dX13_sleeper_73 : decode cX13_sleeper 73 = .ok (.getfield 110, 3) := dk_180 0 110 (dk_at dksX13_sleeper_2 1 rfl rfl)
theorem dX13_sleeper_76 : decode cX13_sleeper 76 = .ok (.iload_n 1, 1) := dk_27 (dk_at dksX13_sleeper_2 4 rfl rfl)
theorem dX13_sleeper_77 : decode cX13_sleeper 77 = .ok (.iaload, 1) := dk_46 (dk_at dksX13_sleeper_2 5 rfl rfl)
theorem dX13_sleeper_78 : decode cX13_sleeper 78 = .ok (.ireturn, 1) := dk_172 (dk_at dksX13_sleeper_2 6 rfl rfl)
theorem dX13_sleeper_79 : decode cX13_sleeper 79 = .ok (.aload_n 0, 1) := dk_42 (dk_at dksX13_sleeper_2 7 rfl rfl)
theorem dX13_sleeper_80 : decode cX13_sleeper 80 = .ok (.getfield 110, 3) := dk_180 0 110 (dk_at dksX13_sleeper_2 8 rfl rfl)
theorem dX13_sleeper_83 : decode cX13_sleeper 83 = .ok (.bipush 9, 2) := dk_16 9 (dk_at dksX13_sleeper_2 11 rfl rfl)
theorem dX13_sleeper_85 : decode cX13_sleeper 85 = .ok (.iload_n 1, 1) := dk_27 (dk_at dksX13_sleeper_2 13 rfl rfl)
theorem dX13_sleeper_86 : decode cX13_sleeper 86 = .ok (.iadd, 1) := dk_96 (dk_at dksX13_sleeper_2 14 rfl rfl)
theorem dX13_sleeper_87 : decode cX13_sleeper 87 = .ok (.iaload, 1) := dk_46 (dk_at dksX13_sleeper_2 15 rfl rfl)
theorem dX13_sleeper_88 : decode cX13_sleeper 88 = .ok (.ireturn, 1) := dk_172 (dk_at dksX13_sleeper_2 16 rfl rfl)
theorem dX13_sleeper_89 : decode cX13_sleeper 89 = .ok (.aload_n 0, 1) := dk_42 (dk_at dksX13_sleeper_2 17 rfl rfl)
theorem dX13_sleeper_90 : decode cX13_sleeper 90 = .ok (.getfield 110, 3) := dk_180 0 110 (dk_at dksX13_sleeper_2 18 rfl rfl)
theorem dX13_sleeper_93 : decode cX13_sleeper 93 = .ok (.bipush 27, 2) := dk_16 27 (dk_at dksX13_sleeper_2 21 rfl rfl)
theorem dX13_sleeper_95 : decode cX13_sleeper 95 = .ok (.iload_n 1, 1) := dk_27 (dk_at dksX13_sleeper_2 23 rfl rfl)
theorem dX13_sleeper_96 : decode cX13_sleeper 96 = .ok (.iadd, 1) := dk_96 (dk_at dksX13_sleeper_3 0 rfl rfl)
theorem dX13_sleeper_97 : decode cX13_sleeper 97 = .ok (.iaload, 1) := dk_46 (dk_at dksX13_sleeper_3 1 rfl rfl)
theorem dX13_sleeper_98 : decode cX13_sleeper 98 = .ok (.ireturn, 1) := dk_172 (dk_at dksX13_sleeper_3 2 rfl rfl)
theorem dX13_sleeper_99 : decode cX13_sleeper 99 = .ok (.aload_n 0, 1) := dk_42 (dk_at dksX13_sleeper_3 3 rfl rfl)
theorem dX13_sleeper_100 : decode cX13_sleeper 100 = .ok (.getfield 52, 3) := dk_180 0 52 (dk_at dksX13_sleeper_3 4 rfl rfl)
theorem dX13_sleeper_103 : decode cX13_sleeper 103 = .ok (.bipush 9, 2) := dk_16 9 (dk_at dksX13_sleeper_3 7 rfl rfl)
theorem dX13_sleeper_105 : decode cX13_sleeper 105 = .ok (.aload_n 0, 1) := dk_42 (dk_at dksX13_sleeper_3 9 rfl rfl)
theorem dX13_sleeper_106 : decode cX13_sleeper 106 = .ok (.getfield 230, 3) := dk_180 0 230 (dk_at dksX13_sleeper_3 10 rfl rfl)
theorem dX13_sleeper_109 : decode cX13_sleeper 109 = .ok (.imul, 1) := dk_104 (dk_at dksX13_sleeper_3 13 rfl rfl)
theorem dX13_sleeper_110 : decode cX13_sleeper 110 = .ok (.iload_n 1, 1) := dk_27 (dk_at dksX13_sleeper_3 14 rfl rfl)
theorem dX13_sleeper_111 : decode cX13_sleeper 111 = .ok (.iadd, 1) := dk_96 (dk_at dksX13_sleeper_3 15 rfl rfl)
theorem dX13_sleeper_112 : decode cX13_sleeper 112 = .ok (.iaload, 1) := dk_46 (dk_at dksX13_sleeper_3 16 rfl rfl)
theorem dX13_sleeper_113 : decode cX13_sleeper 113 = .ok (.ireturn, 1) := dk_172 (dk_at dksX13_sleeper_3 17 rfl rfl)
theorem dX13_sleeper_114 : decode cX13_sleeper 114 = .ok (.aload_n 0, 1) := dk_42 (dk_at dksX13_sleeper_3 18 rfl rfl)
theorem dX13_sleeper_115 : decode cX13_sleeper 115 = .ok (.getfield 110, 3) := dk_180 0 110 (dk_at dksX13_sleeper_3 19 rfl rfl)
theorem dX13_sleeper_118 : decode cX13_sleeper 118 = .ok (.bipush 18, 2) := dk_16 18 (dk_at dksX13_sleeper_3 22 rfl rfl)
theorem dX13_sleeper_120 : decode cX13_sleeper 120 = .ok (.iload_n 1, 1) := dk_27 (dk_at dksX13_sleeper_4 0 rfl rfl)
theorem dX13_sleeper_121 : decode cX13_sleeper 121 = .ok (.iadd, 1) := dk_96 (dk_at dksX13_sleeper_4 1 rfl rfl)
theorem dX13_sleeper_122 : decode cX13_sleeper 122 = .ok (.iaload, 1) := dk_46 (dk_at dksX13_sleeper_4 2 rfl rfl)
theorem dX13_sleeper_123 : decode cX13_sleeper 123 = .ok (.ireturn, 1) := dk_172 (dk_at dksX13_sleeper_4 3 rfl rfl)
theorem dX13_sleeper_124 : decode cX13_sleeper 124 = .ok (.aload_n 0, 1) := dk_42 (dk_at dksX13_sleeper_4 4 rfl rfl)
theorem dX13_sleeper_125 : decode cX13_sleeper 125 = .ok (.iload_n 1, 1) := dk_27 (dk_at dksX13_sleeper_4 5 rfl rfl)
theorem dX13_sleeper_126 : decode cX13_sleeper 126 = .ok (.invokevirtual 349, 3) := dk_182 1 93 (dk_at dksX13_sleeper_4 6 rfl rfl)
theorem dX13_sleeper_129 : decode cX13_sleeper 129 = .ok (.ireturn, 1) := dk_172 (dk_at dksX13_sleeper_4 9 rfl rfl)
theorem dX13_sleeper_130 : decode cX13_sleeper 130 = .ok (.aload_n 0, 1) := dk_42 (dk_at dksX13_sleeper_4 10 rfl rfl)
theorem dX13_sleeper_131 : decode cX13_sleeper 131 = .ok (.iload_n 1, 1) := dk_27 (dk_at dksX13_sleeper_4 11 rfl rfl)
theorem dX13_sleeper_132 : decode cX13_sleeper 132 = .ok (.invokevirtual 346, 3) := dk_182 1 90 (dk_at dksX13_sleeper_4 12 rfl rfl)
theorem dX13_sleeper_135 : decode cX13_sleeper 135 = .ok (.ireturn, 1) := dk_172 (dk_at dksX13_sleeper_4 15 rfl rfl)
theorem dX13_sleeper_136 : decode cX13_sleeper 136 = .ok (.aload_n 0, 1) := dk_42 (dk_at dksX13_sleeper_4 16 rfl rfl)
theorem dX13_sleeper_137 : decode cX13_sleeper 137 = .ok (.iload_n 1, 1) := dk_27 (dk_at dksX13_sleeper_4 17 rfl rfl)
theorem dX13_sleeper_138 : decode cX13_sleeper 138 = .ok (.invokevirtual 355, 3) := dk_182 1 99 (dk_at dksX13_sleeper_4 18 rfl rfl)
theorem dX13_sleeper_141 : decode cX13_sleeper 141 = .ok (.ireturn, 1) := dk_172 (dk_at dksX13_sleeper_4 21 rfl rfl)
theorem dX13_sleeper_142 : decode cX13_sleeper 142 = .ok (.aload_n 0, 1) := dk_42 (dk_at dksX13_sleeper_4 22 rfl rfl)
theorem dX13_sleeper_143 : decode cX13_sleeper 143 = .ok (.iload_n 1, 1) := dk_27 (dk_at dksX13_sleeper_4 23 rfl rfl)
theorem dX13_sleeper_144 : decode cX13_sleeper 144 = .ok (.invokevirtual 374, 3) := dk_182 1 118 (dk_at dksX13_sleeper_5 0 rfl rfl)
theorem dX13_sleeper_147 : decode cX13_sleeper 147 = .ok (.ireturn, 1) := dk_172 (dk_at dksX13_sleeper_5 3 rfl rfl)
theorem dX13_sleeper_148 : decode cX13_sleeper 148 = .ok (.aload_n 0, 1) := dk_42 (dk_at dksX13_sleeper_5 4 rfl rfl)
theorem dX13_sleeper_149 : decode cX13_sleeper 149 = .ok (.getfield 110, 3) := dk_180 0 110 (dk_at dksX13_sleeper_5 5 rfl rfl)
theorem dX13_sleeper_152 : decode cX13_sleeper 152 = .ok (.bipush 36, 2) := dk_16 36 (dk_at dksX13_sleeper_5 8 rfl rfl)
theorem dX13_sleeper_154 : decode cX13_sleeper 154 = .ok (.iload_n 1, 1) := dk_27 (dk_at dksX13_sleeper_5 10 rfl rfl)
theorem dX13_sleeper_155 : decode cX13_sleeper 155 = .ok (.iadd, 1) := dk_96 (dk_at dksX13_sleeper_5 11 rfl rfl)
theorem dX13_sleeper_156 : decode cX13_sleeper 156 = .ok (.iaload, 1) := dk_46 (dk_at dksX13_sleeper_5 12 rfl rfl)
theorem dX13_sleeper_157 : decode cX13_sleeper 157 = .ok (.ireturn, 1) := dk_172 (dk_at dksX13_sleeper_5 13 rfl rfl)
theorem dX13_sleeper_158 : decode cX13_sleeper 158 = .ok (.ldc_w 373, 3) := dk_19 1 117 (dk_at dksX13_sleeper_5 14 rfl rfl)
theorem dX13_sleeper_161 : decode cX13_sleeper 161 = .ok (.ireturn, 1) := dk_172 (dk_at dksX13_sleeper_5 17 rfl rfl)
abbrev cX13_isBed : ByteArray := prog_21_method_39_code
def yX13_isBed : MethodName := ⟨RX13, "isBed", "(I)Z"⟩
def dkwX13_isBed_0 : List UInt8 := [27, 3, 42, 182, 1, 48, 4, 100, 184, 1, 52, 172]
abbrev dktX13_isBed_0 : List UInt8 := dkwX13_isBed_0 ++ []
theorem dksX13_isBed_0 : cX13_isBed.data.toList.drop 0 = dktX13_isBed_0 := by decide +kernel
theorem dX13_isBed_0 : decode cX13_isBed 0 = .ok (.iload_n 1, 1) := dk_27 (dk_at dksX13_isBed_0 0 rfl rfl)
theorem dX13_isBed_1 : decode cX13_isBed 1 = .ok (.iconst 0, 1) := dk_3 (dk_at dksX13_isBed_0 1 rfl rfl)
theorem dX13_isBed_2 : decode cX13_isBed 2 = .ok (.aload_n 0, 1) := dk_42 (dk_at dksX13_isBed_0 2 rfl rfl)
theorem dX13_isBed_3 : decode cX13_isBed 3 = .ok (.invokevirtual 304, 3) := dk_182 1 48 (dk_at dksX13_isBed_0 3 rfl rfl)
theorem dX13_isBed_6 : decode cX13_isBed 6 = .ok (.iconst 1, 1) := dk_4 (dk_at dksX13_isBed_0 6 rfl rfl)
theorem dX13_isBed_7 : decode cX13_isBed 7 = .ok (.isub, 1) := dk_100 (dk_at dksX13_isBed_0 7 rfl rfl)
theorem dX13_isBed_8 : decode cX13_isBed 8 = .ok (.invokestatic 308, 3) := dk_184 1 52 (dk_at dksX13_isBed_0 8 rfl rfl)
theorem dX13_isBed_11 : decode cX13_isBed 11 = .ok (.ireturn, 1) := dk_172 (dk_at dksX13_isBed_0 11 rfl rfl)
abbrev cX13_in : ByteArray := prog_21_method_35_code
def yX13_in : MethodName := ⟨RX13, "in", "(III)Z"⟩
def dkwX13_in_0 : List UInt8 := [26, 27, 161, 0, 12, 26, 28, 163, 0, 7, 4, 167, 0, 4, 3, 172]
abbrev dktX13_in_0 : List UInt8 := dkwX13_in_0 ++ []
theorem dksX13_in_0 : cX13_in.data.toList.drop 0 = dktX13_in_0 := by decide +kernel
theorem dX13_in_0 : decode cX13_in 0 = .ok (.iload_n 0, 1) := dk_26 (dk_at dksX13_in_0 0 rfl rfl)
theorem dX13_in_1 : decode cX13_in 1 = .ok (.iload_n 1, 1) := dk_27 (dk_at dksX13_in_0 1 rfl rfl)
theorem dX13_in_2 : decode cX13_in 2 = .ok (.if_icmp .lt 12, 3) := dk_161 0 12 (dk_at dksX13_in_0 2 rfl rfl)
theorem dX13_in_5 : decode cX13_in 5 = .ok (.iload_n 0, 1) := dk_26 (dk_at dksX13_in_0 5 rfl rfl)
theorem dX13_in_6 : decode cX13_in 6 = .ok (.iload_n 2, 1) := dk_28 (dk_at dksX13_in_0 6 rfl rfl)
theorem dX13_in_7 : decode cX13_in 7 = .ok (.if_icmp .gt 7, 3) := dk_163 0 7 (dk_at dksX13_in_0 7 rfl rfl)
theorem dX13_in_10 : decode cX13_in 10 = .ok (.iconst 1, 1) := dk_4 (dk_at dksX13_in_0 10 rfl rfl)
theorem dX13_in_11 : decode cX13_in 11 = .ok (.goto 4, 3) := dk_167 0 4 (dk_at dksX13_in_0 11 rfl rfl)
theorem dX13_in_14 : decode cX13_in 14 = .ok (.iconst 0, 1) := dk_3 (dk_at dksX13_in_0 14 rfl rfl)
theorem dX13_in_15 : decode cX13_in 15 = .ok (.ireturn, 1) := dk_172 (dk_at dksX13_in_0 15 rfl rfl)
abbrev cX13_copies : ByteArray := prog_21_method_44_code
def yX13_copies : MethodName := ⟨RX13, "copies", "()V"⟩
def dkwX13_copies_1 : List UInt8 := [167, 255, 235, 42, 42, 180, 0, 68, 42, 180, 0, 230, 46, 181, 1, 59, 42, 3, 181, 1, 62, 177]
abbrev dktX13_copies_1 : List UInt8 := dkwX13_copies_1 ++ []
def dkwX13_copies_0 : List UInt8 := [3, 60, 27, 16, 48, 162, 0, 21, 42, 180, 0, 110, 27, 42, 180, 0, 107, 27, 46, 79, 132, 1, 1]
abbrev dktX13_copies_0 : List UInt8 := dkwX13_copies_0 ++ dktX13_copies_1
theorem dksX13_copies_0 : cX13_copies.data.toList.drop 0 = dktX13_copies_0 := by decide +kernel
theorem dksX13_copies_1 : cX13_copies.data.toList.drop 23 = dktX13_copies_1 := dk_seg dksX13_copies_0 23 rfl rfl
theorem dX13_copies_0 : decode cX13_copies 0 = .ok (.iconst 0, 1) := dk_3 (dk_at dksX13_copies_0 0 rfl rfl)
theorem dX13_copies_1 : decode cX13_copies 1 = .ok (.istore_n 1, 1) := dk_60 (dk_at dksX13_copies_0 1 rfl rfl)
theorem dX13_copies_2 : decode cX13_copies 2 = .ok (.iload_n 1, 1) := dk_27 (dk_at dksX13_copies_0 2 rfl rfl)
theorem dX13_copies_3 : decode cX13_copies 3 = .ok (.bipush 48, 2) := dk_16 48 (dk_at dksX13_copies_0 3 rfl rfl)
theorem dX13_copies_5 : decode cX13_copies 5 = .ok (.if_icmp .ge 21, 3) := dk_162 0 21 (dk_at dksX13_copies_0 5 rfl rfl)
theorem dX13_copies_8 : decode cX13_copies 8 = .ok (.aload_n 0, 1) := dk_42 (dk_at dksX13_copies_0 8 rfl rfl)
theorem dX13_copies_9 : decode cX13_copies 9 = .ok (.getfield 110, 3) := dk_180 0 110 (dk_at dksX13_copies_0 9 rfl rfl)
theorem dX13_copies_12 : decode cX13_copies 12 = .ok (.iload_n 1, 1) := dk_27 (dk_at dksX13_copies_0 12 rfl rfl)
theorem dX13_copies_13 : decode cX13_copies 13 = .ok (.aload_n 0, 1) := dk_42 (dk_at dksX13_copies_0 13 rfl rfl)
theorem dX13_copies_14 : decode cX13_copies 14 = .ok (.getfield 107, 3) := dk_180 0 107 (dk_at dksX13_copies_0 14 rfl rfl)
theorem dX13_copies_17 : decode cX13_copies 17 = .ok (.iload_n 1, 1) := dk_27 (dk_at dksX13_copies_0 17 rfl rfl)
theorem dX13_copies_18 : decode cX13_copies 18 = .ok (.iaload, 1) := dk_46 (dk_at dksX13_copies_0 18 rfl rfl)
theorem dX13_copies_19 : decode cX13_copies 19 = .ok (.iastore, 1) := dk_79 (dk_at dksX13_copies_0 19 rfl rfl)
theorem dX13_copies_20 : decode cX13_copies 20 = .ok (.iinc 1 1, 3) := dk_132 1 1 (dk_at dksX13_copies_0 20 rfl rfl)
theorem dX13_copies_23 : decode cX13_copies 23 = .ok (.goto (-21), 3) := dk_167 255 235 (dk_at dksX13_copies_1 0 rfl rfl)
theorem dX13_copies_26 : decode cX13_copies 26 = .ok (.aload_n 0, 1) := dk_42 (dk_at dksX13_copies_1 3 rfl rfl)
theorem dX13_copies_27 : decode cX13_copies 27 = .ok (.aload_n 0, 1) := dk_42 (dk_at dksX13_copies_1 4 rfl rfl)
theorem dX13_copies_28 : decode cX13_copies 28 = .ok (.getfield 68, 3) := dk_180 0 68 (dk_at dksX13_copies_1 5 rfl rfl)
theorem dX13_copies_31 : decode cX13_copies 31 = .ok (.aload_n 0, 1) := dk_42 (dk_at dksX13_copies_1 8 rfl rfl)
theorem dX13_copies_32 : decode cX13_copies 32 = .ok (.getfield 230, 3) := dk_180 0 230 (dk_at dksX13_copies_1 9 rfl rfl)
theorem dX13_copies_35 : decode cX13_copies 35 = .ok (.iaload, 1) := dk_46 (dk_at dksX13_copies_1 12 rfl rfl)
theorem dX13_copies_36 : decode cX13_copies 36 = .ok (.putfield 315, 3) := dk_181 1 59 (dk_at dksX13_copies_1 13 rfl rfl)
theorem dX13_copies_39 : decode cX13_copies 39 = .ok (.aload_n 0, 1) := dk_42 (dk_at dksX13_copies_1 16 rfl rfl)
theorem dX13_copies_40 : decode cX13_copies 40 = .ok (.iconst 0, 1) := dk_3 (dk_at dksX13_copies_1 17 rfl rfl)
theorem dX13_copies_41 : decode cX13_copies 41 = .ok (.putfield 318, 3) := dk_181 1 62 (dk_at dksX13_copies_1 18 rfl rfl)
theorem dX13_copies_44 : decode cX13_copies 44 = .ok (.return_, 1) := dk_177 (dk_at dksX13_copies_1 21 rfl rfl)
abbrev cX13_liesThen : ByteArray := prog_21_method_51_code
def yX13_liesThen : MethodName := ⟨RX13, "liesThen", "(I)I"⟩
def dkwX13_liesThen_1 : List UInt8 := [172]
abbrev dktX13_liesThen_1 : List UInt8 := dkwX13_liesThen_1 ++ []
def dkwX13_liesThen_0 : List UInt8 := [42, 27, 182, 1, 81, 42, 3, 42, 180, 0, 101, 3, 46, 182, 1, 84, 158, 0, 7, 4, 167, 0, 4, 3]
abbrev dktX13_liesThen_0 : List UInt8 := dkwX13_liesThen_0 ++ dktX13_liesThen_1
theorem dksX13_liesThen_0 : cX13_liesThen.data.toList.drop 0 = dktX13_liesThen_0 := by decide +kernel
theorem dksX13_liesThen_1 : cX13_liesThen.data.toList.drop 24 = dktX13_liesThen_1 := dk_seg dksX13_liesThen_0 24 rfl rfl
theorem dX13_liesThen_0 : decode cX13_liesThen 0 = .ok (.aload_n 0, 1) := dk_42 (dk_at dksX13_liesThen_0 0 rfl rfl)
theorem dX13_liesThen_1 : decode cX13_liesThen 1 = .ok (.iload_n 1, 1) := dk_27 (dk_at dksX13_liesThen_0 1 rfl rfl)
theorem dX13_liesThen_2 : decode cX13_liesThen 2 = .ok (.invokevirtual 337, 3) := dk_182 1 81 (dk_at dksX13_liesThen_0 2 rfl rfl)
theorem dX13_liesThen_5 : decode cX13_liesThen 5 = .ok (.aload_n 0, 1) := dk_42 (dk_at dksX13_liesThen_0 5 rfl rfl)
theorem dX13_liesThen_6 : decode cX13_liesThen 6 = .ok (.iconst 0, 1) := dk_3 (dk_at dksX13_liesThen_0 6 rfl rfl)
theorem dX13_liesThen_7 : decode cX13_liesThen 7 = .ok (.aload_n 0, 1) := dk_42 (dk_at dksX13_liesThen_0 7 rfl rfl)
theorem dX13_liesThen_8 : decode cX13_liesThen 8 = .ok (.getfield 101, 3) := dk_180 0 101 (dk_at dksX13_liesThen_0 8 rfl rfl)
theorem dX13_liesThen_11 : decode cX13_liesThen 11 = .ok (.iconst 0, 1) := dk_3 (dk_at dksX13_liesThen_0 11 rfl rfl)
theorem dX13_liesThen_12 : decode cX13_liesThen 12 = .ok (.iaload, 1) := dk_46 (dk_at dksX13_liesThen_0 12 rfl rfl)
theorem dX13_liesThen_13 : decode cX13_liesThen 13 = .ok (.invokevirtual 340, 3) := dk_182 1 84 (dk_at dksX13_liesThen_0 13 rfl rfl)
theorem dX13_liesThen_16 : decode cX13_liesThen 16 = .ok (.ifCond .le 7, 3) := dk_158 0 7 (dk_at dksX13_liesThen_0 16 rfl rfl)
theorem dX13_liesThen_19 : decode cX13_liesThen 19 = .ok (.iconst 1, 1) := dk_4 (dk_at dksX13_liesThen_0 19 rfl rfl)
theorem dX13_liesThen_20 : decode cX13_liesThen 20 = .ok (.goto 4, 3) := dk_167 0 4 (dk_at dksX13_liesThen_0 20 rfl rfl)
theorem dX13_liesThen_23 : decode cX13_liesThen 23 = .ok (.iconst 0, 1) := dk_3 (dk_at dksX13_liesThen_0 23 rfl rfl)
theorem dX13_liesThen_24 : decode cX13_liesThen 24 = .ok (.ireturn, 1) := dk_172 (dk_at dksX13_liesThen_1 0 rfl rfl)
abbrev cX13_looks : ByteArray := prog_21_method_49_code
def yX13_looks : MethodName := ⟨RX13, "looks", "(I)V"⟩
def dkwX13_looks_5 : List UInt8 := [16, 27, 27, 96, 46, 79, 177]
abbrev dktX13_looks_5 : List UInt8 := dkwX13_looks_5 ++ []
def dkwX13_looks_4 : List UInt8 := [27, 79, 42, 180, 0, 101, 16, 7, 42, 182, 1, 48, 79, 42, 180, 0, 101, 16, 8, 42, 180, 0, 110]
abbrev dktX13_looks_4 : List UInt8 := dkwX13_looks_4 ++ dktX13_looks_5
def dkwX13_looks_3 : List UInt8 := [46, 79, 42, 180, 0, 101, 8, 42, 180, 0, 110, 16, 45, 46, 16, 24, 112, 79, 42, 180, 0, 101, 16, 6]
abbrev dktX13_looks_3 : List UInt8 := dkwX13_looks_3 ++ dktX13_looks_4
def dkwX13_looks_2 : List UInt8 := [16, 9, 27, 96, 46, 79, 42, 180, 0, 101, 7, 42, 180, 0, 52, 16, 9, 42, 180, 0, 230, 104, 27, 96]
abbrev dktX13_looks_2 : List UInt8 := dkwX13_looks_2 ++ dktX13_looks_3
def dkwX13_looks_1 : List UInt8 := [79, 42, 180, 0, 101, 5, 42, 27, 4, 96, 182, 1, 75, 79, 42, 180, 0, 101, 6, 42, 180, 0, 110]
abbrev dktX13_looks_1 : List UInt8 := dkwX13_looks_1 ++ dktX13_looks_2
def dkwX13_looks_0 : List UInt8 := [42, 180, 0, 101, 3, 42, 180, 0, 110, 27, 46, 79, 42, 180, 0, 101, 4, 42, 27, 4, 100, 182, 1, 75]
abbrev dktX13_looks_0 : List UInt8 := dkwX13_looks_0 ++ dktX13_looks_1
theorem dksX13_looks_0 : cX13_looks.data.toList.drop 0 = dktX13_looks_0 := by decide +kernel
theorem dksX13_looks_1 : cX13_looks.data.toList.drop 24 = dktX13_looks_1 := dk_seg dksX13_looks_0 24 rfl rfl
theorem dksX13_looks_2 : cX13_looks.data.toList.drop 47 = dktX13_looks_2 := dk_seg dksX13_looks_1 23 rfl rfl
theorem dksX13_looks_3 : cX13_looks.data.toList.drop 71 = dktX13_looks_3 := dk_seg dksX13_looks_2 24 rfl rfl
theorem dksX13_looks_4 : cX13_looks.data.toList.drop 95 = dktX13_looks_4 := dk_seg dksX13_looks_3 24 rfl rfl
theorem dksX13_looks_5 : cX13_looks.data.toList.drop 118 = dktX13_looks_5 := dk_seg dksX13_looks_4 23 rfl rfl
theorem dX13_looks_0 : decode cX13_looks 0 = .ok (.aload_n 0, 1) := dk_42 (dk_at dksX13_looks_0 0 rfl rfl)
theorem dX13_looks_1 : decode cX13_looks 1 = .ok (.getfield 101, 3) := dk_180 0 101 (dk_at dksX13_looks_0 1 rfl rfl)
theorem dX13_looks_4 : decode cX13_looks 4 = .ok (.iconst 0, 1) := dk_3 (dk_at dksX13_looks_0 4 rfl rfl)
theorem dX13_looks_5 : decode cX13_looks 5 = .ok (.aload_n 0, 1) := dk_42 (dk_at dksX13_looks_0 5 rfl rfl)
theorem dX13_looks_6 : decode cX13_looks 6 = .ok (.getfield 110, 3) := dk_180 0 110 (dk_at dksX13_looks_0 6 rfl rfl)
theorem dX13_looks_9 : decode cX13_looks 9 = .ok (.iload_n 1, 1) := dk_27 (dk_at dksX13_looks_0 9 rfl rfl)
theorem dX13_looks_10 : decode cX13_looks 10 = .ok (.iaload, 1) := dk_46 (dk_at dksX13_looks_0 10 rfl rfl)
theorem dX13_looks_11 : decode cX13_looks 11 = .ok (.iastore, 1) := dk_79 (dk_at dksX13_looks_0 11 rfl rfl)
theorem dX13_looks_12 : decode cX13_looks 12 = .ok (.aload_n 0, 1) := dk_42 (dk_at dksX13_looks_0 12 rfl rfl)
theorem dX13_looks_13 : decode cX13_looks 13 = .ok (.getfield 101, 3) := dk_180 0 101 (dk_at dksX13_looks_0 13 rfl rfl)
theorem dX13_looks_16 : decode cX13_looks 16 = .ok (.iconst 1, 1) := dk_4 (dk_at dksX13_looks_0 16 rfl rfl)
theorem dX13_looks_17 : decode cX13_looks 17 = .ok (.aload_n 0, 1) := dk_42 (dk_at dksX13_looks_0 17 rfl rfl)
theorem dX13_looks_18 : decode cX13_looks 18 = .ok (.iload_n 1, 1) := dk_27 (dk_at dksX13_looks_0 18 rfl rfl)
theorem dX13_looks_19 : decode cX13_looks 19 = .ok (.iconst 1, 1) := dk_4 (dk_at dksX13_looks_0 19 rfl rfl)
theorem dX13_looks_20 : decode cX13_looks 20 = .ok (.isub, 1) := dk_100 (dk_at dksX13_looks_0 20 rfl rfl)
theorem dX13_looks_21 : decode cX13_looks 21 = .ok (.invokevirtual 331, 3) := dk_182 1 75 (dk_at dksX13_looks_0 21 rfl rfl)
theorem dX13_looks_24 : decode cX13_looks 24 = .ok (.iastore, 1) := dk_79 (dk_at dksX13_looks_1 0 rfl rfl)
theorem dX13_looks_25 : decode cX13_looks 25 = .ok (.aload_n 0, 1) := dk_42 (dk_at dksX13_looks_1 1 rfl rfl)
theorem dX13_looks_26 : decode cX13_looks 26 = .ok (.getfield 101, 3) := dk_180 0 101 (dk_at dksX13_looks_1 2 rfl rfl)
theorem dX13_looks_29 : decode cX13_looks 29 = .ok (.iconst 2, 1) := dk_5 (dk_at dksX13_looks_1 5 rfl rfl)
theorem dX13_looks_30 : decode cX13_looks 30 = .ok (.aload_n 0, 1) := dk_42 (dk_at dksX13_looks_1 6 rfl rfl)
theorem dX13_looks_31 : decode cX13_looks 31 = .ok (.iload_n 1, 1) := dk_27 (dk_at dksX13_looks_1 7 rfl rfl)
theorem dX13_looks_32 : decode cX13_looks 32 = .ok (.iconst 1, 1) := dk_4 (dk_at dksX13_looks_1 8 rfl rfl)
theorem dX13_looks_33 : decode cX13_looks 33 = .ok (.iadd, 1) := dk_96 (dk_at dksX13_looks_1 9 rfl rfl)
theorem dX13_looks_34 : decode cX13_looks 34 = .ok (.invokevirtual 331, 3) := dk_182 1 75 (dk_at dksX13_looks_1 10 rfl rfl)
theorem dX13_looks_37 : decode cX13_looks 37 = .ok (.iastore, 1) := dk_79 (dk_at dksX13_looks_1 13 rfl rfl)
theorem dX13_looks_38 : decode cX13_looks 38 = .ok (.aload_n 0, 1) := dk_42 (dk_at dksX13_looks_1 14 rfl rfl)
theorem dX13_looks_39 : decode cX13_looks 39 = .ok (.getfield 101, 3) := dk_180 0 101 (dk_at dksX13_looks_1 15 rfl rfl)
theorem dX13_looks_42 : decode cX13_looks 42 = .ok (.iconst 3, 1) := dk_6 (dk_at dksX13_looks_1 18 rfl rfl)
theorem dX13_looks_43 : decode cX13_looks 43 = .ok (.aload_n 0, 1) := dk_42 (dk_at dksX13_looks_1 19 rfl rfl)
theorem dX13_looks_44 : decode cX13_looks 44 = .ok (.getfield 110, 3) := dk_180 0 110 (dk_at dksX13_looks_1 20 rfl rfl)
theorem dX13_looks_47 : decode cX13_looks 47 = .ok (.bipush 9, 2) := dk_16 9 (dk_at dksX13_looks_2 0 rfl rfl)
theorem dX13_looks_49 : decode cX13_looks 49 = .ok (.iload_n 1, 1) := dk_27 (dk_at dksX13_looks_2 2 rfl rfl)
theorem dX13_looks_50 : decode cX13_looks 50 = .ok (.iadd, 1) := dk_96 (dk_at dksX13_looks_2 3 rfl rfl)
theorem dX13_looks_51 : decode cX13_looks 51 = .ok (.iaload, 1) := dk_46 (dk_at dksX13_looks_2 4 rfl rfl)
theorem dX13_looks_52 : decode cX13_looks 52 = .ok (.iastore, 1) := dk_79 (dk_at dksX13_looks_2 5 rfl rfl)
theorem dX13_looks_53 : decode cX13_looks 53 = .ok (.aload_n 0, 1) := dk_42 (dk_at dksX13_looks_2 6 rfl rfl)
theorem dX13_looks_54 : decode cX13_looks 54 = .ok (.getfield 101, 3) := dk_180 0 101 (dk_at dksX13_looks_2 7 rfl rfl)
theorem dX13_looks_57 : decode cX13_looks 57 = .ok (.iconst 4, 1) := dk_7 (dk_at dksX13_looks_2 10 rfl rfl)
theorem dX13_looks_58 : decode cX13_looks 58 = .ok (.aload_n 0, 1) := dk_42 (dk_at dksX13_looks_2 11 rfl rfl)
theorem dX13_looks_59 : decode cX13_looks 59 = .ok (.getfield 52, 3) := dk_180 0 52 (dk_at dksX13_looks_2 12 rfl rfl)
theorem dX13_looks_62 : decode cX13_looks 62 = .ok (.bipush 9, 2) := dk_16 9 (dk_at dksX13_looks_2 15 rfl rfl)
theorem dX13_looks_64 : decode cX13_looks 64 = .ok (.aload_n 0, 1) := dk_42 (dk_at dksX13_looks_2 17 rfl rfl)
theorem dX13_looks_65 : decode cX13_looks 65 = .ok (.getfield 230, 3) := dk_180 0 230 (dk_at dksX13_looks_2 18 rfl rfl)
theorem dX13_looks_68 : decode cX13_looks 68 = .ok (.imul, 1) := dk_104 (dk_at dksX13_looks_2 21 rfl rfl)
theorem dX13_looks_69 : decode cX13_looks 69 = .ok (.iload_n 1, 1) := dk_27 (dk_at dksX13_looks_2 22 rfl rfl)
theorem dX13_looks_70 : decode cX13_looks 70 = .ok (.iadd, 1) := dk_96 (dk_at dksX13_looks_2 23 rfl rfl)
theorem dX13_looks_71 : decode cX13_looks 71 = .ok (.iaload, 1) := dk_46 (dk_at dksX13_looks_3 0 rfl rfl)
theorem dX13_looks_72 : decode cX13_looks 72 = .ok (.iastore, 1) := dk_79 (dk_at dksX13_looks_3 1 rfl rfl)
theorem dX13_looks_73 : decode cX13_looks 73 = .ok (.aload_n 0, 1) := dk_42 (dk_at dksX13_looks_3 2 rfl rfl)
theorem dX13_looks_74 : decode cX13_looks 74 = .ok (.getfield 101, 3) := dk_180 0 101 (dk_at dksX13_looks_3 3 rfl rfl)
theorem dX13_looks_77 : decode cX13_looks 77 = .ok (.iconst 5, 1) := dk_8 (dk_at dksX13_looks_3 6 rfl rfl)
theorem dX13_looks_78 : decode cX13_looks 78 = .ok (.aload_n 0, 1) := dk_42 (dk_at dksX13_looks_3 7 rfl rfl)
theorem dX13_looks_79 : decode cX13_looks 79 = .ok (.getfield 110, 3) := dk_180 0 110 (dk_at dksX13_looks_3 8 rfl rfl)
theorem dX13_looks_82 : decode cX13_looks 82 = .ok (.bipush 45, 2) := dk_16 45 (dk_at dksX13_looks_3 11 rfl rfl)
theorem dX13_looks_84 : decode cX13_looks 84 = .ok (.iaload, 1) := dk_46 (dk_at dksX13_looks_3 13 rfl rfl)
theorem dX13_looks_85 : decode cX13_looks 85 = .ok (.bipush 24, 2) := dk_16 24 (dk_at dksX13_looks_3 14 rfl rfl)
theorem dX13_looks_87 : decode cX13_looks 87 = .ok (.irem, 1) := dk_112 (dk_at dksX13_looks_3 16 rfl rfl)
theorem dX13_looks_88 : decode cX13_looks 88 = .ok (.iastore, 1) := dk_79 (dk_at dksX13_looks_3 17 rfl rfl)
theorem dX13_looks_89 : decode cX13_looks 89 = .ok (.aload_n 0, 1) := dk_42 (dk_at dksX13_looks_3 18 rfl rfl)
theorem dX13_looks_90 : decode cX13_looks 90 = .ok (.getfield 101, 3) := dk_180 0 101 (dk_at dksX13_looks_3 19 rfl rfl)
theorem dX13_looks_93 : decode cX13_looks 93 = .ok (.bipush 6, 2) := dk_16 6 (dk_at dksX13_looks_3 22 rfl rfl)
theorem dX13_looks_95 : decode cX13_looks 95 = .ok (.iload_n 1, 1) := dk_27 (dk_at dksX13_looks_4 0 rfl rfl)
theorem dX13_looks_96 : decode cX13_looks 96 = .ok (.iastore, 1) := dk_79 (dk_at dksX13_looks_4 1 rfl rfl)
theorem dX13_looks_97 : decode cX13_looks 97 = .ok (.aload_n 0, 1) := dk_42 (dk_at dksX13_looks_4 2 rfl rfl)
theorem dX13_looks_98 : decode cX13_looks 98 = .ok (.getfield 101, 3) := dk_180 0 101 (dk_at dksX13_looks_4 3 rfl rfl)
theorem dX13_looks_101 : decode cX13_looks 101 = .ok (.bipush 7, 2) := dk_16 7 (dk_at dksX13_looks_4 6 rfl rfl)
theorem dX13_looks_103 : decode cX13_looks 103 = .ok (.aload_n 0, 1) := dk_42 (dk_at dksX13_looks_4 8 rfl rfl)
theorem dX13_looks_104 : decode cX13_looks 104 = .ok (.invokevirtual 304, 3) := dk_182 1 48 (dk_at dksX13_looks_4 9 rfl rfl)
theorem dX13_looks_107 : decode cX13_looks 107 = .ok (.iastore, 1) := dk_79 (dk_at dksX13_looks_4 12 rfl rfl)
theorem dX13_looks_108 : decode cX13_looks 108 = .ok (.aload_n 0, 1) := dk_42 (dk_at dksX13_looks_4 13 rfl rfl)
theorem dX13_looks_109 : decode cX13_looks 109 = .ok (.getfield 101, 3) := dk_180 0 101 (dk_at dksX13_looks_4 14 rfl rfl)
theorem dX13_looks_112 : decode cX13_looks 112 = .ok (.bipush 8, 2) := dk_16 8 (dk_at dksX13_looks_4 17 rfl rfl)
theorem dX13_looks_114 : decode cX13_looks 114 = .ok (.aload_n 0, 1) := dk_42 (dk_at dksX13_looks_4 19 rfl rfl)
theorem dX13_looks_115 : decode cX13_looks 115 = .ok (.getfield 110, 3) := dk_180 0 110 (dk_at dksX13_looks_4 20 rfl rfl)
theorem dX13_looks_118 : decode cX13_looks 118 = .ok (.bipush 27, 2) := dk_16 27 (dk_at dksX13_looks_5 0 rfl rfl)
theorem dX13_looks_120 : decode cX13_looks 120 = .ok (.iload_n 1, 1) := dk_27 (dk_at dksX13_looks_5 2 rfl rfl)
theorem dX13_looks_121 : decode cX13_looks 121 = .ok (.iadd, 1) := dk_96 (dk_at dksX13_looks_5 3 rfl rfl)
theorem dX13_looks_122 : decode cX13_looks 122 = .ok (.iaload, 1) := dk_46 (dk_at dksX13_looks_5 4 rfl rfl)
theorem dX13_looks_123 : decode cX13_looks 123 = .ok (.iastore, 1) := dk_79 (dk_at dksX13_looks_5 5 rfl rfl)
theorem dX13_looks_124 : decode cX13_looks 124 = .ok (.return_, 1) := dk_177 (dk_at dksX13_looks_5 6 rfl rfl)
abbrev cX13_leftAt : ByteArray := prog_21_method_48_code
def yX13_leftAt : MethodName := ⟨RX13, "leftAt", "(I)I"⟩
def dkwX13_leftAt_2 : List UInt8 := [100, 167, 0, 4, 3, 46, 167, 0, 4, 3, 172]
abbrev dktX13_leftAt_2 : List UInt8 := dkwX13_leftAt_2 ++ []
def dkwX13_leftAt_1 : List UInt8 := [4, 160, 0, 32, 42, 182, 1, 48, 158, 0, 25, 42, 180, 0, 110, 27, 156, 0, 12, 42, 182, 1, 48, 4]
abbrev dktX13_leftAt_1 : List UInt8 := dkwX13_leftAt_1 ++ dktX13_leftAt_2
def dkwX13_leftAt_0 : List UInt8 := [42, 27, 182, 1, 72, 153, 0, 10, 42, 180, 0, 110, 27, 46, 172, 42, 180, 0, 62, 42, 180, 0, 230, 46]
abbrev dktX13_leftAt_0 : List UInt8 := dkwX13_leftAt_0 ++ dktX13_leftAt_1
theorem dksX13_leftAt_0 : cX13_leftAt.data.toList.drop 0 = dktX13_leftAt_0 := by decide +kernel
theorem dksX13_leftAt_1 : cX13_leftAt.data.toList.drop 24 = dktX13_leftAt_1 := dk_seg dksX13_leftAt_0 24 rfl rfl
theorem dksX13_leftAt_2 : cX13_leftAt.data.toList.drop 48 = dktX13_leftAt_2 := dk_seg dksX13_leftAt_1 24 rfl rfl
theorem dX13_leftAt_0 : decode cX13_leftAt 0 = .ok (.aload_n 0, 1) := dk_42 (dk_at dksX13_leftAt_0 0 rfl rfl)
theorem dX13_leftAt_1 : decode cX13_leftAt 1 = .ok (.iload_n 1, 1) := dk_27 (dk_at dksX13_leftAt_0 1 rfl rfl)
theorem dX13_leftAt_2 : decode cX13_leftAt 2 = .ok (.invokevirtual 328, 3) := dk_182 1 72 (dk_at dksX13_leftAt_0 2 rfl rfl)
theorem dX13_leftAt_5 : decode cX13_leftAt 5 = .ok (.ifCond .eq 10, 3) := dk_153 0 10 (dk_at dksX13_leftAt_0 5 rfl rfl)
theorem dX13_leftAt_8 : decode cX13_leftAt 8 = .ok (.aload_n 0, 1) := dk_42 (dk_at dksX13_leftAt_0 8 rfl rfl)
theorem dX13_leftAt_9 : decode cX13_leftAt 9 = .ok (.getfield 110, 3) := dk_180 0 110 (dk_at dksX13_leftAt_0 9 rfl rfl)
theorem dX13_leftAt_12 : decode cX13_leftAt 12 = .ok (.iload_n 1, 1) := dk_27 (dk_at dksX13_leftAt_0 12 rfl rfl)
theorem dX13_leftAt_13 : decode cX13_leftAt 13 = .ok (.iaload, 1) := dk_46 (dk_at dksX13_leftAt_0 13 rfl rfl)
theorem dX13_leftAt_14 : decode cX13_leftAt 14 = .ok (.ireturn, 1) := dk_172 (dk_at dksX13_leftAt_0 14 rfl rfl)
theorem dX13_leftAt_15 : decode cX13_leftAt 15 = .ok (.aload_n 0, 1) := dk_42 (dk_at dksX13_leftAt_0 15 rfl rfl)
theorem dX13_leftAt_16 : decode cX13_leftAt 16 = .ok (.getfield 62, 3) := dk_180 0 62 (dk_at dksX13_leftAt_0 16 rfl rfl)
theorem dX13_leftAt_19 : decode cX13_leftAt 19 = .ok (.aload_n 0, 1) := dk_42 (dk_at dksX13_leftAt_0 19 rfl rfl)
theorem dX13_leftAt_20 : decode cX13_leftAt 20 = .ok (.getfield 230, 3) := dk_180 0 230 (dk_at dksX13_leftAt_0 20 rfl rfl)
theorem dX13_leftAt_23 : decode cX13_leftAt 23 = .ok (.iaload, 1) := dk_46 (dk_at dksX13_leftAt_0 23 rfl rfl)
theorem dX13_leftAt_24 : decode cX13_leftAt 24 = .ok (.iconst 1, 1) := dk_4 (dk_at dksX13_leftAt_1 0 rfl rfl)
theorem dX13_leftAt_25 : decode cX13_leftAt 25 = .ok (.if_icmp .ne 32, 3) := dk_160 0 32 (dk_at dksX13_leftAt_1 1 rfl rfl)
theorem dX13_leftAt_28 : decode cX13_leftAt 28 = .ok (.aload_n 0, 1) := dk_42 (dk_at dksX13_leftAt_1 4 rfl rfl)
theorem dX13_leftAt_29 : decode cX13_leftAt 29 = .ok (.invokevirtual 304, 3) := dk_182 1 48 (dk_at dksX13_leftAt_1 5 rfl rfl)
theorem dX13_leftAt_32 : decode cX13_leftAt 32 = .ok (.ifCond .le 25, 3) := dk_158 0 25 (dk_at dksX13_leftAt_1 8 rfl rfl)
theorem dX13_leftAt_35 : decode cX13_leftAt 35 = .ok (.aload_n 0, 1) := dk_42 (dk_at dksX13_leftAt_1 11 rfl rfl)
theorem dX13_leftAt_36 : decode cX13_leftAt 36 = .ok (.getfield 110, 3) := dk_180 0 110 (dk_at dksX13_leftAt_1 12 rfl rfl)
theorem dX13_leftAt_39 : decode cX13_leftAt 39 = .ok (.iload_n 1, 1) := dk_27 (dk_at dksX13_leftAt_1 15 rfl rfl)
theorem dX13_leftAt_40 : decode cX13_leftAt 40 = .ok (.ifCond .ge 12, 3) := dk_156 0 12 (dk_at dksX13_leftAt_1 16 rfl rfl)
theorem dX13_leftAt_43 : decode cX13_leftAt 43 = .ok (.aload_n 0, 1) := dk_42 (dk_at dksX13_leftAt_1 19 rfl rfl)
theorem dX13_leftAt_44 : decode cX13_leftAt 44 = .ok (.invokevirtual 304, 3) := dk_182 1 48 (dk_at dksX13_leftAt_1 20 rfl rfl)
theorem dX13_leftAt_47 : decode cX13_leftAt 47 = .ok (.iconst 1, 1) := dk_4 (dk_at dksX13_leftAt_1 23 rfl rfl)
theorem dX13_leftAt_48 : decode cX13_leftAt 48 = .ok (.isub, 1) := dk_100 (dk_at dksX13_leftAt_2 0 rfl rfl)
theorem dX13_leftAt_49 : decode cX13_leftAt 49 = .ok (.goto 4, 3) := dk_167 0 4 (dk_at dksX13_leftAt_2 1 rfl rfl)
theorem dX13_leftAt_52 : decode cX13_leftAt 52 = .ok (.iconst 0, 1) := dk_3 (dk_at dksX13_leftAt_2 4 rfl rfl)
theorem dX13_leftAt_53 : decode cX13_leftAt 53 = .ok (.iaload, 1) := dk_46 (dk_at dksX13_leftAt_2 5 rfl rfl)
theorem dX13_leftAt_54 : decode cX13_leftAt 54 = .ok (.goto 4, 3) := dk_167 0 4 (dk_at dksX13_leftAt_2 6 rfl rfl)
theorem dX13_leftAt_57 : decode cX13_leftAt 57 = .ok (.iconst 0, 1) := dk_3 (dk_at dksX13_leftAt_2 9 rfl rfl)
theorem dX13_leftAt_58 : decode cX13_leftAt 58 = .ok (.ireturn, 1) := dk_172 (dk_at dksX13_leftAt_2 10 rfl rfl)
abbrev cX13_lawTells : ByteArray := prog_21_method_50_code
def yX13_lawTells : MethodName := ⟨RX13, "lawTells", "(II)I"⟩
def dkwX13_lawTells_6 : List UInt8 := [180, 1, 44, 153, 0, 7, 3, 167, 0, 5, 21, 5, 172, 132, 4, 1, 167, 255, 139, 3, 172]
abbrev dktX13_lawTells_6 : List UInt8 := dkwX13_lawTells_6 ++ []
def dkwX13_lawTells_5 : List UInt8 := [167, 0, 37, 42, 42, 180, 0, 86, 21, 4, 46, 42, 180, 0, 89, 21, 4, 46, 182, 1, 78, 54, 5, 42]
abbrev dktX13_lawTells_5 : List UInt8 := dkwX13_lawTells_5 ++ dktX13_lawTells_6
def dkwX13_lawTells_4 : List UInt8 := [21, 4, 46, 182, 1, 78, 54, 6, 42, 180, 1, 44, 153, 0, 5, 3, 172, 21, 5, 21, 6, 161, 0, 6]
abbrev dktX13_lawTells_4 : List UInt8 := dkwX13_lawTells_4 ++ dktX13_lawTells_5
def dkwX13_lawTells_3 : List UInt8 := [180, 0, 83, 21, 4, 46, 182, 1, 78, 54, 5, 42, 42, 180, 0, 83, 21, 4, 46, 42, 180, 0, 86]
abbrev dktX13_lawTells_3 : List UInt8 := dkwX13_lawTells_3 ++ dktX13_lawTells_4
def dkwX13_lawTells_2 : List UInt8 := [162, 0, 112, 42, 180, 0, 77, 21, 4, 51, 153, 0, 62, 42, 42, 180, 0, 80, 21, 4, 46, 42]
abbrev dktX13_lawTells_2 : List UInt8 := dkwX13_lawTells_2 ++ dktX13_lawTells_3
def dkwX13_lawTells_1 : List UInt8 := [28, 172, 42, 3, 181, 1, 44, 42, 180, 0, 71, 29, 46, 54, 4, 21, 4, 42, 180, 0, 74, 29, 46]
abbrev dktX13_lawTells_1 : List UInt8 := dkwX13_lawTells_1 ++ dktX13_lawTells_2
def dkwX13_lawTells_0 : List UInt8 := [7, 42, 180, 0, 230, 104, 27, 96, 62, 42, 180, 0, 71, 29, 46, 42, 180, 0, 74, 29, 46, 160, 0, 5]
abbrev dktX13_lawTells_0 : List UInt8 := dkwX13_lawTells_0 ++ dktX13_lawTells_1
theorem dksX13_lawTells_0 : cX13_lawTells.data.toList.drop 0 = dktX13_lawTells_0 := by decide +kernel
theorem dksX13_lawTells_1 : cX13_lawTells.data.toList.drop 24 = dktX13_lawTells_1 := dk_seg dksX13_lawTells_0 24 rfl rfl
theorem dksX13_lawTells_2 : cX13_lawTells.data.toList.drop 47 = dktX13_lawTells_2 := dk_seg dksX13_lawTells_1 23 rfl rfl
theorem dksX13_lawTells_3 : cX13_lawTells.data.toList.drop 69 = dktX13_lawTells_3 := dk_seg dksX13_lawTells_2 22 rfl rfl
theorem dksX13_lawTells_4 : cX13_lawTells.data.toList.drop 92 = dktX13_lawTells_4 := dk_seg dksX13_lawTells_3 23 rfl rfl
theorem dksX13_lawTells_5 : cX13_lawTells.data.toList.drop 116 = dktX13_lawTells_5 := dk_seg dksX13_lawTells_4 24 rfl rfl
theorem dksX13_lawTells_6 : cX13_lawTells.data.toList.drop 140 = dktX13_lawTells_6 := dk_seg dksX13_lawTells_5 24 rfl rfl
theorem dX13_lawTells_0 : decode cX13_lawTells 0 = .ok (.iconst 4, 1) := dk_7 (dk_at dksX13_lawTells_0 0 rfl rfl)
theorem dX13_lawTells_1 : decode cX13_lawTells 1 = .ok (.aload_n 0, 1) := dk_42 (dk_at dksX13_lawTells_0 1 rfl rfl)
theorem dX13_lawTells_2 : decode cX13_lawTells 2 = .ok (.getfield 230, 3) := dk_180 0 230 (dk_at dksX13_lawTells_0 2 rfl rfl)
theorem dX13_lawTells_5 : decode cX13_lawTells 5 = .ok (.imul, 1) := dk_104 (dk_at dksX13_lawTells_0 5 rfl rfl)
theorem dX13_lawTells_6 : decode cX13_lawTells 6 = .ok (.iload_n 1, 1) := dk_27 (dk_at dksX13_lawTells_0 6 rfl rfl)
theorem dX13_lawTells_7 : decode cX13_lawTells 7 = .ok (.iadd, 1) := dk_96 (dk_at dksX13_lawTells_0 7 rfl rfl)
theorem dX13_lawTells_8 : decode cX13_lawTells 8 = .ok (.istore_n 3, 1) := dk_62 (dk_at dksX13_lawTells_0 8 rfl rfl)
theorem dX13_lawTells_9 : decode cX13_lawTells 9 = .ok (.aload_n 0, 1) := dk_42 (dk_at dksX13_lawTells_0 9 rfl rfl)
theorem dX13_lawTells_10 : decode cX13_lawTells 10 = .ok (.getfield 71, 3) := dk_180 0 71 (dk_at dksX13_lawTells_0 10 rfl rfl)
theorem dX13_lawTells_13 : decode cX13_lawTells 13 = .ok (.iload_n 3, 1) := dk_29 (dk_at dksX13_lawTells_0 13 rfl rfl)
theorem dX13_lawTells_14 : decode cX13_lawTells 14 = .ok (.iaload, 1) := dk_46 (dk_at dksX13_lawTells_0 14 rfl rfl)
theorem dX13_lawTells_15 : decode cX13_lawTells 15 = .ok (.aload_n 0, 1) := dk_42 (dk_at dksX13_lawTells_0 15 rfl rfl)
theorem dX13_lawTells_16 : decode cX13_lawTells 16 = .ok (.getfield 74, 3) := dk_180 0 74 (dk_at dksX13_lawTells_0 16 rfl rfl)
theorem dX13_lawTells_19 : decode cX13_lawTells 19 = .ok (.iload_n 3, 1) := dk_29 (dk_at dksX13_lawTells_0 19 rfl rfl)
theorem dX13_lawTells_20 : decode cX13_lawTells 20 = .ok (.iaload, 1) := dk_46 (dk_at dksX13_lawTells_0 20 rfl rfl)
theorem dX13_lawTells_21 : decode cX13_lawTells 21 = .ok (.if_icmp .ne 5, 3) := dk_160 0 5 (dk_at dksX13_lawTells_0 21 rfl rfl)
theorem dX13_lawTells_24 : decode cX13_lawTells 24 = .ok (.iload_n 2, 1) := dk_28 (dk_at dksX13_lawTells_1 0 rfl rfl)
theorem dX13_lawTells_25 : decode cX13_lawTells 25 = .ok (.ireturn, 1) := dk_172 (dk_at dksX13_lawTells_1 1 rfl rfl)
theorem dX13_lawTells_26 : decode cX13_lawTells 26 = .ok (.aload_n 0, 1) := dk_42 (dk_at dksX13_lawTells_1 2 rfl rfl)
theorem dX13_lawTells_27 : decode cX13_lawTells 27 = .ok (.iconst 0, 1) := dk_3 (dk_at dksX13_lawTells_1 3 rfl rfl)
theorem dX13_lawTells_28 : decode cX13_lawTells 28 = .ok (.putfield 300, 3) := dk_181 1 44 (dk_at dksX13_lawTells_1 4 rfl rfl)
theorem dX13_lawTells_31 : decode cX13_lawTells 31 = .ok (.aload_n 0, 1) := dk_42 (dk_at dksX13_lawTells_1 7 rfl rfl)
theorem dX13_lawTells_32 : decode cX13_lawTells 32 = .ok (.getfield 71, 3) := dk_180 0 71 (dk_at dksX13_lawTells_1 8 rfl rfl)
theorem dX13_lawTells_35 : decode cX13_lawTells 35 = .ok (.iload_n 3, 1) := dk_29 (dk_at dksX13_lawTells_1 11 rfl rfl)
theorem dX13_lawTells_36 : decode cX13_lawTells 36 = .ok (.iaload, 1) := dk_46 (dk_at dksX13_lawTells_1 12 rfl rfl)
theorem dX13_lawTells_37 : decode cX13_lawTells 37 = .ok (.istore 4, 2) := dk_54 4 (dk_at dksX13_lawTells_1 13 rfl rfl)
theorem dX13_lawTells_39 : decode cX13_lawTells 39 = .ok (.iload 4, 2) := dk_21 4 (dk_at dksX13_lawTells_1 15 rfl rfl)
theorem dX13_lawTells_41 : decode cX13_lawTells 41 = .ok (.aload_n 0, 1) := dk_42 (dk_at dksX13_lawTells_1 17 rfl rfl)
theorem dX13_lawTells_42 : decode cX13_lawTells 42 = .ok (.getfield 74, 3) := dk_180 0 74 (dk_at dksX13_lawTells_1 18 rfl rfl)
theorem dX13_lawTells_45 : decode cX13_lawTells 45 = .ok (.iload_n 3, 1) := dk_29 (dk_at dksX13_lawTells_1 21 rfl rfl)
theorem dX13_lawTells_46 : decode cX13_lawTells 46 = .ok (.iaload, 1) := dk_46 (dk_at dksX13_lawTells_1 22 rfl rfl)
theorem dX13_lawTells_47 : decode cX13_lawTells 47 = .ok (.if_icmp .ge 112, 3) := dk_162 0 112 (dk_at dksX13_lawTells_2 0 rfl rfl)
theorem dX13_lawTells_50 : decode cX13_lawTells 50 = .ok (.aload_n 0, 1) := dk_42 (dk_at dksX13_lawTells_2 3 rfl rfl)
theorem dX13_lawTells_51 : decode cX13_lawTells 51 = .ok (.getfield 77, 3) := dk_180 0 77 (dk_at dksX13_lawTells_2 4 rfl rfl)
theorem dX13_lawTells_54 : decode cX13_lawTells 54 = .ok (.iload 4, 2) := dk_21 4 (dk_at dksX13_lawTells_2 7 rfl rfl)
theorem dX13_lawTells_56 : decode cX13_lawTells 56 = .ok (.baload, 1) := dk_51 (dk_at dksX13_lawTells_2 9 rfl rfl)
theorem dX13_lawTells_57 : decode cX13_lawTells 57 = .ok (.ifCond .eq 62, 3) := dk_153 0 62 (dk_at dksX13_lawTells_2 10 rfl rfl)
theorem dX13_lawTells_60 : decode cX13_lawTells 60 = .ok (.aload_n 0, 1) := dk_42 (dk_at dksX13_lawTells_2 13 rfl rfl)
theorem dX13_lawTells_61 : decode cX13_lawTells 61 = .ok (.aload_n 0, 1) := dk_42 (dk_at dksX13_lawTells_2 14 rfl rfl)
theorem dX13_lawTells_62 : decode cX13_lawTells 62 = .ok (.getfield 80, 3) := dk_180 0 80 (dk_at dksX13_lawTells_2 15 rfl rfl)
theorem dX13_lawTells_65 : decode cX13_lawTells 65 = .ok (.iload 4, 2) := dk_21 4 (dk_at dksX13_lawTells_2 18 rfl rfl)
theorem dX13_lawTells_67 : decode cX13_lawTells 67 = .ok (.iaload, 1) := dk_46 (dk_at dksX13_lawTells_2 20 rfl rfl)
theorem dX13_lawTells_68 : decode cX13_lawTells 68 = .ok (.aload_n 0, 1) := dk_42 (dk_at dksX13_lawTells_2 21 rfl rfl)
theorem dX13_lawTells_69 : decode cX13_lawTells 69 = .ok (.getfield 83, 3) := dk_180 0 83 (dk_at dksX13_lawTells_3 0 rfl rfl)
theorem dX13_lawTells_72 : decode cX13_lawTells 72 = .ok (.iload 4, 2) := dk_21 4 (dk_at dksX13_lawTells_3 3 rfl rfl)
theorem dX13_lawTells_74 : decode cX13_lawTells 74 = .ok (.iaload, 1) := dk_46 (dk_at dksX13_lawTells_3 5 rfl rfl)
theorem dX13_lawTells_75 : decode cX13_lawTells 75 = .ok (.invokevirtual 334, 3) := dk_182 1 78 (dk_at dksX13_lawTells_3 6 rfl rfl)
theorem dX13_lawTells_78 : decode cX13_lawTells 78 = .ok (.istore 5, 2) := dk_54 5 (dk_at dksX13_lawTells_3 9 rfl rfl)
theorem dX13_lawTells_80 : decode cX13_lawTells 80 = .ok (.aload_n 0, 1) := dk_42 (dk_at dksX13_lawTells_3 11 rfl rfl)
theorem dX13_lawTells_81 : decode cX13_lawTells 81 = .ok (.aload_n 0, 1) := dk_42 (dk_at dksX13_lawTells_3 12 rfl rfl)
theorem dX13_lawTells_82 : decode cX13_lawTells 82 = .ok (.getfield 83, 3) := dk_180 0 83 (dk_at dksX13_lawTells_3 13 rfl rfl)
theorem dX13_lawTells_85 : decode cX13_lawTells 85 = .ok (.iload 4, 2) := dk_21 4 (dk_at dksX13_lawTells_3 16 rfl rfl)
theorem dX13_lawTells_87 : decode cX13_lawTells 87 = .ok (.iaload, 1) := dk_46 (dk_at dksX13_lawTells_3 18 rfl rfl)
theorem dX13_lawTells_88 : decode cX13_lawTells 88 = .ok (.aload_n 0, 1) := dk_42 (dk_at dksX13_lawTells_3 19 rfl rfl)
theorem dX13_lawTells_89 : decode cX13_lawTells 89 = .ok (.getfield 86, 3) := dk_180 0 86 (dk_at dksX13_lawTells_3 20 rfl rfl)
theorem dX13_lawTells_92 : decode cX13_lawTells 92 = .ok (.iload 4, 2) := dk_21 4 (dk_at dksX13_lawTells_4 0 rfl rfl)
theorem dX13_lawTells_94 : decode cX13_lawTells 94 = .ok (.iaload, 1) := dk_46 (dk_at dksX13_lawTells_4 2 rfl rfl)
theorem dX13_lawTells_95 : decode cX13_lawTells 95 = .ok (.invokevirtual 334, 3) := dk_182 1 78 (dk_at dksX13_lawTells_4 3 rfl rfl)
theorem dX13_lawTells_98 : decode cX13_lawTells 98 = .ok (.istore 6, 2) := dk_54 6 (dk_at dksX13_lawTells_4 6 rfl rfl)
theorem dX13_lawTells_100 : decode cX13_lawTells 100 = .ok (.aload_n 0, 1) := dk_42 (dk_at dksX13_lawTells_4 8 rfl rfl)
theorem dX13_lawTells_101 : decode cX13_lawTells 101 = .ok (.getfield 300, 3) := dk_180 1 44 (dk_at dksX13_lawTells_4 9 rfl rfl)
theorem dX13_lawTells_104 : decode cX13_lawTells 104 = .ok (.ifCond .eq 5, 3) := dk_153 0 5 (dk_at dksX13_lawTells_4 12 rfl rfl)
theorem dX13_lawTells_107 : decode cX13_lawTells 107 = .ok (.iconst 0, 1) := dk_3 (dk_at dksX13_lawTells_4 15 rfl rfl)
theorem dX13_lawTells_108 : decode cX13_lawTells 108 = .ok (.ireturn, 1) := dk_172 (dk_at dksX13_lawTells_4 16 rfl rfl)
theorem dX13_lawTells_109 : decode cX13_lawTells 109 = .ok (.iload 5, 2) := dk_21 5 (dk_at dksX13_lawTells_4 17 rfl rfl)
theorem dX13_lawTells_111 : decode cX13_lawTells 111 = .ok (.iload 6, 2) := dk_21 6 (dk_at dksX13_lawTells_4 19 rfl rfl)
theorem dX13_lawTells_113 : decode cX13_lawTells 113 = .ok (.if_icmp .lt 6, 3) := dk_161 0 6 (dk_at dksX13_lawTells_4 21 rfl rfl)
theorem dX13_lawTells_116 : decode cX13_lawTells 116 = .ok (.goto 37, 3) := dk_167 0 37 (dk_at dksX13_lawTells_5 0 rfl rfl)
theorem dX13_lawTells_119 : decode cX13_lawTells 119 = .ok (.aload_n 0, 1) := dk_42 (dk_at dksX13_lawTells_5 3 rfl rfl)
theorem dX13_lawTells_120 : decode cX13_lawTells 120 = .ok (.aload_n 0, 1) := dk_42 (dk_at dksX13_lawTells_5 4 rfl rfl)
theorem dX13_lawTells_121 : decode cX13_lawTells 121 = .ok (.getfield 86, 3) := dk_180 0 86 (dk_at dksX13_lawTells_5 5 rfl rfl)
theorem dX13_lawTells_124 : decode cX13_lawTells 124 = .ok (.iload 4, 2) := dk_21 4 (dk_at dksX13_lawTells_5 8 rfl rfl)
theorem dX13_lawTells_126 : decode cX13_lawTells 126 = .ok (.iaload, 1) := dk_46 (dk_at dksX13_lawTells_5 10 rfl rfl)
theorem dX13_lawTells_127 : decode cX13_lawTells 127 = .ok (.aload_n 0, 1) := dk_42 (dk_at dksX13_lawTells_5 11 rfl rfl)
theorem dX13_lawTells_128 : decode cX13_lawTells 128 = .ok (.getfield 89, 3) := dk_180 0 89 (dk_at dksX13_lawTells_5 12 rfl rfl)
theorem dX13_lawTells_131 : decode cX13_lawTells 131 = .ok (.iload 4, 2) := dk_21 4 (dk_at dksX13_lawTells_5 15 rfl rfl)
theorem dX13_lawTells_133 : decode cX13_lawTells 133 = .ok (.iaload, 1) := dk_46 (dk_at dksX13_lawTells_5 17 rfl rfl)
theorem dX13_lawTells_134 : decode cX13_lawTells 134 = .ok (.invokevirtual 334, 3) := dk_182 1 78 (dk_at dksX13_lawTells_5 18 rfl rfl)
theorem dX13_lawTells_137 : decode cX13_lawTells 137 = .ok (.istore 5, 2) := dk_54 5 (dk_at dksX13_lawTells_5 21 rfl rfl)
theorem dX13_lawTells_139 : decode cX13_lawTells 139 = .ok (.aload_n 0, 1) := dk_42 (dk_at dksX13_lawTells_5 23 rfl rfl)
theorem dX13_lawTells_140 : decode cX13_lawTells 140 = .ok (.getfield 300, 3) := dk_180 1 44 (dk_at dksX13_lawTells_6 0 rfl rfl)
theorem dX13_lawTells_143 : decode cX13_lawTells 143 = .ok (.ifCond .eq 7, 3) := dk_153 0 7 (dk_at dksX13_lawTells_6 3 rfl rfl)
theorem dX13_lawTells_146 : decode cX13_lawTells 146 = .ok (.iconst 0, 1) := dk_3 (dk_at dksX13_lawTells_6 6 rfl rfl)
theorem dX13_lawTells_147 : decode cX13_lawTells 147 = .ok (.goto 5, 3) := dk_167 0 5 (dk_at dksX13_lawTells_6 7 rfl rfl)
theorem dX13_lawTells_150 : decode cX13_lawTells 150 = .ok (.iload 5, 2) := dk_21 5 (dk_at dksX13_lawTells_6 10 rfl rfl)
theorem dX13_lawTells_152 : decode cX13_lawTells 152 = .ok (.ireturn, 1) := dk_172 (dk_at dksX13_lawTells_6 12 rfl rfl)
theorem dX13_lawTells_153 : decode cX13_lawTells 153 = .ok (.iinc 4 1, 3) := dk_132 4 1 (dk_at dksX13_lawTells_6 13 rfl rfl)
theorem dX13_lawTells_156 : decode cX13_lawTells 156 = .ok (.goto (-117), 3) := dk_167 255 139 (dk_at dksX13_lawTells_6 16 rfl rfl)
theorem dX13_lawTells_159 : decode cX13_lawTells 159 = .ok (.iconst 0, 1) := dk_3 (dk_at dksX13_lawTells_6 19 rfl rfl)
theorem dX13_lawTells_160 : decode cX13_lawTells 160 = .ok (.ireturn, 1) := dk_172 (dk_at dksX13_lawTells_6 20 rfl rfl)
abbrev cX13_termOf : ByteArray := prog_21_method_34_code
def yX13_termOf : MethodName := ⟨RX13, "termOf", "(II)I"⟩
def dkwX13_termOf_7 : List UInt8 := [132, 4, 1, 167, 255, 99, 42, 180, 0, 104, 3, 46, 172]
abbrev dktX13_termOf_7 : List UInt8 := dkwX13_termOf_7 ++ []
def dkwX13_termOf_6 : List UInt8 := [167, 0, 22, 21, 5, 7, 160, 0, 11, 21, 6, 21, 7, 104, 167, 0, 8, 21, 6, 21, 7, 108, 79]
abbrev dktX13_termOf_6 : List UInt8 := dkwX13_termOf_6 ++ dktX13_termOf_7
def dkwX13_termOf_5 : List UInt8 := [160, 0, 11, 21, 6, 21, 7, 96, 167, 0, 36, 21, 5, 6, 160, 0, 11, 21, 6, 21, 7, 100]
abbrev dktX13_termOf_5 : List UInt8 := dkwX13_termOf_5 ++ dktX13_termOf_6
def dkwX13_termOf_4 : List UInt8 := [21, 7, 154, 0, 10, 42, 4, 181, 1, 44, 3, 172, 42, 180, 0, 104, 29, 4, 100, 21, 5, 5]
abbrev dktX13_termOf_4 : List UInt8 := dkwX13_termOf_4 ++ dktX13_termOf_5
def dkwX13_termOf_3 : List UInt8 := [180, 0, 104, 29, 4, 100, 46, 54, 6, 42, 180, 0, 104, 29, 46, 54, 7, 21, 5, 8, 160, 0, 15]
abbrev dktX13_termOf_3 : List UInt8 := dkwX13_termOf_3 ++ dktX13_termOf_4
def dkwX13_termOf_2 : List UInt8 := [180, 0, 101, 42, 180, 0, 95, 21, 4, 46, 46, 79, 132, 3, 1, 167, 0, 97, 132, 3, 255, 42]
abbrev dktX13_termOf_2 : List UInt8 := dkwX13_termOf_2 ++ dktX13_termOf_3
def dkwX13_termOf_1 : List UInt8 := [162, 0, 42, 42, 180, 0, 104, 29, 21, 5, 154, 0, 13, 42, 180, 0, 95, 21, 4, 46, 167, 0, 15, 42]
abbrev dktX13_termOf_1 : List UInt8 := dkwX13_termOf_1 ++ dktX13_termOf_2
def dkwX13_termOf_0 : List UInt8 := [3, 62, 27, 54, 4, 21, 4, 28, 162, 0, 157, 42, 180, 0, 92, 21, 4, 46, 54, 5, 21, 5, 5]
abbrev dktX13_termOf_0 : List UInt8 := dkwX13_termOf_0 ++ dktX13_termOf_1
theorem dksX13_termOf_0 : cX13_termOf.data.toList.drop 0 = dktX13_termOf_0 := by decide +kernel
theorem dksX13_termOf_1 : cX13_termOf.data.toList.drop 23 = dktX13_termOf_1 := dk_seg dksX13_termOf_0 23 rfl rfl
theorem dksX13_termOf_2 : cX13_termOf.data.toList.drop 47 = dktX13_termOf_2 := dk_seg dksX13_termOf_1 24 rfl rfl
theorem dksX13_termOf_3 : cX13_termOf.data.toList.drop 69 = dktX13_termOf_3 := dk_seg dksX13_termOf_2 22 rfl rfl
theorem dksX13_termOf_4 : cX13_termOf.data.toList.drop 92 = dktX13_termOf_4 := dk_seg dksX13_termOf_3 23 rfl rfl
theorem dksX13_termOf_5 : cX13_termOf.data.toList.drop 114 = dktX13_termOf_5 := dk_seg dksX13_termOf_4 22 rfl rfl
theorem dksX13_termOf_6 : cX13_termOf.data.toList.drop 136 = dktX13_termOf_6 := dk_seg dksX13_termOf_5 22 rfl rfl
theorem dksX13_termOf_7 : cX13_termOf.data.toList.drop 159 = dktX13_termOf_7 := dk_seg dksX13_termOf_6 23 rfl rfl
theorem dX13_termOf_0 : decode cX13_termOf 0 = .ok (.iconst 0, 1) := dk_3 (dk_at dksX13_termOf_0 0 rfl rfl)
theorem dX13_termOf_1 : decode cX13_termOf 1 = .ok (.istore_n 3, 1) := dk_62 (dk_at dksX13_termOf_0 1 rfl rfl)
theorem dX13_termOf_2 : decode cX13_termOf 2 = .ok (.iload_n 1, 1) := dk_27 (dk_at dksX13_termOf_0 2 rfl rfl)
theorem dX13_termOf_3 : decode cX13_termOf 3 = .ok (.istore 4, 2) := dk_54 4 (dk_at dksX13_termOf_0 3 rfl rfl)
theorem dX13_termOf_5 : decode cX13_termOf 5 = .ok (.iload 4, 2) := dk_21 4 (dk_at dksX13_termOf_0 5 rfl rfl)
theorem dX13_termOf_7 : decode cX13_termOf 7 = .ok (.iload_n 2, 1) := dk_28 (dk_at dksX13_termOf_0 7 rfl rfl)
theorem dX13_termOf_8 : decode cX13_termOf 8 = .ok (.if_icmp .ge 157, 3) := dk_162 0 157 (dk_at dksX13_termOf_0 8 rfl rfl)
theorem dX13_termOf_11 : decode cX13_termOf 11 = .ok (.aload_n 0, 1) := dk_42 (dk_at dksX13_termOf_0 11 rfl rfl)
theorem dX13_termOf_12 : decode cX13_termOf 12 = .ok (.getfield 92, 3) := dk_180 0 92 (dk_at dksX13_termOf_0 12 rfl rfl)
theorem dX13_termOf_15 : decode cX13_termOf 15 = .ok (.iload 4, 2) := dk_21 4 (dk_at dksX13_termOf_0 15 rfl rfl)
theorem dX13_termOf_17 : decode cX13_termOf 17 = .ok (.iaload, 1) := dk_46 (dk_at dksX13_termOf_0 17 rfl rfl)
theorem dX13_termOf_18 : decode cX13_termOf 18 = .ok (.istore 5, 2) := dk_54 5 (dk_at dksX13_termOf_0 18 rfl rfl)
theorem dX13_termOf_20 : decode cX13_termOf 20 = .ok (.iload 5, 2) := dk_21 5 (dk_at dksX13_termOf_0 20 rfl rfl)
theorem dX13_termOf_22 : decode cX13_termOf 22 = .ok (.iconst 2, 1) := dk_5 (dk_at dksX13_termOf_0 22 rfl rfl)
theorem dX13_termOf_23 : decode cX13_termOf 23 = .ok (.if_icmp .ge 42, 3) := dk_162 0 42 (dk_at dksX13_termOf_1 0 rfl rfl)
theorem dX13_termOf_26 : decode cX13_termOf 26 = .ok (.aload_n 0, 1) := dk_42 (dk_at dksX13_termOf_1 3 rfl rfl)
theorem dX13_termOf_27 : decode cX13_termOf 27 = .ok (.getfield 104, 3) := dk_180 0 104 (dk_at dksX13_termOf_1 4 rfl rfl)
theorem dX13_termOf_30 : decode cX13_termOf 30 = .ok (.iload_n 3, 1) := dk_29 (dk_at dksX13_termOf_1 7 rfl rfl)
theorem dX13_termOf_31 : decode cX13_termOf 31 = .ok (.iload 5, 2) := dk_21 5 (dk_at dksX13_termOf_1 8 rfl rfl)
theorem dX13_termOf_33 : decode cX13_termOf 33 = .ok (.ifCond .ne 13, 3) := dk_154 0 13 (dk_at dksX13_termOf_1 10 rfl rfl)
theorem dX13_termOf_36 : decode cX13_termOf 36 = .ok (.aload_n 0, 1) := dk_42 (dk_at dksX13_termOf_1 13 rfl rfl)
theorem dX13_termOf_37 : decode cX13_termOf 37 = .ok (.getfield 95, 3) := dk_180 0 95 (dk_at dksX13_termOf_1 14 rfl rfl)
theorem dX13_termOf_40 : decode cX13_termOf 40 = .ok (.iload 4, 2) := dk_21 4 (dk_at dksX13_termOf_1 17 rfl rfl)
theorem dX13_termOf_42 : decode cX13_termOf 42 = .ok (.iaload, 1) := dk_46 (dk_at dksX13_termOf_1 19 rfl rfl)
theorem dX13_termOf_43 : decode cX13_termOf 43 = .ok (.goto 15, 3) := dk_167 0 15 (dk_at dksX13_termOf_1 20 rfl rfl)
theorem dX13_termOf_46 : decode cX13_termOf 46 = .ok (.aload_n 0, 1) := dk_42 (dk_at dksX13_termOf_1 23 rfl rfl)
theorem dX13_termOf_47 : decode cX13_termOf 47 = .ok (.getfield 101, 3) := dk_180 0 101 (dk_at dksX13_termOf_2 0 rfl rfl)
theorem dX13_termOf_50 : decode cX13_termOf 50 = .ok (.aload_n 0, 1) := dk_42 (dk_at dksX13_termOf_2 3 rfl rfl)
theorem dX13_termOf_51 : decode cX13_termOf 51 = .ok (.getfield 95, 3) := dk_180 0 95 (dk_at dksX13_termOf_2 4 rfl rfl)
theorem dX13_termOf_54 : decode cX13_termOf 54 = .ok (.iload 4, 2) := dk_21 4 (dk_at dksX13_termOf_2 7 rfl rfl)
theorem dX13_termOf_56 : decode cX13_termOf 56 = .ok (.iaload, 1) := dk_46 (dk_at dksX13_termOf_2 9 rfl rfl)
theorem dX13_termOf_57 : decode cX13_termOf 57 = .ok (.iaload, 1) := dk_46 (dk_at dksX13_termOf_2 10 rfl rfl)
theorem dX13_termOf_58 : decode cX13_termOf 58 = .ok (.iastore, 1) := dk_79 (dk_at dksX13_termOf_2 11 rfl rfl)
theorem dX13_termOf_59 : decode cX13_termOf 59 = .ok (.iinc 3 1, 3) := dk_132 3 1 (dk_at dksX13_termOf_2 12 rfl rfl)
theorem dX13_termOf_62 : decode cX13_termOf 62 = .ok (.goto 97, 3) := dk_167 0 97 (dk_at dksX13_termOf_2 15 rfl rfl)
theorem dX13_termOf_65 : decode cX13_termOf 65 = .ok (.iinc 3 (-1), 3) := dk_132 3 255 (dk_at dksX13_termOf_2 18 rfl rfl)
theorem dX13_termOf_68 : decode cX13_termOf 68 = .ok (.aload_n 0, 1) := dk_42 (dk_at dksX13_termOf_2 21 rfl rfl)
theorem dX13_termOf_69 : decode cX13_termOf 69 = .ok (.getfield 104, 3) := dk_180 0 104 (dk_at dksX13_termOf_3 0 rfl rfl)
theorem dX13_termOf_72 : decode cX13_termOf 72 = .ok (.iload_n 3, 1) := dk_29 (dk_at dksX13_termOf_3 3 rfl rfl)
theorem dX13_termOf_73 : decode cX13_termOf 73 = .ok (.iconst 1, 1) := dk_4 (dk_at dksX13_termOf_3 4 rfl rfl)
theorem dX13_termOf_74 : decode cX13_termOf 74 = .ok (.isub, 1) := dk_100 (dk_at dksX13_termOf_3 5 rfl rfl)
theorem dX13_termOf_75 : decode cX13_termOf 75 = .ok (.iaload, 1) := dk_46 (dk_at dksX13_termOf_3 6 rfl rfl)
theorem dX13_termOf_76 : decode cX13_termOf 76 = .ok (.istore 6, 2) := dk_54 6 (dk_at dksX13_termOf_3 7 rfl rfl)
theorem dX13_termOf_78 : decode cX13_termOf 78 = .ok (.aload_n 0, 1) := dk_42 (dk_at dksX13_termOf_3 9 rfl rfl)
theorem dX13_termOf_79 : decode cX13_termOf 79 = .ok (.getfield 104, 3) := dk_180 0 104 (dk_at dksX13_termOf_3 10 rfl rfl)
theorem dX13_termOf_82 : decode cX13_termOf 82 = .ok (.iload_n 3, 1) := dk_29 (dk_at dksX13_termOf_3 13 rfl rfl)
theorem dX13_termOf_83 : decode cX13_termOf 83 = .ok (.iaload, 1) := dk_46 (dk_at dksX13_termOf_3 14 rfl rfl)
theorem dX13_termOf_84 : decode cX13_termOf 84 = .ok (.istore 7, 2) := dk_54 7 (dk_at dksX13_termOf_3 15 rfl rfl)
theorem dX13_termOf_86 : decode cX13_termOf 86 = .ok (.iload 5, 2) := dk_21 5 (dk_at dksX13_termOf_3 17 rfl rfl)
theorem dX13_termOf_88 : decode cX13_termOf 88 = .ok (.iconst 5, 1) := dk_8 (dk_at dksX13_termOf_3 19 rfl rfl)
theorem dX13_termOf_89 : decode cX13_termOf 89 = .ok (.if_icmp .ne 15, 3) := dk_160 0 15 (dk_at dksX13_termOf_3 20 rfl rfl)
theorem dX13_termOf_92 : decode cX13_termOf 92 = .ok (.iload 7, 2) := dk_21 7 (dk_at dksX13_termOf_4 0 rfl rfl)
theorem dX13_termOf_94 : decode cX13_termOf 94 = .ok (.ifCond .ne 10, 3) := dk_154 0 10 (dk_at dksX13_termOf_4 2 rfl rfl)
theorem dX13_termOf_97 : decode cX13_termOf 97 = .ok (.aload_n 0, 1) := dk_42 (dk_at dksX13_termOf_4 5 rfl rfl)
theorem dX13_termOf_98 : decode cX13_termOf 98 = .ok (.iconst 1, 1) := dk_4 (dk_at dksX13_termOf_4 6 rfl rfl)
theorem dX13_termOf_99 : decode cX13_termOf 99 = .ok (.putfield 300, 3) := dk_181 1 44 (dk_at dksX13_termOf_4 7 rfl rfl)
theorem dX13_termOf_102 : decode cX13_termOf 102 = .ok (.iconst 0, 1) := dk_3 (dk_at dksX13_termOf_4 10 rfl rfl)
theorem dX13_termOf_103 : decode cX13_termOf 103 = .ok (.ireturn, 1) := dk_172 (dk_at dksX13_termOf_4 11 rfl rfl)
theorem dX13_termOf_104 : decode cX13_termOf 104 = .ok (.aload_n 0, 1) := dk_42 (dk_at dksX13_termOf_4 12 rfl rfl)
theorem dX13_termOf_105 : decode cX13_termOf 105 = .ok (.getfield 104, 3) := dk_180 0 104 (dk_at dksX13_termOf_4 13 rfl rfl)
theorem dX13_termOf_108 : decode cX13_termOf 108 = .ok (.iload_n 3, 1) := dk_29 (dk_at dksX13_termOf_4 16 rfl rfl)
theorem dX13_termOf_109 : decode cX13_termOf 109 = .ok (.iconst 1, 1) := dk_4 (dk_at dksX13_termOf_4 17 rfl rfl)
theorem dX13_termOf_110 : decode cX13_termOf 110 = .ok (.isub, 1) := dk_100 (dk_at dksX13_termOf_4 18 rfl rfl)
theorem dX13_termOf_111 : decode cX13_termOf 111 = .ok (.iload 5, 2) := dk_21 5 (dk_at dksX13_termOf_4 19 rfl rfl)
theorem dX13_termOf_113 : decode cX13_termOf 113 = .ok (.iconst 2, 1) := dk_5 (dk_at dksX13_termOf_4 21 rfl rfl)
theorem dX13_termOf_114 : decode cX13_termOf 114 = .ok (.if_icmp .ne 11, 3) := dk_160 0 11 (dk_at dksX13_termOf_5 0 rfl rfl)
theorem dX13_termOf_117 : decode cX13_termOf 117 = .ok (.iload 6, 2) := dk_21 6 (dk_at dksX13_termOf_5 3 rfl rfl)
theorem dX13_termOf_119 : decode cX13_termOf 119 = .ok (.iload 7, 2) := dk_21 7 (dk_at dksX13_termOf_5 5 rfl rfl)
theorem dX13_termOf_121 : decode cX13_termOf 121 = .ok (.iadd, 1) := dk_96 (dk_at dksX13_termOf_5 7 rfl rfl)
theorem dX13_termOf_122 : decode cX13_termOf 122 = .ok (.goto 36, 3) := dk_167 0 36 (dk_at dksX13_termOf_5 8 rfl rfl)
theorem dX13_termOf_125 : decode cX13_termOf 125 = .ok (.iload 5, 2) := dk_21 5 (dk_at dksX13_termOf_5 11 rfl rfl)
theorem dX13_termOf_127 : decode cX13_termOf 127 = .ok (.iconst 3, 1) := dk_6 (dk_at dksX13_termOf_5 13 rfl rfl)
theorem dX13_termOf_128 : decode cX13_termOf 128 = .ok (.if_icmp .ne 11, 3) := dk_160 0 11 (dk_at dksX13_termOf_5 14 rfl rfl)
theorem dX13_termOf_131 : decode cX13_termOf 131 = .ok (.iload 6, 2) := dk_21 6 (dk_at dksX13_termOf_5 17 rfl rfl)
theorem dX13_termOf_133 : decode cX13_termOf 133 = .ok (.iload 7, 2) := dk_21 7 (dk_at dksX13_termOf_5 19 rfl rfl)
theorem dX13_termOf_135 : decode cX13_termOf 135 = .ok (.isub, 1) := dk_100 (dk_at dksX13_termOf_5 21 rfl rfl)
theorem dX13_termOf_136 : decode cX13_termOf 136 = .ok (.goto 22, 3) := dk_167 0 22 (dk_at dksX13_termOf_6 0 rfl rfl)
theorem dX13_termOf_139 : decode cX13_termOf 139 = .ok (.iload 5, 2) := dk_21 5 (dk_at dksX13_termOf_6 3 rfl rfl)
theorem dX13_termOf_141 : decode cX13_termOf 141 = .ok (.iconst 4, 1) := dk_7 (dk_at dksX13_termOf_6 5 rfl rfl)
theorem dX13_termOf_142 : decode cX13_termOf 142 = .ok (.if_icmp .ne 11, 3) := dk_160 0 11 (dk_at dksX13_termOf_6 6 rfl rfl)
theorem dX13_termOf_145 : decode cX13_termOf 145 = .ok (.iload 6, 2) := dk_21 6 (dk_at dksX13_termOf_6 9 rfl rfl)
theorem dX13_termOf_147 : decode cX13_termOf 147 = .ok (.iload 7, 2) := dk_21 7 (dk_at dksX13_termOf_6 11 rfl rfl)
theorem dX13_termOf_149 : decode cX13_termOf 149 = .ok (.imul, 1) := dk_104 (dk_at dksX13_termOf_6 13 rfl rfl)
theorem dX13_termOf_150 : decode cX13_termOf 150 = .ok (.goto 8, 3) := dk_167 0 8 (dk_at dksX13_termOf_6 14 rfl rfl)
theorem dX13_termOf_153 : decode cX13_termOf 153 = .ok (.iload 6, 2) := dk_21 6 (dk_at dksX13_termOf_6 17 rfl rfl)
theorem dX13_termOf_155 : decode cX13_termOf 155 = .ok (.iload 7, 2) := dk_21 7 (dk_at dksX13_termOf_6 19 rfl rfl)
theorem dX13_termOf_157 : decode cX13_termOf 157 = .ok (.idiv, 1) := dk_108 (dk_at dksX13_termOf_6 21 rfl rfl)
theorem dX13_termOf_158 : decode cX13_termOf 158 = .ok (.iastore, 1) := dk_79 (dk_at dksX13_termOf_6 22 rfl rfl)
theorem dX13_termOf_159 : decode cX13_termOf 159 = .ok (.iinc 4 1, 3) := dk_132 4 1 (dk_at dksX13_termOf_7 0 rfl rfl)
theorem dX13_termOf_162 : decode cX13_termOf 162 = .ok (.goto (-157), 3) := dk_167 255 99 (dk_at dksX13_termOf_7 3 rfl rfl)
theorem dX13_termOf_165 : decode cX13_termOf 165 = .ok (.aload_n 0, 1) := dk_42 (dk_at dksX13_termOf_7 6 rfl rfl)
theorem dX13_termOf_166 : decode cX13_termOf 166 = .ok (.getfield 104, 3) := dk_180 0 104 (dk_at dksX13_termOf_7 7 rfl rfl)
theorem dX13_termOf_169 : decode cX13_termOf 169 = .ok (.iconst 0, 1) := dk_3 (dk_at dksX13_termOf_7 10 rfl rfl)
theorem dX13_termOf_170 : decode cX13_termOf 170 = .ok (.iaload, 1) := dk_46 (dk_at dksX13_termOf_7 11 rfl rfl)
theorem dX13_termOf_171 : decode cX13_termOf 171 = .ok (.ireturn, 1) := dk_172 (dk_at dksX13_termOf_7 12 rfl rfl)
abbrev cX13_partsOf : ByteArray := prog_21_method_52_code
def yX13_partsOf : MethodName := ⟨RX13, "partsOf", "(I)I"⟩
def dkwX13_partsOf_0 : List UInt8 := [42, 27, 182, 1, 81, 42, 4, 4, 182, 1, 84, 3, 16, 99, 184, 1, 87, 172]
abbrev dktX13_partsOf_0 : List UInt8 := dkwX13_partsOf_0 ++ []
theorem dksX13_partsOf_0 : cX13_partsOf.data.toList.drop 0 = dktX13_partsOf_0 := by decide +kernel
theorem dX13_partsOf_0 : decode cX13_partsOf 0 = .ok (.aload_n 0, 1) := dk_42 (dk_at dksX13_partsOf_0 0 rfl rfl)
theorem dX13_partsOf_1 : decode cX13_partsOf 1 = .ok (.iload_n 1, 1) := dk_27 (dk_at dksX13_partsOf_0 1 rfl rfl)
theorem dX13_partsOf_2 : decode cX13_partsOf 2 = .ok (.invokevirtual 337, 3) := dk_182 1 81 (dk_at dksX13_partsOf_0 2 rfl rfl)
theorem dX13_partsOf_5 : decode cX13_partsOf 5 = .ok (.aload_n 0, 1) := dk_42 (dk_at dksX13_partsOf_0 5 rfl rfl)
theorem dX13_partsOf_6 : decode cX13_partsOf 6 = .ok (.iconst 1, 1) := dk_4 (dk_at dksX13_partsOf_0 6 rfl rfl)
theorem dX13_partsOf_7 : decode cX13_partsOf 7 = .ok (.iconst 1, 1) := dk_4 (dk_at dksX13_partsOf_0 7 rfl rfl)
theorem dX13_partsOf_8 : decode cX13_partsOf 8 = .ok (.invokevirtual 340, 3) := dk_182 1 84 (dk_at dksX13_partsOf_0 8 rfl rfl)
theorem dX13_partsOf_11 : decode cX13_partsOf 11 = .ok (.iconst 0, 1) := dk_3 (dk_at dksX13_partsOf_0 11 rfl rfl)
theorem dX13_partsOf_12 : decode cX13_partsOf 12 = .ok (.bipush 99, 2) := dk_16 99 (dk_at dksX13_partsOf_0 12 rfl rfl)
theorem dX13_partsOf_14 : decode cX13_partsOf 14 = .ok (.invokestatic 343, 3) := dk_184 1 87 (dk_at dksX13_partsOf_0 14 rfl rfl)
theorem dX13_partsOf_17 : decode cX13_partsOf 17 = .ok (.ireturn, 1) := dk_172 (dk_at dksX13_partsOf_0 17 rfl rfl)
abbrev cX13_within : ByteArray := prog_21_method_36_code
def yX13_within : MethodName := ⟨RX13, "within", "(III)I"⟩
def dkwX13_within_0 : List UInt8 := [26, 27, 162, 0, 7, 27, 167, 0, 13, 26, 28, 164, 0, 7, 28, 167, 0, 4, 26, 172]
abbrev dktX13_within_0 : List UInt8 := dkwX13_within_0 ++ []
theorem dksX13_within_0 : cX13_within.data.toList.drop 0 = dktX13_within_0 := by decide +kernel
theorem dX13_within_0 : decode cX13_within 0 = .ok (.iload_n 0, 1) := dk_26 (dk_at dksX13_within_0 0 rfl rfl)
theorem dX13_within_1 : decode cX13_within 1 = .ok (.iload_n 1, 1) := dk_27 (dk_at dksX13_within_0 1 rfl rfl)
theorem dX13_within_2 : decode cX13_within 2 = .ok (.if_icmp .ge 7, 3) := dk_162 0 7 (dk_at dksX13_within_0 2 rfl rfl)
theorem dX13_within_5 : decode cX13_within 5 = .ok (.iload_n 1, 1) := dk_27 (dk_at dksX13_within_0 5 rfl rfl)
theorem dX13_within_6 : decode cX13_within 6 = .ok (.goto 13, 3) := dk_167 0 13 (dk_at dksX13_within_0 6 rfl rfl)
theorem dX13_within_9 : decode cX13_within 9 = .ok (.iload_n 0, 1) := dk_26 (dk_at dksX13_within_0 9 rfl rfl)
theorem dX13_within_10 : decode cX13_within 10 = .ok (.iload_n 2, 1) := dk_28 (dk_at dksX13_within_0 10 rfl rfl)
theorem dX13_within_11 : decode cX13_within 11 = .ok (.if_icmp .le 7, 3) := dk_164 0 7 (dk_at dksX13_within_0 11 rfl rfl)
theorem dX13_within_14 : decode cX13_within 14 = .ok (.iload_n 2, 1) := dk_28 (dk_at dksX13_within_0 14 rfl rfl)
theorem dX13_within_15 : decode cX13_within 15 = .ok (.goto 4, 3) := dk_167 0 4 (dk_at dksX13_within_0 15 rfl rfl)
theorem dX13_within_18 : decode cX13_within 18 = .ok (.iload_n 0, 1) := dk_26 (dk_at dksX13_within_0 18 rfl rfl)
theorem dX13_within_19 : decode cX13_within 19 = .ok (.ireturn, 1) := dk_172 (dk_at dksX13_within_0 19 rfl rfl)
abbrev cX13_chillsOf : ByteArray := prog_21_method_53_code
def yX13_chillsOf : MethodName := ⟨RX13, "chillsOf", "(I)I"⟩
def dkwX13_chillsOf_0 : List UInt8 := [42, 27, 182, 1, 81, 42, 5, 3, 182, 1, 84, 3, 16, 100, 184, 1, 87, 172]
abbrev dktX13_chillsOf_0 : List UInt8 := dkwX13_chillsOf_0 ++ []
theorem dksX13_chillsOf_0 : cX13_chillsOf.data.toList.drop 0 = dktX13_chillsOf_0 := by decide +kernel
theorem dX13_chillsOf_0 : decode cX13_chillsOf 0 = .ok (.aload_n 0, 1) := dk_42 (dk_at dksX13_chillsOf_0 0 rfl rfl)
theorem dX13_chillsOf_1 : decode cX13_chillsOf 1 = .ok (.iload_n 1, 1) := dk_27 (dk_at dksX13_chillsOf_0 1 rfl rfl)
theorem dX13_chillsOf_2 : decode cX13_chillsOf 2 = .ok (.invokevirtual 337, 3) := dk_182 1 81 (dk_at dksX13_chillsOf_0 2 rfl rfl)
theorem dX13_chillsOf_5 : decode cX13_chillsOf 5 = .ok (.aload_n 0, 1) := dk_42 (dk_at dksX13_chillsOf_0 5 rfl rfl)
theorem dX13_chillsOf_6 : decode cX13_chillsOf 6 = .ok (.iconst 2, 1) := dk_5 (dk_at dksX13_chillsOf_0 6 rfl rfl)
theorem dX13_chillsOf_7 : decode cX13_chillsOf 7 = .ok (.iconst 0, 1) := dk_3 (dk_at dksX13_chillsOf_0 7 rfl rfl)
theorem dX13_chillsOf_8 : decode cX13_chillsOf 8 = .ok (.invokevirtual 340, 3) := dk_182 1 84 (dk_at dksX13_chillsOf_0 8 rfl rfl)
theorem dX13_chillsOf_11 : decode cX13_chillsOf 11 = .ok (.iconst 0, 1) := dk_3 (dk_at dksX13_chillsOf_0 11 rfl rfl)
theorem dX13_chillsOf_12 : decode cX13_chillsOf 12 = .ok (.bipush 100, 2) := dk_16 100 (dk_at dksX13_chillsOf_0 12 rfl rfl)
theorem dX13_chillsOf_14 : decode cX13_chillsOf 14 = .ok (.invokestatic 343, 3) := dk_184 1 87 (dk_at dksX13_chillsOf_0 14 rfl rfl)
theorem dX13_chillsOf_17 : decode cX13_chillsOf 17 = .ok (.ireturn, 1) := dk_172 (dk_at dksX13_chillsOf_0 17 rfl rfl)
abbrev cX13_costsOf : ByteArray := prog_21_method_54_code
def yX13_costsOf : MethodName := ⟨RX13, "costsOf", "(I)I"⟩
def dkwX13_costsOf_0 : List UInt8 := [42, 27, 182, 1, 81, 42, 6, 4, 182, 1, 84, 3, 16, 99, 184, 1, 87, 172]
abbrev dktX13_costsOf_0 : List UInt8 := dkwX13_costsOf_0 ++ []
theorem dksX13_costsOf_0 : cX13_costsOf.data.toList.drop 0 = dktX13_costsOf_0 := by decide +kernel
theorem dX13_costsOf_0 : decode cX13_costsOf 0 = .ok (.aload_n 0, 1) := dk_42 (dk_at dksX13_costsOf_0 0 rfl rfl)
theorem dX13_costsOf_1 : decode cX13_costsOf 1 = .ok (.iload_n 1, 1) := dk_27 (dk_at dksX13_costsOf_0 1 rfl rfl)
theorem dX13_costsOf_2 : decode cX13_costsOf 2 = .ok (.invokevirtual 337, 3) := dk_182 1 81 (dk_at dksX13_costsOf_0 2 rfl rfl)
theorem dX13_costsOf_5 : decode cX13_costsOf 5 = .ok (.aload_n 0, 1) := dk_42 (dk_at dksX13_costsOf_0 5 rfl rfl)
theorem dX13_costsOf_6 : decode cX13_costsOf 6 = .ok (.iconst 3, 1) := dk_6 (dk_at dksX13_costsOf_0 6 rfl rfl)
theorem dX13_costsOf_7 : decode cX13_costsOf 7 = .ok (.iconst 1, 1) := dk_4 (dk_at dksX13_costsOf_0 7 rfl rfl)
theorem dX13_costsOf_8 : decode cX13_costsOf 8 = .ok (.invokevirtual 340, 3) := dk_182 1 84 (dk_at dksX13_costsOf_0 8 rfl rfl)
theorem dX13_costsOf_11 : decode cX13_costsOf 11 = .ok (.iconst 0, 1) := dk_3 (dk_at dksX13_costsOf_0 11 rfl rfl)
theorem dX13_costsOf_12 : decode cX13_costsOf 12 = .ok (.bipush 99, 2) := dk_16 99 (dk_at dksX13_costsOf_0 12 rfl rfl)
theorem dX13_costsOf_14 : decode cX13_costsOf 14 = .ok (.invokestatic 343, 3) := dk_184 1 87 (dk_at dksX13_costsOf_0 14 rfl rfl)
theorem dX13_costsOf_17 : decode cX13_costsOf 17 = .ok (.ireturn, 1) := dk_172 (dk_at dksX13_costsOf_0 17 rfl rfl)
abbrev cX13_turn : ByteArray := prog_21_method_63_code
def yX13_turn : MethodName := ⟨RX13, "turn", "(I)Z"⟩
def dkwX13_turn_1 : List UInt8 := [27, 46, 100, 79, 42, 180, 0, 110, 16, 36, 27, 96, 92, 46, 4, 96, 79, 42, 182, 1, 121, 4, 172]
abbrev dktX13_turn_1 : List UInt8 := dkwX13_turn_1 ++ []
def dkwX13_turn_0 : List UInt8 := [42, 27, 182, 1, 72, 154, 0, 5, 3, 172, 42, 182, 1, 65, 42, 180, 0, 110, 27, 4, 42, 180, 0, 110]
abbrev dktX13_turn_0 : List UInt8 := dkwX13_turn_0 ++ dktX13_turn_1
theorem dksX13_turn_0 : cX13_turn.data.toList.drop 0 = dktX13_turn_0 := by decide +kernel
theorem dksX13_turn_1 : cX13_turn.data.toList.drop 24 = dktX13_turn_1 := dk_seg dksX13_turn_0 24 rfl rfl
theorem dX13_turn_0 : decode cX13_turn 0 = .ok (.aload_n 0, 1) := dk_42 (dk_at dksX13_turn_0 0 rfl rfl)
theorem dX13_turn_1 : decode cX13_turn 1 = .ok (.iload_n 1, 1) := dk_27 (dk_at dksX13_turn_0 1 rfl rfl)
theorem dX13_turn_2 : decode cX13_turn 2 = .ok (.invokevirtual 328, 3) := dk_182 1 72 (dk_at dksX13_turn_0 2 rfl rfl)
theorem dX13_turn_5 : decode cX13_turn 5 = .ok (.ifCond .ne 5, 3) := dk_154 0 5 (dk_at dksX13_turn_0 5 rfl rfl)
theorem dX13_turn_8 : decode cX13_turn 8 = .ok (.iconst 0, 1) := dk_3 (dk_at dksX13_turn_0 8 rfl rfl)
theorem dX13_turn_9 : decode cX13_turn 9 = .ok (.ireturn, 1) := dk_172 (dk_at dksX13_turn_0 9 rfl rfl)
theorem dX13_turn_10 : decode cX13_turn 10 = .ok (.aload_n 0, 1) := dk_42 (dk_at dksX13_turn_0 10 rfl rfl)
theorem dX13_turn_11 : decode cX13_turn 11 = .ok (.invokevirtual 321, 3) := dk_182 1 65 (dk_at dksX13_turn_0 11 rfl rfl)
theorem dX13_turn_14 : decode cX13_turn 14 = .ok (.aload_n 0, 1) := dk_42 (dk_at dksX13_turn_0 14 rfl rfl)
theorem dX13_turn_15 : decode cX13_turn 15 = .ok (.getfield 110, 3) := dk_180 0 110 (dk_at dksX13_turn_0 15 rfl rfl)
theorem dX13_turn_18 : decode cX13_turn 18 = .ok (.iload_n 1, 1) := dk_27 (dk_at dksX13_turn_0 18 rfl rfl)
theorem dX13_turn_19 : decode cX13_turn 19 = .ok (.iconst 1, 1) := dk_4 (dk_at dksX13_turn_0 19 rfl rfl)
theorem dX13_turn_20 : decode cX13_turn 20 = .ok (.aload_n 0, 1) := dk_42 (dk_at dksX13_turn_0 20 rfl rfl)
theorem dX13_turn_21 : decode cX13_turn 21 = .ok (.getfield 110, 3) := dk_180 0 110 (dk_at dksX13_turn_0 21 rfl rfl)
theorem dX13_turn_24 : decode cX13_turn 24 = .ok (.iload_n 1, 1) := dk_27 (dk_at dksX13_turn_1 0 rfl rfl)
theorem dX13_turn_25 : decode cX13_turn 25 = .ok (.iaload, 1) := dk_46 (dk_at dksX13_turn_1 1 rfl rfl)
theorem dX13_turn_26 : decode cX13_turn 26 = .ok (.isub, 1) := dk_100 (dk_at dksX13_turn_1 2 rfl rfl)
theorem dX13_turn_27 : decode cX13_turn 27 = .ok (.iastore, 1) := dk_79 (dk_at dksX13_turn_1 3 rfl rfl)
theorem dX13_turn_28 : decode cX13_turn 28 = .ok (.aload_n 0, 1) := dk_42 (dk_at dksX13_turn_1 4 rfl rfl)
theorem dX13_turn_29 : decode cX13_turn 29 = .ok (.getfield 110, 3) := dk_180 0 110 (dk_at dksX13_turn_1 5 rfl rfl)
theorem dX13_turn_32 : decode cX13_turn 32 = .ok (.bipush 36, 2) := dk_16 36 (dk_at dksX13_turn_1 8 rfl rfl)
theorem dX13_turn_34 : decode cX13_turn 34 = .ok (.iload_n 1, 1) := dk_27 (dk_at dksX13_turn_1 10 rfl rfl)
theorem dX13_turn_35 : decode cX13_turn 35 = .ok (.iadd, 1) := dk_96 (dk_at dksX13_turn_1 11 rfl rfl)
theorem dX13_turn_36 : decode cX13_turn 36 = .ok (.dup2, 1) := dk_92 (dk_at dksX13_turn_1 12 rfl rfl)
theorem dX13_turn_37 : decode cX13_turn 37 = .ok (.iaload, 1) := dk_46 (dk_at dksX13_turn_1 13 rfl rfl)
theorem dX13_turn_38 : decode cX13_turn 38 = .ok (.iconst 1, 1) := dk_4 (dk_at dksX13_turn_1 14 rfl rfl)
theorem dX13_turn_39 : decode cX13_turn 39 = .ok (.iadd, 1) := dk_96 (dk_at dksX13_turn_1 15 rfl rfl)
theorem dX13_turn_40 : decode cX13_turn 40 = .ok (.iastore, 1) := dk_79 (dk_at dksX13_turn_1 16 rfl rfl)
theorem dX13_turn_41 : decode cX13_turn 41 = .ok (.aload_n 0, 1) := dk_42 (dk_at dksX13_turn_1 17 rfl rfl)
theorem dX13_turn_42 : decode cX13_turn 42 = .ok (.invokevirtual 377, 3) := dk_182 1 121 (dk_at dksX13_turn_1 18 rfl rfl)
theorem dX13_turn_45 : decode cX13_turn 45 = .ok (.iconst 1, 1) := dk_4 (dk_at dksX13_turn_1 21 rfl rfl)
theorem dX13_turn_46 : decode cX13_turn 46 = .ok (.ireturn, 1) := dk_172 (dk_at dksX13_turn_1 22 rfl rfl)
abbrev cX13_records : ByteArray := prog_21_method_62_code
def yX13_records : MethodName := ⟨RX13, "records", "()V"⟩
def dkwX13_records_4 : List UInt8 := [182, 0, 160, 177]
abbrev dktX13_records_4 : List UInt8 := dkwX13_records_4 ++ []
def dkwX13_records_3 : List UInt8 := [42, 180, 0, 107, 27, 46, 79, 132, 1, 1, 167, 255, 227, 42, 89, 180, 1, 0, 4, 96, 181, 1, 0, 42]
abbrev dktX13_records_3 : List UInt8 := dkwX13_records_3 ++ dktX13_records_4
def dkwX13_records_2 : List UInt8 := [181, 1, 0, 3, 60, 27, 16, 48, 162, 0, 29, 42, 180, 0, 119, 16, 48, 42, 180, 1, 0, 104, 27, 96]
abbrev dktX13_records_2 : List UInt8 := dkwX13_records_2 ++ dktX13_records_3
def dkwX13_records_1 : List UInt8 := [180, 0, 119, 27, 16, 48, 96, 46, 79, 132, 1, 1, 167, 255, 231, 42, 89, 180, 1, 0, 4, 100]
abbrev dktX13_records_1 : List UInt8 := dkwX13_records_1 ++ dktX13_records_2
def dkwX13_records_0 : List UInt8 := [42, 180, 1, 0, 16, 40, 160, 0, 43, 3, 60, 27, 17, 7, 80, 162, 0, 24, 42, 180, 0, 119, 27, 42]
abbrev dktX13_records_0 : List UInt8 := dkwX13_records_0 ++ dktX13_records_1
theorem dksX13_records_0 : cX13_records.data.toList.drop 0 = dktX13_records_0 := by decide +kernel
theorem dksX13_records_1 : cX13_records.data.toList.drop 24 = dktX13_records_1 := dk_seg dksX13_records_0 24 rfl rfl
theorem dksX13_records_2 : cX13_records.data.toList.drop 46 = dktX13_records_2 := dk_seg dksX13_records_1 22 rfl rfl
theorem dksX13_records_3 : cX13_records.data.toList.drop 70 = dktX13_records_3 := dk_seg dksX13_records_2 24 rfl rfl
theorem dksX13_records_4 : cX13_records.data.toList.drop 94 = dktX13_records_4 := dk_seg dksX13_records_3 24 rfl rfl
theorem dX13_records_0 : decode cX13_records 0 = .ok (.aload_n 0, 1) := dk_42 (dk_at dksX13_records_0 0 rfl rfl)
theorem dX13_records_1 : decode cX13_records 1 = .ok (.getfield 256, 3) := dk_180 1 0 (dk_at dksX13_records_0 1 rfl rfl)
theorem dX13_records_4 : decode cX13_records 4 = .ok (.bipush 40, 2) := dk_16 40 (dk_at dksX13_records_0 4 rfl rfl)
theorem dX13_records_6 : decode cX13_records 6 = .ok (.if_icmp .ne 43, 3) := dk_160 0 43 (dk_at dksX13_records_0 6 rfl rfl)
theorem dX13_records_9 : decode cX13_records 9 = .ok (.iconst 0, 1) := dk_3 (dk_at dksX13_records_0 9 rfl rfl)
theorem dX13_records_10 : decode cX13_records 10 = .ok (.istore_n 1, 1) := dk_60 (dk_at dksX13_records_0 10 rfl rfl)
theorem dX13_records_11 : decode cX13_records 11 = .ok (.iload_n 1, 1) := dk_27 (dk_at dksX13_records_0 11 rfl rfl)
theorem dX13_records_12 : decode cX13_records 12 = .ok (.sipush 1872, 3) := dk_17 7 80 (dk_at dksX13_records_0 12 rfl rfl)
theorem dX13_records_15 : decode cX13_records 15 = .ok (.if_icmp .ge 24, 3) := dk_162 0 24 (dk_at dksX13_records_0 15 rfl rfl)
theorem dX13_records_18 : decode cX13_records 18 = .ok (.aload_n 0, 1) := dk_42 (dk_at dksX13_records_0 18 rfl rfl)
theorem dX13_records_19 : decode cX13_records 19 = .ok (.getfield 119, 3) := dk_180 0 119 (dk_at dksX13_records_0 19 rfl rfl)
theorem dX13_records_22 : decode cX13_records 22 = .ok (.iload_n 1, 1) := dk_27 (dk_at dksX13_records_0 22 rfl rfl)
theorem dX13_records_23 : decode cX13_records 23 = .ok (.aload_n 0, 1) := dk_42 (dk_at dksX13_records_0 23 rfl rfl)
theorem dX13_records_24 : decode cX13_records 24 = .ok (.getfield 119, 3) := dk_180 0 119 (dk_at dksX13_records_1 0 rfl rfl)
theorem dX13_records_27 : decode cX13_records 27 = .ok (.iload_n 1, 1) := dk_27 (dk_at dksX13_records_1 3 rfl rfl)
theorem dX13_records_28 : decode cX13_records 28 = .ok (.bipush 48, 2) := dk_16 48 (dk_at dksX13_records_1 4 rfl rfl)
theorem dX13_records_30 : decode cX13_records 30 = .ok (.iadd, 1) := dk_96 (dk_at dksX13_records_1 6 rfl rfl)
theorem dX13_records_31 : decode cX13_records 31 = .ok (.iaload, 1) := dk_46 (dk_at dksX13_records_1 7 rfl rfl)
theorem dX13_records_32 : decode cX13_records 32 = .ok (.iastore, 1) := dk_79 (dk_at dksX13_records_1 8 rfl rfl)
theorem dX13_records_33 : decode cX13_records 33 = .ok (.iinc 1 1, 3) := dk_132 1 1 (dk_at dksX13_records_1 9 rfl rfl)
theorem dX13_records_36 : decode cX13_records 36 = .ok (.goto (-25), 3) := dk_167 255 231 (dk_at dksX13_records_1 12 rfl rfl)
theorem dX13_records_39 : decode cX13_records 39 = .ok (.aload_n 0, 1) := dk_42 (dk_at dksX13_records_1 15 rfl rfl)
theorem dX13_records_40 : decode cX13_records 40 = .ok (.dup, 1) := dk_89 (dk_at dksX13_records_1 16 rfl rfl)
theorem dX13_records_41 : decode cX13_records 41 = .ok (.getfield 256, 3) := dk_180 1 0 (dk_at dksX13_records_1 17 rfl rfl)
theorem dX13_records_44 : decode cX13_records 44 = .ok (.iconst 1, 1) := dk_4 (dk_at dksX13_records_1 20 rfl rfl)
theorem dX13_records_45 : decode cX13_records 45 = .ok (.isub, 1) := dk_100 (dk_at dksX13_records_1 21 rfl rfl)
theorem dX13_records_46 : decode cX13_records 46 = .ok (.putfield 256, 3) := dk_181 1 0 (dk_at dksX13_records_2 0 rfl rfl)
theorem dX13_records_49 : decode cX13_records 49 = .ok (.iconst 0, 1) := dk_3 (dk_at dksX13_records_2 3 rfl rfl)
theorem dX13_records_50 : decode cX13_records 50 = .ok (.istore_n 1, 1) := dk_60 (dk_at dksX13_records_2 4 rfl rfl)
theorem dX13_records_51 : decode cX13_records 51 = .ok (.iload_n 1, 1) := dk_27 (dk_at dksX13_records_2 5 rfl rfl)
theorem dX13_records_52 : decode cX13_records 52 = .ok (.bipush 48, 2) := dk_16 48 (dk_at dksX13_records_2 6 rfl rfl)
theorem dX13_records_54 : decode cX13_records 54 = .ok (.if_icmp .ge 29, 3) := dk_162 0 29 (dk_at dksX13_records_2 8 rfl rfl)
theorem dX13_records_57 : decode cX13_records 57 = .ok (.aload_n 0, 1) := dk_42 (dk_at dksX13_records_2 11 rfl rfl)
theorem dX13_records_58 : decode cX13_records 58 = .ok (.getfield 119, 3) := dk_180 0 119 (dk_at dksX13_records_2 12 rfl rfl)
theorem dX13_records_61 : decode cX13_records 61 = .ok (.bipush 48, 2) := dk_16 48 (dk_at dksX13_records_2 15 rfl rfl)
theorem dX13_records_63 : decode cX13_records 63 = .ok (.aload_n 0, 1) := dk_42 (dk_at dksX13_records_2 17 rfl rfl)
theorem dX13_records_64 : decode cX13_records 64 = .ok (.getfield 256, 3) := dk_180 1 0 (dk_at dksX13_records_2 18 rfl rfl)
theorem dX13_records_67 : decode cX13_records 67 = .ok (.imul, 1) := dk_104 (dk_at dksX13_records_2 21 rfl rfl)
theorem dX13_records_68 : decode cX13_records 68 = .ok (.iload_n 1, 1) := dk_27 (dk_at dksX13_records_2 22 rfl rfl)
theorem dX13_records_69 : decode cX13_records 69 = .ok (.iadd, 1) := dk_96 (dk_at dksX13_records_2 23 rfl rfl)
theorem dX13_records_70 : decode cX13_records 70 = .ok (.aload_n 0, 1) := dk_42 (dk_at dksX13_records_3 0 rfl rfl)
theorem dX13_records_71 : decode cX13_records 71 = .ok (.getfield 107, 3) := dk_180 0 107 (dk_at dksX13_records_3 1 rfl rfl)
theorem dX13_records_74 : decode cX13_records 74 = .ok (.iload_n 1, 1) := dk_27 (dk_at dksX13_records_3 4 rfl rfl)
theorem dX13_records_75 : decode cX13_records 75 = .ok (.iaload, 1) := dk_46 (dk_at dksX13_records_3 5 rfl rfl)
theorem dX13_records_76 : decode cX13_records 76 = .ok (.iastore, 1) := dk_79 (dk_at dksX13_records_3 6 rfl rfl)
theorem dX13_records_77 : decode cX13_records 77 = .ok (.iinc 1 1, 3) := dk_132 1 1 (dk_at dksX13_records_3 7 rfl rfl)
theorem dX13_records_80 : decode cX13_records 80 = .ok (.goto (-29), 3) := dk_167 255 227 (dk_at dksX13_records_3 10 rfl rfl)
theorem dX13_records_83 : decode cX13_records 83 = .ok (.aload_n 0, 1) := dk_42 (dk_at dksX13_records_3 13 rfl rfl)
theorem dX13_records_84 : decode cX13_records 84 = .ok (.dup, 1) := dk_89 (dk_at dksX13_records_3 14 rfl rfl)
theorem dX13_records_85 : decode cX13_records 85 = .ok (.getfield 256, 3) := dk_180 1 0 (dk_at dksX13_records_3 15 rfl rfl)
theorem dX13_records_88 : decode cX13_records 88 = .ok (.iconst 1, 1) := dk_4 (dk_at dksX13_records_3 18 rfl rfl)
theorem dX13_records_89 : decode cX13_records 89 = .ok (.iadd, 1) := dk_96 (dk_at dksX13_records_3 19 rfl rfl)
theorem dX13_records_90 : decode cX13_records 90 = .ok (.putfield 256, 3) := dk_181 1 0 (dk_at dksX13_records_3 20 rfl rfl)
theorem dX13_records_93 : decode cX13_records 93 = .ok (.aload_n 0, 1) := dk_42 (dk_at dksX13_records_3 23 rfl rfl)
theorem dX13_records_94 : decode cX13_records 94 = .ok (.invokevirtual 160, 3) := dk_182 0 160 (dk_at dksX13_records_4 0 rfl rfl)
theorem dX13_records_97 : decode cX13_records 97 = .ok (.return_, 1) := dk_177 (dk_at dksX13_records_4 3 rfl rfl)
abbrev cX13_whistle : ByteArray := prog_21_method_64_code
def yX13_whistle : MethodName := ⟨RX13, "whistle", "()Z"⟩
def dkwX13_whistle_2 : List UInt8 := [172]
abbrev dktX13_whistle_2 : List UInt8 := dkwX13_whistle_2 ++ []
def dkwX13_whistle_1 : List UInt8 := [180, 0, 110, 27, 4, 42, 180, 0, 110, 27, 46, 100, 79, 132, 1, 1, 167, 255, 231, 42, 182, 1, 121, 4]
abbrev dktX13_whistle_1 : List UInt8 := dkwX13_whistle_1 ++ dktX13_whistle_2
def dkwX13_whistle_0 : List UInt8 := [42, 182, 1, 48, 154, 0, 5, 3, 172, 42, 182, 1, 65, 3, 60, 27, 42, 182, 1, 48, 162, 0, 23, 42]
abbrev dktX13_whistle_0 : List UInt8 := dkwX13_whistle_0 ++ dktX13_whistle_1
theorem dksX13_whistle_0 : cX13_whistle.data.toList.drop 0 = dktX13_whistle_0 := by decide +kernel
theorem dksX13_whistle_1 : cX13_whistle.data.toList.drop 24 = dktX13_whistle_1 := dk_seg dksX13_whistle_0 24 rfl rfl
theorem dksX13_whistle_2 : cX13_whistle.data.toList.drop 48 = dktX13_whistle_2 := dk_seg dksX13_whistle_1 24 rfl rfl
theorem dX13_whistle_0 : decode cX13_whistle 0 = .ok (.aload_n 0, 1) := dk_42 (dk_at dksX13_whistle_0 0 rfl rfl)
theorem dX13_whistle_1 : decode cX13_whistle 1 = .ok (.invokevirtual 304, 3) := dk_182 1 48 (dk_at dksX13_whistle_0 1 rfl rfl)
theorem dX13_whistle_4 : decode cX13_whistle 4 = .ok (.ifCond .ne 5, 3) := dk_154 0 5 (dk_at dksX13_whistle_0 4 rfl rfl)
theorem dX13_whistle_7 : decode cX13_whistle 7 = .ok (.iconst 0, 1) := dk_3 (dk_at dksX13_whistle_0 7 rfl rfl)
theorem dX13_whistle_8 : decode cX13_whistle 8 = .ok (.ireturn, 1) := dk_172 (dk_at dksX13_whistle_0 8 rfl rfl)
theorem dX13_whistle_9 : decode cX13_whistle 9 = .ok (.aload_n 0, 1) := dk_42 (dk_at dksX13_whistle_0 9 rfl rfl)
theorem dX13_whistle_10 : decode cX13_whistle 10 = .ok (.invokevirtual 321, 3) := dk_182 1 65 (dk_at dksX13_whistle_0 10 rfl rfl)
theorem dX13_whistle_13 : decode cX13_whistle 13 = .ok (.iconst 0, 1) := dk_3 (dk_at dksX13_whistle_0 13 rfl rfl)
theorem dX13_whistle_14 : decode cX13_whistle 14 = .ok (.istore_n 1, 1) := dk_60 (dk_at dksX13_whistle_0 14 rfl rfl)
theorem dX13_whistle_15 : decode cX13_whistle 15 = .ok (.iload_n 1, 1) := dk_27 (dk_at dksX13_whistle_0 15 rfl rfl)
theorem dX13_whistle_16 : decode cX13_whistle 16 = .ok (.aload_n 0, 1) := dk_42 (dk_at dksX13_whistle_0 16 rfl rfl)
theorem dX13_whistle_17 : decode cX13_whistle 17 = .ok (.invokevirtual 304, 3) := dk_182 1 48 (dk_at dksX13_whistle_0 17 rfl rfl)
theorem dX13_whistle_20 : decode cX13_whistle 20 = .ok (.if_icmp .ge 23, 3) := dk_162 0 23 (dk_at dksX13_whistle_0 20 rfl rfl)
theorem dX13_whistle_23 : decode cX13_whistle 23 = .ok (.aload_n 0, 1) := dk_42 (dk_at dksX13_whistle_0 23 rfl rfl)
theorem dX13_whistle_24 : decode cX13_whistle 24 = .ok (.getfield 110, 3) := dk_180 0 110 (dk_at dksX13_whistle_1 0 rfl rfl)
theorem dX13_whistle_27 : decode cX13_whistle 27 = .ok (.iload_n 1, 1) := dk_27 (dk_at dksX13_whistle_1 3 rfl rfl)
theorem dX13_whistle_28 : decode cX13_whistle 28 = .ok (.iconst 1, 1) := dk_4 (dk_at dksX13_whistle_1 4 rfl rfl)
theorem dX13_whistle_29 : decode cX13_whistle 29 = .ok (.aload_n 0, 1) := dk_42 (dk_at dksX13_whistle_1 5 rfl rfl)
theorem dX13_whistle_30 : decode cX13_whistle 30 = .ok (.getfield 110, 3) := dk_180 0 110 (dk_at dksX13_whistle_1 6 rfl rfl)
theorem dX13_whistle_33 : decode cX13_whistle 33 = .ok (.iload_n 1, 1) := dk_27 (dk_at dksX13_whistle_1 9 rfl rfl)
theorem dX13_whistle_34 : decode cX13_whistle 34 = .ok (.iaload, 1) := dk_46 (dk_at dksX13_whistle_1 10 rfl rfl)
theorem dX13_whistle_35 : decode cX13_whistle 35 = .ok (.isub, 1) := dk_100 (dk_at dksX13_whistle_1 11 rfl rfl)
theorem dX13_whistle_36 : decode cX13_whistle 36 = .ok (.iastore, 1) := dk_79 (dk_at dksX13_whistle_1 12 rfl rfl)
theorem dX13_whistle_37 : decode cX13_whistle 37 = .ok (.iinc 1 1, 3) := dk_132 1 1 (dk_at dksX13_whistle_1 13 rfl rfl)
theorem dX13_whistle_40 : decode cX13_whistle 40 = .ok (.goto (-25), 3) := dk_167 255 231 (dk_at dksX13_whistle_1 16 rfl rfl)
theorem dX13_whistle_43 : decode cX13_whistle 43 = .ok (.aload_n 0, 1) := dk_42 (dk_at dksX13_whistle_1 19 rfl rfl)
theorem dX13_whistle_44 : decode cX13_whistle 44 = .ok (.invokevirtual 377, 3) := dk_182 1 121 (dk_at dksX13_whistle_1 20 rfl rfl)
theorem dX13_whistle_47 : decode cX13_whistle 47 = .ok (.iconst 1, 1) := dk_4 (dk_at dksX13_whistle_1 23 rfl rfl)
theorem dX13_whistle_48 : decode cX13_whistle 48 = .ok (.ireturn, 1) := dk_172 (dk_at dksX13_whistle_2 0 rfl rfl)
abbrev cX13_change : ByteArray := prog_21_method_66_code
def yX13_change : MethodName := ⟨RX13, "change", "(II)Z"⟩
def dkwX13_change_1 : List UInt8 := [182, 1, 65, 42, 27, 28, 182, 1, 124, 42, 182, 1, 121, 4, 172]
abbrev dktX13_change_1 : List UInt8 := dkwX13_change_1 ++ []
def dkwX13_change_0 : List UInt8 := [42, 27, 182, 1, 72, 153, 0, 16, 42, 28, 182, 1, 72, 153, 0, 8, 27, 28, 160, 0, 5, 3, 172, 42]
abbrev dktX13_change_0 : List UInt8 := dkwX13_change_0 ++ dktX13_change_1
theorem dksX13_change_0 : cX13_change.data.toList.drop 0 = dktX13_change_0 := by decide +kernel
theorem dksX13_change_1 : cX13_change.data.toList.drop 24 = dktX13_change_1 := dk_seg dksX13_change_0 24 rfl rfl
theorem dX13_change_0 : decode cX13_change 0 = .ok (.aload_n 0, 1) := dk_42 (dk_at dksX13_change_0 0 rfl rfl)
theorem dX13_change_1 : decode cX13_change 1 = .ok (.iload_n 1, 1) := dk_27 (dk_at dksX13_change_0 1 rfl rfl)
theorem dX13_change_2 : decode cX13_change 2 = .ok (.invokevirtual 328, 3) := dk_182 1 72 (dk_at dksX13_change_0 2 rfl rfl)
theorem dX13_change_5 : decode cX13_change 5 = .ok (.ifCond .eq 16, 3) := dk_153 0 16 (dk_at dksX13_change_0 5 rfl rfl)
theorem dX13_change_8 : decode cX13_change 8 = .ok (.aload_n 0, 1) := dk_42 (dk_at dksX13_change_0 8 rfl rfl)
theorem dX13_change_9 : decode cX13_change 9 = .ok (.iload_n 2, 1) := dk_28 (dk_at dksX13_change_0 9 rfl rfl)
theorem dX13_change_10 : decode cX13_change 10 = .ok (.invokevirtual 328, 3) := dk_182 1 72 (dk_at dksX13_change_0 10 rfl rfl)
theorem dX13_change_13 : decode cX13_change 13 = .ok (.ifCond .eq 8, 3) := dk_153 0 8 (dk_at dksX13_change_0 13 rfl rfl)
theorem dX13_change_16 : decode cX13_change 16 = .ok (.iload_n 1, 1) := dk_27 (dk_at dksX13_change_0 16 rfl rfl)
theorem dX13_change_17 : decode cX13_change 17 = .ok (.iload_n 2, 1) := dk_28 (dk_at dksX13_change_0 17 rfl rfl)
theorem dX13_change_18 : decode cX13_change 18 = .ok (.if_icmp .ne 5, 3) := dk_160 0 5 (dk_at dksX13_change_0 18 rfl rfl)
theorem dX13_change_21 : decode cX13_change 21 = .ok (.iconst 0, 1) := dk_3 (dk_at dksX13_change_0 21 rfl rfl)
theorem dX13_change_22 : decode cX13_change 22 = .ok (.ireturn, 1) := dk_172 (dk_at dksX13_change_0 22 rfl rfl)
theorem dX13_change_23 : decode cX13_change 23 = .ok (.aload_n 0, 1) := dk_42 (dk_at dksX13_change_0 23 rfl rfl)
theorem dX13_change_24 : decode cX13_change 24 = .ok (.invokevirtual 321, 3) := dk_182 1 65 (dk_at dksX13_change_1 0 rfl rfl)
theorem dX13_change_27 : decode cX13_change 27 = .ok (.aload_n 0, 1) := dk_42 (dk_at dksX13_change_1 3 rfl rfl)
theorem dX13_change_28 : decode cX13_change 28 = .ok (.iload_n 1, 1) := dk_27 (dk_at dksX13_change_1 4 rfl rfl)
theorem dX13_change_29 : decode cX13_change 29 = .ok (.iload_n 2, 1) := dk_28 (dk_at dksX13_change_1 5 rfl rfl)
theorem dX13_change_30 : decode cX13_change 30 = .ok (.invokevirtual 380, 3) := dk_182 1 124 (dk_at dksX13_change_1 6 rfl rfl)
theorem dX13_change_33 : decode cX13_change 33 = .ok (.aload_n 0, 1) := dk_42 (dk_at dksX13_change_1 9 rfl rfl)
theorem dX13_change_34 : decode cX13_change 34 = .ok (.invokevirtual 377, 3) := dk_182 1 121 (dk_at dksX13_change_1 10 rfl rfl)
theorem dX13_change_37 : decode cX13_change 37 = .ok (.iconst 1, 1) := dk_4 (dk_at dksX13_change_1 13 rfl rfl)
theorem dX13_change_38 : decode cX13_change 38 = .ok (.ireturn, 1) := dk_172 (dk_at dksX13_change_1 14 rfl rfl)
abbrev cX13_changes : ByteArray := prog_21_method_65_code
def yX13_changes : MethodName := ⟨RX13, "changes", "(II)V"⟩
def dkwX13_changes_2 : List UInt8 := [167, 255, 211, 177]
abbrev dktX13_changes_2 : List UInt8 := dkwX13_changes_2 ++ []
def dkwX13_changes_1 : List UInt8 := [96, 42, 180, 0, 110, 29, 28, 96, 46, 79, 42, 180, 0, 110, 29, 28, 96, 21, 4, 79, 132, 3, 9]
abbrev dktX13_changes_1 : List UInt8 := dkwX13_changes_1 ++ dktX13_changes_2
def dkwX13_changes_0 : List UInt8 := [3, 62, 29, 16, 45, 162, 0, 45, 42, 180, 0, 110, 29, 27, 96, 46, 54, 4, 42, 180, 0, 110, 29, 27]
abbrev dktX13_changes_0 : List UInt8 := dkwX13_changes_0 ++ dktX13_changes_1
theorem dksX13_changes_0 : cX13_changes.data.toList.drop 0 = dktX13_changes_0 := by decide +kernel
theorem dksX13_changes_1 : cX13_changes.data.toList.drop 24 = dktX13_changes_1 := dk_seg dksX13_changes_0 24 rfl rfl
theorem dksX13_changes_2 : cX13_changes.data.toList.drop 47 = dktX13_changes_2 := dk_seg dksX13_changes_1 23 rfl rfl
theorem dX13_changes_0 : decode cX13_changes 0 = .ok (.iconst 0, 1) := dk_3 (dk_at dksX13_changes_0 0 rfl rfl)
theorem dX13_changes_1 : decode cX13_changes 1 = .ok (.istore_n 3, 1) := dk_62 (dk_at dksX13_changes_0 1 rfl rfl)
theorem dX13_changes_2 : decode cX13_changes 2 = .ok (.iload_n 3, 1) := dk_29 (dk_at dksX13_changes_0 2 rfl rfl)
theorem dX13_changes_3 : decode cX13_changes 3 = .ok (.bipush 45, 2) := dk_16 45 (dk_at dksX13_changes_0 3 rfl rfl)
theorem dX13_changes_5 : decode cX13_changes 5 = .ok (.if_icmp .ge 45, 3) := dk_162 0 45 (dk_at dksX13_changes_0 5 rfl rfl)
theorem dX13_changes_8 : decode cX13_changes 8 = .ok (.aload_n 0, 1) := dk_42 (dk_at dksX13_changes_0 8 rfl rfl)
theorem dX13_changes_9 : decode cX13_changes 9 = .ok (.getfield 110, 3) := dk_180 0 110 (dk_at dksX13_changes_0 9 rfl rfl)
theorem dX13_changes_12 : decode cX13_changes 12 = .ok (.iload_n 3, 1) := dk_29 (dk_at dksX13_changes_0 12 rfl rfl)
theorem dX13_changes_13 : decode cX13_changes 13 = .ok (.iload_n 1, 1) := dk_27 (dk_at dksX13_changes_0 13 rfl rfl)
theorem dX13_changes_14 : decode cX13_changes 14 = .ok (.iadd, 1) := dk_96 (dk_at dksX13_changes_0 14 rfl rfl)
theorem dX13_changes_15 : decode cX13_changes 15 = .ok (.iaload, 1) := dk_46 (dk_at dksX13_changes_0 15 rfl rfl)
theorem dX13_changes_16 : decode cX13_changes 16 = .ok (.istore 4, 2) := dk_54 4 (dk_at dksX13_changes_0 16 rfl rfl)
theorem dX13_changes_18 : decode cX13_changes 18 = .ok (.aload_n 0, 1) := dk_42 (dk_at dksX13_changes_0 18 rfl rfl)
theorem dX13_changes_19 : decode cX13_changes 19 = .ok (.getfield 110, 3) := dk_180 0 110 (dk_at dksX13_changes_0 19 rfl rfl)
theorem dX13_changes_22 : decode cX13_changes 22 = .ok (.iload_n 3, 1) := dk_29 (dk_at dksX13_changes_0 22 rfl rfl)
theorem dX13_changes_23 : decode cX13_changes 23 = .ok (.iload_n 1, 1) := dk_27 (dk_at dksX13_changes_0 23 rfl rfl)
theorem dX13_changes_24 : decode cX13_changes 24 = .ok (.iadd, 1) := dk_96 (dk_at dksX13_changes_1 0 rfl rfl)
theorem dX13_changes_25 : decode cX13_changes 25 = .ok (.aload_n 0, 1) := dk_42 (dk_at dksX13_changes_1 1 rfl rfl)
theorem dX13_changes_26 : decode cX13_changes 26 = .ok (.getfield 110, 3) := dk_180 0 110 (dk_at dksX13_changes_1 2 rfl rfl)
theorem dX13_changes_29 : decode cX13_changes 29 = .ok (.iload_n 3, 1) := dk_29 (dk_at dksX13_changes_1 5 rfl rfl)
theorem dX13_changes_30 : decode cX13_changes 30 = .ok (.iload_n 2, 1) := dk_28 (dk_at dksX13_changes_1 6 rfl rfl)
theorem dX13_changes_31 : decode cX13_changes 31 = .ok (.iadd, 1) := dk_96 (dk_at dksX13_changes_1 7 rfl rfl)
theorem dX13_changes_32 : decode cX13_changes 32 = .ok (.iaload, 1) := dk_46 (dk_at dksX13_changes_1 8 rfl rfl)
theorem dX13_changes_33 : decode cX13_changes 33 = .ok (.iastore, 1) := dk_79 (dk_at dksX13_changes_1 9 rfl rfl)
theorem dX13_changes_34 : decode cX13_changes 34 = .ok (.aload_n 0, 1) := dk_42 (dk_at dksX13_changes_1 10 rfl rfl)
theorem dX13_changes_35 : decode cX13_changes 35 = .ok (.getfield 110, 3) := dk_180 0 110 (dk_at dksX13_changes_1 11 rfl rfl)
theorem dX13_changes_38 : decode cX13_changes 38 = .ok (.iload_n 3, 1) := dk_29 (dk_at dksX13_changes_1 14 rfl rfl)
theorem dX13_changes_39 : decode cX13_changes 39 = .ok (.iload_n 2, 1) := dk_28 (dk_at dksX13_changes_1 15 rfl rfl)
theorem dX13_changes_40 : decode cX13_changes 40 = .ok (.iadd, 1) := dk_96 (dk_at dksX13_changes_1 16 rfl rfl)
theorem dX13_changes_41 : decode cX13_changes 41 = .ok (.iload 4, 2) := dk_21 4 (dk_at dksX13_changes_1 17 rfl rfl)
theorem dX13_changes_43 : decode cX13_changes 43 = .ok (.iastore, 1) := dk_79 (dk_at dksX13_changes_1 19 rfl rfl)
theorem dX13_changes_44 : decode cX13_changes 44 = .ok (.iinc 3 9, 3) := dk_132 3 9 (dk_at dksX13_changes_1 20 rfl rfl)
theorem dX13_changes_47 : decode cX13_changes 47 = .ok (.goto (-45), 3) := dk_167 255 211 (dk_at dksX13_changes_2 0 rfl rfl)
theorem dX13_changes_50 : decode cX13_changes 50 = .ok (.return_, 1) := dk_177 (dk_at dksX13_changes_2 3 rfl rfl)
abbrev cX13_hours : ByteArray := prog_21_method_69_code
def yX13_hours : MethodName := ⟨RX13, "hours", "(I)I"⟩
def dkwX13_hours_1 : List UInt8 := [182, 1, 65, 42, 27, 182, 1, 111, 42, 182, 1, 121, 42, 180, 0, 107, 16, 45, 46, 172]
abbrev dktX13_hours_1 : List UInt8 := dkwX13_hours_1 ++ []
def dkwX13_hours_0 : List UInt8 := [27, 184, 1, 127, 154, 0, 5, 2, 172, 27, 154, 0, 11, 42, 180, 0, 107, 16, 45, 46, 172, 42]
abbrev dktX13_hours_0 : List UInt8 := dkwX13_hours_0 ++ dktX13_hours_1
theorem dksX13_hours_0 : cX13_hours.data.toList.drop 0 = dktX13_hours_0 := by decide +kernel
theorem dksX13_hours_1 : cX13_hours.data.toList.drop 22 = dktX13_hours_1 := dk_seg dksX13_hours_0 22 rfl rfl
theorem dX13_hours_0 : decode cX13_hours 0 = .ok (.iload_n 1, 1) := dk_27 (dk_at dksX13_hours_0 0 rfl rfl)
theorem dX13_hours_1 : decode cX13_hours 1 = .ok (.invokestatic 383, 3) := dk_184 1 127 (dk_at dksX13_hours_0 1 rfl rfl)
theorem dX13_hours_4 : decode cX13_hours 4 = .ok (.ifCond .ne 5, 3) := dk_154 0 5 (dk_at dksX13_hours_0 4 rfl rfl)
theorem dX13_hours_7 : decode cX13_hours 7 = .ok (.iconst (-1), 1) := dk_2 (dk_at dksX13_hours_0 7 rfl rfl)
theorem dX13_hours_8 : decode cX13_hours 8 = .ok (.ireturn, 1) := dk_172 (dk_at dksX13_hours_0 8 rfl rfl)
theorem dX13_hours_9 : decode cX13_hours 9 = .ok (.iload_n 1, 1) := dk_27 (dk_at dksX13_hours_0 9 rfl rfl)
theorem dX13_hours_10 : decode cX13_hours 10 = .ok (.ifCond .ne 11, 3) := dk_154 0 11 (dk_at dksX13_hours_0 10 rfl rfl)
theorem dX13_hours_13 : decode cX13_hours 13 = .ok (.aload_n 0, 1) := dk_42 (dk_at dksX13_hours_0 13 rfl rfl)
theorem dX13_hours_14 : decode cX13_hours 14 = .ok (.getfield 107, 3) := dk_180 0 107 (dk_at dksX13_hours_0 14 rfl rfl)
theorem dX13_hours_17 : decode cX13_hours 17 = .ok (.bipush 45, 2) := dk_16 45 (dk_at dksX13_hours_0 17 rfl rfl)
theorem dX13_hours_19 : decode cX13_hours 19 = .ok (.iaload, 1) := dk_46 (dk_at dksX13_hours_0 19 rfl rfl)
theorem dX13_hours_20 : decode cX13_hours 20 = .ok (.ireturn, 1) := dk_172 (dk_at dksX13_hours_0 20 rfl rfl)
theorem dX13_hours_21 : decode cX13_hours 21 = .ok (.aload_n 0, 1) := dk_42 (dk_at dksX13_hours_0 21 rfl rfl)
theorem dX13_hours_22 : decode cX13_hours 22 = .ok (.invokevirtual 321, 3) := dk_182 1 65 (dk_at dksX13_hours_1 0 rfl rfl)
theorem dX13_hours_25 : decode cX13_hours 25 = .ok (.aload_n 0, 1) := dk_42 (dk_at dksX13_hours_1 3 rfl rfl)
theorem dX13_hours_26 : decode cX13_hours 26 = .ok (.iload_n 1, 1) := dk_27 (dk_at dksX13_hours_1 4 rfl rfl)
theorem dX13_hours_27 : decode cX13_hours 27 = .ok (.invokevirtual 367, 3) := dk_182 1 111 (dk_at dksX13_hours_1 5 rfl rfl)
theorem dX13_hours_30 : decode cX13_hours 30 = .ok (.aload_n 0, 1) := dk_42 (dk_at dksX13_hours_1 8 rfl rfl)
theorem dX13_hours_31 : decode cX13_hours 31 = .ok (.invokevirtual 377, 3) := dk_182 1 121 (dk_at dksX13_hours_1 9 rfl rfl)
theorem dX13_hours_34 : decode cX13_hours 34 = .ok (.aload_n 0, 1) := dk_42 (dk_at dksX13_hours_1 12 rfl rfl)
theorem dX13_hours_35 : decode cX13_hours 35 = .ok (.getfield 107, 3) := dk_180 0 107 (dk_at dksX13_hours_1 13 rfl rfl)
theorem dX13_hours_38 : decode cX13_hours 38 = .ok (.bipush 45, 2) := dk_16 45 (dk_at dksX13_hours_1 16 rfl rfl)
theorem dX13_hours_40 : decode cX13_hours 40 = .ok (.iaload, 1) := dk_46 (dk_at dksX13_hours_1 18 rfl rfl)
theorem dX13_hours_41 : decode cX13_hours 41 = .ok (.ireturn, 1) := dk_172 (dk_at dksX13_hours_1 19 rfl rfl)
abbrev cX13_isLong : ByteArray := prog_21_method_67_code
def yX13_isLong : MethodName := ⟨RX13, "isLong", "(I)Z"⟩
def dkwX13_isLong_0 : List UInt8 := [26, 3, 16, 48, 184, 1, 52, 172]
abbrev dktX13_isLong_0 : List UInt8 := dkwX13_isLong_0 ++ []
theorem dksX13_isLong_0 : cX13_isLong.data.toList.drop 0 = dktX13_isLong_0 := by decide +kernel
theorem dX13_isLong_0 : decode cX13_isLong 0 = .ok (.iload_n 0, 1) := dk_26 (dk_at dksX13_isLong_0 0 rfl rfl)
theorem dX13_isLong_1 : decode cX13_isLong 1 = .ok (.iconst 0, 1) := dk_3 (dk_at dksX13_isLong_0 1 rfl rfl)
theorem dX13_isLong_2 : decode cX13_isLong 2 = .ok (.bipush 48, 2) := dk_16 48 (dk_at dksX13_isLong_0 2 rfl rfl)
theorem dX13_isLong_4 : decode cX13_isLong 4 = .ok (.invokestatic 308, 3) := dk_184 1 52 (dk_at dksX13_isLong_0 4 rfl rfl)
theorem dX13_isLong_7 : decode cX13_isLong 7 = .ok (.ireturn, 1) := dk_172 (dk_at dksX13_isLong_0 7 rfl rfl)
abbrev cX13_goes : ByteArray := prog_21_method_58_code
def yX13_goes : MethodName := ⟨RX13, "goes", "(I)V"⟩
def dkwX13_goes_0 : List UInt8 := [3, 61, 28, 27, 162, 0, 13, 42, 182, 1, 102, 132, 2, 1, 167, 255, 244, 177]
abbrev dktX13_goes_0 : List UInt8 := dkwX13_goes_0 ++ []
theorem dksX13_goes_0 : cX13_goes.data.toList.drop 0 = dktX13_goes_0 := by decide +kernel
theorem dX13_goes_0 : decode cX13_goes 0 = .ok (.iconst 0, 1) := dk_3 (dk_at dksX13_goes_0 0 rfl rfl)
theorem dX13_goes_1 : decode cX13_goes 1 = .ok (.istore_n 2, 1) := dk_61 (dk_at dksX13_goes_0 1 rfl rfl)
theorem dX13_goes_2 : decode cX13_goes 2 = .ok (.iload_n 2, 1) := dk_28 (dk_at dksX13_goes_0 2 rfl rfl)
theorem dX13_goes_3 : decode cX13_goes 3 = .ok (.iload_n 1, 1) := dk_27 (dk_at dksX13_goes_0 3 rfl rfl)
theorem dX13_goes_4 : decode cX13_goes 4 = .ok (.if_icmp .ge 13, 3) := dk_162 0 13 (dk_at dksX13_goes_0 4 rfl rfl)
theorem dX13_goes_7 : decode cX13_goes 7 = .ok (.aload_n 0, 1) := dk_42 (dk_at dksX13_goes_0 7 rfl rfl)
theorem dX13_goes_8 : decode cX13_goes 8 = .ok (.invokevirtual 358, 3) := dk_182 1 102 (dk_at dksX13_goes_0 8 rfl rfl)
theorem dX13_goes_11 : decode cX13_goes 11 = .ok (.iinc 2 1, 3) := dk_132 2 1 (dk_at dksX13_goes_0 11 rfl rfl)
theorem dX13_goes_14 : decode cX13_goes 14 = .ok (.goto (-12), 3) := dk_167 255 244 (dk_at dksX13_goes_0 14 rfl rfl)
theorem dX13_goes_17 : decode cX13_goes 17 = .ok (.return_, 1) := dk_177 (dk_at dksX13_goes_0 17 rfl rfl)
abbrev cX13_hourGoes : ByteArray := prog_21_method_57_code
def yX13_hourGoes : MethodName := ⟨RX13, "hourGoes", "()V"⟩
def dkwX13_hourGoes_8 : List UInt8 := [180, 0, 110, 16, 47, 92, 46, 4, 96, 79, 177]
abbrev dktX13_hourGoes_8 : List UInt8 := dkwX13_hourGoes_8 ++ []
def dkwX13_hourGoes_7 : List UInt8 := [180, 0, 116, 27, 46, 79, 132, 1, 1, 167, 255, 218, 42, 180, 0, 110, 16, 45, 92, 46, 4, 96, 79, 42]
abbrev dktX13_hourGoes_7 : List UInt8 := dkwX13_hourGoes_7 ++ dktX13_hourGoes_8
def dkwX13_hourGoes_6 : List UInt8 := [162, 0, 36, 42, 180, 0, 110, 27, 42, 180, 0, 113, 27, 46, 79, 42, 180, 0, 110, 16, 27, 27, 96, 42]
abbrev dktX13_hourGoes_6 : List UInt8 := dkwX13_hourGoes_6 ++ dktX13_hourGoes_7
def dkwX13_hourGoes_5 : List UInt8 := [180, 0, 110, 16, 46, 92, 46, 4, 96, 79, 132, 1, 1, 167, 255, 128, 3, 60, 27, 42, 182, 1, 48]
abbrev dktX13_hourGoes_5 : List UInt8 := dkwX13_hourGoes_5 ++ dktX13_hourGoes_6
def dkwX13_hourGoes_4 : List UInt8 := [182, 1, 99, 161, 0, 6, 167, 0, 28, 42, 180, 0, 113, 27, 4, 42, 180, 0, 113, 27, 46, 100, 79, 42]
abbrev dktX13_hourGoes_4 : List UInt8 := dkwX13_hourGoes_4 ++ dktX13_hourGoes_5
def dkwX13_hourGoes_3 : List UInt8 := [180, 1, 62, 154, 0, 55, 42, 16, 16, 42, 180, 0, 110, 16, 45, 46, 104, 27, 96, 182, 1, 96, 42, 27]
abbrev dktX13_hourGoes_3 : List UInt8 := dkwX13_hourGoes_3 ++ dktX13_hourGoes_4
def dkwX13_hourGoes_2 : List UInt8 := [96, 17, 216, 241, 17, 39, 15, 184, 1, 87, 79, 42, 180, 0, 113, 27, 42, 27, 182, 1, 93, 79, 42]
abbrev dktX13_hourGoes_2 : List UInt8 := dkwX13_hourGoes_2 ++ dktX13_hourGoes_3
def dkwX13_hourGoes_1 : List UInt8 := [180, 0, 110, 16, 27, 27, 96, 46, 42, 180, 0, 110, 27, 46, 4, 160, 0, 7, 28, 167, 0, 5, 28, 116]
abbrev dktX13_hourGoes_1 : List UInt8 := dkwX13_hourGoes_1 ++ dktX13_hourGoes_2
def dkwX13_hourGoes_0 : List UInt8 := [3, 60, 27, 42, 182, 1, 48, 162, 0, 126, 42, 27, 182, 1, 90, 61, 42, 180, 0, 116, 27, 42]
abbrev dktX13_hourGoes_0 : List UInt8 := dkwX13_hourGoes_0 ++ dktX13_hourGoes_1
theorem dksX13_hourGoes_0 : cX13_hourGoes.data.toList.drop 0 = dktX13_hourGoes_0 := by decide +kernel
theorem dksX13_hourGoes_1 : cX13_hourGoes.data.toList.drop 22 = dktX13_hourGoes_1 := dk_seg dksX13_hourGoes_0 22 rfl rfl
theorem dksX13_hourGoes_2 : cX13_hourGoes.data.toList.drop 46 = dktX13_hourGoes_2 := dk_seg dksX13_hourGoes_1 24 rfl rfl
theorem dksX13_hourGoes_3 : cX13_hourGoes.data.toList.drop 69 = dktX13_hourGoes_3 := dk_seg dksX13_hourGoes_2 23 rfl rfl
theorem dksX13_hourGoes_4 : cX13_hourGoes.data.toList.drop 93 = dktX13_hourGoes_4 := dk_seg dksX13_hourGoes_3 24 rfl rfl
theorem dksX13_hourGoes_5 : cX13_hourGoes.data.toList.drop 117 = dktX13_hourGoes_5 := dk_seg dksX13_hourGoes_4 24 rfl rfl
theorem dksX13_hourGoes_6 : cX13_hourGoes.data.toList.drop 140 = dktX13_hourGoes_6 := dk_seg dksX13_hourGoes_5 23 rfl rfl
theorem dksX13_hourGoes_7 : cX13_hourGoes.data.toList.drop 164 = dktX13_hourGoes_7 := dk_seg dksX13_hourGoes_6 24 rfl rfl
theorem dksX13_hourGoes_8 : cX13_hourGoes.data.toList.drop 188 = dktX13_hourGoes_8 := dk_seg dksX13_hourGoes_7 24 rfl rfl
theorem dX13_hourGoes_0 : decode cX13_hourGoes 0 = .ok (.iconst 0, 1) := dk_3 (dk_at dksX13_hourGoes_0 0 rfl rfl)
theorem dX13_hourGoes_1 : decode cX13_hourGoes 1 = .ok (.istore_n 1, 1) := dk_60 (dk_at dksX13_hourGoes_0 1 rfl rfl)
theorem dX13_hourGoes_2 : decode cX13_hourGoes 2 = .ok (.iload_n 1, 1) := dk_27 (dk_at dksX13_hourGoes_0 2 rfl rfl)
theorem dX13_hourGoes_3 : decode cX13_hourGoes 3 = .ok (.aload_n 0, 1) := dk_42 (dk_at dksX13_hourGoes_0 3 rfl rfl)
theorem dX13_hourGoes_4 : decode cX13_hourGoes 4 = .ok (.invokevirtual 304, 3) := dk_182 1 48 (dk_at dksX13_hourGoes_0 4 rfl rfl)
theorem dX13_hourGoes_7 : decode cX13_hourGoes 7 = .ok (.if_icmp .ge 126, 3) := dk_162 0 126 (dk_at dksX13_hourGoes_0 7 rfl rfl)
theorem dX13_hourGoes_10 : decode cX13_hourGoes 10 = .ok (.aload_n 0, 1) := dk_42 (dk_at dksX13_hourGoes_0 10 rfl rfl)
theorem dX13_hourGoes_11 : decode cX13_hourGoes 11 = .ok (.iload_n 1, 1) := dk_27 (dk_at dksX13_hourGoes_0 11 rfl rfl)
theorem dX13_hourGoes_12 : decode cX13_hourGoes 12 = .ok (.invokevirtual 346, 3) := dk_182 1 90 (dk_at dksX13_hourGoes_0 12 rfl rfl)
theorem dX13_hourGoes_15 : decode cX13_hourGoes 15 = .ok (.istore_n 2, 1) := dk_61 (dk_at dksX13_hourGoes_0 15 rfl rfl)
theorem dX13_hourGoes_16 : decode cX13_hourGoes 16 = .ok (.aload_n 0, 1) := dk_42 (dk_at dksX13_hourGoes_0 16 rfl rfl)
theorem dX13_hourGoes_17 : decode cX13_hourGoes 17 = .ok (.getfield 116, 3) := dk_180 0 116 (dk_at dksX13_hourGoes_0 17 rfl rfl)
theorem dX13_hourGoes_20 : decode cX13_hourGoes 20 = .ok (.iload_n 1, 1) := dk_27 (dk_at dksX13_hourGoes_0 20 rfl rfl)
theorem dX13_hourGoes_21 : decode cX13_hourGoes 21 = .ok (.aload_n 0, 1) := dk_42 (dk_at dksX13_hourGoes_0 21 rfl rfl)
theorem dX13_hourGoes_22 : decode cX13_hourGoes 22 = .ok (.getfield 110, 3) := dk_180 0 110 (dk_at dksX13_hourGoes_1 0 rfl rfl)
theorem dX13_hourGoes_25 : decode cX13_hourGoes 25 = .ok (.bipush 27, 2) := dk_16 27 (dk_at dksX13_hourGoes_1 3 rfl rfl)
theorem dX13_hourGoes_27 : decode cX13_hourGoes 27 = .ok (.iload_n 1, 1) := dk_27 (dk_at dksX13_hourGoes_1 5 rfl rfl)
theorem dX13_hourGoes_28 : decode cX13_hourGoes 28 = .ok (.iadd, 1) := dk_96 (dk_at dksX13_hourGoes_1 6 rfl rfl)
theorem dX13_hourGoes_29 : decode cX13_hourGoes 29 = .ok (.iaload, 1) := dk_46 (dk_at dksX13_hourGoes_1 7 rfl rfl)
theorem dX13_hourGoes_30 : decode cX13_hourGoes 30 = .ok (.aload_n 0, 1) := dk_42 (dk_at dksX13_hourGoes_1 8 rfl rfl)
theorem dX13_hourGoes_31 : decode cX13_hourGoes 31 = .ok (.getfield 110, 3) := dk_180 0 110 (dk_at dksX13_hourGoes_1 9 rfl rfl)
theorem dX13_hourGoes_34 : decode cX13_hourGoes 34 = .ok (.iload_n 1, 1) := dk_27 (dk_at dksX13_hourGoes_1 12 rfl rfl)
theorem dX13_hourGoes_35 : decode cX13_hourGoes 35 = .ok (.iaload, 1) := dk_46 (dk_at dksX13_hourGoes_1 13 rfl rfl)
theorem dX13_hourGoes_36 : decode cX13_hourGoes 36 = .ok (.iconst 1, 1) := dk_4 (dk_at dksX13_hourGoes_1 14 rfl rfl)
theorem dX13_hourGoes_37 : decode cX13_hourGoes 37 = .ok (.if_icmp .ne 7, 3) := dk_160 0 7 (dk_at dksX13_hourGoes_1 15 rfl rfl)
theorem dX13_hourGoes_40 : decode cX13_hourGoes 40 = .ok (.iload_n 2, 1) := dk_28 (dk_at dksX13_hourGoes_1 18 rfl rfl)
theorem dX13_hourGoes_41 : decode cX13_hourGoes 41 = .ok (.goto 5, 3) := dk_167 0 5 (dk_at dksX13_hourGoes_1 19 rfl rfl)
theorem dX13_hourGoes_44 : decode cX13_hourGoes 44 = .ok (.iload_n 2, 1) := dk_28 (dk_at dksX13_hourGoes_1 22 rfl rfl)
theorem dX13_hourGoes_45 : decode cX13_hourGoes 45 = .ok (.ineg, 1) := dk_116 (dk_at dksX13_hourGoes_1 23 rfl rfl)
theorem dX13_hourGoes_46 : decode cX13_hourGoes 46 = .ok (.iadd, 1) := dk_96 (dk_at dksX13_hourGoes_2 0 rfl rfl)
theorem dX13_hourGoes_47 : decode cX13_hourGoes 47 = .ok (.sipush (-9999), 3) := dk_17 216 241 (dk_at dksX13_hourGoes_2 1 rfl rfl)
theorem dX13_hourGoes_50 : decode cX13_hourGoes 50 = .ok (.sipush 9999, 3) := dk_17 39 15 (dk_at dksX13_hourGoes_2 4 rfl rfl)
theorem dX13_hourGoes_53 : decode cX13_hourGoes 53 = .ok (.invokestatic 343, 3) := dk_184 1 87 (dk_at dksX13_hourGoes_2 7 rfl rfl)
theorem dX13_hourGoes_56 : decode cX13_hourGoes 56 = .ok (.iastore, 1) := dk_79 (dk_at dksX13_hourGoes_2 10 rfl rfl)
theorem dX13_hourGoes_57 : decode cX13_hourGoes 57 = .ok (.aload_n 0, 1) := dk_42 (dk_at dksX13_hourGoes_2 11 rfl rfl)
theorem dX13_hourGoes_58 : decode cX13_hourGoes 58 = .ok (.getfield 113, 3) := dk_180 0 113 (dk_at dksX13_hourGoes_2 12 rfl rfl)
theorem dX13_hourGoes_61 : decode cX13_hourGoes 61 = .ok (.iload_n 1, 1) := dk_27 (dk_at dksX13_hourGoes_2 15 rfl rfl)
theorem dX13_hourGoes_62 : decode cX13_hourGoes 62 = .ok (.aload_n 0, 1) := dk_42 (dk_at dksX13_hourGoes_2 16 rfl rfl)
theorem dX13_hourGoes_63 : decode cX13_hourGoes 63 = .ok (.iload_n 1, 1) := dk_27 (dk_at dksX13_hourGoes_2 17 rfl rfl)
theorem dX13_hourGoes_64 : decode cX13_hourGoes 64 = .ok (.invokevirtual 349, 3) := dk_182 1 93 (dk_at dksX13_hourGoes_2 18 rfl rfl)
theorem dX13_hourGoes_67 : decode cX13_hourGoes 67 = .ok (.iastore, 1) := dk_79 (dk_at dksX13_hourGoes_2 21 rfl rfl)
theorem dX13_hourGoes_68 : decode cX13_hourGoes 68 = .ok (.aload_n 0, 1) := dk_42 (dk_at dksX13_hourGoes_2 22 rfl rfl)
theorem dX13_hourGoes_69 : decode cX13_hourGoes 69 = .ok (.getfield 318, 3) := dk_180 1 62 (dk_at dksX13_hourGoes_3 0 rfl rfl)
theorem dX13_hourGoes_72 : decode cX13_hourGoes 72 = .ok (.ifCond .ne 55, 3) := dk_154 0 55 (dk_at dksX13_hourGoes_3 3 rfl rfl)
theorem dX13_hourGoes_75 : decode cX13_hourGoes 75 = .ok (.aload_n 0, 1) := dk_42 (dk_at dksX13_hourGoes_3 6 rfl rfl)
theorem dX13_hourGoes_76 : decode cX13_hourGoes 76 = .ok (.bipush 16, 2) := dk_16 16 (dk_at dksX13_hourGoes_3 7 rfl rfl)
theorem dX13_hourGoes_78 : decode cX13_hourGoes 78 = .ok (.aload_n 0, 1) := dk_42 (dk_at dksX13_hourGoes_3 9 rfl rfl)
theorem dX13_hourGoes_79 : decode cX13_hourGoes 79 = .ok (.getfield 110, 3) := dk_180 0 110 (dk_at dksX13_hourGoes_3 10 rfl rfl)
theorem dX13_hourGoes_82 : decode cX13_hourGoes 82 = .ok (.bipush 45, 2) := dk_16 45 (dk_at dksX13_hourGoes_3 13 rfl rfl)
theorem dX13_hourGoes_84 : decode cX13_hourGoes 84 = .ok (.iaload, 1) := dk_46 (dk_at dksX13_hourGoes_3 15 rfl rfl)
theorem dX13_hourGoes_85 : decode cX13_hourGoes 85 = .ok (.imul, 1) := dk_104 (dk_at dksX13_hourGoes_3 16 rfl rfl)
theorem dX13_hourGoes_86 : decode cX13_hourGoes 86 = .ok (.iload_n 1, 1) := dk_27 (dk_at dksX13_hourGoes_3 17 rfl rfl)
theorem dX13_hourGoes_87 : decode cX13_hourGoes 87 = .ok (.iadd, 1) := dk_96 (dk_at dksX13_hourGoes_3 18 rfl rfl)
theorem dX13_hourGoes_88 : decode cX13_hourGoes 88 = .ok (.invokevirtual 352, 3) := dk_182 1 96 (dk_at dksX13_hourGoes_3 19 rfl rfl)
theorem dX13_hourGoes_91 : decode cX13_hourGoes 91 = .ok (.aload_n 0, 1) := dk_42 (dk_at dksX13_hourGoes_3 22 rfl rfl)
theorem dX13_hourGoes_92 : decode cX13_hourGoes 92 = .ok (.iload_n 1, 1) := dk_27 (dk_at dksX13_hourGoes_3 23 rfl rfl)
theorem dX13_hourGoes_93 : decode cX13_hourGoes 93 = .ok (.invokevirtual 355, 3) := dk_182 1 99 (dk_at dksX13_hourGoes_4 0 rfl rfl)
theorem dX13_hourGoes_96 : decode cX13_hourGoes 96 = .ok (.if_icmp .lt 6, 3) := dk_161 0 6 (dk_at dksX13_hourGoes_4 3 rfl rfl)
theorem dX13_hourGoes_99 : decode cX13_hourGoes 99 = .ok (.goto 28, 3) := dk_167 0 28 (dk_at dksX13_hourGoes_4 6 rfl rfl)
theorem dX13_hourGoes_102 : decode cX13_hourGoes 102 = .ok (.aload_n 0, 1) := dk_42 (dk_at dksX13_hourGoes_4 9 rfl rfl)
theorem dX13_hourGoes_103 : decode cX13_hourGoes 103 = .ok (.getfield 113, 3) := dk_180 0 113 (dk_at dksX13_hourGoes_4 10 rfl rfl)
theorem dX13_hourGoes_106 : decode cX13_hourGoes 106 = .ok (.iload_n 1, 1) := dk_27 (dk_at dksX13_hourGoes_4 13 rfl rfl)
theorem dX13_hourGoes_107 : decode cX13_hourGoes 107 = .ok (.iconst 1, 1) := dk_4 (dk_at dksX13_hourGoes_4 14 rfl rfl)
theorem dX13_hourGoes_108 : decode cX13_hourGoes 108 = .ok (.aload_n 0, 1) := dk_42 (dk_at dksX13_hourGoes_4 15 rfl rfl)
theorem dX13_hourGoes_109 : decode cX13_hourGoes 109 = .ok (.getfield 113, 3) := dk_180 0 113 (dk_at dksX13_hourGoes_4 16 rfl rfl)
theorem dX13_hourGoes_112 : decode cX13_hourGoes 112 = .ok (.iload_n 1, 1) := dk_27 (dk_at dksX13_hourGoes_4 19 rfl rfl)
theorem dX13_hourGoes_113 : decode cX13_hourGoes 113 = .ok (.iaload, 1) := dk_46 (dk_at dksX13_hourGoes_4 20 rfl rfl)
theorem dX13_hourGoes_114 : decode cX13_hourGoes 114 = .ok (.isub, 1) := dk_100 (dk_at dksX13_hourGoes_4 21 rfl rfl)
theorem dX13_hourGoes_115 : decode cX13_hourGoes 115 = .ok (.iastore, 1) := dk_79 (dk_at dksX13_hourGoes_4 22 rfl rfl)
theorem dX13_hourGoes_116 : decode cX13_hourGoes 116 = .ok (.aload_n 0, 1) := dk_42 (dk_at dksX13_hourGoes_4 23 rfl rfl)
theorem dX13_hourGoes_117 : decode cX13_hourGoes 117 = .ok (.getfield 110, 3) := dk_180 0 110 (dk_at dksX13_hourGoes_5 0 rfl rfl)
theorem dX13_hourGoes_120 : decode cX13_hourGoes 120 = .ok (.bipush 46, 2) := dk_16 46 (dk_at dksX13_hourGoes_5 3 rfl rfl)
theorem dX13_hourGoes_122 : decode cX13_hourGoes 122 = .ok (.dup2, 1) := dk_92 (dk_at dksX13_hourGoes_5 5 rfl rfl)
theorem dX13_hourGoes_123 : decode cX13_hourGoes 123 = .ok (.iaload, 1) := dk_46 (dk_at dksX13_hourGoes_5 6 rfl rfl)
theorem dX13_hourGoes_124 : decode cX13_hourGoes 124 = .ok (.iconst 1, 1) := dk_4 (dk_at dksX13_hourGoes_5 7 rfl rfl)
theorem dX13_hourGoes_125 : decode cX13_hourGoes 125 = .ok (.iadd, 1) := dk_96 (dk_at dksX13_hourGoes_5 8 rfl rfl)
theorem dX13_hourGoes_126 : decode cX13_hourGoes 126 = .ok (.iastore, 1) := dk_79 (dk_at dksX13_hourGoes_5 9 rfl rfl)
theorem dX13_hourGoes_127 : decode cX13_hourGoes 127 = .ok (.iinc 1 1, 3) := dk_132 1 1 (dk_at dksX13_hourGoes_5 10 rfl rfl)
theorem dX13_hourGoes_130 : decode cX13_hourGoes 130 = .ok (.goto (-128), 3) := dk_167 255 128 (dk_at dksX13_hourGoes_5 13 rfl rfl)
theorem dX13_hourGoes_133 : decode cX13_hourGoes 133 = .ok (.iconst 0, 1) := dk_3 (dk_at dksX13_hourGoes_5 16 rfl rfl)
theorem dX13_hourGoes_134 : decode cX13_hourGoes 134 = .ok (.istore_n 1, 1) := dk_60 (dk_at dksX13_hourGoes_5 17 rfl rfl)
theorem dX13_hourGoes_135 : decode cX13_hourGoes 135 = .ok (.iload_n 1, 1) := dk_27 (dk_at dksX13_hourGoes_5 18 rfl rfl)
theorem dX13_hourGoes_136 : decode cX13_hourGoes 136 = .ok (.aload_n 0, 1) := dk_42 (dk_at dksX13_hourGoes_5 19 rfl rfl)
theorem dX13_hourGoes_137 : decode cX13_hourGoes 137 = .ok (.invokevirtual 304, 3) := dk_182 1 48 (dk_at dksX13_hourGoes_5 20 rfl rfl)
theorem dX13_hourGoes_140 : decode cX13_hourGoes 140 = .ok (.if_icmp .ge 36, 3) := dk_162 0 36 (dk_at dksX13_hourGoes_6 0 rfl rfl)
theorem dX13_hourGoes_143 : decode cX13_hourGoes 143 = .ok (.aload_n 0, 1) := dk_42 (dk_at dksX13_hourGoes_6 3 rfl rfl)
theorem dX13_hourGoes_144 : decode cX13_hourGoes 144 = .ok (.getfield 110, 3) := dk_180 0 110 (dk_at dksX13_hourGoes_6 4 rfl rfl)
theorem dX13_hourGoes_147 : decode cX13_hourGoes 147 = .ok (.iload_n 1, 1) := dk_27 (dk_at dksX13_hourGoes_6 7 rfl rfl)
theorem dX13_hourGoes_148 : decode cX13_hourGoes 148 = .ok (.aload_n 0, 1) := dk_42 (dk_at dksX13_hourGoes_6 8 rfl rfl)
theorem dX13_hourGoes_149 : decode cX13_hourGoes 149 = .ok (.getfield 113, 3) := dk_180 0 113 (dk_at dksX13_hourGoes_6 9 rfl rfl)
theorem dX13_hourGoes_152 : decode cX13_hourGoes 152 = .ok (.iload_n 1, 1) := dk_27 (dk_at dksX13_hourGoes_6 12 rfl rfl)
theorem dX13_hourGoes_153 : decode cX13_hourGoes 153 = .ok (.iaload, 1) := dk_46 (dk_at dksX13_hourGoes_6 13 rfl rfl)
theorem dX13_hourGoes_154 : decode cX13_hourGoes 154 = .ok (.iastore, 1) := dk_79 (dk_at dksX13_hourGoes_6 14 rfl rfl)
theorem dX13_hourGoes_155 : decode cX13_hourGoes 155 = .ok (.aload_n 0, 1) := dk_42 (dk_at dksX13_hourGoes_6 15 rfl rfl)
theorem dX13_hourGoes_156 : decode cX13_hourGoes 156 = .ok (.getfield 110, 3) := dk_180 0 110 (dk_at dksX13_hourGoes_6 16 rfl rfl)
theorem dX13_hourGoes_159 : decode cX13_hourGoes 159 = .ok (.bipush 27, 2) := dk_16 27 (dk_at dksX13_hourGoes_6 19 rfl rfl)
theorem dX13_hourGoes_161 : decode cX13_hourGoes 161 = .ok (.iload_n 1, 1) := dk_27 (dk_at dksX13_hourGoes_6 21 rfl rfl)
theorem dX13_hourGoes_162 : decode cX13_hourGoes 162 = .ok (.iadd, 1) := dk_96 (dk_at dksX13_hourGoes_6 22 rfl rfl)
theorem dX13_hourGoes_163 : decode cX13_hourGoes 163 = .ok (.aload_n 0, 1) := dk_42 (dk_at dksX13_hourGoes_6 23 rfl rfl)
theorem dX13_hourGoes_164 : decode cX13_hourGoes 164 = .ok (.getfield 116, 3) := dk_180 0 116 (dk_at dksX13_hourGoes_7 0 rfl rfl)
theorem dX13_hourGoes_167 : decode cX13_hourGoes 167 = .ok (.iload_n 1, 1) := dk_27 (dk_at dksX13_hourGoes_7 3 rfl rfl)
theorem dX13_hourGoes_168 : decode cX13_hourGoes 168 = .ok (.iaload, 1) := dk_46 (dk_at dksX13_hourGoes_7 4 rfl rfl)
theorem dX13_hourGoes_169 : decode cX13_hourGoes 169 = .ok (.iastore, 1) := dk_79 (dk_at dksX13_hourGoes_7 5 rfl rfl)
theorem dX13_hourGoes_170 : decode cX13_hourGoes 170 = .ok (.iinc 1 1, 3) := dk_132 1 1 (dk_at dksX13_hourGoes_7 6 rfl rfl)
theorem dX13_hourGoes_173 : decode cX13_hourGoes 173 = .ok (.goto (-38), 3) := dk_167 255 218 (dk_at dksX13_hourGoes_7 9 rfl rfl)
theorem dX13_hourGoes_176 : decode cX13_hourGoes 176 = .ok (.aload_n 0, 1) := dk_42 (dk_at dksX13_hourGoes_7 12 rfl rfl)
theorem dX13_hourGoes_177 : decode cX13_hourGoes 177 = .ok (.getfield 110, 3) := dk_180 0 110 (dk_at dksX13_hourGoes_7 13 rfl rfl)
theorem dX13_hourGoes_180 : decode cX13_hourGoes 180 = .ok (.bipush 45, 2) := dk_16 45 (dk_at dksX13_hourGoes_7 16 rfl rfl)
theorem dX13_hourGoes_182 : decode cX13_hourGoes 182 = .ok (.dup2, 1) := dk_92 (dk_at dksX13_hourGoes_7 18 rfl rfl)
theorem dX13_hourGoes_183 : decode cX13_hourGoes 183 = .ok (.iaload, 1) := dk_46 (dk_at dksX13_hourGoes_7 19 rfl rfl)
theorem dX13_hourGoes_184 : decode cX13_hourGoes 184 = .ok (.iconst 1, 1) := dk_4 (dk_at dksX13_hourGoes_7 20 rfl rfl)
theorem dX13_hourGoes_185 : decode cX13_hourGoes 185 = .ok (.iadd, 1) := dk_96 (dk_at dksX13_hourGoes_7 21 rfl rfl)
theorem dX13_hourGoes_186 : decode cX13_hourGoes 186 = .ok (.iastore, 1) := dk_79 (dk_at dksX13_hourGoes_7 22 rfl rfl)
theorem dX13_hourGoes_187 : decode cX13_hourGoes 187 = .ok (.aload_n 0, 1) := dk_42 (dk_at dksX13_hourGoes_7 23 rfl rfl)
theorem dX13_hourGoes_188 : decode cX13_hourGoes 188 = .ok (.getfield 110, 3) := dk_180 0 110 (dk_at dksX13_hourGoes_8 0 rfl rfl)
theorem dX13_hourGoes_191 : decode cX13_hourGoes 191 = .ok (.bipush 47, 2) := dk_16 47 (dk_at dksX13_hourGoes_8 3 rfl rfl)
theorem dX13_hourGoes_193 : decode cX13_hourGoes 193 = .ok (.dup2, 1) := dk_92 (dk_at dksX13_hourGoes_8 5 rfl rfl)
theorem dX13_hourGoes_194 : decode cX13_hourGoes 194 = .ok (.iaload, 1) := dk_46 (dk_at dksX13_hourGoes_8 6 rfl rfl)
theorem dX13_hourGoes_195 : decode cX13_hourGoes 195 = .ok (.iconst 1, 1) := dk_4 (dk_at dksX13_hourGoes_8 7 rfl rfl)
theorem dX13_hourGoes_196 : decode cX13_hourGoes 196 = .ok (.iadd, 1) := dk_96 (dk_at dksX13_hourGoes_8 8 rfl rfl)
theorem dX13_hourGoes_197 : decode cX13_hourGoes 197 = .ok (.iastore, 1) := dk_79 (dk_at dksX13_hourGoes_8 9 rfl rfl)
theorem dX13_hourGoes_198 : decode cX13_hourGoes 198 = .ok (.return_, 1) := dk_177 (dk_at dksX13_hourGoes_8 10 rfl rfl)
abbrev cX13_lotOf : ByteArray := prog_21_method_47_code
def yX13_lotOf : MethodName := ⟨RX13, "lotOf", "(I)I"⟩
def dkwX13_lotOf_0 : List UInt8 := [42, 180, 1, 59, 17, 0, 139, 184, 1, 69, 27, 184, 1, 69, 4, 124, 16, 100, 112, 172]
abbrev dktX13_lotOf_0 : List UInt8 := dkwX13_lotOf_0 ++ []
theorem dksX13_lotOf_0 : cX13_lotOf.data.toList.drop 0 = dktX13_lotOf_0 := by decide +kernel
theorem dX13_lotOf_0 : decode cX13_lotOf 0 = .ok (.aload_n 0, 1) := dk_42 (dk_at dksX13_lotOf_0 0 rfl rfl)
theorem dX13_lotOf_1 : decode cX13_lotOf 1 = .ok (.getfield 315, 3) := dk_180 1 59 (dk_at dksX13_lotOf_0 1 rfl rfl)
theorem dX13_lotOf_4 : decode cX13_lotOf 4 = .ok (.sipush 139, 3) := dk_17 0 139 (dk_at dksX13_lotOf_0 4 rfl rfl)
theorem dX13_lotOf_7 : decode cX13_lotOf 7 = .ok (.invokestatic 325, 3) := dk_184 1 69 (dk_at dksX13_lotOf_0 7 rfl rfl)
theorem dX13_lotOf_10 : decode cX13_lotOf 10 = .ok (.iload_n 1, 1) := dk_27 (dk_at dksX13_lotOf_0 10 rfl rfl)
theorem dX13_lotOf_11 : decode cX13_lotOf 11 = .ok (.invokestatic 325, 3) := dk_184 1 69 (dk_at dksX13_lotOf_0 11 rfl rfl)
theorem dX13_lotOf_14 : decode cX13_lotOf 14 = .ok (.iconst 1, 1) := dk_4 (dk_at dksX13_lotOf_0 14 rfl rfl)
theorem dX13_lotOf_15 : decode cX13_lotOf 15 = .ok (.iushr, 1) := dk_124 (dk_at dksX13_lotOf_0 15 rfl rfl)
theorem dX13_lotOf_16 : decode cX13_lotOf 16 = .ok (.bipush 100, 2) := dk_16 100 (dk_at dksX13_lotOf_0 16 rfl rfl)
theorem dX13_lotOf_18 : decode cX13_lotOf 18 = .ok (.irem, 1) := dk_112 (dk_at dksX13_lotOf_0 18 rfl rfl)
theorem dX13_lotOf_19 : decode cX13_lotOf 19 = .ok (.ireturn, 1) := dk_172 (dk_at dksX13_lotOf_0 19 rfl rfl)
abbrev cX13_mixed : ByteArray := prog_21_method_46_code
def yX13_mixed : MethodName := ⟨RX13, "mixed", "(II)I"⟩
def dkwX13_mixed_0 : List UInt8 := [26, 27, 130, 19, 1, 68, 104, 17, 48, 57, 96, 61, 28, 28, 16, 15, 124, 130, 172]
abbrev dktX13_mixed_0 : List UInt8 := dkwX13_mixed_0 ++ []
theorem dksX13_mixed_0 : cX13_mixed.data.toList.drop 0 = dktX13_mixed_0 := by decide +kernel
theorem dX13_mixed_0 : decode cX13_mixed 0 = .ok (.iload_n 0, 1) := dk_26 (dk_at dksX13_mixed_0 0 rfl rfl)
theorem dX13_mixed_1 : decode cX13_mixed 1 = .ok (.iload_n 1, 1) := dk_27 (dk_at dksX13_mixed_0 1 rfl rfl)
theorem dX13_mixed_2 : decode cX13_mixed 2 = .ok (.ixor, 1) := dk_130 (dk_at dksX13_mixed_0 2 rfl rfl)
theorem dX13_mixed_3 : decode cX13_mixed 3 = .ok (.ldc_w 324, 3) := dk_19 1 68 (dk_at dksX13_mixed_0 3 rfl rfl)
theorem dX13_mixed_6 : decode cX13_mixed 6 = .ok (.imul, 1) := dk_104 (dk_at dksX13_mixed_0 6 rfl rfl)
theorem dX13_mixed_7 : decode cX13_mixed 7 = .ok (.sipush 12345, 3) := dk_17 48 57 (dk_at dksX13_mixed_0 7 rfl rfl)
theorem dX13_mixed_10 : decode cX13_mixed 10 = .ok (.iadd, 1) := dk_96 (dk_at dksX13_mixed_0 10 rfl rfl)
theorem dX13_mixed_11 : decode cX13_mixed 11 = .ok (.istore_n 2, 1) := dk_61 (dk_at dksX13_mixed_0 11 rfl rfl)
theorem dX13_mixed_12 : decode cX13_mixed 12 = .ok (.iload_n 2, 1) := dk_28 (dk_at dksX13_mixed_0 12 rfl rfl)
theorem dX13_mixed_13 : decode cX13_mixed 13 = .ok (.iload_n 2, 1) := dk_28 (dk_at dksX13_mixed_0 13 rfl rfl)
theorem dX13_mixed_14 : decode cX13_mixed 14 = .ok (.bipush 15, 2) := dk_16 15 (dk_at dksX13_mixed_0 14 rfl rfl)
theorem dX13_mixed_16 : decode cX13_mixed 16 = .ok (.iushr, 1) := dk_124 (dk_at dksX13_mixed_0 16 rfl rfl)
theorem dX13_mixed_17 : decode cX13_mixed 17 = .ok (.ixor, 1) := dk_130 (dk_at dksX13_mixed_0 17 rfl rfl)
theorem dX13_mixed_18 : decode cX13_mixed 18 = .ok (.ireturn, 1) := dk_172 (dk_at dksX13_mixed_0 18 rfl rfl)
abbrev cX13_undo : ByteArray := prog_21_method_70_code
def yX13_undo : MethodName := ⟨RX13, "undo", "()Z"⟩
def dkwX13_undo_2 : List UInt8 := [132, 1, 1, 167, 255, 227, 4, 172]
abbrev dktX13_undo_2 : List UInt8 := dkwX13_undo_2 ++ []
def dkwX13_undo_1 : List UInt8 := [162, 0, 29, 42, 180, 0, 107, 27, 42, 180, 0, 119, 16, 48, 42, 180, 1, 0, 104, 27, 96, 46, 79]
abbrev dktX13_undo_1 : List UInt8 := dkwX13_undo_1 ++ dktX13_undo_2
def dkwX13_undo_0 : List UInt8 := [42, 180, 1, 0, 154, 0, 5, 3, 172, 42, 89, 180, 1, 0, 4, 100, 181, 1, 0, 3, 60, 27, 16, 48]
abbrev dktX13_undo_0 : List UInt8 := dkwX13_undo_0 ++ dktX13_undo_1
theorem dksX13_undo_0 : cX13_undo.data.toList.drop 0 = dktX13_undo_0 := by decide +kernel
theorem dksX13_undo_1 : cX13_undo.data.toList.drop 24 = dktX13_undo_1 := dk_seg dksX13_undo_0 24 rfl rfl
theorem dksX13_undo_2 : cX13_undo.data.toList.drop 47 = dktX13_undo_2 := dk_seg dksX13_undo_1 23 rfl rfl
theorem dX13_undo_0 : decode cX13_undo 0 = .ok (.aload_n 0, 1) := dk_42 (dk_at dksX13_undo_0 0 rfl rfl)
theorem dX13_undo_1 : decode cX13_undo 1 = .ok (.getfield 256, 3) := dk_180 1 0 (dk_at dksX13_undo_0 1 rfl rfl)
theorem dX13_undo_4 : decode cX13_undo 4 = .ok (.ifCond .ne 5, 3) := dk_154 0 5 (dk_at dksX13_undo_0 4 rfl rfl)
theorem dX13_undo_7 : decode cX13_undo 7 = .ok (.iconst 0, 1) := dk_3 (dk_at dksX13_undo_0 7 rfl rfl)
theorem dX13_undo_8 : decode cX13_undo 8 = .ok (.ireturn, 1) := dk_172 (dk_at dksX13_undo_0 8 rfl rfl)
theorem dX13_undo_9 : decode cX13_undo 9 = .ok (.aload_n 0, 1) := dk_42 (dk_at dksX13_undo_0 9 rfl rfl)
theorem dX13_undo_10 : decode cX13_undo 10 = .ok (.dup, 1) := dk_89 (dk_at dksX13_undo_0 10 rfl rfl)
theorem dX13_undo_11 : decode cX13_undo 11 = .ok (.getfield 256, 3) := dk_180 1 0 (dk_at dksX13_undo_0 11 rfl rfl)
theorem dX13_undo_14 : decode cX13_undo 14 = .ok (.iconst 1, 1) := dk_4 (dk_at dksX13_undo_0 14 rfl rfl)
theorem dX13_undo_15 : decode cX13_undo 15 = .ok (.isub, 1) := dk_100 (dk_at dksX13_undo_0 15 rfl rfl)
theorem dX13_undo_16 : decode cX13_undo 16 = .ok (.putfield 256, 3) := dk_181 1 0 (dk_at dksX13_undo_0 16 rfl rfl)
theorem dX13_undo_19 : decode cX13_undo 19 = .ok (.iconst 0, 1) := dk_3 (dk_at dksX13_undo_0 19 rfl rfl)
theorem dX13_undo_20 : decode cX13_undo 20 = .ok (.istore_n 1, 1) := dk_60 (dk_at dksX13_undo_0 20 rfl rfl)
theorem dX13_undo_21 : decode cX13_undo 21 = .ok (.iload_n 1, 1) := dk_27 (dk_at dksX13_undo_0 21 rfl rfl)
theorem dX13_undo_22 : decode cX13_undo 22 = .ok (.bipush 48, 2) := dk_16 48 (dk_at dksX13_undo_0 22 rfl rfl)
theorem dX13_undo_24 : decode cX13_undo 24 = .ok (.if_icmp .ge 29, 3) := dk_162 0 29 (dk_at dksX13_undo_1 0 rfl rfl)
theorem dX13_undo_27 : decode cX13_undo 27 = .ok (.aload_n 0, 1) := dk_42 (dk_at dksX13_undo_1 3 rfl rfl)
theorem dX13_undo_28 : decode cX13_undo 28 = .ok (.getfield 107, 3) := dk_180 0 107 (dk_at dksX13_undo_1 4 rfl rfl)
theorem dX13_undo_31 : decode cX13_undo 31 = .ok (.iload_n 1, 1) := dk_27 (dk_at dksX13_undo_1 7 rfl rfl)
theorem dX13_undo_32 : decode cX13_undo 32 = .ok (.aload_n 0, 1) := dk_42 (dk_at dksX13_undo_1 8 rfl rfl)
theorem dX13_undo_33 : decode cX13_undo 33 = .ok (.getfield 119, 3) := dk_180 0 119 (dk_at dksX13_undo_1 9 rfl rfl)
theorem dX13_undo_36 : decode cX13_undo 36 = .ok (.bipush 48, 2) := dk_16 48 (dk_at dksX13_undo_1 12 rfl rfl)
theorem dX13_undo_38 : decode cX13_undo 38 = .ok (.aload_n 0, 1) := dk_42 (dk_at dksX13_undo_1 14 rfl rfl)
theorem dX13_undo_39 : decode cX13_undo 39 = .ok (.getfield 256, 3) := dk_180 1 0 (dk_at dksX13_undo_1 15 rfl rfl)
theorem dX13_undo_42 : decode cX13_undo 42 = .ok (.imul, 1) := dk_104 (dk_at dksX13_undo_1 18 rfl rfl)
theorem dX13_undo_43 : decode cX13_undo 43 = .ok (.iload_n 1, 1) := dk_27 (dk_at dksX13_undo_1 19 rfl rfl)
theorem dX13_undo_44 : decode cX13_undo 44 = .ok (.iadd, 1) := dk_96 (dk_at dksX13_undo_1 20 rfl rfl)
theorem dX13_undo_45 : decode cX13_undo 45 = .ok (.iaload, 1) := dk_46 (dk_at dksX13_undo_1 21 rfl rfl)
theorem dX13_undo_46 : decode cX13_undo 46 = .ok (.iastore, 1) := dk_79 (dk_at dksX13_undo_1 22 rfl rfl)
theorem dX13_undo_47 : decode cX13_undo 47 = .ok (.iinc 1 1, 3) := dk_132 1 1 (dk_at dksX13_undo_2 0 rfl rfl)
theorem dX13_undo_50 : decode cX13_undo 50 = .ok (.goto (-29), 3) := dk_167 255 227 (dk_at dksX13_undo_2 3 rfl rfl)
theorem dX13_undo_53 : decode cX13_undo 53 = .ok (.iconst 1, 1) := dk_4 (dk_at dksX13_undo_2 6 rfl rfl)
theorem dX13_undo_54 : decode cX13_undo 54 = .ok (.ireturn, 1) := dk_172 (dk_at dksX13_undo_2 7 rfl rfl)
abbrev cX13_after : ByteArray := prog_21_method_71_code
def yX13_after : MethodName := ⟨RX13, "after", "(II)I"⟩
def dkwX13_after_1 : List UInt8 := [2, 172]
abbrev dktX13_after_1 : List UInt8 := dkwX13_after_1 ++ []
def dkwX13_after_0 : List UInt8 := [42, 27, 182, 1, 130, 153, 0, 19, 28, 184, 1, 127, 153, 0, 12, 42, 27, 28, 182, 1, 133, 167, 0, 4]
abbrev dktX13_after_0 : List UInt8 := dkwX13_after_0 ++ dktX13_after_1
theorem dksX13_after_0 : cX13_after.data.toList.drop 0 = dktX13_after_0 := by decide +kernel
theorem dksX13_after_1 : cX13_after.data.toList.drop 24 = dktX13_after_1 := dk_seg dksX13_after_0 24 rfl rfl
theorem dX13_after_0 : decode cX13_after 0 = .ok (.aload_n 0, 1) := dk_42 (dk_at dksX13_after_0 0 rfl rfl)
theorem dX13_after_1 : decode cX13_after 1 = .ok (.iload_n 1, 1) := dk_27 (dk_at dksX13_after_0 1 rfl rfl)
theorem dX13_after_2 : decode cX13_after 2 = .ok (.invokevirtual 386, 3) := dk_182 1 130 (dk_at dksX13_after_0 2 rfl rfl)
theorem dX13_after_5 : decode cX13_after 5 = .ok (.ifCond .eq 19, 3) := dk_153 0 19 (dk_at dksX13_after_0 5 rfl rfl)
theorem dX13_after_8 : decode cX13_after 8 = .ok (.iload_n 2, 1) := dk_28 (dk_at dksX13_after_0 8 rfl rfl)
theorem dX13_after_9 : decode cX13_after 9 = .ok (.invokestatic 383, 3) := dk_184 1 127 (dk_at dksX13_after_0 9 rfl rfl)
theorem dX13_after_12 : decode cX13_after 12 = .ok (.ifCond .eq 12, 3) := dk_153 0 12 (dk_at dksX13_after_0 12 rfl rfl)
theorem dX13_after_15 : decode cX13_after 15 = .ok (.aload_n 0, 1) := dk_42 (dk_at dksX13_after_0 15 rfl rfl)
theorem dX13_after_16 : decode cX13_after 16 = .ok (.iload_n 1, 1) := dk_27 (dk_at dksX13_after_0 16 rfl rfl)
theorem dX13_after_17 : decode cX13_after 17 = .ok (.iload_n 2, 1) := dk_28 (dk_at dksX13_after_0 17 rfl rfl)
theorem dX13_after_18 : decode cX13_after 18 = .ok (.invokevirtual 389, 3) := dk_182 1 133 (dk_at dksX13_after_0 18 rfl rfl)
theorem dX13_after_21 : decode cX13_after 21 = .ok (.goto 4, 3) := dk_167 0 4 (dk_at dksX13_after_0 21 rfl rfl)
theorem dX13_after_24 : decode cX13_after 24 = .ok (.iconst (-1), 1) := dk_2 (dk_at dksX13_after_1 0 rfl rfl)
theorem dX13_after_25 : decode cX13_after 25 = .ok (.ireturn, 1) := dk_172 (dk_at dksX13_after_1 1 rfl rfl)
abbrev cX13_isRow : ByteArray := prog_21_method_41_code
def yX13_isRow : MethodName := ⟨RX13, "isRow", "(I)Z"⟩
def dkwX13_isRow_0 : List UInt8 := [27, 3, 42, 182, 1, 56, 184, 1, 52, 172]
abbrev dktX13_isRow_0 : List UInt8 := dkwX13_isRow_0 ++ []
theorem dksX13_isRow_0 : cX13_isRow.data.toList.drop 0 = dktX13_isRow_0 := by decide +kernel
theorem dX13_isRow_0 : decode cX13_isRow 0 = .ok (.iload_n 1, 1) := dk_27 (dk_at dksX13_isRow_0 0 rfl rfl)
theorem dX13_isRow_1 : decode cX13_isRow 1 = .ok (.iconst 0, 1) := dk_3 (dk_at dksX13_isRow_0 1 rfl rfl)
theorem dX13_isRow_2 : decode cX13_isRow 2 = .ok (.aload_n 0, 1) := dk_42 (dk_at dksX13_isRow_0 2 rfl rfl)
theorem dX13_isRow_3 : decode cX13_isRow 3 = .ok (.invokevirtual 312, 3) := dk_182 1 56 (dk_at dksX13_isRow_0 3 rfl rfl)
theorem dX13_isRow_6 : decode cX13_isRow 6 = .ok (.invokestatic 308, 3) := dk_184 1 52 (dk_at dksX13_isRow_0 6 rfl rfl)
theorem dX13_isRow_9 : decode cX13_isRow 9 = .ok (.ireturn, 1) := dk_172 (dk_at dksX13_isRow_0 9 rfl rfl)
abbrev cX13_allBits : ByteArray := prog_21_method_40_code
def yX13_allBits : MethodName := ⟨RX13, "allBits", "()I"⟩
def dkwX13_allBits_0 : List UInt8 := [4, 42, 182, 1, 48, 120, 4, 100, 172]
abbrev dktX13_allBits_0 : List UInt8 := dkwX13_allBits_0 ++ []
theorem dksX13_allBits_0 : cX13_allBits.data.toList.drop 0 = dktX13_allBits_0 := by decide +kernel
theorem dX13_allBits_0 : decode cX13_allBits 0 = .ok (.iconst 1, 1) := dk_4 (dk_at dksX13_allBits_0 0 rfl rfl)
theorem dX13_allBits_1 : decode cX13_allBits 1 = .ok (.aload_n 0, 1) := dk_42 (dk_at dksX13_allBits_0 1 rfl rfl)
theorem dX13_allBits_2 : decode cX13_allBits 2 = .ok (.invokevirtual 304, 3) := dk_182 1 48 (dk_at dksX13_allBits_0 2 rfl rfl)
theorem dX13_allBits_5 : decode cX13_allBits 5 = .ok (.ishl, 1) := dk_120 (dk_at dksX13_allBits_0 5 rfl rfl)
theorem dX13_allBits_6 : decode cX13_allBits 6 = .ok (.iconst 1, 1) := dk_4 (dk_at dksX13_allBits_0 6 rfl rfl)
theorem dX13_allBits_7 : decode cX13_allBits 7 = .ok (.isub, 1) := dk_100 (dk_at dksX13_allBits_0 7 rfl rfl)
theorem dX13_allBits_8 : decode cX13_allBits 8 = .ok (.ireturn, 1) := dk_172 (dk_at dksX13_allBits_0 8 rfl rfl)
abbrev cX13_rowAfter : ByteArray := prog_21_method_59_code
def yX13_rowAfter : MethodName := ⟨RX13, "rowAfter", "(II)I"⟩
def dkwX13_rowAfter_0 : List UInt8 := [42, 182, 1, 105, 42, 27, 182, 1, 108, 42, 28, 182, 1, 111, 42, 182, 1, 114, 172]
abbrev dktX13_rowAfter_0 : List UInt8 := dkwX13_rowAfter_0 ++ []
theorem dksX13_rowAfter_0 : cX13_rowAfter.data.toList.drop 0 = dktX13_rowAfter_0 := by decide +kernel
theorem dX13_rowAfter_0 : decode cX13_rowAfter 0 = .ok (.aload_n 0, 1) := dk_42 (dk_at dksX13_rowAfter_0 0 rfl rfl)
theorem dX13_rowAfter_1 : decode cX13_rowAfter 1 = .ok (.invokevirtual 361, 3) := dk_182 1 105 (dk_at dksX13_rowAfter_0 1 rfl rfl)
theorem dX13_rowAfter_4 : decode cX13_rowAfter 4 = .ok (.aload_n 0, 1) := dk_42 (dk_at dksX13_rowAfter_0 4 rfl rfl)
theorem dX13_rowAfter_5 : decode cX13_rowAfter 5 = .ok (.iload_n 1, 1) := dk_27 (dk_at dksX13_rowAfter_0 5 rfl rfl)
theorem dX13_rowAfter_6 : decode cX13_rowAfter 6 = .ok (.invokevirtual 364, 3) := dk_182 1 108 (dk_at dksX13_rowAfter_0 6 rfl rfl)
theorem dX13_rowAfter_9 : decode cX13_rowAfter 9 = .ok (.aload_n 0, 1) := dk_42 (dk_at dksX13_rowAfter_0 9 rfl rfl)
theorem dX13_rowAfter_10 : decode cX13_rowAfter 10 = .ok (.iload_n 2, 1) := dk_28 (dk_at dksX13_rowAfter_0 10 rfl rfl)
theorem dX13_rowAfter_11 : decode cX13_rowAfter 11 = .ok (.invokevirtual 367, 3) := dk_182 1 111 (dk_at dksX13_rowAfter_0 11 rfl rfl)
theorem dX13_rowAfter_14 : decode cX13_rowAfter 14 = .ok (.aload_n 0, 1) := dk_42 (dk_at dksX13_rowAfter_0 14 rfl rfl)
theorem dX13_rowAfter_15 : decode cX13_rowAfter 15 = .ok (.invokevirtual 370, 3) := dk_182 1 114 (dk_at dksX13_rowAfter_0 15 rfl rfl)
theorem dX13_rowAfter_18 : decode cX13_rowAfter 18 = .ok (.ireturn, 1) := dk_172 (dk_at dksX13_rowAfter_0 18 rfl rfl)
abbrev cX13_copiesStill : ByteArray := prog_21_method_45_code
def yX13_copiesStill : MethodName := ⟨RX13, "copiesStill", "()V"⟩
def dkwX13_copiesStill_0 : List UInt8 := [42, 182, 1, 65, 42, 4, 181, 1, 62, 177]
abbrev dktX13_copiesStill_0 : List UInt8 := dkwX13_copiesStill_0 ++ []
theorem dksX13_copiesStill_0 : cX13_copiesStill.data.toList.drop 0 = dktX13_copiesStill_0 := by decide +kernel
theorem dX13_copiesStill_0 : decode cX13_copiesStill 0 = .ok (.aload_n 0, 1) := dk_42 (dk_at dksX13_copiesStill_0 0 rfl rfl)
theorem dX13_copiesStill_1 : decode cX13_copiesStill 1 = .ok (.invokevirtual 321, 3) := dk_182 1 65 (dk_at dksX13_copiesStill_0 1 rfl rfl)
theorem dX13_copiesStill_4 : decode cX13_copiesStill 4 = .ok (.aload_n 0, 1) := dk_42 (dk_at dksX13_copiesStill_0 4 rfl rfl)
theorem dX13_copiesStill_5 : decode cX13_copiesStill 5 = .ok (.iconst 1, 1) := dk_4 (dk_at dksX13_copiesStill_0 5 rfl rfl)
theorem dX13_copiesStill_6 : decode cX13_copiesStill 6 = .ok (.putfield 318, 3) := dk_181 1 62 (dk_at dksX13_copiesStill_0 6 rfl rfl)
theorem dX13_copiesStill_9 : decode cX13_copiesStill 9 = .ok (.return_, 1) := dk_177 (dk_at dksX13_copiesStill_0 9 rfl rfl)
abbrev cX13_laysRow : ByteArray := prog_21_method_56_code
def yX13_laysRow : MethodName := ⟨RX13, "laysRow", "(I)V"⟩
def dkwX13_laysRow_1 : List UInt8 := [167, 255, 234, 177]
abbrev dktX13_laysRow_1 : List UInt8 := dkwX13_laysRow_1 ++ []
def dkwX13_laysRow_0 : List UInt8 := [3, 61, 28, 42, 182, 1, 48, 162, 0, 20, 42, 180, 0, 110, 28, 27, 28, 122, 4, 126, 79, 132, 2, 1]
abbrev dktX13_laysRow_0 : List UInt8 := dkwX13_laysRow_0 ++ dktX13_laysRow_1
theorem dksX13_laysRow_0 : cX13_laysRow.data.toList.drop 0 = dktX13_laysRow_0 := by decide +kernel
theorem dksX13_laysRow_1 : cX13_laysRow.data.toList.drop 24 = dktX13_laysRow_1 := dk_seg dksX13_laysRow_0 24 rfl rfl
theorem dX13_laysRow_0 : decode cX13_laysRow 0 = .ok (.iconst 0, 1) := dk_3 (dk_at dksX13_laysRow_0 0 rfl rfl)
theorem dX13_laysRow_1 : decode cX13_laysRow 1 = .ok (.istore_n 2, 1) := dk_61 (dk_at dksX13_laysRow_0 1 rfl rfl)
theorem dX13_laysRow_2 : decode cX13_laysRow 2 = .ok (.iload_n 2, 1) := dk_28 (dk_at dksX13_laysRow_0 2 rfl rfl)
theorem dX13_laysRow_3 : decode cX13_laysRow 3 = .ok (.aload_n 0, 1) := dk_42 (dk_at dksX13_laysRow_0 3 rfl rfl)
theorem dX13_laysRow_4 : decode cX13_laysRow 4 = .ok (.invokevirtual 304, 3) := dk_182 1 48 (dk_at dksX13_laysRow_0 4 rfl rfl)
theorem dX13_laysRow_7 : decode cX13_laysRow 7 = .ok (.if_icmp .ge 20, 3) := dk_162 0 20 (dk_at dksX13_laysRow_0 7 rfl rfl)
theorem dX13_laysRow_10 : decode cX13_laysRow 10 = .ok (.aload_n 0, 1) := dk_42 (dk_at dksX13_laysRow_0 10 rfl rfl)
theorem dX13_laysRow_11 : decode cX13_laysRow 11 = .ok (.getfield 110, 3) := dk_180 0 110 (dk_at dksX13_laysRow_0 11 rfl rfl)
theorem dX13_laysRow_14 : decode cX13_laysRow 14 = .ok (.iload_n 2, 1) := dk_28 (dk_at dksX13_laysRow_0 14 rfl rfl)
theorem dX13_laysRow_15 : decode cX13_laysRow 15 = .ok (.iload_n 1, 1) := dk_27 (dk_at dksX13_laysRow_0 15 rfl rfl)
theorem dX13_laysRow_16 : decode cX13_laysRow 16 = .ok (.iload_n 2, 1) := dk_28 (dk_at dksX13_laysRow_0 16 rfl rfl)
theorem dX13_laysRow_17 : decode cX13_laysRow 17 = .ok (.ishr, 1) := dk_122 (dk_at dksX13_laysRow_0 17 rfl rfl)
theorem dX13_laysRow_18 : decode cX13_laysRow 18 = .ok (.iconst 1, 1) := dk_4 (dk_at dksX13_laysRow_0 18 rfl rfl)
theorem dX13_laysRow_19 : decode cX13_laysRow 19 = .ok (.iand, 1) := dk_126 (dk_at dksX13_laysRow_0 19 rfl rfl)
theorem dX13_laysRow_20 : decode cX13_laysRow 20 = .ok (.iastore, 1) := dk_79 (dk_at dksX13_laysRow_0 20 rfl rfl)
theorem dX13_laysRow_21 : decode cX13_laysRow 21 = .ok (.iinc 2 1, 3) := dk_132 2 1 (dk_at dksX13_laysRow_0 21 rfl rfl)
theorem dX13_laysRow_24 : decode cX13_laysRow 24 = .ok (.goto (-22), 3) := dk_167 255 234 (dk_at dksX13_laysRow_1 0 rfl rfl)
theorem dX13_laysRow_27 : decode cX13_laysRow 27 = .ok (.return_, 1) := dk_177 (dk_at dksX13_laysRow_1 3 rfl rfl)
abbrev cX13_rowBits : ByteArray := prog_21_method_55_code
def yX13_rowBits : MethodName := ⟨RX13, "rowBits", "()I"⟩
def dkwX13_rowBits_1 : List UInt8 := [132, 2, 1, 167, 255, 234, 27, 172]
abbrev dktX13_rowBits_1 : List UInt8 := dkwX13_rowBits_1 ++ []
def dkwX13_rowBits_0 : List UInt8 := [3, 60, 3, 61, 28, 42, 182, 1, 48, 162, 0, 20, 27, 42, 180, 0, 110, 28, 46, 28, 120, 128, 60]
abbrev dktX13_rowBits_0 : List UInt8 := dkwX13_rowBits_0 ++ dktX13_rowBits_1
theorem dksX13_rowBits_0 : cX13_rowBits.data.toList.drop 0 = dktX13_rowBits_0 := by decide +kernel
theorem dksX13_rowBits_1 : cX13_rowBits.data.toList.drop 23 = dktX13_rowBits_1 := dk_seg dksX13_rowBits_0 23 rfl rfl
theorem dX13_rowBits_0 : decode cX13_rowBits 0 = .ok (.iconst 0, 1) := dk_3 (dk_at dksX13_rowBits_0 0 rfl rfl)
theorem dX13_rowBits_1 : decode cX13_rowBits 1 = .ok (.istore_n 1, 1) := dk_60 (dk_at dksX13_rowBits_0 1 rfl rfl)
theorem dX13_rowBits_2 : decode cX13_rowBits 2 = .ok (.iconst 0, 1) := dk_3 (dk_at dksX13_rowBits_0 2 rfl rfl)
theorem dX13_rowBits_3 : decode cX13_rowBits 3 = .ok (.istore_n 2, 1) := dk_61 (dk_at dksX13_rowBits_0 3 rfl rfl)
theorem dX13_rowBits_4 : decode cX13_rowBits 4 = .ok (.iload_n 2, 1) := dk_28 (dk_at dksX13_rowBits_0 4 rfl rfl)
theorem dX13_rowBits_5 : decode cX13_rowBits 5 = .ok (.aload_n 0, 1) := dk_42 (dk_at dksX13_rowBits_0 5 rfl rfl)
theorem dX13_rowBits_6 : decode cX13_rowBits 6 = .ok (.invokevirtual 304, 3) := dk_182 1 48 (dk_at dksX13_rowBits_0 6 rfl rfl)
theorem dX13_rowBits_9 : decode cX13_rowBits 9 = .ok (.if_icmp .ge 20, 3) := dk_162 0 20 (dk_at dksX13_rowBits_0 9 rfl rfl)
theorem dX13_rowBits_12 : decode cX13_rowBits 12 = .ok (.iload_n 1, 1) := dk_27 (dk_at dksX13_rowBits_0 12 rfl rfl)
theorem dX13_rowBits_13 : decode cX13_rowBits 13 = .ok (.aload_n 0, 1) := dk_42 (dk_at dksX13_rowBits_0 13 rfl rfl)
theorem dX13_rowBits_14 : decode cX13_rowBits 14 = .ok (.getfield 110, 3) := dk_180 0 110 (dk_at dksX13_rowBits_0 14 rfl rfl)
theorem dX13_rowBits_17 : decode cX13_rowBits 17 = .ok (.iload_n 2, 1) := dk_28 (dk_at dksX13_rowBits_0 17 rfl rfl)
theorem dX13_rowBits_18 : decode cX13_rowBits 18 = .ok (.iaload, 1) := dk_46 (dk_at dksX13_rowBits_0 18 rfl rfl)
theorem dX13_rowBits_19 : decode cX13_rowBits 19 = .ok (.iload_n 2, 1) := dk_28 (dk_at dksX13_rowBits_0 19 rfl rfl)
theorem dX13_rowBits_20 : decode cX13_rowBits 20 = .ok (.ishl, 1) := dk_120 (dk_at dksX13_rowBits_0 20 rfl rfl)
theorem dX13_rowBits_21 : decode cX13_rowBits 21 = .ok (.ior, 1) := dk_128 (dk_at dksX13_rowBits_0 21 rfl rfl)
theorem dX13_rowBits_22 : decode cX13_rowBits 22 = .ok (.istore_n 1, 1) := dk_60 (dk_at dksX13_rowBits_0 22 rfl rfl)
theorem dX13_rowBits_23 : decode cX13_rowBits 23 = .ok (.iinc 2 1, 3) := dk_132 2 1 (dk_at dksX13_rowBits_1 0 rfl rfl)
theorem dX13_rowBits_26 : decode cX13_rowBits 26 = .ok (.goto (-22), 3) := dk_167 255 234 (dk_at dksX13_rowBits_1 3 rfl rfl)
theorem dX13_rowBits_29 : decode cX13_rowBits 29 = .ok (.iload_n 1, 1) := dk_27 (dk_at dksX13_rowBits_1 6 rfl rfl)
theorem dX13_rowBits_30 : decode cX13_rowBits 30 = .ok (.ireturn, 1) := dk_172 (dk_at dksX13_rowBits_1 7 rfl rfl)
abbrev cX13_turned : ByteArray := prog_21_method_75_code
def yX13_turned : MethodName := ⟨RX13, "turned", "(II)I"⟩
def dkwX13_turned_1 : List UInt8 := [182, 1, 151, 62, 29, 155, 0, 8, 28, 4, 160, 0, 7, 29, 167, 0, 8, 42, 29, 182, 1, 139, 172]
abbrev dktX13_turned_1 : List UInt8 := dkwX13_turned_1 ++ []
def dkwX13_turned_0 : List UInt8 := [27, 184, 1, 148, 153, 0, 12, 28, 3, 4, 184, 1, 52, 154, 0, 5, 2, 172, 42, 42, 182, 1, 56, 27]
abbrev dktX13_turned_0 : List UInt8 := dkwX13_turned_0 ++ dktX13_turned_1
theorem dksX13_turned_0 : cX13_turned.data.toList.drop 0 = dktX13_turned_0 := by decide +kernel
theorem dksX13_turned_1 : cX13_turned.data.toList.drop 24 = dktX13_turned_1 := dk_seg dksX13_turned_0 24 rfl rfl
theorem dX13_turned_0 : decode cX13_turned 0 = .ok (.iload_n 1, 1) := dk_27 (dk_at dksX13_turned_0 0 rfl rfl)
theorem dX13_turned_1 : decode cX13_turned 1 = .ok (.invokestatic 404, 3) := dk_184 1 148 (dk_at dksX13_turned_0 1 rfl rfl)
theorem dX13_turned_4 : decode cX13_turned 4 = .ok (.ifCond .eq 12, 3) := dk_153 0 12 (dk_at dksX13_turned_0 4 rfl rfl)
theorem dX13_turned_7 : decode cX13_turned 7 = .ok (.iload_n 2, 1) := dk_28 (dk_at dksX13_turned_0 7 rfl rfl)
theorem dX13_turned_8 : decode cX13_turned 8 = .ok (.iconst 0, 1) := dk_3 (dk_at dksX13_turned_0 8 rfl rfl)
theorem dX13_turned_9 : decode cX13_turned 9 = .ok (.iconst 1, 1) := dk_4 (dk_at dksX13_turned_0 9 rfl rfl)
theorem dX13_turned_10 : decode cX13_turned 10 = .ok (.invokestatic 308, 3) := dk_184 1 52 (dk_at dksX13_turned_0 10 rfl rfl)
theorem dX13_turned_13 : decode cX13_turned 13 = .ok (.ifCond .ne 5, 3) := dk_154 0 5 (dk_at dksX13_turned_0 13 rfl rfl)
theorem dX13_turned_16 : decode cX13_turned 16 = .ok (.iconst (-1), 1) := dk_2 (dk_at dksX13_turned_0 16 rfl rfl)
theorem dX13_turned_17 : decode cX13_turned 17 = .ok (.ireturn, 1) := dk_172 (dk_at dksX13_turned_0 17 rfl rfl)
theorem dX13_turned_18 : decode cX13_turned 18 = .ok (.aload_n 0, 1) := dk_42 (dk_at dksX13_turned_0 18 rfl rfl)
theorem dX13_turned_19 : decode cX13_turned 19 = .ok (.aload_n 0, 1) := dk_42 (dk_at dksX13_turned_0 19 rfl rfl)
theorem dX13_turned_20 : decode cX13_turned 20 = .ok (.invokevirtual 312, 3) := dk_182 1 56 (dk_at dksX13_turned_0 20 rfl rfl)
theorem dX13_turned_23 : decode cX13_turned 23 = .ok (.iload_n 1, 1) := dk_27 (dk_at dksX13_turned_0 23 rfl rfl)
theorem dX13_turned_24 : decode cX13_turned 24 = .ok (.invokevirtual 407, 3) := dk_182 1 151 (dk_at dksX13_turned_1 0 rfl rfl)
theorem dX13_turned_27 : decode cX13_turned 27 = .ok (.istore_n 3, 1) := dk_62 (dk_at dksX13_turned_1 3 rfl rfl)
theorem dX13_turned_28 : decode cX13_turned 28 = .ok (.iload_n 3, 1) := dk_29 (dk_at dksX13_turned_1 4 rfl rfl)
theorem dX13_turned_29 : decode cX13_turned 29 = .ok (.ifCond .lt 8, 3) := dk_155 0 8 (dk_at dksX13_turned_1 5 rfl rfl)
theorem dX13_turned_32 : decode cX13_turned 32 = .ok (.iload_n 2, 1) := dk_28 (dk_at dksX13_turned_1 8 rfl rfl)
theorem dX13_turned_33 : decode cX13_turned 33 = .ok (.iconst 1, 1) := dk_4 (dk_at dksX13_turned_1 9 rfl rfl)
theorem dX13_turned_34 : decode cX13_turned 34 = .ok (.if_icmp .ne 7, 3) := dk_160 0 7 (dk_at dksX13_turned_1 10 rfl rfl)
theorem dX13_turned_37 : decode cX13_turned 37 = .ok (.iload_n 3, 1) := dk_29 (dk_at dksX13_turned_1 13 rfl rfl)
theorem dX13_turned_38 : decode cX13_turned 38 = .ok (.goto 8, 3) := dk_167 0 8 (dk_at dksX13_turned_1 14 rfl rfl)
theorem dX13_turned_41 : decode cX13_turned 41 = .ok (.aload_n 0, 1) := dk_42 (dk_at dksX13_turned_1 17 rfl rfl)
theorem dX13_turned_42 : decode cX13_turned 42 = .ok (.iload_n 3, 1) := dk_29 (dk_at dksX13_turned_1 18 rfl rfl)
theorem dX13_turned_43 : decode cX13_turned 43 = .ok (.invokevirtual 395, 3) := dk_182 1 139 (dk_at dksX13_turned_1 19 rfl rfl)
theorem dX13_turned_46 : decode cX13_turned 46 = .ok (.ireturn, 1) := dk_172 (dk_at dksX13_turned_1 22 rfl rfl)
abbrev cX13_isShort : ByteArray := prog_21_method_68_code
def yX13_isShort : MethodName := ⟨RX13, "isShort", "(I)Z"⟩
def dkwX13_isShort_0 : List UInt8 := [26, 3, 16, 24, 184, 1, 52, 172]
abbrev dktX13_isShort_0 : List UInt8 := dkwX13_isShort_0 ++ []
theorem dksX13_isShort_0 : cX13_isShort.data.toList.drop 0 = dktX13_isShort_0 := by decide +kernel
theorem dX13_isShort_0 : decode cX13_isShort 0 = .ok (.iload_n 0, 1) := dk_26 (dk_at dksX13_isShort_0 0 rfl rfl)
theorem dX13_isShort_1 : decode cX13_isShort 1 = .ok (.iconst 0, 1) := dk_3 (dk_at dksX13_isShort_0 1 rfl rfl)
theorem dX13_isShort_2 : decode cX13_isShort 2 = .ok (.bipush 24, 2) := dk_16 24 (dk_at dksX13_isShort_0 2 rfl rfl)
theorem dX13_isShort_4 : decode cX13_isShort 4 = .ok (.invokestatic 308, 3) := dk_184 1 52 (dk_at dksX13_isShort_0 4 rfl rfl)
theorem dX13_isShort_7 : decode cX13_isShort 7 = .ok (.ireturn, 1) := dk_172 (dk_at dksX13_isShort_0 7 rfl rfl)
abbrev cX13_cheapest : ByteArray := prog_21_method_74_code
def yX13_cheapest : MethodName := ⟨RX13, "cheapest", "(II)I"⟩
def dkwX13_cheapest_3 : List UInt8 := [182, 1, 133, 27, 160, 0, 6, 21, 4, 62, 132, 4, 1, 167, 255, 182, 29, 172]
abbrev dktX13_cheapest_3 : List UInt8 := dkwX13_cheapest_3 ++ []
def dkwX13_cheapest_2 : List UInt8 := [21, 4, 184, 1, 142, 29, 184, 1, 142, 161, 0, 6, 167, 0, 22, 42, 42, 182, 1, 145, 21, 4, 130, 28]
abbrev dktX13_cheapest_2 : List UInt8 := dkwX13_cheapest_2 ++ dktX13_cheapest_3
def dkwX13_cheapest_1 : List UInt8 := [21, 4, 182, 1, 139, 42, 29, 182, 1, 139, 100, 54, 5, 21, 5, 157, 0, 42, 21, 5, 154, 0, 18]
abbrev dktX13_cheapest_1 : List UInt8 := dkwX13_cheapest_1 ++ dktX13_cheapest_2
def dkwX13_cheapest_0 : List UInt8 := [42, 182, 1, 136, 16, 254, 62, 3, 54, 4, 21, 4, 42, 182, 1, 56, 163, 0, 71, 29, 155, 0, 42, 42]
abbrev dktX13_cheapest_0 : List UInt8 := dkwX13_cheapest_0 ++ dktX13_cheapest_1
theorem dksX13_cheapest_0 : cX13_cheapest.data.toList.drop 0 = dktX13_cheapest_0 := by decide +kernel
theorem dksX13_cheapest_1 : cX13_cheapest.data.toList.drop 24 = dktX13_cheapest_1 := dk_seg dksX13_cheapest_0 24 rfl rfl
theorem dksX13_cheapest_2 : cX13_cheapest.data.toList.drop 47 = dktX13_cheapest_2 := dk_seg dksX13_cheapest_1 23 rfl rfl
theorem dksX13_cheapest_3 : cX13_cheapest.data.toList.drop 71 = dktX13_cheapest_3 := dk_seg dksX13_cheapest_2 24 rfl rfl
theorem dX13_cheapest_0 : decode cX13_cheapest 0 = .ok (.aload_n 0, 1) := dk_42 (dk_at dksX13_cheapest_0 0 rfl rfl)
theorem dX13_cheapest_1 : decode cX13_cheapest 1 = .ok (.invokevirtual 392, 3) := dk_182 1 136 (dk_at dksX13_cheapest_0 1 rfl rfl)
theorem dX13_cheapest_4 : decode cX13_cheapest 4 = .ok (.bipush (-2), 2) := dk_16 254 (dk_at dksX13_cheapest_0 4 rfl rfl)
theorem dX13_cheapest_6 : decode cX13_cheapest 6 = .ok (.istore_n 3, 1) := dk_62 (dk_at dksX13_cheapest_0 6 rfl rfl)
theorem dX13_cheapest_7 : decode cX13_cheapest 7 = .ok (.iconst 0, 1) := dk_3 (dk_at dksX13_cheapest_0 7 rfl rfl)
theorem dX13_cheapest_8 : decode cX13_cheapest 8 = .ok (.istore 4, 2) := dk_54 4 (dk_at dksX13_cheapest_0 8 rfl rfl)
theorem dX13_cheapest_10 : decode cX13_cheapest 10 = .ok (.iload 4, 2) := dk_21 4 (dk_at dksX13_cheapest_0 10 rfl rfl)
theorem dX13_cheapest_12 : decode cX13_cheapest 12 = .ok (.aload_n 0, 1) := dk_42 (dk_at dksX13_cheapest_0 12 rfl rfl)
theorem dX13_cheapest_13 : decode cX13_cheapest 13 = .ok (.invokevirtual 312, 3) := dk_182 1 56 (dk_at dksX13_cheapest_0 13 rfl rfl)
theorem dX13_cheapest_16 : decode cX13_cheapest 16 = .ok (.if_icmp .gt 71, 3) := dk_163 0 71 (dk_at dksX13_cheapest_0 16 rfl rfl)
theorem dX13_cheapest_19 : decode cX13_cheapest 19 = .ok (.iload_n 3, 1) := dk_29 (dk_at dksX13_cheapest_0 19 rfl rfl)
theorem dX13_cheapest_20 : decode cX13_cheapest 20 = .ok (.ifCond .lt 42, 3) := dk_155 0 42 (dk_at dksX13_cheapest_0 20 rfl rfl)
theorem dX13_cheapest_23 : decode cX13_cheapest 23 = .ok (.aload_n 0, 1) := dk_42 (dk_at dksX13_cheapest_0 23 rfl rfl)
theorem dX13_cheapest_24 : decode cX13_cheapest 24 = .ok (.iload 4, 2) := dk_21 4 (dk_at dksX13_cheapest_1 0 rfl rfl)
theorem dX13_cheapest_26 : decode cX13_cheapest 26 = .ok (.invokevirtual 395, 3) := dk_182 1 139 (dk_at dksX13_cheapest_1 2 rfl rfl)
theorem dX13_cheapest_29 : decode cX13_cheapest 29 = .ok (.aload_n 0, 1) := dk_42 (dk_at dksX13_cheapest_1 5 rfl rfl)
theorem dX13_cheapest_30 : decode cX13_cheapest 30 = .ok (.iload_n 3, 1) := dk_29 (dk_at dksX13_cheapest_1 6 rfl rfl)
theorem dX13_cheapest_31 : decode cX13_cheapest 31 = .ok (.invokevirtual 395, 3) := dk_182 1 139 (dk_at dksX13_cheapest_1 7 rfl rfl)
theorem dX13_cheapest_34 : decode cX13_cheapest 34 = .ok (.isub, 1) := dk_100 (dk_at dksX13_cheapest_1 10 rfl rfl)
theorem dX13_cheapest_35 : decode cX13_cheapest 35 = .ok (.istore 5, 2) := dk_54 5 (dk_at dksX13_cheapest_1 11 rfl rfl)
theorem dX13_cheapest_37 : decode cX13_cheapest 37 = .ok (.iload 5, 2) := dk_21 5 (dk_at dksX13_cheapest_1 13 rfl rfl)
theorem dX13_cheapest_39 : decode cX13_cheapest 39 = .ok (.ifCond .gt 42, 3) := dk_157 0 42 (dk_at dksX13_cheapest_1 15 rfl rfl)
theorem dX13_cheapest_42 : decode cX13_cheapest 42 = .ok (.iload 5, 2) := dk_21 5 (dk_at dksX13_cheapest_1 18 rfl rfl)
theorem dX13_cheapest_44 : decode cX13_cheapest 44 = .ok (.ifCond .ne 18, 3) := dk_154 0 18 (dk_at dksX13_cheapest_1 20 rfl rfl)
theorem dX13_cheapest_47 : decode cX13_cheapest 47 = .ok (.iload 4, 2) := dk_21 4 (dk_at dksX13_cheapest_2 0 rfl rfl)
theorem dX13_cheapest_49 : decode cX13_cheapest 49 = .ok (.invokestatic 398, 3) := dk_184 1 142 (dk_at dksX13_cheapest_2 2 rfl rfl)
theorem dX13_cheapest_52 : decode cX13_cheapest 52 = .ok (.iload_n 3, 1) := dk_29 (dk_at dksX13_cheapest_2 5 rfl rfl)
theorem dX13_cheapest_53 : decode cX13_cheapest 53 = .ok (.invokestatic 398, 3) := dk_184 1 142 (dk_at dksX13_cheapest_2 6 rfl rfl)
theorem dX13_cheapest_56 : decode cX13_cheapest 56 = .ok (.if_icmp .lt 6, 3) := dk_161 0 6 (dk_at dksX13_cheapest_2 9 rfl rfl)
theorem dX13_cheapest_59 : decode cX13_cheapest 59 = .ok (.goto 22, 3) := dk_167 0 22 (dk_at dksX13_cheapest_2 12 rfl rfl)
theorem dX13_cheapest_62 : decode cX13_cheapest 62 = .ok (.aload_n 0, 1) := dk_42 (dk_at dksX13_cheapest_2 15 rfl rfl)
theorem dX13_cheapest_63 : decode cX13_cheapest 63 = .ok (.aload_n 0, 1) := dk_42 (dk_at dksX13_cheapest_2 16 rfl rfl)
theorem dX13_cheapest_64 : decode cX13_cheapest 64 = .ok (.invokevirtual 401, 3) := dk_182 1 145 (dk_at dksX13_cheapest_2 17 rfl rfl)
theorem dX13_cheapest_67 : decode cX13_cheapest 67 = .ok (.iload 4, 2) := dk_21 4 (dk_at dksX13_cheapest_2 20 rfl rfl)
theorem dX13_cheapest_69 : decode cX13_cheapest 69 = .ok (.ixor, 1) := dk_130 (dk_at dksX13_cheapest_2 22 rfl rfl)
theorem dX13_cheapest_70 : decode cX13_cheapest 70 = .ok (.iload_n 2, 1) := dk_28 (dk_at dksX13_cheapest_2 23 rfl rfl)
theorem dX13_cheapest_71 : decode cX13_cheapest 71 = .ok (.invokevirtual 389, 3) := dk_182 1 133 (dk_at dksX13_cheapest_3 0 rfl rfl)
theorem dX13_cheapest_74 : decode cX13_cheapest 74 = .ok (.iload_n 1, 1) := dk_27 (dk_at dksX13_cheapest_3 3 rfl rfl)
theorem dX13_cheapest_75 : decode cX13_cheapest 75 = .ok (.if_icmp .ne 6, 3) := dk_160 0 6 (dk_at dksX13_cheapest_3 4 rfl rfl)
theorem dX13_cheapest_78 : decode cX13_cheapest 78 = .ok (.iload 4, 2) := dk_21 4 (dk_at dksX13_cheapest_3 7 rfl rfl)
theorem dX13_cheapest_80 : decode cX13_cheapest 80 = .ok (.istore_n 3, 1) := dk_62 (dk_at dksX13_cheapest_3 9 rfl rfl)
theorem dX13_cheapest_81 : decode cX13_cheapest 81 = .ok (.iinc 4 1, 3) := dk_132 4 1 (dk_at dksX13_cheapest_3 10 rfl rfl)
theorem dX13_cheapest_84 : decode cX13_cheapest 84 = .ok (.goto (-74), 3) := dk_167 255 182 (dk_at dksX13_cheapest_3 13 rfl rfl)
theorem dX13_cheapest_87 : decode cX13_cheapest 87 = .ok (.iload_n 3, 1) := dk_29 (dk_at dksX13_cheapest_3 16 rfl rfl)
theorem dX13_cheapest_88 : decode cX13_cheapest 88 = .ok (.ireturn, 1) := dk_172 (dk_at dksX13_cheapest_3 17 rfl rfl)
abbrev cX13_fillsCosts : ByteArray := prog_21_method_72_code
def yX13_fillsCosts : MethodName := ⟨RX13, "fillsCosts", "()V"⟩
def dkwX13_fillsCosts_1 : List UInt8 := [79, 132, 1, 1, 167, 255, 234, 177]
abbrev dktX13_fillsCosts_1 : List UInt8 := dkwX13_fillsCosts_1 ++ []
def dkwX13_fillsCosts_0 : List UInt8 := [42, 182, 1, 65, 3, 60, 27, 42, 182, 1, 48, 162, 0, 20, 42, 180, 0, 122, 27, 42, 27, 182, 1, 118]
abbrev dktX13_fillsCosts_0 : List UInt8 := dkwX13_fillsCosts_0 ++ dktX13_fillsCosts_1
theorem dksX13_fillsCosts_0 : cX13_fillsCosts.data.toList.drop 0 = dktX13_fillsCosts_0 := by decide +kernel
theorem dksX13_fillsCosts_1 : cX13_fillsCosts.data.toList.drop 24 = dktX13_fillsCosts_1 := dk_seg dksX13_fillsCosts_0 24 rfl rfl
theorem dX13_fillsCosts_0 : decode cX13_fillsCosts 0 = .ok (.aload_n 0, 1) := dk_42 (dk_at dksX13_fillsCosts_0 0 rfl rfl)
theorem dX13_fillsCosts_1 : decode cX13_fillsCosts 1 = .ok (.invokevirtual 321, 3) := dk_182 1 65 (dk_at dksX13_fillsCosts_0 1 rfl rfl)
theorem dX13_fillsCosts_4 : decode cX13_fillsCosts 4 = .ok (.iconst 0, 1) := dk_3 (dk_at dksX13_fillsCosts_0 4 rfl rfl)
theorem dX13_fillsCosts_5 : decode cX13_fillsCosts 5 = .ok (.istore_n 1, 1) := dk_60 (dk_at dksX13_fillsCosts_0 5 rfl rfl)
theorem dX13_fillsCosts_6 : decode cX13_fillsCosts 6 = .ok (.iload_n 1, 1) := dk_27 (dk_at dksX13_fillsCosts_0 6 rfl rfl)
theorem dX13_fillsCosts_7 : decode cX13_fillsCosts 7 = .ok (.aload_n 0, 1) := dk_42 (dk_at dksX13_fillsCosts_0 7 rfl rfl)
theorem dX13_fillsCosts_8 : decode cX13_fillsCosts 8 = .ok (.invokevirtual 304, 3) := dk_182 1 48 (dk_at dksX13_fillsCosts_0 8 rfl rfl)
theorem dX13_fillsCosts_11 : decode cX13_fillsCosts 11 = .ok (.if_icmp .ge 20, 3) := dk_162 0 20 (dk_at dksX13_fillsCosts_0 11 rfl rfl)
theorem dX13_fillsCosts_14 : decode cX13_fillsCosts 14 = .ok (.aload_n 0, 1) := dk_42 (dk_at dksX13_fillsCosts_0 14 rfl rfl)
theorem dX13_fillsCosts_15 : decode cX13_fillsCosts 15 = .ok (.getfield 122, 3) := dk_180 0 122 (dk_at dksX13_fillsCosts_0 15 rfl rfl)
theorem dX13_fillsCosts_18 : decode cX13_fillsCosts 18 = .ok (.iload_n 1, 1) := dk_27 (dk_at dksX13_fillsCosts_0 18 rfl rfl)
theorem dX13_fillsCosts_19 : decode cX13_fillsCosts 19 = .ok (.aload_n 0, 1) := dk_42 (dk_at dksX13_fillsCosts_0 19 rfl rfl)
theorem dX13_fillsCosts_20 : decode cX13_fillsCosts 20 = .ok (.iload_n 1, 1) := dk_27 (dk_at dksX13_fillsCosts_0 20 rfl rfl)
theorem dX13_fillsCosts_21 : decode cX13_fillsCosts 21 = .ok (.invokevirtual 374, 3) := dk_182 1 118 (dk_at dksX13_fillsCosts_0 21 rfl rfl)
theorem dX13_fillsCosts_24 : decode cX13_fillsCosts 24 = .ok (.iastore, 1) := dk_79 (dk_at dksX13_fillsCosts_1 0 rfl rfl)
theorem dX13_fillsCosts_25 : decode cX13_fillsCosts 25 = .ok (.iinc 1 1, 3) := dk_132 1 1 (dk_at dksX13_fillsCosts_1 1 rfl rfl)
theorem dX13_fillsCosts_28 : decode cX13_fillsCosts 28 = .ok (.goto (-22), 3) := dk_167 255 234 (dk_at dksX13_fillsCosts_1 4 rfl rfl)
theorem dX13_fillsCosts_31 : decode cX13_fillsCosts 31 = .ok (.return_, 1) := dk_177 (dk_at dksX13_fillsCosts_1 7 rfl rfl)
abbrev cX13_costsOfAll : ByteArray := prog_21_method_73_code
def yX13_costsOfAll : MethodName := ⟨RX13, "costsOfAll", "(I)I"⟩
def dkwX13_costsOfAll_1 : List UInt8 := [180, 0, 122, 29, 46, 96, 61, 132, 3, 1, 167, 255, 227, 28, 172]
abbrev dktX13_costsOfAll_1 : List UInt8 := dkwX13_costsOfAll_1 ++ []
def dkwX13_costsOfAll_0 : List UInt8 := [3, 61, 3, 62, 29, 42, 182, 1, 48, 162, 0, 27, 27, 29, 122, 4, 126, 4, 160, 0, 12, 28, 42]
abbrev dktX13_costsOfAll_0 : List UInt8 := dkwX13_costsOfAll_0 ++ dktX13_costsOfAll_1
theorem dksX13_costsOfAll_0 : cX13_costsOfAll.data.toList.drop 0 = dktX13_costsOfAll_0 := by decide +kernel
theorem dksX13_costsOfAll_1 : cX13_costsOfAll.data.toList.drop 23 = dktX13_costsOfAll_1 := dk_seg dksX13_costsOfAll_0 23 rfl rfl
theorem dX13_costsOfAll_0 : decode cX13_costsOfAll 0 = .ok (.iconst 0, 1) := dk_3 (dk_at dksX13_costsOfAll_0 0 rfl rfl)
theorem dX13_costsOfAll_1 : decode cX13_costsOfAll 1 = .ok (.istore_n 2, 1) := dk_61 (dk_at dksX13_costsOfAll_0 1 rfl rfl)
theorem dX13_costsOfAll_2 : decode cX13_costsOfAll 2 = .ok (.iconst 0, 1) := dk_3 (dk_at dksX13_costsOfAll_0 2 rfl rfl)
theorem dX13_costsOfAll_3 : decode cX13_costsOfAll 3 = .ok (.istore_n 3, 1) := dk_62 (dk_at dksX13_costsOfAll_0 3 rfl rfl)
theorem dX13_costsOfAll_4 : decode cX13_costsOfAll 4 = .ok (.iload_n 3, 1) := dk_29 (dk_at dksX13_costsOfAll_0 4 rfl rfl)
theorem dX13_costsOfAll_5 : decode cX13_costsOfAll 5 = .ok (.aload_n 0, 1) := dk_42 (dk_at dksX13_costsOfAll_0 5 rfl rfl)
theorem dX13_costsOfAll_6 : decode cX13_costsOfAll 6 = .ok (.invokevirtual 304, 3) := dk_182 1 48 (dk_at dksX13_costsOfAll_0 6 rfl rfl)
theorem dX13_costsOfAll_9 : decode cX13_costsOfAll 9 = .ok (.if_icmp .ge 27, 3) := dk_162 0 27 (dk_at dksX13_costsOfAll_0 9 rfl rfl)
theorem dX13_costsOfAll_12 : decode cX13_costsOfAll 12 = .ok (.iload_n 1, 1) := dk_27 (dk_at dksX13_costsOfAll_0 12 rfl rfl)
theorem dX13_costsOfAll_13 : decode cX13_costsOfAll 13 = .ok (.iload_n 3, 1) := dk_29 (dk_at dksX13_costsOfAll_0 13 rfl rfl)
theorem dX13_costsOfAll_14 : decode cX13_costsOfAll 14 = .ok (.ishr, 1) := dk_122 (dk_at dksX13_costsOfAll_0 14 rfl rfl)
theorem dX13_costsOfAll_15 : decode cX13_costsOfAll 15 = .ok (.iconst 1, 1) := dk_4 (dk_at dksX13_costsOfAll_0 15 rfl rfl)
theorem dX13_costsOfAll_16 : decode cX13_costsOfAll 16 = .ok (.iand, 1) := dk_126 (dk_at dksX13_costsOfAll_0 16 rfl rfl)
theorem dX13_costsOfAll_17 : decode cX13_costsOfAll 17 = .ok (.iconst 1, 1) := dk_4 (dk_at dksX13_costsOfAll_0 17 rfl rfl)
theorem dX13_costsOfAll_18 : decode cX13_costsOfAll 18 = .ok (.if_icmp .ne 12, 3) := dk_160 0 12 (dk_at dksX13_costsOfAll_0 18 rfl rfl)
theorem dX13_costsOfAll_21 : decode cX13_costsOfAll 21 = .ok (.iload_n 2, 1) := dk_28 (dk_at dksX13_costsOfAll_0 21 rfl rfl)
theorem dX13_costsOfAll_22 : decode cX13_costsOfAll 22 = .ok (.aload_n 0, 1) := dk_42 (dk_at dksX13_costsOfAll_0 22 rfl rfl)
theorem dX13_costsOfAll_23 : decode cX13_costsOfAll 23 = .ok (.getfield 122, 3) := dk_180 0 122 (dk_at dksX13_costsOfAll_1 0 rfl rfl)
theorem dX13_costsOfAll_26 : decode cX13_costsOfAll 26 = .ok (.iload_n 3, 1) := dk_29 (dk_at dksX13_costsOfAll_1 3 rfl rfl)
theorem dX13_costsOfAll_27 : decode cX13_costsOfAll 27 = .ok (.iaload, 1) := dk_46 (dk_at dksX13_costsOfAll_1 4 rfl rfl)
theorem dX13_costsOfAll_28 : decode cX13_costsOfAll 28 = .ok (.iadd, 1) := dk_96 (dk_at dksX13_costsOfAll_1 5 rfl rfl)
theorem dX13_costsOfAll_29 : decode cX13_costsOfAll 29 = .ok (.istore_n 2, 1) := dk_61 (dk_at dksX13_costsOfAll_1 6 rfl rfl)
theorem dX13_costsOfAll_30 : decode cX13_costsOfAll 30 = .ok (.iinc 3 1, 3) := dk_132 3 1 (dk_at dksX13_costsOfAll_1 7 rfl rfl)
theorem dX13_costsOfAll_33 : decode cX13_costsOfAll 33 = .ok (.goto (-29), 3) := dk_167 255 227 (dk_at dksX13_costsOfAll_1 10 rfl rfl)
theorem dX13_costsOfAll_36 : decode cX13_costsOfAll 36 = .ok (.iload_n 2, 1) := dk_28 (dk_at dksX13_costsOfAll_1 13 rfl rfl)
theorem dX13_costsOfAll_37 : decode cX13_costsOfAll 37 = .ok (.ireturn, 1) := dk_172 (dk_at dksX13_costsOfAll_1 14 rfl rfl)
abbrev cX13_bits : ByteArray := prog_21_method_37_code
def yX13_bits : MethodName := ⟨RX13, "bits", "(I)I"⟩
def dkwX13_bits_1 : List UInt8 := [27, 172]
abbrev dktX13_bits_1 : List UInt8 := dkwX13_bits_1 ++ []
def dkwX13_bits_0 : List UInt8 := [3, 60, 3, 61, 28, 16, 9, 162, 0, 17, 27, 26, 28, 122, 4, 126, 96, 60, 132, 2, 1, 167, 255, 239]
abbrev dktX13_bits_0 : List UInt8 := dkwX13_bits_0 ++ dktX13_bits_1
theorem dksX13_bits_0 : cX13_bits.data.toList.drop 0 = dktX13_bits_0 := by decide +kernel
theorem dksX13_bits_1 : cX13_bits.data.toList.drop 24 = dktX13_bits_1 := dk_seg dksX13_bits_0 24 rfl rfl
theorem dX13_bits_0 : decode cX13_bits 0 = .ok (.iconst 0, 1) := dk_3 (dk_at dksX13_bits_0 0 rfl rfl)
theorem dX13_bits_1 : decode cX13_bits 1 = .ok (.istore_n 1, 1) := dk_60 (dk_at dksX13_bits_0 1 rfl rfl)
theorem dX13_bits_2 : decode cX13_bits 2 = .ok (.iconst 0, 1) := dk_3 (dk_at dksX13_bits_0 2 rfl rfl)
theorem dX13_bits_3 : decode cX13_bits 3 = .ok (.istore_n 2, 1) := dk_61 (dk_at dksX13_bits_0 3 rfl rfl)
theorem dX13_bits_4 : decode cX13_bits 4 = .ok (.iload_n 2, 1) := dk_28 (dk_at dksX13_bits_0 4 rfl rfl)
theorem dX13_bits_5 : decode cX13_bits 5 = .ok (.bipush 9, 2) := dk_16 9 (dk_at dksX13_bits_0 5 rfl rfl)
theorem dX13_bits_7 : decode cX13_bits 7 = .ok (.if_icmp .ge 17, 3) := dk_162 0 17 (dk_at dksX13_bits_0 7 rfl rfl)
theorem dX13_bits_10 : decode cX13_bits 10 = .ok (.iload_n 1, 1) := dk_27 (dk_at dksX13_bits_0 10 rfl rfl)
theorem dX13_bits_11 : decode cX13_bits 11 = .ok (.iload_n 0, 1) := dk_26 (dk_at dksX13_bits_0 11 rfl rfl)
theorem dX13_bits_12 : decode cX13_bits 12 = .ok (.iload_n 2, 1) := dk_28 (dk_at dksX13_bits_0 12 rfl rfl)
theorem dX13_bits_13 : decode cX13_bits 13 = .ok (.ishr, 1) := dk_122 (dk_at dksX13_bits_0 13 rfl rfl)
theorem dX13_bits_14 : decode cX13_bits 14 = .ok (.iconst 1, 1) := dk_4 (dk_at dksX13_bits_0 14 rfl rfl)
theorem dX13_bits_15 : decode cX13_bits 15 = .ok (.iand, 1) := dk_126 (dk_at dksX13_bits_0 15 rfl rfl)
theorem dX13_bits_16 : decode cX13_bits 16 = .ok (.iadd, 1) := dk_96 (dk_at dksX13_bits_0 16 rfl rfl)
theorem dX13_bits_17 : decode cX13_bits 17 = .ok (.istore_n 1, 1) := dk_60 (dk_at dksX13_bits_0 17 rfl rfl)
theorem dX13_bits_18 : decode cX13_bits 18 = .ok (.iinc 2 1, 3) := dk_132 2 1 (dk_at dksX13_bits_0 18 rfl rfl)
theorem dX13_bits_21 : decode cX13_bits 21 = .ok (.goto (-17), 3) := dk_167 255 239 (dk_at dksX13_bits_0 21 rfl rfl)
theorem dX13_bits_24 : decode cX13_bits 24 = .ok (.iload_n 1, 1) := dk_27 (dk_at dksX13_bits_1 0 rfl rfl)
theorem dX13_bits_25 : decode cX13_bits 25 = .ok (.ireturn, 1) := dk_172 (dk_at dksX13_bits_1 1 rfl rfl)
abbrev cX13_rowNow : ByteArray := prog_21_method_60_code
def yX13_rowNow : MethodName := ⟨RX13, "rowNow", "()I"⟩
def dkwX13_rowNow_1 : List UInt8 := [132, 2, 1, 167, 255, 234, 27, 172]
abbrev dktX13_rowNow_1 : List UInt8 := dkwX13_rowNow_1 ++ []
def dkwX13_rowNow_0 : List UInt8 := [3, 60, 3, 61, 28, 42, 182, 1, 48, 162, 0, 20, 27, 42, 180, 0, 107, 28, 46, 28, 120, 128, 60]
abbrev dktX13_rowNow_0 : List UInt8 := dkwX13_rowNow_0 ++ dktX13_rowNow_1
theorem dksX13_rowNow_0 : cX13_rowNow.data.toList.drop 0 = dktX13_rowNow_0 := by decide +kernel
theorem dksX13_rowNow_1 : cX13_rowNow.data.toList.drop 23 = dktX13_rowNow_1 := dk_seg dksX13_rowNow_0 23 rfl rfl
theorem dX13_rowNow_0 : decode cX13_rowNow 0 = .ok (.iconst 0, 1) := dk_3 (dk_at dksX13_rowNow_0 0 rfl rfl)
theorem dX13_rowNow_1 : decode cX13_rowNow 1 = .ok (.istore_n 1, 1) := dk_60 (dk_at dksX13_rowNow_0 1 rfl rfl)
theorem dX13_rowNow_2 : decode cX13_rowNow 2 = .ok (.iconst 0, 1) := dk_3 (dk_at dksX13_rowNow_0 2 rfl rfl)
theorem dX13_rowNow_3 : decode cX13_rowNow 3 = .ok (.istore_n 2, 1) := dk_61 (dk_at dksX13_rowNow_0 3 rfl rfl)
theorem dX13_rowNow_4 : decode cX13_rowNow 4 = .ok (.iload_n 2, 1) := dk_28 (dk_at dksX13_rowNow_0 4 rfl rfl)
theorem dX13_rowNow_5 : decode cX13_rowNow 5 = .ok (.aload_n 0, 1) := dk_42 (dk_at dksX13_rowNow_0 5 rfl rfl)
theorem dX13_rowNow_6 : decode cX13_rowNow 6 = .ok (.invokevirtual 304, 3) := dk_182 1 48 (dk_at dksX13_rowNow_0 6 rfl rfl)
theorem dX13_rowNow_9 : decode cX13_rowNow 9 = .ok (.if_icmp .ge 20, 3) := dk_162 0 20 (dk_at dksX13_rowNow_0 9 rfl rfl)
theorem dX13_rowNow_12 : decode cX13_rowNow 12 = .ok (.iload_n 1, 1) := dk_27 (dk_at dksX13_rowNow_0 12 rfl rfl)
theorem dX13_rowNow_13 : decode cX13_rowNow 13 = .ok (.aload_n 0, 1) := dk_42 (dk_at dksX13_rowNow_0 13 rfl rfl)
theorem dX13_rowNow_14 : decode cX13_rowNow 14 = .ok (.getfield 107, 3) := dk_180 0 107 (dk_at dksX13_rowNow_0 14 rfl rfl)
theorem dX13_rowNow_17 : decode cX13_rowNow 17 = .ok (.iload_n 2, 1) := dk_28 (dk_at dksX13_rowNow_0 17 rfl rfl)
theorem dX13_rowNow_18 : decode cX13_rowNow 18 = .ok (.iaload, 1) := dk_46 (dk_at dksX13_rowNow_0 18 rfl rfl)
theorem dX13_rowNow_19 : decode cX13_rowNow 19 = .ok (.iload_n 2, 1) := dk_28 (dk_at dksX13_rowNow_0 19 rfl rfl)
theorem dX13_rowNow_20 : decode cX13_rowNow 20 = .ok (.ishl, 1) := dk_120 (dk_at dksX13_rowNow_0 20 rfl rfl)
theorem dX13_rowNow_21 : decode cX13_rowNow 21 = .ok (.ior, 1) := dk_128 (dk_at dksX13_rowNow_0 21 rfl rfl)
theorem dX13_rowNow_22 : decode cX13_rowNow 22 = .ok (.istore_n 1, 1) := dk_60 (dk_at dksX13_rowNow_0 22 rfl rfl)
theorem dX13_rowNow_23 : decode cX13_rowNow 23 = .ok (.iinc 2 1, 3) := dk_132 2 1 (dk_at dksX13_rowNow_1 0 rfl rfl)
theorem dX13_rowNow_26 : decode cX13_rowNow 26 = .ok (.goto (-22), 3) := dk_167 255 234 (dk_at dksX13_rowNow_1 3 rfl rfl)
theorem dX13_rowNow_29 : decode cX13_rowNow 29 = .ok (.iload_n 1, 1) := dk_27 (dk_at dksX13_rowNow_1 6 rfl rfl)
theorem dX13_rowNow_30 : decode cX13_rowNow 30 = .ok (.ireturn, 1) := dk_172 (dk_at dksX13_rowNow_1 7 rfl rfl)
abbrev cX13_turnTo : ByteArray := prog_21_method_76_code
def yX13_turnTo : MethodName := ⟨RX13, "turnTo", "(II)I"⟩
def dkwX13_turnTo_1 : List UInt8 := [29, 156, 0, 8, 16, 254, 167, 0, 8, 42, 29, 182, 1, 139, 172]
abbrev dktX13_turnTo_1 : List UInt8 := dkwX13_turnTo_1 ++ []
def dkwX13_turnTo_0 : List UInt8 := [42, 27, 182, 1, 130, 153, 0, 10, 28, 184, 1, 148, 154, 0, 5, 2, 172, 42, 27, 28, 182, 1, 151, 62]
abbrev dktX13_turnTo_0 : List UInt8 := dkwX13_turnTo_0 ++ dktX13_turnTo_1
theorem dksX13_turnTo_0 : cX13_turnTo.data.toList.drop 0 = dktX13_turnTo_0 := by decide +kernel
theorem dksX13_turnTo_1 : cX13_turnTo.data.toList.drop 24 = dktX13_turnTo_1 := dk_seg dksX13_turnTo_0 24 rfl rfl
theorem dX13_turnTo_0 : decode cX13_turnTo 0 = .ok (.aload_n 0, 1) := dk_42 (dk_at dksX13_turnTo_0 0 rfl rfl)
theorem dX13_turnTo_1 : decode cX13_turnTo 1 = .ok (.iload_n 1, 1) := dk_27 (dk_at dksX13_turnTo_0 1 rfl rfl)
theorem dX13_turnTo_2 : decode cX13_turnTo 2 = .ok (.invokevirtual 386, 3) := dk_182 1 130 (dk_at dksX13_turnTo_0 2 rfl rfl)
theorem dX13_turnTo_5 : decode cX13_turnTo 5 = .ok (.ifCond .eq 10, 3) := dk_153 0 10 (dk_at dksX13_turnTo_0 5 rfl rfl)
theorem dX13_turnTo_8 : decode cX13_turnTo 8 = .ok (.iload_n 2, 1) := dk_28 (dk_at dksX13_turnTo_0 8 rfl rfl)
theorem dX13_turnTo_9 : decode cX13_turnTo 9 = .ok (.invokestatic 404, 3) := dk_184 1 148 (dk_at dksX13_turnTo_0 9 rfl rfl)
theorem dX13_turnTo_12 : decode cX13_turnTo 12 = .ok (.ifCond .ne 5, 3) := dk_154 0 5 (dk_at dksX13_turnTo_0 12 rfl rfl)
theorem dX13_turnTo_15 : decode cX13_turnTo 15 = .ok (.iconst (-1), 1) := dk_2 (dk_at dksX13_turnTo_0 15 rfl rfl)
theorem dX13_turnTo_16 : decode cX13_turnTo 16 = .ok (.ireturn, 1) := dk_172 (dk_at dksX13_turnTo_0 16 rfl rfl)
theorem dX13_turnTo_17 : decode cX13_turnTo 17 = .ok (.aload_n 0, 1) := dk_42 (dk_at dksX13_turnTo_0 17 rfl rfl)
theorem dX13_turnTo_18 : decode cX13_turnTo 18 = .ok (.iload_n 1, 1) := dk_27 (dk_at dksX13_turnTo_0 18 rfl rfl)
theorem dX13_turnTo_19 : decode cX13_turnTo 19 = .ok (.iload_n 2, 1) := dk_28 (dk_at dksX13_turnTo_0 19 rfl rfl)
theorem dX13_turnTo_20 : decode cX13_turnTo 20 = .ok (.invokevirtual 407, 3) := dk_182 1 151 (dk_at dksX13_turnTo_0 20 rfl rfl)
theorem dX13_turnTo_23 : decode cX13_turnTo 23 = .ok (.istore_n 3, 1) := dk_62 (dk_at dksX13_turnTo_0 23 rfl rfl)
theorem dX13_turnTo_24 : decode cX13_turnTo 24 = .ok (.iload_n 3, 1) := dk_29 (dk_at dksX13_turnTo_1 0 rfl rfl)
theorem dX13_turnTo_25 : decode cX13_turnTo 25 = .ok (.ifCond .ge 8, 3) := dk_156 0 8 (dk_at dksX13_turnTo_1 1 rfl rfl)
theorem dX13_turnTo_28 : decode cX13_turnTo 28 = .ok (.bipush (-2), 2) := dk_16 254 (dk_at dksX13_turnTo_1 4 rfl rfl)
theorem dX13_turnTo_30 : decode cX13_turnTo 30 = .ok (.goto 8, 3) := dk_167 0 8 (dk_at dksX13_turnTo_1 6 rfl rfl)
theorem dX13_turnTo_33 : decode cX13_turnTo 33 = .ok (.aload_n 0, 1) := dk_42 (dk_at dksX13_turnTo_1 9 rfl rfl)
theorem dX13_turnTo_34 : decode cX13_turnTo 34 = .ok (.iload_n 3, 1) := dk_29 (dk_at dksX13_turnTo_1 10 rfl rfl)
theorem dX13_turnTo_35 : decode cX13_turnTo 35 = .ok (.invokevirtual 395, 3) := dk_182 1 139 (dk_at dksX13_turnTo_1 11 rfl rfl)
theorem dX13_turnTo_38 : decode cX13_turnTo 38 = .ok (.ireturn, 1) := dk_172 (dk_at dksX13_turnTo_1 14 rfl rfl)
abbrev cX13_soonest : ByteArray := prog_21_method_77_code
def yX13_soonest : MethodName := ⟨RX13, "soonest", "(I)I"⟩
def dkwX13_soonest_4 : List UInt8 := [132, 2, 1, 167, 255, 174, 16, 254, 172]
abbrev dktX13_soonest_4 : List UInt8 := dkwX13_soonest_4 ++ []
def dkwX13_soonest_3 : List UInt8 := [182, 1, 56, 160, 0, 13, 27, 154, 0, 7, 28, 167, 0, 4, 29, 172, 132, 3, 1, 167, 255, 215]
abbrev dktX13_soonest_3 : List UInt8 := dkwX13_soonest_3 ++ dktX13_soonest_4
def dkwX13_soonest_2 : List UInt8 := [29, 42, 182, 1, 48, 162, 0, 39, 42, 42, 182, 1, 145, 4, 29, 120, 130, 28, 182, 1, 133, 42]
abbrev dktX13_soonest_2 : List UInt8 := dkwX13_soonest_2 ++ dktX13_soonest_3
def dkwX13_soonest_1 : List UInt8 := [28, 182, 1, 133, 42, 182, 1, 56, 160, 0, 14, 27, 154, 0, 7, 28, 167, 0, 5, 16, 253, 172, 3, 62]
abbrev dktX13_soonest_1 : List UInt8 := dkwX13_soonest_1 ++ dktX13_soonest_2
def dkwX13_soonest_0 : List UInt8 := [27, 3, 4, 184, 1, 52, 154, 0, 5, 2, 172, 3, 61, 28, 16, 24, 163, 0, 82, 42, 42, 182, 1, 145]
abbrev dktX13_soonest_0 : List UInt8 := dkwX13_soonest_0 ++ dktX13_soonest_1
theorem dksX13_soonest_0 : cX13_soonest.data.toList.drop 0 = dktX13_soonest_0 := by decide +kernel
theorem dksX13_soonest_1 : cX13_soonest.data.toList.drop 24 = dktX13_soonest_1 := dk_seg dksX13_soonest_0 24 rfl rfl
theorem dksX13_soonest_2 : cX13_soonest.data.toList.drop 48 = dktX13_soonest_2 := dk_seg dksX13_soonest_1 24 rfl rfl
theorem dksX13_soonest_3 : cX13_soonest.data.toList.drop 70 = dktX13_soonest_3 := dk_seg dksX13_soonest_2 22 rfl rfl
theorem dksX13_soonest_4 : cX13_soonest.data.toList.drop 92 = dktX13_soonest_4 := dk_seg dksX13_soonest_3 22 rfl rfl
theorem dX13_soonest_0 : decode cX13_soonest 0 = .ok (.iload_n 1, 1) := dk_27 (dk_at dksX13_soonest_0 0 rfl rfl)
theorem dX13_soonest_1 : decode cX13_soonest 1 = .ok (.iconst 0, 1) := dk_3 (dk_at dksX13_soonest_0 1 rfl rfl)
theorem dX13_soonest_2 : decode cX13_soonest 2 = .ok (.iconst 1, 1) := dk_4 (dk_at dksX13_soonest_0 2 rfl rfl)
theorem dX13_soonest_3 : decode cX13_soonest 3 = .ok (.invokestatic 308, 3) := dk_184 1 52 (dk_at dksX13_soonest_0 3 rfl rfl)
theorem dX13_soonest_6 : decode cX13_soonest 6 = .ok (.ifCond .ne 5, 3) := dk_154 0 5 (dk_at dksX13_soonest_0 6 rfl rfl)
theorem dX13_soonest_9 : decode cX13_soonest 9 = .ok (.iconst (-1), 1) := dk_2 (dk_at dksX13_soonest_0 9 rfl rfl)
theorem dX13_soonest_10 : decode cX13_soonest 10 = .ok (.ireturn, 1) := dk_172 (dk_at dksX13_soonest_0 10 rfl rfl)
theorem dX13_soonest_11 : decode cX13_soonest 11 = .ok (.iconst 0, 1) := dk_3 (dk_at dksX13_soonest_0 11 rfl rfl)
theorem dX13_soonest_12 : decode cX13_soonest 12 = .ok (.istore_n 2, 1) := dk_61 (dk_at dksX13_soonest_0 12 rfl rfl)
theorem dX13_soonest_13 : decode cX13_soonest 13 = .ok (.iload_n 2, 1) := dk_28 (dk_at dksX13_soonest_0 13 rfl rfl)
theorem dX13_soonest_14 : decode cX13_soonest 14 = .ok (.bipush 24, 2) := dk_16 24 (dk_at dksX13_soonest_0 14 rfl rfl)
theorem dX13_soonest_16 : decode cX13_soonest 16 = .ok (.if_icmp .gt 82, 3) := dk_163 0 82 (dk_at dksX13_soonest_0 16 rfl rfl)
theorem dX13_soonest_19 : decode cX13_soonest 19 = .ok (.aload_n 0, 1) := dk_42 (dk_at dksX13_soonest_0 19 rfl rfl)
theorem dX13_soonest_20 : decode cX13_soonest 20 = .ok (.aload_n 0, 1) := dk_42 (dk_at dksX13_soonest_0 20 rfl rfl)
theorem dX13_soonest_21 : decode cX13_soonest 21 = .ok (.invokevirtual 401, 3) := dk_182 1 145 (dk_at dksX13_soonest_0 21 rfl rfl)
theorem dX13_soonest_24 : decode cX13_soonest 24 = .ok (.iload_n 2, 1) := dk_28 (dk_at dksX13_soonest_1 0 rfl rfl)
theorem dX13_soonest_25 : decode cX13_soonest 25 = .ok (.invokevirtual 389, 3) := dk_182 1 133 (dk_at dksX13_soonest_1 1 rfl rfl)
theorem dX13_soonest_28 : decode cX13_soonest 28 = .ok (.aload_n 0, 1) := dk_42 (dk_at dksX13_soonest_1 4 rfl rfl)
theorem dX13_soonest_29 : decode cX13_soonest 29 = .ok (.invokevirtual 312, 3) := dk_182 1 56 (dk_at dksX13_soonest_1 5 rfl rfl)
theorem dX13_soonest_32 : decode cX13_soonest 32 = .ok (.if_icmp .ne 14, 3) := dk_160 0 14 (dk_at dksX13_soonest_1 8 rfl rfl)
theorem dX13_soonest_35 : decode cX13_soonest 35 = .ok (.iload_n 1, 1) := dk_27 (dk_at dksX13_soonest_1 11 rfl rfl)
theorem dX13_soonest_36 : decode cX13_soonest 36 = .ok (.ifCond .ne 7, 3) := dk_154 0 7 (dk_at dksX13_soonest_1 12 rfl rfl)
theorem dX13_soonest_39 : decode cX13_soonest 39 = .ok (.iload_n 2, 1) := dk_28 (dk_at dksX13_soonest_1 15 rfl rfl)
theorem dX13_soonest_40 : decode cX13_soonest 40 = .ok (.goto 5, 3) := dk_167 0 5 (dk_at dksX13_soonest_1 16 rfl rfl)
theorem dX13_soonest_43 : decode cX13_soonest 43 = .ok (.bipush (-3), 2) := dk_16 253 (dk_at dksX13_soonest_1 19 rfl rfl)
theorem dX13_soonest_45 : decode cX13_soonest 45 = .ok (.ireturn, 1) := dk_172 (dk_at dksX13_soonest_1 21 rfl rfl)
theorem dX13_soonest_46 : decode cX13_soonest 46 = .ok (.iconst 0, 1) := dk_3 (dk_at dksX13_soonest_1 22 rfl rfl)
theorem dX13_soonest_47 : decode cX13_soonest 47 = .ok (.istore_n 3, 1) := dk_62 (dk_at dksX13_soonest_1 23 rfl rfl)
theorem dX13_soonest_48 : decode cX13_soonest 48 = .ok (.iload_n 3, 1) := dk_29 (dk_at dksX13_soonest_2 0 rfl rfl)
theorem dX13_soonest_49 : decode cX13_soonest 49 = .ok (.aload_n 0, 1) := dk_42 (dk_at dksX13_soonest_2 1 rfl rfl)
theorem dX13_soonest_50 : decode cX13_soonest 50 = .ok (.invokevirtual 304, 3) := dk_182 1 48 (dk_at dksX13_soonest_2 2 rfl rfl)
theorem dX13_soonest_53 : decode cX13_soonest 53 = .ok (.if_icmp .ge 39, 3) := dk_162 0 39 (dk_at dksX13_soonest_2 5 rfl rfl)
theorem dX13_soonest_56 : decode cX13_soonest 56 = .ok (.aload_n 0, 1) := dk_42 (dk_at dksX13_soonest_2 8 rfl rfl)
theorem dX13_soonest_57 : decode cX13_soonest 57 = .ok (.aload_n 0, 1) := dk_42 (dk_at dksX13_soonest_2 9 rfl rfl)
theorem dX13_soonest_58 : decode cX13_soonest 58 = .ok (.invokevirtual 401, 3) := dk_182 1 145 (dk_at dksX13_soonest_2 10 rfl rfl)
theorem dX13_soonest_61 : decode cX13_soonest 61 = .ok (.iconst 1, 1) := dk_4 (dk_at dksX13_soonest_2 13 rfl rfl)
theorem dX13_soonest_62 : decode cX13_soonest 62 = .ok (.iload_n 3, 1) := dk_29 (dk_at dksX13_soonest_2 14 rfl rfl)
theorem dX13_soonest_63 : decode cX13_soonest 63 = .ok (.ishl, 1) := dk_120 (dk_at dksX13_soonest_2 15 rfl rfl)
theorem dX13_soonest_64 : decode cX13_soonest 64 = .ok (.ixor, 1) := dk_130 (dk_at dksX13_soonest_2 16 rfl rfl)
theorem dX13_soonest_65 : decode cX13_soonest 65 = .ok (.iload_n 2, 1) := dk_28 (dk_at dksX13_soonest_2 17 rfl rfl)
theorem dX13_soonest_66 : decode cX13_soonest 66 = .ok (.invokevirtual 389, 3) := dk_182 1 133 (dk_at dksX13_soonest_2 18 rfl rfl)
theorem dX13_soonest_69 : decode cX13_soonest 69 = .ok (.aload_n 0, 1) := dk_42 (dk_at dksX13_soonest_2 21 rfl rfl)
theorem dX13_soonest_70 : decode cX13_soonest 70 = .ok (.invokevirtual 312, 3) := dk_182 1 56 (dk_at dksX13_soonest_3 0 rfl rfl)
theorem dX13_soonest_73 : decode cX13_soonest 73 = .ok (.if_icmp .ne 13, 3) := dk_160 0 13 (dk_at dksX13_soonest_3 3 rfl rfl)
theorem dX13_soonest_76 : decode cX13_soonest 76 = .ok (.iload_n 1, 1) := dk_27 (dk_at dksX13_soonest_3 6 rfl rfl)
theorem dX13_soonest_77 : decode cX13_soonest 77 = .ok (.ifCond .ne 7, 3) := dk_154 0 7 (dk_at dksX13_soonest_3 7 rfl rfl)
theorem dX13_soonest_80 : decode cX13_soonest 80 = .ok (.iload_n 2, 1) := dk_28 (dk_at dksX13_soonest_3 10 rfl rfl)
theorem dX13_soonest_81 : decode cX13_soonest 81 = .ok (.goto 4, 3) := dk_167 0 4 (dk_at dksX13_soonest_3 11 rfl rfl)
theorem dX13_soonest_84 : decode cX13_soonest 84 = .ok (.iload_n 3, 1) := dk_29 (dk_at dksX13_soonest_3 14 rfl rfl)
theorem dX13_soonest_85 : decode cX13_soonest 85 = .ok (.ireturn, 1) := dk_172 (dk_at dksX13_soonest_3 15 rfl rfl)
theorem dX13_soonest_86 : decode cX13_soonest 86 = .ok (.iinc 3 1, 3) := dk_132 3 1 (dk_at dksX13_soonest_3 16 rfl rfl)
theorem dX13_soonest_89 : decode cX13_soonest 89 = .ok (.goto (-41), 3) := dk_167 255 215 (dk_at dksX13_soonest_3 19 rfl rfl)
theorem dX13_soonest_92 : decode cX13_soonest 92 = .ok (.iinc 2 1, 3) := dk_132 2 1 (dk_at dksX13_soonest_4 0 rfl rfl)
theorem dX13_soonest_95 : decode cX13_soonest 95 = .ok (.goto (-82), 3) := dk_167 255 174 (dk_at dksX13_soonest_4 3 rfl rfl)
theorem dX13_soonest_98 : decode cX13_soonest 98 = .ok (.bipush (-2), 2) := dk_16 254 (dk_at dksX13_soonest_4 6 rfl rfl)
theorem dX13_soonest_100 : decode cX13_soonest 100 = .ok (.ireturn, 1) := dk_172 (dk_at dksX13_soonest_4 8 rfl rfl)
abbrev cX13_spread : ByteArray := prog_21_method_78_code
def yX13_spread : MethodName := ⟨RX13, "spread", "(II)I"⟩
def dkwX13_spread_1 : List UInt8 := [182, 1, 133, 62, 29, 42, 42, 182, 1, 145, 4, 27, 120, 130, 28, 182, 1, 133, 130, 172]
abbrev dktX13_spread_1 : List UInt8 := dkwX13_spread_1 ++ []
def dkwX13_spread_0 : List UInt8 := [42, 27, 182, 1, 72, 153, 0, 10, 28, 184, 1, 148, 154, 0, 5, 2, 172, 42, 42, 182, 1, 145, 28]
abbrev dktX13_spread_0 : List UInt8 := dkwX13_spread_0 ++ dktX13_spread_1
theorem dksX13_spread_0 : cX13_spread.data.toList.drop 0 = dktX13_spread_0 := by decide +kernel
theorem dksX13_spread_1 : cX13_spread.data.toList.drop 23 = dktX13_spread_1 := dk_seg dksX13_spread_0 23 rfl rfl
theorem dX13_spread_0 : decode cX13_spread 0 = .ok (.aload_n 0, 1) := dk_42 (dk_at dksX13_spread_0 0 rfl rfl)
theorem dX13_spread_1 : decode cX13_spread 1 = .ok (.iload_n 1, 1) := dk_27 (dk_at dksX13_spread_0 1 rfl rfl)
theorem dX13_spread_2 : decode cX13_spread 2 = .ok (.invokevirtual 328, 3) := dk_182 1 72 (dk_at dksX13_spread_0 2 rfl rfl)
theorem dX13_spread_5 : decode cX13_spread 5 = .ok (.ifCond .eq 10, 3) := dk_153 0 10 (dk_at dksX13_spread_0 5 rfl rfl)
theorem dX13_spread_8 : decode cX13_spread 8 = .ok (.iload_n 2, 1) := dk_28 (dk_at dksX13_spread_0 8 rfl rfl)
theorem dX13_spread_9 : decode cX13_spread 9 = .ok (.invokestatic 404, 3) := dk_184 1 148 (dk_at dksX13_spread_0 9 rfl rfl)
theorem dX13_spread_12 : decode cX13_spread 12 = .ok (.ifCond .ne 5, 3) := dk_154 0 5 (dk_at dksX13_spread_0 12 rfl rfl)
theorem dX13_spread_15 : decode cX13_spread 15 = .ok (.iconst (-1), 1) := dk_2 (dk_at dksX13_spread_0 15 rfl rfl)
theorem dX13_spread_16 : decode cX13_spread 16 = .ok (.ireturn, 1) := dk_172 (dk_at dksX13_spread_0 16 rfl rfl)
theorem dX13_spread_17 : decode cX13_spread 17 = .ok (.aload_n 0, 1) := dk_42 (dk_at dksX13_spread_0 17 rfl rfl)
theorem dX13_spread_18 : decode cX13_spread 18 = .ok (.aload_n 0, 1) := dk_42 (dk_at dksX13_spread_0 18 rfl rfl)
theorem dX13_spread_19 : decode cX13_spread 19 = .ok (.invokevirtual 401, 3) := dk_182 1 145 (dk_at dksX13_spread_0 19 rfl rfl)
theorem dX13_spread_22 : decode cX13_spread 22 = .ok (.iload_n 2, 1) := dk_28 (dk_at dksX13_spread_0 22 rfl rfl)
theorem dX13_spread_23 : decode cX13_spread 23 = .ok (.invokevirtual 389, 3) := dk_182 1 133 (dk_at dksX13_spread_1 0 rfl rfl)
theorem dX13_spread_26 : decode cX13_spread 26 = .ok (.istore_n 3, 1) := dk_62 (dk_at dksX13_spread_1 3 rfl rfl)
theorem dX13_spread_27 : decode cX13_spread 27 = .ok (.iload_n 3, 1) := dk_29 (dk_at dksX13_spread_1 4 rfl rfl)
theorem dX13_spread_28 : decode cX13_spread 28 = .ok (.aload_n 0, 1) := dk_42 (dk_at dksX13_spread_1 5 rfl rfl)
theorem dX13_spread_29 : decode cX13_spread 29 = .ok (.aload_n 0, 1) := dk_42 (dk_at dksX13_spread_1 6 rfl rfl)
theorem dX13_spread_30 : decode cX13_spread 30 = .ok (.invokevirtual 401, 3) := dk_182 1 145 (dk_at dksX13_spread_1 7 rfl rfl)
theorem dX13_spread_33 : decode cX13_spread 33 = .ok (.iconst 1, 1) := dk_4 (dk_at dksX13_spread_1 10 rfl rfl)
theorem dX13_spread_34 : decode cX13_spread 34 = .ok (.iload_n 1, 1) := dk_27 (dk_at dksX13_spread_1 11 rfl rfl)
theorem dX13_spread_35 : decode cX13_spread 35 = .ok (.ishl, 1) := dk_120 (dk_at dksX13_spread_1 12 rfl rfl)
theorem dX13_spread_36 : decode cX13_spread 36 = .ok (.ixor, 1) := dk_130 (dk_at dksX13_spread_1 13 rfl rfl)
theorem dX13_spread_37 : decode cX13_spread 37 = .ok (.iload_n 2, 1) := dk_28 (dk_at dksX13_spread_1 14 rfl rfl)
theorem dX13_spread_38 : decode cX13_spread 38 = .ok (.invokevirtual 389, 3) := dk_182 1 133 (dk_at dksX13_spread_1 15 rfl rfl)
theorem dX13_spread_41 : decode cX13_spread 41 = .ok (.ixor, 1) := dk_130 (dk_at dksX13_spread_1 18 rfl rfl)
theorem dX13_spread_42 : decode cX13_spread 42 = .ok (.ireturn, 1) := dk_172 (dk_at dksX13_spread_1 19 rfl rfl)
abbrev cX13_leads : ByteArray := prog_21_method_79_code
def yX13_leads : MethodName := ⟨RX13, "leads", "(III)I"⟩
def dkwX13_leads_3 : List UInt8 := [154, 0, 8, 21, 4, 167, 0, 5, 21, 5, 172]
abbrev dktX13_leads_3 : List UInt8 := dkwX13_leads_3 ++ []
def dkwX13_leads_2 : List UInt8 := [182, 1, 133, 27, 159, 0, 6, 167, 0, 10, 132, 4, 1, 21, 6, 54, 5, 132, 6, 255, 167, 255, 227, 29]
abbrev dktX13_leads_2 : List UInt8 := dkwX13_leads_2 ++ dktX13_leads_3
def dkwX13_leads_1 : List UInt8 := [2, 172, 3, 54, 4, 16, 254, 54, 5, 42, 182, 1, 56, 54, 6, 21, 6, 155, 0, 30, 42, 21, 6, 28]
abbrev dktX13_leads_1 : List UInt8 := dkwX13_leads_1 ++ dktX13_leads_2
def dkwX13_leads_0 : List UInt8 := [42, 27, 182, 1, 130, 153, 0, 19, 28, 184, 1, 148, 153, 0, 12, 29, 3, 4, 184, 1, 52, 154, 0, 5]
abbrev dktX13_leads_0 : List UInt8 := dkwX13_leads_0 ++ dktX13_leads_1
theorem dksX13_leads_0 : cX13_leads.data.toList.drop 0 = dktX13_leads_0 := by decide +kernel
theorem dksX13_leads_1 : cX13_leads.data.toList.drop 24 = dktX13_leads_1 := dk_seg dksX13_leads_0 24 rfl rfl
theorem dksX13_leads_2 : cX13_leads.data.toList.drop 48 = dktX13_leads_2 := dk_seg dksX13_leads_1 24 rfl rfl
theorem dksX13_leads_3 : cX13_leads.data.toList.drop 72 = dktX13_leads_3 := dk_seg dksX13_leads_2 24 rfl rfl
theorem dX13_leads_0 : decode cX13_leads 0 = .ok (.aload_n 0, 1) := dk_42 (dk_at dksX13_leads_0 0 rfl rfl)
theorem dX13_leads_1 : decode cX13_leads 1 = .ok (.iload_n 1, 1) := dk_27 (dk_at dksX13_leads_0 1 rfl rfl)
theorem dX13_leads_2 : decode cX13_leads 2 = .ok (.invokevirtual 386, 3) := dk_182 1 130 (dk_at dksX13_leads_0 2 rfl rfl)
theorem dX13_leads_5 : decode cX13_leads 5 = .ok (.ifCond .eq 19, 3) := dk_153 0 19 (dk_at dksX13_leads_0 5 rfl rfl)
theorem dX13_leads_8 : decode cX13_leads 8 = .ok (.iload_n 2, 1) := dk_28 (dk_at dksX13_leads_0 8 rfl rfl)
theorem dX13_leads_9 : decode cX13_leads 9 = .ok (.invokestatic 404, 3) := dk_184 1 148 (dk_at dksX13_leads_0 9 rfl rfl)
theorem dX13_leads_12 : decode cX13_leads 12 = .ok (.ifCond .eq 12, 3) := dk_153 0 12 (dk_at dksX13_leads_0 12 rfl rfl)
theorem dX13_leads_15 : decode cX13_leads 15 = .ok (.iload_n 3, 1) := dk_29 (dk_at dksX13_leads_0 15 rfl rfl)
theorem dX13_leads_16 : decode cX13_leads 16 = .ok (.iconst 0, 1) := dk_3 (dk_at dksX13_leads_0 16 rfl rfl)
theorem dX13_leads_17 : decode cX13_leads 17 = .ok (.iconst 1, 1) := dk_4 (dk_at dksX13_leads_0 17 rfl rfl)
theorem dX13_leads_18 : decode cX13_leads 18 = .ok (.invokestatic 308, 3) := dk_184 1 52 (dk_at dksX13_leads_0 18 rfl rfl)
theorem dX13_leads_21 : decode cX13_leads 21 = .ok (.ifCond .ne 5, 3) := dk_154 0 5 (dk_at dksX13_leads_0 21 rfl rfl)
theorem dX13_leads_24 : decode cX13_leads 24 = .ok (.iconst (-1), 1) := dk_2 (dk_at dksX13_leads_1 0 rfl rfl)
theorem dX13_leads_25 : decode cX13_leads 25 = .ok (.ireturn, 1) := dk_172 (dk_at dksX13_leads_1 1 rfl rfl)
theorem dX13_leads_26 : decode cX13_leads 26 = .ok (.iconst 0, 1) := dk_3 (dk_at dksX13_leads_1 2 rfl rfl)
theorem dX13_leads_27 : decode cX13_leads 27 = .ok (.istore 4, 2) := dk_54 4 (dk_at dksX13_leads_1 3 rfl rfl)
theorem dX13_leads_29 : decode cX13_leads 29 = .ok (.bipush (-2), 2) := dk_16 254 (dk_at dksX13_leads_1 5 rfl rfl)
theorem dX13_leads_31 : decode cX13_leads 31 = .ok (.istore 5, 2) := dk_54 5 (dk_at dksX13_leads_1 7 rfl rfl)
theorem dX13_leads_33 : decode cX13_leads 33 = .ok (.aload_n 0, 1) := dk_42 (dk_at dksX13_leads_1 9 rfl rfl)
theorem dX13_leads_34 : decode cX13_leads 34 = .ok (.invokevirtual 312, 3) := dk_182 1 56 (dk_at dksX13_leads_1 10 rfl rfl)
theorem dX13_leads_37 : decode cX13_leads 37 = .ok (.istore 6, 2) := dk_54 6 (dk_at dksX13_leads_1 13 rfl rfl)
theorem dX13_leads_39 : decode cX13_leads 39 = .ok (.iload 6, 2) := dk_21 6 (dk_at dksX13_leads_1 15 rfl rfl)
theorem dX13_leads_41 : decode cX13_leads 41 = .ok (.ifCond .lt 30, 3) := dk_155 0 30 (dk_at dksX13_leads_1 17 rfl rfl)
theorem dX13_leads_44 : decode cX13_leads 44 = .ok (.aload_n 0, 1) := dk_42 (dk_at dksX13_leads_1 20 rfl rfl)
theorem dX13_leads_45 : decode cX13_leads 45 = .ok (.iload 6, 2) := dk_21 6 (dk_at dksX13_leads_1 21 rfl rfl)
theorem dX13_leads_47 : decode cX13_leads 47 = .ok (.iload_n 2, 1) := dk_28 (dk_at dksX13_leads_1 23 rfl rfl)
theorem dX13_leads_48 : decode cX13_leads 48 = .ok (.invokevirtual 389, 3) := dk_182 1 133 (dk_at dksX13_leads_2 0 rfl rfl)
theorem dX13_leads_51 : decode cX13_leads 51 = .ok (.iload_n 1, 1) := dk_27 (dk_at dksX13_leads_2 3 rfl rfl)
theorem dX13_leads_52 : decode cX13_leads 52 = .ok (.if_icmp .eq 6, 3) := dk_159 0 6 (dk_at dksX13_leads_2 4 rfl rfl)
theorem dX13_leads_55 : decode cX13_leads 55 = .ok (.goto 10, 3) := dk_167 0 10 (dk_at dksX13_leads_2 7 rfl rfl)
theorem dX13_leads_58 : decode cX13_leads 58 = .ok (.iinc 4 1, 3) := dk_132 4 1 (dk_at dksX13_leads_2 10 rfl rfl)
theorem dX13_leads_61 : decode cX13_leads 61 = .ok (.iload 6, 2) := dk_21 6 (dk_at dksX13_leads_2 13 rfl rfl)
theorem dX13_leads_63 : decode cX13_leads 63 = .ok (.istore 5, 2) := dk_54 5 (dk_at dksX13_leads_2 15 rfl rfl)
theorem dX13_leads_65 : decode cX13_leads 65 = .ok (.iinc 6 (-1), 3) := dk_132 6 255 (dk_at dksX13_leads_2 17 rfl rfl)
theorem dX13_leads_68 : decode cX13_leads 68 = .ok (.goto (-29), 3) := dk_167 255 227 (dk_at dksX13_leads_2 20 rfl rfl)
theorem dX13_leads_71 : decode cX13_leads 71 = .ok (.iload_n 3, 1) := dk_29 (dk_at dksX13_leads_2 23 rfl rfl)
theorem dX13_leads_72 : decode cX13_leads 72 = .ok (.ifCond .ne 8, 3) := dk_154 0 8 (dk_at dksX13_leads_3 0 rfl rfl)
theorem dX13_leads_75 : decode cX13_leads 75 = .ok (.iload 4, 2) := dk_21 4 (dk_at dksX13_leads_3 3 rfl rfl)
theorem dX13_leads_77 : decode cX13_leads 77 = .ok (.goto 5, 3) := dk_167 0 5 (dk_at dksX13_leads_3 5 rfl rfl)
theorem dX13_leads_80 : decode cX13_leads 80 = .ok (.iload 5, 2) := dk_21 5 (dk_at dksX13_leads_3 8 rfl rfl)
theorem dX13_leads_82 : decode cX13_leads 82 = .ok (.ireturn, 1) := dk_172 (dk_at dksX13_leads_3 10 rfl rfl)
abbrev cX13_round : ByteArray := prog_21_method_80_code
def yX13_round : MethodName := ⟨RX13, "round", "(II)I"⟩
def dkwX13_round_4 : List UInt8 := [182, 1, 108, 42, 182, 1, 102, 132, 5, 1, 167, 255, 189, 28, 154, 0, 7, 29, 167, 0, 5, 21, 4, 172]
abbrev dktX13_round_4 : List UInt8 := dkwX13_round_4 ++ []
def dkwX13_round_3 : List UInt8 := [21, 4, 42, 21, 6, 182, 1, 118, 96, 54, 4, 132, 6, 1, 167, 255, 216, 42, 42, 182, 1, 56]
abbrev dktX13_round_3 : List UInt8 := dkwX13_round_3 ++ dktX13_round_4
def dkwX13_round_2 : List UInt8 := [182, 1, 48, 162, 0, 37, 42, 180, 0, 110, 21, 6, 46, 4, 160, 0, 6, 167, 0, 17, 132, 3, 1]
abbrev dktX13_round_2 : List UInt8 := dkwX13_round_2 ++ dktX13_round_3
def dkwX13_round_1 : List UInt8 := [182, 1, 105, 3, 62, 3, 54, 4, 3, 54, 5, 21, 5, 27, 162, 0, 67, 3, 54, 6, 21, 6, 42]
abbrev dktX13_round_1 : List UInt8 := dkwX13_round_1 ++ dktX13_round_2
def dkwX13_round_0 : List UInt8 := [27, 4, 16, 48, 184, 1, 52, 153, 0, 12, 28, 3, 4, 184, 1, 52, 154, 0, 5, 2, 172, 42]
abbrev dktX13_round_0 : List UInt8 := dkwX13_round_0 ++ dktX13_round_1
theorem dksX13_round_0 : cX13_round.data.toList.drop 0 = dktX13_round_0 := by decide +kernel
theorem dksX13_round_1 : cX13_round.data.toList.drop 22 = dktX13_round_1 := dk_seg dksX13_round_0 22 rfl rfl
theorem dksX13_round_2 : cX13_round.data.toList.drop 45 = dktX13_round_2 := dk_seg dksX13_round_1 23 rfl rfl
theorem dksX13_round_3 : cX13_round.data.toList.drop 68 = dktX13_round_3 := dk_seg dksX13_round_2 23 rfl rfl
theorem dksX13_round_4 : cX13_round.data.toList.drop 90 = dktX13_round_4 := dk_seg dksX13_round_3 22 rfl rfl
theorem dX13_round_0 : decode cX13_round 0 = .ok (.iload_n 1, 1) := dk_27 (dk_at dksX13_round_0 0 rfl rfl)
theorem dX13_round_1 : decode cX13_round 1 = .ok (.iconst 1, 1) := dk_4 (dk_at dksX13_round_0 1 rfl rfl)
theorem dX13_round_2 : decode cX13_round 2 = .ok (.bipush 48, 2) := dk_16 48 (dk_at dksX13_round_0 2 rfl rfl)
theorem dX13_round_4 : decode cX13_round 4 = .ok (.invokestatic 308, 3) := dk_184 1 52 (dk_at dksX13_round_0 4 rfl rfl)
theorem dX13_round_7 : decode cX13_round 7 = .ok (.ifCond .eq 12, 3) := dk_153 0 12 (dk_at dksX13_round_0 7 rfl rfl)
theorem dX13_round_10 : decode cX13_round 10 = .ok (.iload_n 2, 1) := dk_28 (dk_at dksX13_round_0 10 rfl rfl)
theorem dX13_round_11 : decode cX13_round 11 = .ok (.iconst 0, 1) := dk_3 (dk_at dksX13_round_0 11 rfl rfl)
theorem dX13_round_12 : decode cX13_round 12 = .ok (.iconst 1, 1) := dk_4 (dk_at dksX13_round_0 12 rfl rfl)
theorem dX13_round_13 : decode cX13_round 13 = .ok (.invokestatic 308, 3) := dk_184 1 52 (dk_at dksX13_round_0 13 rfl rfl)
theorem dX13_round_16 : decode cX13_round 16 = .ok (.ifCond .ne 5, 3) := dk_154 0 5 (dk_at dksX13_round_0 16 rfl rfl)
theorem dX13_round_19 : decode cX13_round 19 = .ok (.iconst (-1), 1) := dk_2 (dk_at dksX13_round_0 19 rfl rfl)
theorem dX13_round_20 : decode cX13_round 20 = .ok (.ireturn, 1) := dk_172 (dk_at dksX13_round_0 20 rfl rfl)
theorem dX13_round_21 : decode cX13_round 21 = .ok (.aload_n 0, 1) := dk_42 (dk_at dksX13_round_0 21 rfl rfl)
theorem dX13_round_22 : decode cX13_round 22 = .ok (.invokevirtual 361, 3) := dk_182 1 105 (dk_at dksX13_round_1 0 rfl rfl)
theorem dX13_round_25 : decode cX13_round 25 = .ok (.iconst 0, 1) := dk_3 (dk_at dksX13_round_1 3 rfl rfl)
theorem dX13_round_26 : decode cX13_round 26 = .ok (.istore_n 3, 1) := dk_62 (dk_at dksX13_round_1 4 rfl rfl)
theorem dX13_round_27 : decode cX13_round 27 = .ok (.iconst 0, 1) := dk_3 (dk_at dksX13_round_1 5 rfl rfl)
theorem dX13_round_28 : decode cX13_round 28 = .ok (.istore 4, 2) := dk_54 4 (dk_at dksX13_round_1 6 rfl rfl)
theorem dX13_round_30 : decode cX13_round 30 = .ok (.iconst 0, 1) := dk_3 (dk_at dksX13_round_1 8 rfl rfl)
theorem dX13_round_31 : decode cX13_round 31 = .ok (.istore 5, 2) := dk_54 5 (dk_at dksX13_round_1 9 rfl rfl)
theorem dX13_round_33 : decode cX13_round 33 = .ok (.iload 5, 2) := dk_21 5 (dk_at dksX13_round_1 11 rfl rfl)
theorem dX13_round_35 : decode cX13_round 35 = .ok (.iload_n 1, 1) := dk_27 (dk_at dksX13_round_1 13 rfl rfl)
theorem dX13_round_36 : decode cX13_round 36 = .ok (.if_icmp .ge 67, 3) := dk_162 0 67 (dk_at dksX13_round_1 14 rfl rfl)
theorem dX13_round_39 : decode cX13_round 39 = .ok (.iconst 0, 1) := dk_3 (dk_at dksX13_round_1 17 rfl rfl)
theorem dX13_round_40 : decode cX13_round 40 = .ok (.istore 6, 2) := dk_54 6 (dk_at dksX13_round_1 18 rfl rfl)
theorem dX13_round_42 : decode cX13_round 42 = .ok (.iload 6, 2) := dk_21 6 (dk_at dksX13_round_1 20 rfl rfl)
theorem dX13_round_44 : decode cX13_round 44 = .ok (.aload_n 0, 1) := dk_42 (dk_at dksX13_round_1 22 rfl rfl)
theorem dX13_round_45 : decode cX13_round 45 = .ok (.invokevirtual 304, 3) := dk_182 1 48 (dk_at dksX13_round_2 0 rfl rfl)
theorem dX13_round_48 : decode cX13_round 48 = .ok (.if_icmp .ge 37, 3) := dk_162 0 37 (dk_at dksX13_round_2 3 rfl rfl)
theorem dX13_round_51 : decode cX13_round 51 = .ok (.aload_n 0, 1) := dk_42 (dk_at dksX13_round_2 6 rfl rfl)
theorem dX13_round_52 : decode cX13_round 52 = .ok (.getfield 110, 3) := dk_180 0 110 (dk_at dksX13_round_2 7 rfl rfl)
theorem dX13_round_55 : decode cX13_round 55 = .ok (.iload 6, 2) := dk_21 6 (dk_at dksX13_round_2 10 rfl rfl)
theorem dX13_round_57 : decode cX13_round 57 = .ok (.iaload, 1) := dk_46 (dk_at dksX13_round_2 12 rfl rfl)
theorem dX13_round_58 : decode cX13_round 58 = .ok (.iconst 1, 1) := dk_4 (dk_at dksX13_round_2 13 rfl rfl)
theorem dX13_round_59 : decode cX13_round 59 = .ok (.if_icmp .ne 6, 3) := dk_160 0 6 (dk_at dksX13_round_2 14 rfl rfl)
theorem dX13_round_62 : decode cX13_round 62 = .ok (.goto 17, 3) := dk_167 0 17 (dk_at dksX13_round_2 17 rfl rfl)
theorem dX13_round_65 : decode cX13_round 65 = .ok (.iinc 3 1, 3) := dk_132 3 1 (dk_at dksX13_round_2 20 rfl rfl)
theorem dX13_round_68 : decode cX13_round 68 = .ok (.iload 4, 2) := dk_21 4 (dk_at dksX13_round_3 0 rfl rfl)
theorem dX13_round_70 : decode cX13_round 70 = .ok (.aload_n 0, 1) := dk_42 (dk_at dksX13_round_3 2 rfl rfl)
theorem dX13_round_71 : decode cX13_round 71 = .ok (.iload 6, 2) := dk_21 6 (dk_at dksX13_round_3 3 rfl rfl)
theorem dX13_round_73 : decode cX13_round 73 = .ok (.invokevirtual 374, 3) := dk_182 1 118 (dk_at dksX13_round_3 5 rfl rfl)
theorem dX13_round_76 : decode cX13_round 76 = .ok (.iadd, 1) := dk_96 (dk_at dksX13_round_3 8 rfl rfl)
theorem dX13_round_77 : decode cX13_round 77 = .ok (.istore 4, 2) := dk_54 4 (dk_at dksX13_round_3 9 rfl rfl)
theorem dX13_round_79 : decode cX13_round 79 = .ok (.iinc 6 1, 3) := dk_132 6 1 (dk_at dksX13_round_3 11 rfl rfl)
theorem dX13_round_82 : decode cX13_round 82 = .ok (.goto (-40), 3) := dk_167 255 216 (dk_at dksX13_round_3 14 rfl rfl)
theorem dX13_round_85 : decode cX13_round 85 = .ok (.aload_n 0, 1) := dk_42 (dk_at dksX13_round_3 17 rfl rfl)
theorem dX13_round_86 : decode cX13_round 86 = .ok (.aload_n 0, 1) := dk_42 (dk_at dksX13_round_3 18 rfl rfl)
theorem dX13_round_87 : decode cX13_round 87 = .ok (.invokevirtual 312, 3) := dk_182 1 56 (dk_at dksX13_round_3 19 rfl rfl)
theorem dX13_round_90 : decode cX13_round 90 = .ok (.invokevirtual 364, 3) := dk_182 1 108 (dk_at dksX13_round_4 0 rfl rfl)
theorem dX13_round_93 : decode cX13_round 93 = .ok (.aload_n 0, 1) := dk_42 (dk_at dksX13_round_4 3 rfl rfl)
theorem dX13_round_94 : decode cX13_round 94 = .ok (.invokevirtual 358, 3) := dk_182 1 102 (dk_at dksX13_round_4 4 rfl rfl)
theorem dX13_round_97 : decode cX13_round 97 = .ok (.iinc 5 1, 3) := dk_132 5 1 (dk_at dksX13_round_4 7 rfl rfl)
theorem dX13_round_100 : decode cX13_round 100 = .ok (.goto (-67), 3) := dk_167 255 189 (dk_at dksX13_round_4 10 rfl rfl)
theorem dX13_round_103 : decode cX13_round 103 = .ok (.iload_n 2, 1) := dk_28 (dk_at dksX13_round_4 13 rfl rfl)
theorem dX13_round_104 : decode cX13_round 104 = .ok (.ifCond .ne 7, 3) := dk_154 0 7 (dk_at dksX13_round_4 14 rfl rfl)
theorem dX13_round_107 : decode cX13_round 107 = .ok (.iload_n 3, 1) := dk_29 (dk_at dksX13_round_4 17 rfl rfl)
theorem dX13_round_108 : decode cX13_round 108 = .ok (.goto 5, 3) := dk_167 0 5 (dk_at dksX13_round_4 18 rfl rfl)
theorem dX13_round_111 : decode cX13_round 111 = .ok (.iload 4, 2) := dk_21 4 (dk_at dksX13_round_4 21 rfl rfl)
theorem dX13_round_113 : decode cX13_round 113 = .ok (.ireturn, 1) := dk_172 (dk_at dksX13_round_4 23 rfl rfl)
abbrev cX13_rule : ByteArray := prog_21_method_81_code
def yX13_rule : MethodName := ⟨RX13, "rule", "(I)I"⟩
def dkwX13_rule_3 : List UInt8 := [28, 4, 29, 120, 128, 61, 132, 3, 1, 167, 255, 193, 28, 172]
abbrev dktX13_rule_3 : List UInt8 := dkwX13_rule_3 ++ []
def dkwX13_rule_2 : List UInt8 := [79, 42, 180, 0, 101, 5, 29, 5, 122, 79, 42, 3, 42, 180, 0, 101, 3, 46, 182, 1, 84, 158, 0, 9]
abbrev dktX13_rule_2 : List UInt8 := dkwX13_rule_2 ++ dktX13_rule_3
def dkwX13_rule_1 : List UInt8 := [42, 27, 182, 1, 81, 42, 180, 0, 101, 3, 29, 4, 126, 79, 42, 180, 0, 101, 4, 29, 4, 122, 4, 126]
abbrev dktX13_rule_1 : List UInt8 := dkwX13_rule_1 ++ dktX13_rule_2
def dkwX13_rule_0 : List UInt8 := [42, 27, 182, 1, 72, 154, 0, 5, 2, 172, 42, 182, 1, 65, 3, 61, 3, 62, 29, 16, 8, 162, 0, 63]
abbrev dktX13_rule_0 : List UInt8 := dkwX13_rule_0 ++ dktX13_rule_1
theorem dksX13_rule_0 : cX13_rule.data.toList.drop 0 = dktX13_rule_0 := by decide +kernel
theorem dksX13_rule_1 : cX13_rule.data.toList.drop 24 = dktX13_rule_1 := dk_seg dksX13_rule_0 24 rfl rfl
theorem dksX13_rule_2 : cX13_rule.data.toList.drop 48 = dktX13_rule_2 := dk_seg dksX13_rule_1 24 rfl rfl
theorem dksX13_rule_3 : cX13_rule.data.toList.drop 72 = dktX13_rule_3 := dk_seg dksX13_rule_2 24 rfl rfl
theorem dX13_rule_0 : decode cX13_rule 0 = .ok (.aload_n 0, 1) := dk_42 (dk_at dksX13_rule_0 0 rfl rfl)
theorem dX13_rule_1 : decode cX13_rule 1 = .ok (.iload_n 1, 1) := dk_27 (dk_at dksX13_rule_0 1 rfl rfl)
theorem dX13_rule_2 : decode cX13_rule 2 = .ok (.invokevirtual 328, 3) := dk_182 1 72 (dk_at dksX13_rule_0 2 rfl rfl)
theorem dX13_rule_5 : decode cX13_rule 5 = .ok (.ifCond .ne 5, 3) := dk_154 0 5 (dk_at dksX13_rule_0 5 rfl rfl)
theorem dX13_rule_8 : decode cX13_rule 8 = .ok (.iconst (-1), 1) := dk_2 (dk_at dksX13_rule_0 8 rfl rfl)
theorem dX13_rule_9 : decode cX13_rule 9 = .ok (.ireturn, 1) := dk_172 (dk_at dksX13_rule_0 9 rfl rfl)
theorem dX13_rule_10 : decode cX13_rule 10 = .ok (.aload_n 0, 1) := dk_42 (dk_at dksX13_rule_0 10 rfl rfl)
theorem dX13_rule_11 : decode cX13_rule 11 = .ok (.invokevirtual 321, 3) := dk_182 1 65 (dk_at dksX13_rule_0 11 rfl rfl)
theorem dX13_rule_14 : decode cX13_rule 14 = .ok (.iconst 0, 1) := dk_3 (dk_at dksX13_rule_0 14 rfl rfl)
theorem dX13_rule_15 : decode cX13_rule 15 = .ok (.istore_n 2, 1) := dk_61 (dk_at dksX13_rule_0 15 rfl rfl)
theorem dX13_rule_16 : decode cX13_rule 16 = .ok (.iconst 0, 1) := dk_3 (dk_at dksX13_rule_0 16 rfl rfl)
theorem dX13_rule_17 : decode cX13_rule 17 = .ok (.istore_n 3, 1) := dk_62 (dk_at dksX13_rule_0 17 rfl rfl)
theorem dX13_rule_18 : decode cX13_rule 18 = .ok (.iload_n 3, 1) := dk_29 (dk_at dksX13_rule_0 18 rfl rfl)
theorem dX13_rule_19 : decode cX13_rule 19 = .ok (.bipush 8, 2) := dk_16 8 (dk_at dksX13_rule_0 19 rfl rfl)
theorem dX13_rule_21 : decode cX13_rule 21 = .ok (.if_icmp .ge 63, 3) := dk_162 0 63 (dk_at dksX13_rule_0 21 rfl rfl)
theorem dX13_rule_24 : decode cX13_rule 24 = .ok (.aload_n 0, 1) := dk_42 (dk_at dksX13_rule_1 0 rfl rfl)
theorem dX13_rule_25 : decode cX13_rule 25 = .ok (.iload_n 1, 1) := dk_27 (dk_at dksX13_rule_1 1 rfl rfl)
theorem dX13_rule_26 : decode cX13_rule 26 = .ok (.invokevirtual 337, 3) := dk_182 1 81 (dk_at dksX13_rule_1 2 rfl rfl)
theorem dX13_rule_29 : decode cX13_rule 29 = .ok (.aload_n 0, 1) := dk_42 (dk_at dksX13_rule_1 5 rfl rfl)
theorem dX13_rule_30 : decode cX13_rule 30 = .ok (.getfield 101, 3) := dk_180 0 101 (dk_at dksX13_rule_1 6 rfl rfl)
theorem dX13_rule_33 : decode cX13_rule 33 = .ok (.iconst 0, 1) := dk_3 (dk_at dksX13_rule_1 9 rfl rfl)
theorem dX13_rule_34 : decode cX13_rule 34 = .ok (.iload_n 3, 1) := dk_29 (dk_at dksX13_rule_1 10 rfl rfl)
theorem dX13_rule_35 : decode cX13_rule 35 = .ok (.iconst 1, 1) := dk_4 (dk_at dksX13_rule_1 11 rfl rfl)
theorem dX13_rule_36 : decode cX13_rule 36 = .ok (.iand, 1) := dk_126 (dk_at dksX13_rule_1 12 rfl rfl)
theorem dX13_rule_37 : decode cX13_rule 37 = .ok (.iastore, 1) := dk_79 (dk_at dksX13_rule_1 13 rfl rfl)
theorem dX13_rule_38 : decode cX13_rule 38 = .ok (.aload_n 0, 1) := dk_42 (dk_at dksX13_rule_1 14 rfl rfl)
theorem dX13_rule_39 : decode cX13_rule 39 = .ok (.getfield 101, 3) := dk_180 0 101 (dk_at dksX13_rule_1 15 rfl rfl)
theorem dX13_rule_42 : decode cX13_rule 42 = .ok (.iconst 1, 1) := dk_4 (dk_at dksX13_rule_1 18 rfl rfl)
theorem dX13_rule_43 : decode cX13_rule 43 = .ok (.iload_n 3, 1) := dk_29 (dk_at dksX13_rule_1 19 rfl rfl)
theorem dX13_rule_44 : decode cX13_rule 44 = .ok (.iconst 1, 1) := dk_4 (dk_at dksX13_rule_1 20 rfl rfl)
theorem dX13_rule_45 : decode cX13_rule 45 = .ok (.ishr, 1) := dk_122 (dk_at dksX13_rule_1 21 rfl rfl)
theorem dX13_rule_46 : decode cX13_rule 46 = .ok (.iconst 1, 1) := dk_4 (dk_at dksX13_rule_1 22 rfl rfl)
theorem dX13_rule_47 : decode cX13_rule 47 = .ok (.iand, 1) := dk_126 (dk_at dksX13_rule_1 23 rfl rfl)
theorem dX13_rule_48 : decode cX13_rule 48 = .ok (.iastore, 1) := dk_79 (dk_at dksX13_rule_2 0 rfl rfl)
theorem dX13_rule_49 : decode cX13_rule 49 = .ok (.aload_n 0, 1) := dk_42 (dk_at dksX13_rule_2 1 rfl rfl)
theorem dX13_rule_50 : decode cX13_rule 50 = .ok (.getfield 101, 3) := dk_180 0 101 (dk_at dksX13_rule_2 2 rfl rfl)
theorem dX13_rule_53 : decode cX13_rule 53 = .ok (.iconst 2, 1) := dk_5 (dk_at dksX13_rule_2 5 rfl rfl)
theorem dX13_rule_54 : decode cX13_rule 54 = .ok (.iload_n 3, 1) := dk_29 (dk_at dksX13_rule_2 6 rfl rfl)
theorem dX13_rule_55 : decode cX13_rule 55 = .ok (.iconst 2, 1) := dk_5 (dk_at dksX13_rule_2 7 rfl rfl)
theorem dX13_rule_56 : decode cX13_rule 56 = .ok (.ishr, 1) := dk_122 (dk_at dksX13_rule_2 8 rfl rfl)
theorem dX13_rule_57 : decode cX13_rule 57 = .ok (.iastore, 1) := dk_79 (dk_at dksX13_rule_2 9 rfl rfl)
theorem dX13_rule_58 : decode cX13_rule 58 = .ok (.aload_n 0, 1) := dk_42 (dk_at dksX13_rule_2 10 rfl rfl)
theorem dX13_rule_59 : decode cX13_rule 59 = .ok (.iconst 0, 1) := dk_3 (dk_at dksX13_rule_2 11 rfl rfl)
theorem dX13_rule_60 : decode cX13_rule 60 = .ok (.aload_n 0, 1) := dk_42 (dk_at dksX13_rule_2 12 rfl rfl)
theorem dX13_rule_61 : decode cX13_rule 61 = .ok (.getfield 101, 3) := dk_180 0 101 (dk_at dksX13_rule_2 13 rfl rfl)
theorem dX13_rule_64 : decode cX13_rule 64 = .ok (.iconst 0, 1) := dk_3 (dk_at dksX13_rule_2 16 rfl rfl)
theorem dX13_rule_65 : decode cX13_rule 65 = .ok (.iaload, 1) := dk_46 (dk_at dksX13_rule_2 17 rfl rfl)
theorem dX13_rule_66 : decode cX13_rule 66 = .ok (.invokevirtual 340, 3) := dk_182 1 84 (dk_at dksX13_rule_2 18 rfl rfl)
theorem dX13_rule_69 : decode cX13_rule 69 = .ok (.ifCond .le 9, 3) := dk_158 0 9 (dk_at dksX13_rule_2 21 rfl rfl)
theorem dX13_rule_72 : decode cX13_rule 72 = .ok (.iload_n 2, 1) := dk_28 (dk_at dksX13_rule_3 0 rfl rfl)
theorem dX13_rule_73 : decode cX13_rule 73 = .ok (.iconst 1, 1) := dk_4 (dk_at dksX13_rule_3 1 rfl rfl)
theorem dX13_rule_74 : decode cX13_rule 74 = .ok (.iload_n 3, 1) := dk_29 (dk_at dksX13_rule_3 2 rfl rfl)
theorem dX13_rule_75 : decode cX13_rule 75 = .ok (.ishl, 1) := dk_120 (dk_at dksX13_rule_3 3 rfl rfl)
theorem dX13_rule_76 : decode cX13_rule 76 = .ok (.ior, 1) := dk_128 (dk_at dksX13_rule_3 4 rfl rfl)
theorem dX13_rule_77 : decode cX13_rule 77 = .ok (.istore_n 2, 1) := dk_61 (dk_at dksX13_rule_3 5 rfl rfl)
theorem dX13_rule_78 : decode cX13_rule 78 = .ok (.iinc 3 1, 3) := dk_132 3 1 (dk_at dksX13_rule_3 6 rfl rfl)
theorem dX13_rule_81 : decode cX13_rule 81 = .ok (.goto (-63), 3) := dk_167 255 193 (dk_at dksX13_rule_3 9 rfl rfl)
theorem dX13_rule_84 : decode cX13_rule 84 = .ok (.iload_n 2, 1) := dk_28 (dk_at dksX13_rule_3 12 rfl rfl)
theorem dX13_rule_85 : decode cX13_rule 85 = .ok (.ireturn, 1) := dk_172 (dk_at dksX13_rule_3 13 rfl rfl)
abbrev cX13_coldest : ByteArray := prog_21_method_82_code
def yX13_coldest : MethodName := ⟨RX13, "coldest", "(I)I"⟩
def dkwX13_coldest_4 : List UInt8 := [172]
abbrev dktX13_coldest_4 : List UInt8 := dkwX13_coldest_4 ++ []
def dkwX13_coldest_3 : List UInt8 := [167, 0, 9, 21, 4, 61, 21, 5, 62, 132, 4, 1, 167, 255, 195, 27, 154, 0, 7, 28, 167, 0, 4, 29]
abbrev dktX13_coldest_3 : List UInt8 := dkwX13_coldest_3 ++ dktX13_coldest_4
def dkwX13_coldest_2 : List UInt8 := [21, 6, 182, 1, 99, 96, 54, 5, 132, 6, 1, 167, 255, 233, 42, 182, 1, 102, 21, 5, 29, 163, 0, 6]
abbrev dktX13_coldest_2 : List UInt8 := dkwX13_coldest_2 ++ dktX13_coldest_3
def dkwX13_coldest_1 : List UInt8 := [16, 24, 162, 0, 60, 3, 54, 5, 3, 54, 6, 21, 6, 42, 182, 1, 48, 162, 0, 20, 21, 5, 42]
abbrev dktX13_coldest_1 : List UInt8 := dkwX13_coldest_1 ++ dktX13_coldest_2
def dkwX13_coldest_0 : List UInt8 := [27, 3, 4, 184, 1, 52, 154, 0, 5, 2, 172, 42, 182, 1, 105, 3, 61, 3, 62, 3, 54, 4, 21, 4]
abbrev dktX13_coldest_0 : List UInt8 := dkwX13_coldest_0 ++ dktX13_coldest_1
theorem dksX13_coldest_0 : cX13_coldest.data.toList.drop 0 = dktX13_coldest_0 := by decide +kernel
theorem dksX13_coldest_1 : cX13_coldest.data.toList.drop 24 = dktX13_coldest_1 := dk_seg dksX13_coldest_0 24 rfl rfl
theorem dksX13_coldest_2 : cX13_coldest.data.toList.drop 47 = dktX13_coldest_2 := dk_seg dksX13_coldest_1 23 rfl rfl
theorem dksX13_coldest_3 : cX13_coldest.data.toList.drop 71 = dktX13_coldest_3 := dk_seg dksX13_coldest_2 24 rfl rfl
theorem dksX13_coldest_4 : cX13_coldest.data.toList.drop 95 = dktX13_coldest_4 := dk_seg dksX13_coldest_3 24 rfl rfl
theorem dX13_coldest_0 : decode cX13_coldest 0 = .ok (.iload_n 1, 1) := dk_27 (dk_at dksX13_coldest_0 0 rfl rfl)
theorem dX13_coldest_1 : decode cX13_coldest 1 = .ok (.iconst 0, 1) := dk_3 (dk_at dksX13_coldest_0 1 rfl rfl)
theorem dX13_coldest_2 : decode cX13_coldest 2 = .ok (.iconst 1, 1) := dk_4 (dk_at dksX13_coldest_0 2 rfl rfl)
theorem dX13_coldest_3 : decode cX13_coldest 3 = .ok (.invokestatic 308, 3) := dk_184 1 52 (dk_at dksX13_coldest_0 3 rfl rfl)
theorem dX13_coldest_6 : decode cX13_coldest 6 = .ok (.ifCond .ne 5, 3) := dk_154 0 5 (dk_at dksX13_coldest_0 6 rfl rfl)
theorem dX13_coldest_9 : decode cX13_coldest 9 = .ok (.iconst (-1), 1) := dk_2 (dk_at dksX13_coldest_0 9 rfl rfl)
theorem dX13_coldest_10 : decode cX13_coldest 10 = .ok (.ireturn, 1) := dk_172 (dk_at dksX13_coldest_0 10 rfl rfl)
theorem dX13_coldest_11 : decode cX13_coldest 11 = .ok (.aload_n 0, 1) := dk_42 (dk_at dksX13_coldest_0 11 rfl rfl)
theorem dX13_coldest_12 : decode cX13_coldest 12 = .ok (.invokevirtual 361, 3) := dk_182 1 105 (dk_at dksX13_coldest_0 12 rfl rfl)
theorem dX13_coldest_15 : decode cX13_coldest 15 = .ok (.iconst 0, 1) := dk_3 (dk_at dksX13_coldest_0 15 rfl rfl)
theorem dX13_coldest_16 : decode cX13_coldest 16 = .ok (.istore_n 2, 1) := dk_61 (dk_at dksX13_coldest_0 16 rfl rfl)
theorem dX13_coldest_17 : decode cX13_coldest 17 = .ok (.iconst 0, 1) := dk_3 (dk_at dksX13_coldest_0 17 rfl rfl)
theorem dX13_coldest_18 : decode cX13_coldest 18 = .ok (.istore_n 3, 1) := dk_62 (dk_at dksX13_coldest_0 18 rfl rfl)
theorem dX13_coldest_19 : decode cX13_coldest 19 = .ok (.iconst 0, 1) := dk_3 (dk_at dksX13_coldest_0 19 rfl rfl)
theorem dX13_coldest_20 : decode cX13_coldest 20 = .ok (.istore 4, 2) := dk_54 4 (dk_at dksX13_coldest_0 20 rfl rfl)
theorem dX13_coldest_22 : decode cX13_coldest 22 = .ok (.iload 4, 2) := dk_21 4 (dk_at dksX13_coldest_0 22 rfl rfl)
theorem dX13_coldest_24 : decode cX13_coldest 24 = .ok (.bipush 24, 2) := dk_16 24 (dk_at dksX13_coldest_1 0 rfl rfl)
theorem dX13_coldest_26 : decode cX13_coldest 26 = .ok (.if_icmp .ge 60, 3) := dk_162 0 60 (dk_at dksX13_coldest_1 2 rfl rfl)
theorem dX13_coldest_29 : decode cX13_coldest 29 = .ok (.iconst 0, 1) := dk_3 (dk_at dksX13_coldest_1 5 rfl rfl)
theorem dX13_coldest_30 : decode cX13_coldest 30 = .ok (.istore 5, 2) := dk_54 5 (dk_at dksX13_coldest_1 6 rfl rfl)
theorem dX13_coldest_32 : decode cX13_coldest 32 = .ok (.iconst 0, 1) := dk_3 (dk_at dksX13_coldest_1 8 rfl rfl)
theorem dX13_coldest_33 : decode cX13_coldest 33 = .ok (.istore 6, 2) := dk_54 6 (dk_at dksX13_coldest_1 9 rfl rfl)
theorem dX13_coldest_35 : decode cX13_coldest 35 = .ok (.iload 6, 2) := dk_21 6 (dk_at dksX13_coldest_1 11 rfl rfl)
theorem dX13_coldest_37 : decode cX13_coldest 37 = .ok (.aload_n 0, 1) := dk_42 (dk_at dksX13_coldest_1 13 rfl rfl)
theorem dX13_coldest_38 : decode cX13_coldest 38 = .ok (.invokevirtual 304, 3) := dk_182 1 48 (dk_at dksX13_coldest_1 14 rfl rfl)
theorem dX13_coldest_41 : decode cX13_coldest 41 = .ok (.if_icmp .ge 20, 3) := dk_162 0 20 (dk_at dksX13_coldest_1 17 rfl rfl)
theorem dX13_coldest_44 : decode cX13_coldest 44 = .ok (.iload 5, 2) := dk_21 5 (dk_at dksX13_coldest_1 20 rfl rfl)
theorem dX13_coldest_46 : decode cX13_coldest 46 = .ok (.aload_n 0, 1) := dk_42 (dk_at dksX13_coldest_1 22 rfl rfl)
theorem dX13_coldest_47 : decode cX13_coldest 47 = .ok (.iload 6, 2) := dk_21 6 (dk_at dksX13_coldest_2 0 rfl rfl)
theorem dX13_coldest_49 : decode cX13_coldest 49 = .ok (.invokevirtual 355, 3) := dk_182 1 99 (dk_at dksX13_coldest_2 2 rfl rfl)
theorem dX13_coldest_52 : decode cX13_coldest 52 = .ok (.iadd, 1) := dk_96 (dk_at dksX13_coldest_2 5 rfl rfl)
theorem dX13_coldest_53 : decode cX13_coldest 53 = .ok (.istore 5, 2) := dk_54 5 (dk_at dksX13_coldest_2 6 rfl rfl)
theorem dX13_coldest_55 : decode cX13_coldest 55 = .ok (.iinc 6 1, 3) := dk_132 6 1 (dk_at dksX13_coldest_2 8 rfl rfl)
theorem dX13_coldest_58 : decode cX13_coldest 58 = .ok (.goto (-23), 3) := dk_167 255 233 (dk_at dksX13_coldest_2 11 rfl rfl)
theorem dX13_coldest_61 : decode cX13_coldest 61 = .ok (.aload_n 0, 1) := dk_42 (dk_at dksX13_coldest_2 14 rfl rfl)
theorem dX13_coldest_62 : decode cX13_coldest 62 = .ok (.invokevirtual 358, 3) := dk_182 1 102 (dk_at dksX13_coldest_2 15 rfl rfl)
theorem dX13_coldest_65 : decode cX13_coldest 65 = .ok (.iload 5, 2) := dk_21 5 (dk_at dksX13_coldest_2 18 rfl rfl)
theorem dX13_coldest_67 : decode cX13_coldest 67 = .ok (.iload_n 3, 1) := dk_29 (dk_at dksX13_coldest_2 20 rfl rfl)
theorem dX13_coldest_68 : decode cX13_coldest 68 = .ok (.if_icmp .gt 6, 3) := dk_163 0 6 (dk_at dksX13_coldest_2 21 rfl rfl)
theorem dX13_coldest_71 : decode cX13_coldest 71 = .ok (.goto 9, 3) := dk_167 0 9 (dk_at dksX13_coldest_3 0 rfl rfl)
theorem dX13_coldest_74 : decode cX13_coldest 74 = .ok (.iload 4, 2) := dk_21 4 (dk_at dksX13_coldest_3 3 rfl rfl)
theorem dX13_coldest_76 : decode cX13_coldest 76 = .ok (.istore_n 2, 1) := dk_61 (dk_at dksX13_coldest_3 5 rfl rfl)
theorem dX13_coldest_77 : decode cX13_coldest 77 = .ok (.iload 5, 2) := dk_21 5 (dk_at dksX13_coldest_3 6 rfl rfl)
theorem dX13_coldest_79 : decode cX13_coldest 79 = .ok (.istore_n 3, 1) := dk_62 (dk_at dksX13_coldest_3 8 rfl rfl)
theorem dX13_coldest_80 : decode cX13_coldest 80 = .ok (.iinc 4 1, 3) := dk_132 4 1 (dk_at dksX13_coldest_3 9 rfl rfl)
theorem dX13_coldest_83 : decode cX13_coldest 83 = .ok (.goto (-61), 3) := dk_167 255 195 (dk_at dksX13_coldest_3 12 rfl rfl)
theorem dX13_coldest_86 : decode cX13_coldest 86 = .ok (.iload_n 1, 1) := dk_27 (dk_at dksX13_coldest_3 15 rfl rfl)
theorem dX13_coldest_87 : decode cX13_coldest 87 = .ok (.ifCond .ne 7, 3) := dk_154 0 7 (dk_at dksX13_coldest_3 16 rfl rfl)
theorem dX13_coldest_90 : decode cX13_coldest 90 = .ok (.iload_n 2, 1) := dk_28 (dk_at dksX13_coldest_3 19 rfl rfl)
theorem dX13_coldest_91 : decode cX13_coldest 91 = .ok (.goto 4, 3) := dk_167 0 4 (dk_at dksX13_coldest_3 20 rfl rfl)
theorem dX13_coldest_94 : decode cX13_coldest 94 = .ok (.iload_n 3, 1) := dk_29 (dk_at dksX13_coldest_3 23 rfl rfl)
theorem dX13_coldest_95 : decode cX13_coldest 95 = .ok (.ireturn, 1) := dk_172 (dk_at dksX13_coldest_4 0 rfl rfl)
abbrev cX13_run : ByteArray := prog_21_method_85_code
def yX13_run : MethodName := ⟨RX13, "run", "(I)I"⟩
def dkwX13_run_2 : List UInt8 := [21, 4, 61, 21, 5, 62, 132, 4, 1, 167, 255, 221, 27, 154, 0, 7, 29, 167, 0, 4, 28, 172]
abbrev dktX13_run_2 : List UInt8 := dkwX13_run_2 ++ []
def dkwX13_run_1 : List UInt8 := [182, 1, 48, 162, 0, 32, 42, 21, 4, 182, 1, 157, 54, 5, 21, 5, 29, 163, 0, 6, 167, 0, 9]
abbrev dktX13_run_1 : List UInt8 := dkwX13_run_1 ++ dktX13_run_2
def dkwX13_run_0 : List UInt8 := [27, 3, 4, 184, 1, 52, 154, 0, 5, 2, 172, 16, 254, 61, 3, 62, 3, 54, 4, 21, 4, 42]
abbrev dktX13_run_0 : List UInt8 := dkwX13_run_0 ++ dktX13_run_1
theorem dksX13_run_0 : cX13_run.data.toList.drop 0 = dktX13_run_0 := by decide +kernel
theorem dksX13_run_1 : cX13_run.data.toList.drop 22 = dktX13_run_1 := dk_seg dksX13_run_0 22 rfl rfl
theorem dksX13_run_2 : cX13_run.data.toList.drop 45 = dktX13_run_2 := dk_seg dksX13_run_1 23 rfl rfl
theorem dX13_run_0 : decode cX13_run 0 = .ok (.iload_n 1, 1) := dk_27 (dk_at dksX13_run_0 0 rfl rfl)
theorem dX13_run_1 : decode cX13_run 1 = .ok (.iconst 0, 1) := dk_3 (dk_at dksX13_run_0 1 rfl rfl)
theorem dX13_run_2 : decode cX13_run 2 = .ok (.iconst 1, 1) := dk_4 (dk_at dksX13_run_0 2 rfl rfl)
theorem dX13_run_3 : decode cX13_run 3 = .ok (.invokestatic 308, 3) := dk_184 1 52 (dk_at dksX13_run_0 3 rfl rfl)
theorem dX13_run_6 : decode cX13_run 6 = .ok (.ifCond .ne 5, 3) := dk_154 0 5 (dk_at dksX13_run_0 6 rfl rfl)
theorem dX13_run_9 : decode cX13_run 9 = .ok (.iconst (-1), 1) := dk_2 (dk_at dksX13_run_0 9 rfl rfl)
theorem dX13_run_10 : decode cX13_run 10 = .ok (.ireturn, 1) := dk_172 (dk_at dksX13_run_0 10 rfl rfl)
theorem dX13_run_11 : decode cX13_run 11 = .ok (.bipush (-2), 2) := dk_16 254 (dk_at dksX13_run_0 11 rfl rfl)
theorem dX13_run_13 : decode cX13_run 13 = .ok (.istore_n 2, 1) := dk_61 (dk_at dksX13_run_0 13 rfl rfl)
theorem dX13_run_14 : decode cX13_run 14 = .ok (.iconst 0, 1) := dk_3 (dk_at dksX13_run_0 14 rfl rfl)
theorem dX13_run_15 : decode cX13_run 15 = .ok (.istore_n 3, 1) := dk_62 (dk_at dksX13_run_0 15 rfl rfl)
theorem dX13_run_16 : decode cX13_run 16 = .ok (.iconst 0, 1) := dk_3 (dk_at dksX13_run_0 16 rfl rfl)
theorem dX13_run_17 : decode cX13_run 17 = .ok (.istore 4, 2) := dk_54 4 (dk_at dksX13_run_0 17 rfl rfl)
theorem dX13_run_19 : decode cX13_run 19 = .ok (.iload 4, 2) := dk_21 4 (dk_at dksX13_run_0 19 rfl rfl)
theorem dX13_run_21 : decode cX13_run 21 = .ok (.aload_n 0, 1) := dk_42 (dk_at dksX13_run_0 21 rfl rfl)
theorem dX13_run_22 : decode cX13_run 22 = .ok (.invokevirtual 304, 3) := dk_182 1 48 (dk_at dksX13_run_1 0 rfl rfl)
theorem dX13_run_25 : decode cX13_run 25 = .ok (.if_icmp .ge 32, 3) := dk_162 0 32 (dk_at dksX13_run_1 3 rfl rfl)
theorem dX13_run_28 : decode cX13_run 28 = .ok (.aload_n 0, 1) := dk_42 (dk_at dksX13_run_1 6 rfl rfl)
theorem dX13_run_29 : decode cX13_run 29 = .ok (.iload 4, 2) := dk_21 4 (dk_at dksX13_run_1 7 rfl rfl)
theorem dX13_run_31 : decode cX13_run 31 = .ok (.invokevirtual 413, 3) := dk_182 1 157 (dk_at dksX13_run_1 9 rfl rfl)
theorem dX13_run_34 : decode cX13_run 34 = .ok (.istore 5, 2) := dk_54 5 (dk_at dksX13_run_1 12 rfl rfl)
theorem dX13_run_36 : decode cX13_run 36 = .ok (.iload 5, 2) := dk_21 5 (dk_at dksX13_run_1 14 rfl rfl)
theorem dX13_run_38 : decode cX13_run 38 = .ok (.iload_n 3, 1) := dk_29 (dk_at dksX13_run_1 16 rfl rfl)
theorem dX13_run_39 : decode cX13_run 39 = .ok (.if_icmp .gt 6, 3) := dk_163 0 6 (dk_at dksX13_run_1 17 rfl rfl)
theorem dX13_run_42 : decode cX13_run 42 = .ok (.goto 9, 3) := dk_167 0 9 (dk_at dksX13_run_1 20 rfl rfl)
theorem dX13_run_45 : decode cX13_run 45 = .ok (.iload 4, 2) := dk_21 4 (dk_at dksX13_run_2 0 rfl rfl)
theorem dX13_run_47 : decode cX13_run 47 = .ok (.istore_n 2, 1) := dk_61 (dk_at dksX13_run_2 2 rfl rfl)
theorem dX13_run_48 : decode cX13_run 48 = .ok (.iload 5, 2) := dk_21 5 (dk_at dksX13_run_2 3 rfl rfl)
theorem dX13_run_50 : decode cX13_run 50 = .ok (.istore_n 3, 1) := dk_62 (dk_at dksX13_run_2 5 rfl rfl)
theorem dX13_run_51 : decode cX13_run 51 = .ok (.iinc 4 1, 3) := dk_132 4 1 (dk_at dksX13_run_2 6 rfl rfl)
theorem dX13_run_54 : decode cX13_run 54 = .ok (.goto (-35), 3) := dk_167 255 221 (dk_at dksX13_run_2 9 rfl rfl)
theorem dX13_run_57 : decode cX13_run 57 = .ok (.iload_n 1, 1) := dk_27 (dk_at dksX13_run_2 12 rfl rfl)
theorem dX13_run_58 : decode cX13_run 58 = .ok (.ifCond .ne 7, 3) := dk_154 0 7 (dk_at dksX13_run_2 13 rfl rfl)
theorem dX13_run_61 : decode cX13_run 61 = .ok (.iload_n 3, 1) := dk_29 (dk_at dksX13_run_2 16 rfl rfl)
theorem dX13_run_62 : decode cX13_run 62 = .ok (.goto 4, 3) := dk_167 0 4 (dk_at dksX13_run_2 17 rfl rfl)
theorem dX13_run_65 : decode cX13_run 65 = .ok (.iload_n 2, 1) := dk_28 (dk_at dksX13_run_2 20 rfl rfl)
theorem dX13_run_66 : decode cX13_run 66 = .ok (.ireturn, 1) := dk_172 (dk_at dksX13_run_2 21 rfl rfl)
abbrev cX13_runFrom : ByteArray := prog_21_method_84_code
def yX13_runFrom : MethodName := ⟨RX13, "runFrom", "(I)I"⟩
def dkwX13_runFrom_2 : List UInt8 := [160, 0, 9, 132, 3, 1, 167, 255, 234, 29, 27, 100, 172]
abbrev dktX13_runFrom_2 : List UInt8 := dkwX13_runFrom_2 ++ []
def dkwX13_runFrom_1 : List UInt8 := [182, 1, 48, 61, 27, 62, 29, 28, 162, 0, 23, 42, 29, 182, 1, 154, 42, 180, 0, 107, 27, 46]
abbrev dktX13_runFrom_1 : List UInt8 := dkwX13_runFrom_1 ++ dktX13_runFrom_2
def dkwX13_runFrom_0 : List UInt8 := [42, 180, 0, 62, 42, 180, 0, 230, 46, 4, 160, 0, 12, 27, 42, 182, 1, 48, 96, 167, 0, 7, 42]
abbrev dktX13_runFrom_0 : List UInt8 := dkwX13_runFrom_0 ++ dktX13_runFrom_1
theorem dksX13_runFrom_0 : cX13_runFrom.data.toList.drop 0 = dktX13_runFrom_0 := by decide +kernel
theorem dksX13_runFrom_1 : cX13_runFrom.data.toList.drop 23 = dktX13_runFrom_1 := dk_seg dksX13_runFrom_0 23 rfl rfl
theorem dksX13_runFrom_2 : cX13_runFrom.data.toList.drop 45 = dktX13_runFrom_2 := dk_seg dksX13_runFrom_1 22 rfl rfl
theorem dX13_runFrom_0 : decode cX13_runFrom 0 = .ok (.aload_n 0, 1) := dk_42 (dk_at dksX13_runFrom_0 0 rfl rfl)
theorem dX13_runFrom_1 : decode cX13_runFrom 1 = .ok (.getfield 62, 3) := dk_180 0 62 (dk_at dksX13_runFrom_0 1 rfl rfl)
theorem dX13_runFrom_4 : decode cX13_runFrom 4 = .ok (.aload_n 0, 1) := dk_42 (dk_at dksX13_runFrom_0 4 rfl rfl)
theorem dX13_runFrom_5 : decode cX13_runFrom 5 = .ok (.getfield 230, 3) := dk_180 0 230 (dk_at dksX13_runFrom_0 5 rfl rfl)
theorem dX13_runFrom_8 : decode cX13_runFrom 8 = .ok (.iaload, 1) := dk_46 (dk_at dksX13_runFrom_0 8 rfl rfl)
theorem dX13_runFrom_9 : decode cX13_runFrom 9 = .ok (.iconst 1, 1) := dk_4 (dk_at dksX13_runFrom_0 9 rfl rfl)
theorem dX13_runFrom_10 : decode cX13_runFrom 10 = .ok (.if_icmp .ne 12, 3) := dk_160 0 12 (dk_at dksX13_runFrom_0 10 rfl rfl)
theorem dX13_runFrom_13 : decode cX13_runFrom 13 = .ok (.iload_n 1, 1) := dk_27 (dk_at dksX13_runFrom_0 13 rfl rfl)
theorem dX13_runFrom_14 : decode cX13_runFrom 14 = .ok (.aload_n 0, 1) := dk_42 (dk_at dksX13_runFrom_0 14 rfl rfl)
theorem dX13_runFrom_15 : decode cX13_runFrom 15 = .ok (.invokevirtual 304, 3) := dk_182 1 48 (dk_at dksX13_runFrom_0 15 rfl rfl)
theorem dX13_runFrom_18 : decode cX13_runFrom 18 = .ok (.iadd, 1) := dk_96 (dk_at dksX13_runFrom_0 18 rfl rfl)
theorem dX13_runFrom_19 : decode cX13_runFrom 19 = .ok (.goto 7, 3) := dk_167 0 7 (dk_at dksX13_runFrom_0 19 rfl rfl)
theorem dX13_runFrom_22 : decode cX13_runFrom 22 = .ok (.aload_n 0, 1) := dk_42 (dk_at dksX13_runFrom_0 22 rfl rfl)
theorem dX13_runFrom_23 : decode cX13_runFrom 23 = .ok (.invokevirtual 304, 3) := dk_182 1 48 (dk_at dksX13_runFrom_1 0 rfl rfl)
theorem dX13_runFrom_26 : decode cX13_runFrom 26 = .ok (.istore_n 2, 1) := dk_61 (dk_at dksX13_runFrom_1 3 rfl rfl)
theorem dX13_runFrom_27 : decode cX13_runFrom 27 = .ok (.iload_n 1, 1) := dk_27 (dk_at dksX13_runFrom_1 4 rfl rfl)
theorem dX13_runFrom_28 : decode cX13_runFrom 28 = .ok (.istore_n 3, 1) := dk_62 (dk_at dksX13_runFrom_1 5 rfl rfl)
theorem dX13_runFrom_29 : decode cX13_runFrom 29 = .ok (.iload_n 3, 1) := dk_29 (dk_at dksX13_runFrom_1 6 rfl rfl)
theorem dX13_runFrom_30 : decode cX13_runFrom 30 = .ok (.iload_n 2, 1) := dk_28 (dk_at dksX13_runFrom_1 7 rfl rfl)
theorem dX13_runFrom_31 : decode cX13_runFrom 31 = .ok (.if_icmp .ge 23, 3) := dk_162 0 23 (dk_at dksX13_runFrom_1 8 rfl rfl)
theorem dX13_runFrom_34 : decode cX13_runFrom 34 = .ok (.aload_n 0, 1) := dk_42 (dk_at dksX13_runFrom_1 11 rfl rfl)
theorem dX13_runFrom_35 : decode cX13_runFrom 35 = .ok (.iload_n 3, 1) := dk_29 (dk_at dksX13_runFrom_1 12 rfl rfl)
theorem dX13_runFrom_36 : decode cX13_runFrom 36 = .ok (.invokevirtual 410, 3) := dk_182 1 154 (dk_at dksX13_runFrom_1 13 rfl rfl)
theorem dX13_runFrom_39 : decode cX13_runFrom 39 = .ok (.aload_n 0, 1) := dk_42 (dk_at dksX13_runFrom_1 16 rfl rfl)
theorem dX13_runFrom_40 : decode cX13_runFrom 40 = .ok (.getfield 107, 3) := dk_180 0 107 (dk_at dksX13_runFrom_1 17 rfl rfl)
theorem dX13_runFrom_43 : decode cX13_runFrom 43 = .ok (.iload_n 1, 1) := dk_27 (dk_at dksX13_runFrom_1 20 rfl rfl)
theorem dX13_runFrom_44 : decode cX13_runFrom 44 = .ok (.iaload, 1) := dk_46 (dk_at dksX13_runFrom_1 21 rfl rfl)
theorem dX13_runFrom_45 : decode cX13_runFrom 45 = .ok (.if_icmp .ne 9, 3) := dk_160 0 9 (dk_at dksX13_runFrom_2 0 rfl rfl)
theorem dX13_runFrom_48 : decode cX13_runFrom 48 = .ok (.iinc 3 1, 3) := dk_132 3 1 (dk_at dksX13_runFrom_2 3 rfl rfl)
theorem dX13_runFrom_51 : decode cX13_runFrom 51 = .ok (.goto (-22), 3) := dk_167 255 234 (dk_at dksX13_runFrom_2 6 rfl rfl)
theorem dX13_runFrom_54 : decode cX13_runFrom 54 = .ok (.iload_n 3, 1) := dk_29 (dk_at dksX13_runFrom_2 9 rfl rfl)
theorem dX13_runFrom_55 : decode cX13_runFrom 55 = .ok (.iload_n 1, 1) := dk_27 (dk_at dksX13_runFrom_2 10 rfl rfl)
theorem dX13_runFrom_56 : decode cX13_runFrom 56 = .ok (.isub, 1) := dk_100 (dk_at dksX13_runFrom_2 11 rfl rfl)
theorem dX13_runFrom_57 : decode cX13_runFrom 57 = .ok (.ireturn, 1) := dk_172 (dk_at dksX13_runFrom_2 12 rfl rfl)
abbrev cX13_ringAt : ByteArray := prog_21_method_83_code
def yX13_ringAt : MethodName := ⟨RX13, "ringAt", "(I)I"⟩
def dkwX13_ringAt_0 : List UInt8 := [42, 180, 0, 107, 27, 42, 182, 1, 48, 112, 46, 172]
abbrev dktX13_ringAt_0 : List UInt8 := dkwX13_ringAt_0 ++ []
theorem dksX13_ringAt_0 : cX13_ringAt.data.toList.drop 0 = dktX13_ringAt_0 := by decide +kernel
theorem dX13_ringAt_0 : decode cX13_ringAt 0 = .ok (.aload_n 0, 1) := dk_42 (dk_at dksX13_ringAt_0 0 rfl rfl)
theorem dX13_ringAt_1 : decode cX13_ringAt 1 = .ok (.getfield 107, 3) := dk_180 0 107 (dk_at dksX13_ringAt_0 1 rfl rfl)
theorem dX13_ringAt_4 : decode cX13_ringAt 4 = .ok (.iload_n 1, 1) := dk_27 (dk_at dksX13_ringAt_0 4 rfl rfl)
theorem dX13_ringAt_5 : decode cX13_ringAt 5 = .ok (.aload_n 0, 1) := dk_42 (dk_at dksX13_ringAt_0 5 rfl rfl)
theorem dX13_ringAt_6 : decode cX13_ringAt 6 = .ok (.invokevirtual 304, 3) := dk_182 1 48 (dk_at dksX13_ringAt_0 6 rfl rfl)
theorem dX13_ringAt_9 : decode cX13_ringAt 9 = .ok (.irem, 1) := dk_112 (dk_at dksX13_ringAt_0 9 rfl rfl)
theorem dX13_ringAt_10 : decode cX13_ringAt 10 = .ok (.iaload, 1) := dk_46 (dk_at dksX13_ringAt_0 10 rfl rfl)
theorem dX13_ringAt_11 : decode cX13_ringAt 11 = .ok (.ireturn, 1) := dk_172 (dk_at dksX13_ringAt_0 11 rfl rfl)
abbrev cX13_unlike : ByteArray := prog_21_method_86_code
def yX13_unlike : MethodName := ⟨RX13, "unlike", "()I"⟩
def dkwX13_unlike_3 : List UInt8 := [182, 1, 48, 4, 100, 46, 159, 0, 6, 132, 1, 1, 27, 172]
abbrev dktX13_unlike_3 : List UInt8 := dkwX13_unlike_3 ++ []
def dkwX13_unlike_2 : List UInt8 := [160, 0, 34, 42, 182, 1, 48, 5, 164, 0, 26, 42, 180, 0, 107, 3, 46, 42, 180, 0, 107, 42]
abbrev dktX13_unlike_2 : List UInt8 := dkwX13_unlike_2 ++ dktX13_unlike_3
def dkwX13_unlike_1 : List UInt8 := [100, 46, 159, 0, 6, 132, 1, 1, 132, 2, 1, 167, 255, 225, 42, 180, 0, 62, 42, 180, 0, 230, 46, 4]
abbrev dktX13_unlike_1 : List UInt8 := dkwX13_unlike_1 ++ dktX13_unlike_2
def dkwX13_unlike_0 : List UInt8 := [3, 60, 4, 61, 28, 42, 182, 1, 48, 162, 0, 29, 42, 180, 0, 107, 28, 46, 42, 180, 0, 107, 28, 4]
abbrev dktX13_unlike_0 : List UInt8 := dkwX13_unlike_0 ++ dktX13_unlike_1
theorem dksX13_unlike_0 : cX13_unlike.data.toList.drop 0 = dktX13_unlike_0 := by decide +kernel
theorem dksX13_unlike_1 : cX13_unlike.data.toList.drop 24 = dktX13_unlike_1 := dk_seg dksX13_unlike_0 24 rfl rfl
theorem dksX13_unlike_2 : cX13_unlike.data.toList.drop 48 = dktX13_unlike_2 := dk_seg dksX13_unlike_1 24 rfl rfl
theorem dksX13_unlike_3 : cX13_unlike.data.toList.drop 70 = dktX13_unlike_3 := dk_seg dksX13_unlike_2 22 rfl rfl
theorem dX13_unlike_0 : decode cX13_unlike 0 = .ok (.iconst 0, 1) := dk_3 (dk_at dksX13_unlike_0 0 rfl rfl)
theorem dX13_unlike_1 : decode cX13_unlike 1 = .ok (.istore_n 1, 1) := dk_60 (dk_at dksX13_unlike_0 1 rfl rfl)
theorem dX13_unlike_2 : decode cX13_unlike 2 = .ok (.iconst 1, 1) := dk_4 (dk_at dksX13_unlike_0 2 rfl rfl)
theorem dX13_unlike_3 : decode cX13_unlike 3 = .ok (.istore_n 2, 1) := dk_61 (dk_at dksX13_unlike_0 3 rfl rfl)
theorem dX13_unlike_4 : decode cX13_unlike 4 = .ok (.iload_n 2, 1) := dk_28 (dk_at dksX13_unlike_0 4 rfl rfl)
theorem dX13_unlike_5 : decode cX13_unlike 5 = .ok (.aload_n 0, 1) := dk_42 (dk_at dksX13_unlike_0 5 rfl rfl)
theorem dX13_unlike_6 : decode cX13_unlike 6 = .ok (.invokevirtual 304, 3) := dk_182 1 48 (dk_at dksX13_unlike_0 6 rfl rfl)
theorem dX13_unlike_9 : decode cX13_unlike 9 = .ok (.if_icmp .ge 29, 3) := dk_162 0 29 (dk_at dksX13_unlike_0 9 rfl rfl)
theorem dX13_unlike_12 : decode cX13_unlike 12 = .ok (.aload_n 0, 1) := dk_42 (dk_at dksX13_unlike_0 12 rfl rfl)
theorem dX13_unlike_13 : decode cX13_unlike 13 = .ok (.getfield 107, 3) := dk_180 0 107 (dk_at dksX13_unlike_0 13 rfl rfl)
theorem dX13_unlike_16 : decode cX13_unlike 16 = .ok (.iload_n 2, 1) := dk_28 (dk_at dksX13_unlike_0 16 rfl rfl)
theorem dX13_unlike_17 : decode cX13_unlike 17 = .ok (.iaload, 1) := dk_46 (dk_at dksX13_unlike_0 17 rfl rfl)
theorem dX13_unlike_18 : decode cX13_unlike 18 = .ok (.aload_n 0, 1) := dk_42 (dk_at dksX13_unlike_0 18 rfl rfl)
theorem dX13_unlike_19 : decode cX13_unlike 19 = .ok (.getfield 107, 3) := dk_180 0 107 (dk_at dksX13_unlike_0 19 rfl rfl)
theorem dX13_unlike_22 : decode cX13_unlike 22 = .ok (.iload_n 2, 1) := dk_28 (dk_at dksX13_unlike_0 22 rfl rfl)
theorem dX13_unlike_23 : decode cX13_unlike 23 = .ok (.iconst 1, 1) := dk_4 (dk_at dksX13_unlike_0 23 rfl rfl)
theorem dX13_unlike_24 : decode cX13_unlike 24 = .ok (.isub, 1) := dk_100 (dk_at dksX13_unlike_1 0 rfl rfl)
theorem dX13_unlike_25 : decode cX13_unlike 25 = .ok (.iaload, 1) := dk_46 (dk_at dksX13_unlike_1 1 rfl rfl)
theorem dX13_unlike_26 : decode cX13_unlike 26 = .ok (.if_icmp .eq 6, 3) := dk_159 0 6 (dk_at dksX13_unlike_1 2 rfl rfl)
theorem dX13_unlike_29 : decode cX13_unlike 29 = .ok (.iinc 1 1, 3) := dk_132 1 1 (dk_at dksX13_unlike_1 5 rfl rfl)
theorem dX13_unlike_32 : decode cX13_unlike 32 = .ok (.iinc 2 1, 3) := dk_132 2 1 (dk_at dksX13_unlike_1 8 rfl rfl)
theorem dX13_unlike_35 : decode cX13_unlike 35 = .ok (.goto (-31), 3) := dk_167 255 225 (dk_at dksX13_unlike_1 11 rfl rfl)
theorem dX13_unlike_38 : decode cX13_unlike 38 = .ok (.aload_n 0, 1) := dk_42 (dk_at dksX13_unlike_1 14 rfl rfl)
theorem dX13_unlike_39 : decode cX13_unlike 39 = .ok (.getfield 62, 3) := dk_180 0 62 (dk_at dksX13_unlike_1 15 rfl rfl)
theorem dX13_unlike_42 : decode cX13_unlike 42 = .ok (.aload_n 0, 1) := dk_42 (dk_at dksX13_unlike_1 18 rfl rfl)
theorem dX13_unlike_43 : decode cX13_unlike 43 = .ok (.getfield 230, 3) := dk_180 0 230 (dk_at dksX13_unlike_1 19 rfl rfl)
theorem dX13_unlike_46 : decode cX13_unlike 46 = .ok (.iaload, 1) := dk_46 (dk_at dksX13_unlike_1 22 rfl rfl)
theorem dX13_unlike_47 : decode cX13_unlike 47 = .ok (.iconst 1, 1) := dk_4 (dk_at dksX13_unlike_1 23 rfl rfl)
theorem dX13_unlike_48 : decode cX13_unlike 48 = .ok (.if_icmp .ne 34, 3) := dk_160 0 34 (dk_at dksX13_unlike_2 0 rfl rfl)
theorem dX13_unlike_51 : decode cX13_unlike 51 = .ok (.aload_n 0, 1) := dk_42 (dk_at dksX13_unlike_2 3 rfl rfl)
theorem dX13_unlike_52 : decode cX13_unlike 52 = .ok (.invokevirtual 304, 3) := dk_182 1 48 (dk_at dksX13_unlike_2 4 rfl rfl)
theorem dX13_unlike_55 : decode cX13_unlike 55 = .ok (.iconst 2, 1) := dk_5 (dk_at dksX13_unlike_2 7 rfl rfl)
theorem dX13_unlike_56 : decode cX13_unlike 56 = .ok (.if_icmp .le 26, 3) := dk_164 0 26 (dk_at dksX13_unlike_2 8 rfl rfl)
theorem dX13_unlike_59 : decode cX13_unlike 59 = .ok (.aload_n 0, 1) := dk_42 (dk_at dksX13_unlike_2 11 rfl rfl)
theorem dX13_unlike_60 : decode cX13_unlike 60 = .ok (.getfield 107, 3) := dk_180 0 107 (dk_at dksX13_unlike_2 12 rfl rfl)
theorem dX13_unlike_63 : decode cX13_unlike 63 = .ok (.iconst 0, 1) := dk_3 (dk_at dksX13_unlike_2 15 rfl rfl)
theorem dX13_unlike_64 : decode cX13_unlike 64 = .ok (.iaload, 1) := dk_46 (dk_at dksX13_unlike_2 16 rfl rfl)
theorem dX13_unlike_65 : decode cX13_unlike 65 = .ok (.aload_n 0, 1) := dk_42 (dk_at dksX13_unlike_2 17 rfl rfl)
theorem dX13_unlike_66 : decode cX13_unlike 66 = .ok (.getfield 107, 3) := dk_180 0 107 (dk_at dksX13_unlike_2 18 rfl rfl)
theorem dX13_unlike_69 : decode cX13_unlike 69 = .ok (.aload_n 0, 1) := dk_42 (dk_at dksX13_unlike_2 21 rfl rfl)
theorem dX13_unlike_70 : decode cX13_unlike 70 = .ok (.invokevirtual 304, 3) := dk_182 1 48 (dk_at dksX13_unlike_3 0 rfl rfl)
theorem dX13_unlike_73 : decode cX13_unlike 73 = .ok (.iconst 1, 1) := dk_4 (dk_at dksX13_unlike_3 3 rfl rfl)
theorem dX13_unlike_74 : decode cX13_unlike 74 = .ok (.isub, 1) := dk_100 (dk_at dksX13_unlike_3 4 rfl rfl)
theorem dX13_unlike_75 : decode cX13_unlike 75 = .ok (.iaload, 1) := dk_46 (dk_at dksX13_unlike_3 5 rfl rfl)
theorem dX13_unlike_76 : decode cX13_unlike 76 = .ok (.if_icmp .eq 6, 3) := dk_159 0 6 (dk_at dksX13_unlike_3 6 rfl rfl)
theorem dX13_unlike_79 : decode cX13_unlike 79 = .ok (.iinc 1 1, 3) := dk_132 1 1 (dk_at dksX13_unlike_3 9 rfl rfl)
theorem dX13_unlike_82 : decode cX13_unlike 82 = .ok (.iload_n 1, 1) := dk_27 (dk_at dksX13_unlike_3 12 rfl rfl)
theorem dX13_unlike_83 : decode cX13_unlike 83 = .ok (.ireturn, 1) := dk_172 (dk_at dksX13_unlike_3 13 rfl rfl)
abbrev cX13_eden : ByteArray := prog_21_method_87_code
def yX13_eden : MethodName := ⟨RX13, "eden", "(I)I"⟩
def dkwX13_eden_4 : List UInt8 := [28, 172]
abbrev dktX13_eden_4 : List UInt8 := dkwX13_eden_4 ++ []
def dkwX13_eden_3 : List UInt8 := [182, 1, 56, 163, 0, 21, 42, 180, 0, 125, 29, 51, 154, 0, 6, 132, 2, 1, 132, 3, 1, 167, 255, 233]
abbrev dktX13_eden_3 : List UInt8 := dkwX13_eden_3 ++ dktX13_eden_4
def dkwX13_eden_2 : List UInt8 := [180, 0, 125, 42, 28, 27, 182, 1, 133, 4, 84, 132, 2, 1, 167, 255, 233, 3, 61, 3, 62, 29, 42]
abbrev dktX13_eden_2 : List UInt8 := dkwX13_eden_2 ++ dktX13_eden_3
def dkwX13_eden_1 : List UInt8 := [180, 0, 125, 28, 3, 84, 132, 2, 1, 167, 255, 239, 3, 61, 28, 42, 182, 1, 56, 163, 0, 21, 42]
abbrev dktX13_eden_1 : List UInt8 := dkwX13_eden_1 ++ dktX13_eden_2
def dkwX13_eden_0 : List UInt8 := [27, 4, 16, 24, 184, 1, 52, 154, 0, 5, 2, 172, 3, 61, 28, 17, 2, 0, 162, 0, 16, 42]
abbrev dktX13_eden_0 : List UInt8 := dkwX13_eden_0 ++ dktX13_eden_1
theorem dksX13_eden_0 : cX13_eden.data.toList.drop 0 = dktX13_eden_0 := by decide +kernel
theorem dksX13_eden_1 : cX13_eden.data.toList.drop 22 = dktX13_eden_1 := dk_seg dksX13_eden_0 22 rfl rfl
theorem dksX13_eden_2 : cX13_eden.data.toList.drop 45 = dktX13_eden_2 := dk_seg dksX13_eden_1 23 rfl rfl
theorem dksX13_eden_3 : cX13_eden.data.toList.drop 68 = dktX13_eden_3 := dk_seg dksX13_eden_2 23 rfl rfl
theorem dksX13_eden_4 : cX13_eden.data.toList.drop 92 = dktX13_eden_4 := dk_seg dksX13_eden_3 24 rfl rfl
theorem dX13_eden_0 : decode cX13_eden 0 = .ok (.iload_n 1, 1) := dk_27 (dk_at dksX13_eden_0 0 rfl rfl)
theorem dX13_eden_1 : decode cX13_eden 1 = .ok (.iconst 1, 1) := dk_4 (dk_at dksX13_eden_0 1 rfl rfl)
theorem dX13_eden_2 : decode cX13_eden 2 = .ok (.bipush 24, 2) := dk_16 24 (dk_at dksX13_eden_0 2 rfl rfl)
theorem dX13_eden_4 : decode cX13_eden 4 = .ok (.invokestatic 308, 3) := dk_184 1 52 (dk_at dksX13_eden_0 4 rfl rfl)
theorem dX13_eden_7 : decode cX13_eden 7 = .ok (.ifCond .ne 5, 3) := dk_154 0 5 (dk_at dksX13_eden_0 7 rfl rfl)
theorem dX13_eden_10 : decode cX13_eden 10 = .ok (.iconst (-1), 1) := dk_2 (dk_at dksX13_eden_0 10 rfl rfl)
theorem dX13_eden_11 : decode cX13_eden 11 = .ok (.ireturn, 1) := dk_172 (dk_at dksX13_eden_0 11 rfl rfl)
theorem dX13_eden_12 : decode cX13_eden 12 = .ok (.iconst 0, 1) := dk_3 (dk_at dksX13_eden_0 12 rfl rfl)
theorem dX13_eden_13 : decode cX13_eden 13 = .ok (.istore_n 2, 1) := dk_61 (dk_at dksX13_eden_0 13 rfl rfl)
theorem dX13_eden_14 : decode cX13_eden 14 = .ok (.iload_n 2, 1) := dk_28 (dk_at dksX13_eden_0 14 rfl rfl)
theorem dX13_eden_15 : decode cX13_eden 15 = .ok (.sipush 512, 3) := dk_17 2 0 (dk_at dksX13_eden_0 15 rfl rfl)
theorem dX13_eden_18 : decode cX13_eden 18 = .ok (.if_icmp .ge 16, 3) := dk_162 0 16 (dk_at dksX13_eden_0 18 rfl rfl)
theorem dX13_eden_21 : decode cX13_eden 21 = .ok (.aload_n 0, 1) := dk_42 (dk_at dksX13_eden_0 21 rfl rfl)
theorem dX13_eden_22 : decode cX13_eden 22 = .ok (.getfield 125, 3) := dk_180 0 125 (dk_at dksX13_eden_1 0 rfl rfl)
theorem dX13_eden_25 : decode cX13_eden 25 = .ok (.iload_n 2, 1) := dk_28 (dk_at dksX13_eden_1 3 rfl rfl)
theorem dX13_eden_26 : decode cX13_eden 26 = .ok (.iconst 0, 1) := dk_3 (dk_at dksX13_eden_1 4 rfl rfl)
theorem dX13_eden_27 : decode cX13_eden 27 = .ok (.bastore, 1) := dk_84 (dk_at dksX13_eden_1 5 rfl rfl)
theorem dX13_eden_28 : decode cX13_eden 28 = .ok (.iinc 2 1, 3) := dk_132 2 1 (dk_at dksX13_eden_1 6 rfl rfl)
theorem dX13_eden_31 : decode cX13_eden 31 = .ok (.goto (-17), 3) := dk_167 255 239 (dk_at dksX13_eden_1 9 rfl rfl)
theorem dX13_eden_34 : decode cX13_eden 34 = .ok (.iconst 0, 1) := dk_3 (dk_at dksX13_eden_1 12 rfl rfl)
theorem dX13_eden_35 : decode cX13_eden 35 = .ok (.istore_n 2, 1) := dk_61 (dk_at dksX13_eden_1 13 rfl rfl)
theorem dX13_eden_36 : decode cX13_eden 36 = .ok (.iload_n 2, 1) := dk_28 (dk_at dksX13_eden_1 14 rfl rfl)
theorem dX13_eden_37 : decode cX13_eden 37 = .ok (.aload_n 0, 1) := dk_42 (dk_at dksX13_eden_1 15 rfl rfl)
theorem dX13_eden_38 : decode cX13_eden 38 = .ok (.invokevirtual 312, 3) := dk_182 1 56 (dk_at dksX13_eden_1 16 rfl rfl)
theorem dX13_eden_41 : decode cX13_eden 41 = .ok (.if_icmp .gt 21, 3) := dk_163 0 21 (dk_at dksX13_eden_1 19 rfl rfl)
theorem dX13_eden_44 : decode cX13_eden 44 = .ok (.aload_n 0, 1) := dk_42 (dk_at dksX13_eden_1 22 rfl rfl)
theorem dX13_eden_45 : decode cX13_eden 45 = .ok (.getfield 125, 3) := dk_180 0 125 (dk_at dksX13_eden_2 0 rfl rfl)
theorem dX13_eden_48 : decode cX13_eden 48 = .ok (.aload_n 0, 1) := dk_42 (dk_at dksX13_eden_2 3 rfl rfl)
theorem dX13_eden_49 : decode cX13_eden 49 = .ok (.iload_n 2, 1) := dk_28 (dk_at dksX13_eden_2 4 rfl rfl)
theorem dX13_eden_50 : decode cX13_eden 50 = .ok (.iload_n 1, 1) := dk_27 (dk_at dksX13_eden_2 5 rfl rfl)
theorem dX13_eden_51 : decode cX13_eden 51 = .ok (.invokevirtual 389, 3) := dk_182 1 133 (dk_at dksX13_eden_2 6 rfl rfl)
theorem dX13_eden_54 : decode cX13_eden 54 = .ok (.iconst 1, 1) := dk_4 (dk_at dksX13_eden_2 9 rfl rfl)
theorem dX13_eden_55 : decode cX13_eden 55 = .ok (.bastore, 1) := dk_84 (dk_at dksX13_eden_2 10 rfl rfl)
theorem dX13_eden_56 : decode cX13_eden 56 = .ok (.iinc 2 1, 3) := dk_132 2 1 (dk_at dksX13_eden_2 11 rfl rfl)
theorem dX13_eden_59 : decode cX13_eden 59 = .ok (.goto (-23), 3) := dk_167 255 233 (dk_at dksX13_eden_2 14 rfl rfl)
theorem dX13_eden_62 : decode cX13_eden 62 = .ok (.iconst 0, 1) := dk_3 (dk_at dksX13_eden_2 17 rfl rfl)
theorem dX13_eden_63 : decode cX13_eden 63 = .ok (.istore_n 2, 1) := dk_61 (dk_at dksX13_eden_2 18 rfl rfl)
theorem dX13_eden_64 : decode cX13_eden 64 = .ok (.iconst 0, 1) := dk_3 (dk_at dksX13_eden_2 19 rfl rfl)
theorem dX13_eden_65 : decode cX13_eden 65 = .ok (.istore_n 3, 1) := dk_62 (dk_at dksX13_eden_2 20 rfl rfl)
theorem dX13_eden_66 : decode cX13_eden 66 = .ok (.iload_n 3, 1) := dk_29 (dk_at dksX13_eden_2 21 rfl rfl)
theorem dX13_eden_67 : decode cX13_eden 67 = .ok (.aload_n 0, 1) := dk_42 (dk_at dksX13_eden_2 22 rfl rfl)
theorem dX13_eden_68 : decode cX13_eden 68 = .ok (.invokevirtual 312, 3) := dk_182 1 56 (dk_at dksX13_eden_3 0 rfl rfl)
theorem dX13_eden_71 : decode cX13_eden 71 = .ok (.if_icmp .gt 21, 3) := dk_163 0 21 (dk_at dksX13_eden_3 3 rfl rfl)
theorem dX13_eden_74 : decode cX13_eden 74 = .ok (.aload_n 0, 1) := dk_42 (dk_at dksX13_eden_3 6 rfl rfl)
theorem dX13_eden_75 : decode cX13_eden 75 = .ok (.getfield 125, 3) := dk_180 0 125 (dk_at dksX13_eden_3 7 rfl rfl)
theorem dX13_eden_78 : decode cX13_eden 78 = .ok (.iload_n 3, 1) := dk_29 (dk_at dksX13_eden_3 10 rfl rfl)
theorem dX13_eden_79 : decode cX13_eden 79 = .ok (.baload, 1) := dk_51 (dk_at dksX13_eden_3 11 rfl rfl)
theorem dX13_eden_80 : decode cX13_eden 80 = .ok (.ifCond .ne 6, 3) := dk_154 0 6 (dk_at dksX13_eden_3 12 rfl rfl)
theorem dX13_eden_83 : decode cX13_eden 83 = .ok (.iinc 2 1, 3) := dk_132 2 1 (dk_at dksX13_eden_3 15 rfl rfl)
theorem dX13_eden_86 : decode cX13_eden 86 = .ok (.iinc 3 1, 3) := dk_132 3 1 (dk_at dksX13_eden_3 18 rfl rfl)
theorem dX13_eden_89 : decode cX13_eden 89 = .ok (.goto (-23), 3) := dk_167 255 233 (dk_at dksX13_eden_3 21 rfl rfl)
theorem dX13_eden_92 : decode cX13_eden 92 = .ok (.iload_n 2, 1) := dk_28 (dk_at dksX13_eden_4 0 rfl rfl)
theorem dX13_eden_93 : decode cX13_eden 93 = .ok (.ireturn, 1) := dk_172 (dk_at dksX13_eden_4 1 rfl rfl)
abbrev cX13_duel : ByteArray := prog_21_method_89_code
def yX13_duel : MethodName := ⟨RX13, "duel", "(II)I"⟩
def dkwX13_duel_3 : List UInt8 := [21, 6, 54, 4, 132, 5, 1, 167, 255, 207, 28, 154, 0, 8, 21, 4, 167, 0, 4, 29, 172]
abbrev dktX13_duel_3 : List UInt8 := dkwX13_duel_3 ++ []
def dkwX13_duel_2 : List UInt8 := [27, 182, 1, 160, 54, 6, 29, 155, 0, 13, 21, 6, 21, 4, 161, 0, 6, 167, 0, 10, 21, 5, 62]
abbrev dktX13_duel_2 : List UInt8 := dkwX13_duel_2 ++ dktX13_duel_3
def dkwX13_duel_1 : List UInt8 := [54, 4, 3, 54, 5, 21, 5, 42, 182, 1, 48, 162, 0, 46, 42, 42, 182, 1, 145, 4, 21, 5, 120, 130]
abbrev dktX13_duel_1 : List UInt8 := dkwX13_duel_1 ++ dktX13_duel_2
def dkwX13_duel_0 : List UInt8 := [27, 184, 1, 148, 153, 0, 12, 28, 3, 4, 184, 1, 52, 154, 0, 5, 2, 172, 16, 254, 62, 16, 254]
abbrev dktX13_duel_0 : List UInt8 := dkwX13_duel_0 ++ dktX13_duel_1
theorem dksX13_duel_0 : cX13_duel.data.toList.drop 0 = dktX13_duel_0 := by decide +kernel
theorem dksX13_duel_1 : cX13_duel.data.toList.drop 23 = dktX13_duel_1 := dk_seg dksX13_duel_0 23 rfl rfl
theorem dksX13_duel_2 : cX13_duel.data.toList.drop 47 = dktX13_duel_2 := dk_seg dksX13_duel_1 24 rfl rfl
theorem dksX13_duel_3 : cX13_duel.data.toList.drop 70 = dktX13_duel_3 := dk_seg dksX13_duel_2 23 rfl rfl
theorem dX13_duel_0 : decode cX13_duel 0 = .ok (.iload_n 1, 1) := dk_27 (dk_at dksX13_duel_0 0 rfl rfl)
theorem dX13_duel_1 : decode cX13_duel 1 = .ok (.invokestatic 404, 3) := dk_184 1 148 (dk_at dksX13_duel_0 1 rfl rfl)
theorem dX13_duel_4 : decode cX13_duel 4 = .ok (.ifCond .eq 12, 3) := dk_153 0 12 (dk_at dksX13_duel_0 4 rfl rfl)
theorem dX13_duel_7 : decode cX13_duel 7 = .ok (.iload_n 2, 1) := dk_28 (dk_at dksX13_duel_0 7 rfl rfl)
theorem dX13_duel_8 : decode cX13_duel 8 = .ok (.iconst 0, 1) := dk_3 (dk_at dksX13_duel_0 8 rfl rfl)
theorem dX13_duel_9 : decode cX13_duel 9 = .ok (.iconst 1, 1) := dk_4 (dk_at dksX13_duel_0 9 rfl rfl)
theorem dX13_duel_10 : decode cX13_duel 10 = .ok (.invokestatic 308, 3) := dk_184 1 52 (dk_at dksX13_duel_0 10 rfl rfl)
theorem dX13_duel_13 : decode cX13_duel 13 = .ok (.ifCond .ne 5, 3) := dk_154 0 5 (dk_at dksX13_duel_0 13 rfl rfl)
theorem dX13_duel_16 : decode cX13_duel 16 = .ok (.iconst (-1), 1) := dk_2 (dk_at dksX13_duel_0 16 rfl rfl)
theorem dX13_duel_17 : decode cX13_duel 17 = .ok (.ireturn, 1) := dk_172 (dk_at dksX13_duel_0 17 rfl rfl)
theorem dX13_duel_18 : decode cX13_duel 18 = .ok (.bipush (-2), 2) := dk_16 254 (dk_at dksX13_duel_0 18 rfl rfl)
theorem dX13_duel_20 : decode cX13_duel 20 = .ok (.istore_n 3, 1) := dk_62 (dk_at dksX13_duel_0 20 rfl rfl)
theorem dX13_duel_21 : decode cX13_duel 21 = .ok (.bipush (-2), 2) := dk_16 254 (dk_at dksX13_duel_0 21 rfl rfl)
theorem dX13_duel_23 : decode cX13_duel 23 = .ok (.istore 4, 2) := dk_54 4 (dk_at dksX13_duel_1 0 rfl rfl)
theorem dX13_duel_25 : decode cX13_duel 25 = .ok (.iconst 0, 1) := dk_3 (dk_at dksX13_duel_1 2 rfl rfl)
theorem dX13_duel_26 : decode cX13_duel 26 = .ok (.istore 5, 2) := dk_54 5 (dk_at dksX13_duel_1 3 rfl rfl)
theorem dX13_duel_28 : decode cX13_duel 28 = .ok (.iload 5, 2) := dk_21 5 (dk_at dksX13_duel_1 5 rfl rfl)
theorem dX13_duel_30 : decode cX13_duel 30 = .ok (.aload_n 0, 1) := dk_42 (dk_at dksX13_duel_1 7 rfl rfl)
theorem dX13_duel_31 : decode cX13_duel 31 = .ok (.invokevirtual 304, 3) := dk_182 1 48 (dk_at dksX13_duel_1 8 rfl rfl)
theorem dX13_duel_34 : decode cX13_duel 34 = .ok (.if_icmp .ge 46, 3) := dk_162 0 46 (dk_at dksX13_duel_1 11 rfl rfl)
theorem dX13_duel_37 : decode cX13_duel 37 = .ok (.aload_n 0, 1) := dk_42 (dk_at dksX13_duel_1 14 rfl rfl)
theorem dX13_duel_38 : decode cX13_duel 38 = .ok (.aload_n 0, 1) := dk_42 (dk_at dksX13_duel_1 15 rfl rfl)
theorem dX13_duel_39 : decode cX13_duel 39 = .ok (.invokevirtual 401, 3) := dk_182 1 145 (dk_at dksX13_duel_1 16 rfl rfl)
theorem dX13_duel_42 : decode cX13_duel 42 = .ok (.iconst 1, 1) := dk_4 (dk_at dksX13_duel_1 19 rfl rfl)
theorem dX13_duel_43 : decode cX13_duel 43 = .ok (.iload 5, 2) := dk_21 5 (dk_at dksX13_duel_1 20 rfl rfl)
theorem dX13_duel_45 : decode cX13_duel 45 = .ok (.ishl, 1) := dk_120 (dk_at dksX13_duel_1 22 rfl rfl)
theorem dX13_duel_46 : decode cX13_duel 46 = .ok (.ixor, 1) := dk_130 (dk_at dksX13_duel_1 23 rfl rfl)
theorem dX13_duel_47 : decode cX13_duel 47 = .ok (.iload_n 1, 1) := dk_27 (dk_at dksX13_duel_2 0 rfl rfl)
theorem dX13_duel_48 : decode cX13_duel 48 = .ok (.invokevirtual 416, 3) := dk_182 1 160 (dk_at dksX13_duel_2 1 rfl rfl)
theorem dX13_duel_51 : decode cX13_duel 51 = .ok (.istore 6, 2) := dk_54 6 (dk_at dksX13_duel_2 4 rfl rfl)
theorem dX13_duel_53 : decode cX13_duel 53 = .ok (.iload_n 3, 1) := dk_29 (dk_at dksX13_duel_2 6 rfl rfl)
theorem dX13_duel_54 : decode cX13_duel 54 = .ok (.ifCond .lt 13, 3) := dk_155 0 13 (dk_at dksX13_duel_2 7 rfl rfl)
theorem dX13_duel_57 : decode cX13_duel 57 = .ok (.iload 6, 2) := dk_21 6 (dk_at dksX13_duel_2 10 rfl rfl)
theorem dX13_duel_59 : decode cX13_duel 59 = .ok (.iload 4, 2) := dk_21 4 (dk_at dksX13_duel_2 12 rfl rfl)
theorem dX13_duel_61 : decode cX13_duel 61 = .ok (.if_icmp .lt 6, 3) := dk_161 0 6 (dk_at dksX13_duel_2 14 rfl rfl)
theorem dX13_duel_64 : decode cX13_duel 64 = .ok (.goto 10, 3) := dk_167 0 10 (dk_at dksX13_duel_2 17 rfl rfl)
theorem dX13_duel_67 : decode cX13_duel 67 = .ok (.iload 5, 2) := dk_21 5 (dk_at dksX13_duel_2 20 rfl rfl)
theorem dX13_duel_69 : decode cX13_duel 69 = .ok (.istore_n 3, 1) := dk_62 (dk_at dksX13_duel_2 22 rfl rfl)
theorem dX13_duel_70 : decode cX13_duel 70 = .ok (.iload 6, 2) := dk_21 6 (dk_at dksX13_duel_3 0 rfl rfl)
theorem dX13_duel_72 : decode cX13_duel 72 = .ok (.istore 4, 2) := dk_54 4 (dk_at dksX13_duel_3 2 rfl rfl)
theorem dX13_duel_74 : decode cX13_duel 74 = .ok (.iinc 5 1, 3) := dk_132 5 1 (dk_at dksX13_duel_3 4 rfl rfl)
theorem dX13_duel_77 : decode cX13_duel 77 = .ok (.goto (-49), 3) := dk_167 255 207 (dk_at dksX13_duel_3 7 rfl rfl)
theorem dX13_duel_80 : decode cX13_duel 80 = .ok (.iload_n 2, 1) := dk_28 (dk_at dksX13_duel_3 10 rfl rfl)
theorem dX13_duel_81 : decode cX13_duel 81 = .ok (.ifCond .ne 8, 3) := dk_154 0 8 (dk_at dksX13_duel_3 11 rfl rfl)
theorem dX13_duel_84 : decode cX13_duel 84 = .ok (.iload 4, 2) := dk_21 4 (dk_at dksX13_duel_3 14 rfl rfl)
theorem dX13_duel_86 : decode cX13_duel 86 = .ok (.goto 4, 3) := dk_167 0 4 (dk_at dksX13_duel_3 16 rfl rfl)
theorem dX13_duel_89 : decode cX13_duel 89 = .ok (.iload_n 3, 1) := dk_29 (dk_at dksX13_duel_3 19 rfl rfl)
theorem dX13_duel_90 : decode cX13_duel 90 = .ok (.ireturn, 1) := dk_172 (dk_at dksX13_duel_3 20 rfl rfl)
abbrev cX13_mostWith : ByteArray := prog_21_method_88_code
def yX13_mostWith : MethodName := ⟨RX13, "mostWith", "(II)I"⟩
def dkwX13_mostWith_2 : List UInt8 := [132, 4, 1, 167, 255, 219, 29, 172]
abbrev dktX13_mostWith_2 : List UInt8 := dkwX13_mostWith_2 ++ []
def dkwX13_mostWith_1 : List UInt8 := [4, 21, 4, 120, 130, 28, 182, 1, 133, 184, 1, 142, 54, 5, 21, 5, 29, 164, 0, 6, 21, 5, 62]
abbrev dktX13_mostWith_1 : List UInt8 := dkwX13_mostWith_1 ++ dktX13_mostWith_2
def dkwX13_mostWith_0 : List UInt8 := [42, 27, 28, 182, 1, 133, 184, 1, 142, 62, 3, 54, 4, 21, 4, 42, 182, 1, 48, 162, 0, 34, 42, 27]
abbrev dktX13_mostWith_0 : List UInt8 := dkwX13_mostWith_0 ++ dktX13_mostWith_1
theorem dksX13_mostWith_0 : cX13_mostWith.data.toList.drop 0 = dktX13_mostWith_0 := by decide +kernel
theorem dksX13_mostWith_1 : cX13_mostWith.data.toList.drop 24 = dktX13_mostWith_1 := dk_seg dksX13_mostWith_0 24 rfl rfl
theorem dksX13_mostWith_2 : cX13_mostWith.data.toList.drop 47 = dktX13_mostWith_2 := dk_seg dksX13_mostWith_1 23 rfl rfl
theorem dX13_mostWith_0 : decode cX13_mostWith 0 = .ok (.aload_n 0, 1) := dk_42 (dk_at dksX13_mostWith_0 0 rfl rfl)
theorem dX13_mostWith_1 : decode cX13_mostWith 1 = .ok (.iload_n 1, 1) := dk_27 (dk_at dksX13_mostWith_0 1 rfl rfl)
theorem dX13_mostWith_2 : decode cX13_mostWith 2 = .ok (.iload_n 2, 1) := dk_28 (dk_at dksX13_mostWith_0 2 rfl rfl)
theorem dX13_mostWith_3 : decode cX13_mostWith 3 = .ok (.invokevirtual 389, 3) := dk_182 1 133 (dk_at dksX13_mostWith_0 3 rfl rfl)
theorem dX13_mostWith_6 : decode cX13_mostWith 6 = .ok (.invokestatic 398, 3) := dk_184 1 142 (dk_at dksX13_mostWith_0 6 rfl rfl)
theorem dX13_mostWith_9 : decode cX13_mostWith 9 = .ok (.istore_n 3, 1) := dk_62 (dk_at dksX13_mostWith_0 9 rfl rfl)
theorem dX13_mostWith_10 : decode cX13_mostWith 10 = .ok (.iconst 0, 1) := dk_3 (dk_at dksX13_mostWith_0 10 rfl rfl)
theorem dX13_mostWith_11 : decode cX13_mostWith 11 = .ok (.istore 4, 2) := dk_54 4 (dk_at dksX13_mostWith_0 11 rfl rfl)
theorem dX13_mostWith_13 : decode cX13_mostWith 13 = .ok (.iload 4, 2) := dk_21 4 (dk_at dksX13_mostWith_0 13 rfl rfl)
theorem dX13_mostWith_15 : decode cX13_mostWith 15 = .ok (.aload_n 0, 1) := dk_42 (dk_at dksX13_mostWith_0 15 rfl rfl)
theorem dX13_mostWith_16 : decode cX13_mostWith 16 = .ok (.invokevirtual 304, 3) := dk_182 1 48 (dk_at dksX13_mostWith_0 16 rfl rfl)
theorem dX13_mostWith_19 : decode cX13_mostWith 19 = .ok (.if_icmp .ge 34, 3) := dk_162 0 34 (dk_at dksX13_mostWith_0 19 rfl rfl)
theorem dX13_mostWith_22 : decode cX13_mostWith 22 = .ok (.aload_n 0, 1) := dk_42 (dk_at dksX13_mostWith_0 22 rfl rfl)
theorem dX13_mostWith_23 : decode cX13_mostWith 23 = .ok (.iload_n 1, 1) := dk_27 (dk_at dksX13_mostWith_0 23 rfl rfl)
theorem dX13_mostWith_24 : decode cX13_mostWith 24 = .ok (.iconst 1, 1) := dk_4 (dk_at dksX13_mostWith_1 0 rfl rfl)
theorem dX13_mostWith_25 : decode cX13_mostWith 25 = .ok (.iload 4, 2) := dk_21 4 (dk_at dksX13_mostWith_1 1 rfl rfl)
theorem dX13_mostWith_27 : decode cX13_mostWith 27 = .ok (.ishl, 1) := dk_120 (dk_at dksX13_mostWith_1 3 rfl rfl)
theorem dX13_mostWith_28 : decode cX13_mostWith 28 = .ok (.ixor, 1) := dk_130 (dk_at dksX13_mostWith_1 4 rfl rfl)
theorem dX13_mostWith_29 : decode cX13_mostWith 29 = .ok (.iload_n 2, 1) := dk_28 (dk_at dksX13_mostWith_1 5 rfl rfl)
theorem dX13_mostWith_30 : decode cX13_mostWith 30 = .ok (.invokevirtual 389, 3) := dk_182 1 133 (dk_at dksX13_mostWith_1 6 rfl rfl)
theorem dX13_mostWith_33 : decode cX13_mostWith 33 = .ok (.invokestatic 398, 3) := dk_184 1 142 (dk_at dksX13_mostWith_1 9 rfl rfl)
theorem dX13_mostWith_36 : decode cX13_mostWith 36 = .ok (.istore 5, 2) := dk_54 5 (dk_at dksX13_mostWith_1 12 rfl rfl)
theorem dX13_mostWith_38 : decode cX13_mostWith 38 = .ok (.iload 5, 2) := dk_21 5 (dk_at dksX13_mostWith_1 14 rfl rfl)
theorem dX13_mostWith_40 : decode cX13_mostWith 40 = .ok (.iload_n 3, 1) := dk_29 (dk_at dksX13_mostWith_1 16 rfl rfl)
theorem dX13_mostWith_41 : decode cX13_mostWith 41 = .ok (.if_icmp .le 6, 3) := dk_164 0 6 (dk_at dksX13_mostWith_1 17 rfl rfl)
theorem dX13_mostWith_44 : decode cX13_mostWith 44 = .ok (.iload 5, 2) := dk_21 5 (dk_at dksX13_mostWith_1 20 rfl rfl)
theorem dX13_mostWith_46 : decode cX13_mostWith 46 = .ok (.istore_n 3, 1) := dk_62 (dk_at dksX13_mostWith_1 22 rfl rfl)
theorem dX13_mostWith_47 : decode cX13_mostWith 47 = .ok (.iinc 4 1, 3) := dk_132 4 1 (dk_at dksX13_mostWith_2 0 rfl rfl)
theorem dX13_mostWith_50 : decode cX13_mostWith 50 = .ok (.goto (-37), 3) := dk_167 255 219 (dk_at dksX13_mostWith_2 3 rfl rfl)
theorem dX13_mostWith_53 : decode cX13_mostWith 53 = .ok (.iload_n 3, 1) := dk_29 (dk_at dksX13_mostWith_2 6 rfl rfl)
theorem dX13_mostWith_54 : decode cX13_mostWith 54 = .ok (.ireturn, 1) := dk_172 (dk_at dksX13_mostWith_2 7 rfl rfl)
abbrev cX13_sentry : ByteArray := prog_21_method_92_code
def yX13_sentry : MethodName := ⟨RX13, "sentry", "(II)I"⟩
def dkwX13_sentry_5 : List UInt8 := [167, 0, 5, 21, 4, 172]
abbrev dktX13_sentry_5 : List UInt8 := dkwX13_sentry_5 ++ []
def dkwX13_sentry_4 : List UInt8 := [163, 0, 6, 167, 0, 10, 21, 5, 62, 21, 7, 54, 4, 132, 5, 1, 167, 255, 190, 28, 154, 0, 7, 29]
abbrev dktX13_sentry_4 : List UInt8 := dkwX13_sentry_4 ++ dktX13_sentry_5
def dkwX13_sentry_3 : List UInt8 := [27, 182, 1, 133, 184, 1, 142, 167, 0, 10, 42, 180, 0, 128, 21, 6, 46, 54, 7, 21, 7, 21, 4]
abbrev dktX13_sentry_3 : List UInt8 := dkwX13_sentry_3 ++ dktX13_sentry_4
def dkwX13_sentry_2 : List UInt8 := [182, 1, 48, 162, 0, 63, 42, 21, 5, 182, 1, 166, 54, 6, 21, 6, 156, 0, 18, 42, 42, 182, 1, 145]
abbrev dktX13_sentry_2 : List UInt8 := dkwX13_sentry_2 ++ dktX13_sentry_3
def dkwX13_sentry_1 : List UInt8 := [154, 0, 6, 16, 254, 172, 42, 27, 182, 1, 163, 3, 62, 2, 54, 4, 3, 54, 5, 21, 5, 42]
abbrev dktX13_sentry_1 : List UInt8 := dkwX13_sentry_1 ++ dktX13_sentry_2
def dkwX13_sentry_0 : List UInt8 := [27, 184, 1, 148, 153, 0, 12, 28, 3, 4, 184, 1, 52, 154, 0, 5, 2, 172, 42, 182, 1, 48]
abbrev dktX13_sentry_0 : List UInt8 := dkwX13_sentry_0 ++ dktX13_sentry_1
theorem dksX13_sentry_0 : cX13_sentry.data.toList.drop 0 = dktX13_sentry_0 := by decide +kernel
theorem dksX13_sentry_1 : cX13_sentry.data.toList.drop 22 = dktX13_sentry_1 := dk_seg dksX13_sentry_0 22 rfl rfl
theorem dksX13_sentry_2 : cX13_sentry.data.toList.drop 44 = dktX13_sentry_2 := dk_seg dksX13_sentry_1 22 rfl rfl
theorem dksX13_sentry_3 : cX13_sentry.data.toList.drop 68 = dktX13_sentry_3 := dk_seg dksX13_sentry_2 24 rfl rfl
theorem dksX13_sentry_4 : cX13_sentry.data.toList.drop 91 = dktX13_sentry_4 := dk_seg dksX13_sentry_3 23 rfl rfl
theorem dksX13_sentry_5 : cX13_sentry.data.toList.drop 115 = dktX13_sentry_5 := dk_seg dksX13_sentry_4 24 rfl rfl
theorem dX13_sentry_0 : decode cX13_sentry 0 = .ok (.iload_n 1, 1) := dk_27 (dk_at dksX13_sentry_0 0 rfl rfl)
theorem dX13_sentry_1 : decode cX13_sentry 1 = .ok (.invokestatic 404, 3) := dk_184 1 148 (dk_at dksX13_sentry_0 1 rfl rfl)
theorem dX13_sentry_4 : decode cX13_sentry 4 = .ok (.ifCond .eq 12, 3) := dk_153 0 12 (dk_at dksX13_sentry_0 4 rfl rfl)
theorem dX13_sentry_7 : decode cX13_sentry 7 = .ok (.iload_n 2, 1) := dk_28 (dk_at dksX13_sentry_0 7 rfl rfl)
theorem dX13_sentry_8 : decode cX13_sentry 8 = .ok (.iconst 0, 1) := dk_3 (dk_at dksX13_sentry_0 8 rfl rfl)
theorem dX13_sentry_9 : decode cX13_sentry 9 = .ok (.iconst 1, 1) := dk_4 (dk_at dksX13_sentry_0 9 rfl rfl)
theorem dX13_sentry_10 : decode cX13_sentry 10 = .ok (.invokestatic 308, 3) := dk_184 1 52 (dk_at dksX13_sentry_0 10 rfl rfl)
theorem dX13_sentry_13 : decode cX13_sentry 13 = .ok (.ifCond .ne 5, 3) := dk_154 0 5 (dk_at dksX13_sentry_0 13 rfl rfl)
theorem dX13_sentry_16 : decode cX13_sentry 16 = .ok (.iconst (-1), 1) := dk_2 (dk_at dksX13_sentry_0 16 rfl rfl)
theorem dX13_sentry_17 : decode cX13_sentry 17 = .ok (.ireturn, 1) := dk_172 (dk_at dksX13_sentry_0 17 rfl rfl)
theorem dX13_sentry_18 : decode cX13_sentry 18 = .ok (.aload_n 0, 1) := dk_42 (dk_at dksX13_sentry_0 18 rfl rfl)
theorem dX13_sentry_19 : decode cX13_sentry 19 = .ok (.invokevirtual 304, 3) := dk_182 1 48 (dk_at dksX13_sentry_0 19 rfl rfl)
theorem dX13_sentry_22 : decode cX13_sentry 22 = .ok (.ifCond .ne 6, 3) := dk_154 0 6 (dk_at dksX13_sentry_1 0 rfl rfl)
theorem dX13_sentry_25 : decode cX13_sentry 25 = .ok (.bipush (-2), 2) := dk_16 254 (dk_at dksX13_sentry_1 3 rfl rfl)
theorem dX13_sentry_27 : decode cX13_sentry 27 = .ok (.ireturn, 1) := dk_172 (dk_at dksX13_sentry_1 5 rfl rfl)
theorem dX13_sentry_28 : decode cX13_sentry 28 = .ok (.aload_n 0, 1) := dk_42 (dk_at dksX13_sentry_1 6 rfl rfl)
theorem dX13_sentry_29 : decode cX13_sentry 29 = .ok (.iload_n 1, 1) := dk_27 (dk_at dksX13_sentry_1 7 rfl rfl)
theorem dX13_sentry_30 : decode cX13_sentry 30 = .ok (.invokevirtual 419, 3) := dk_182 1 163 (dk_at dksX13_sentry_1 8 rfl rfl)
theorem dX13_sentry_33 : decode cX13_sentry 33 = .ok (.iconst 0, 1) := dk_3 (dk_at dksX13_sentry_1 11 rfl rfl)
theorem dX13_sentry_34 : decode cX13_sentry 34 = .ok (.istore_n 3, 1) := dk_62 (dk_at dksX13_sentry_1 12 rfl rfl)
theorem dX13_sentry_35 : decode cX13_sentry 35 = .ok (.iconst (-1), 1) := dk_2 (dk_at dksX13_sentry_1 13 rfl rfl)
theorem dX13_sentry_36 : decode cX13_sentry 36 = .ok (.istore 4, 2) := dk_54 4 (dk_at dksX13_sentry_1 14 rfl rfl)
theorem dX13_sentry_38 : decode cX13_sentry 38 = .ok (.iconst 0, 1) := dk_3 (dk_at dksX13_sentry_1 16 rfl rfl)
theorem dX13_sentry_39 : decode cX13_sentry 39 = .ok (.istore 5, 2) := dk_54 5 (dk_at dksX13_sentry_1 17 rfl rfl)
theorem dX13_sentry_41 : decode cX13_sentry 41 = .ok (.iload 5, 2) := dk_21 5 (dk_at dksX13_sentry_1 19 rfl rfl)
theorem dX13_sentry_43 : decode cX13_sentry 43 = .ok (.aload_n 0, 1) := dk_42 (dk_at dksX13_sentry_1 21 rfl rfl)
theorem dX13_sentry_44 : decode cX13_sentry 44 = .ok (.invokevirtual 304, 3) := dk_182 1 48 (dk_at dksX13_sentry_2 0 rfl rfl)
theorem dX13_sentry_47 : decode cX13_sentry 47 = .ok (.if_icmp .ge 63, 3) := dk_162 0 63 (dk_at dksX13_sentry_2 3 rfl rfl)
theorem dX13_sentry_50 : decode cX13_sentry 50 = .ok (.aload_n 0, 1) := dk_42 (dk_at dksX13_sentry_2 6 rfl rfl)
theorem dX13_sentry_51 : decode cX13_sentry 51 = .ok (.iload 5, 2) := dk_21 5 (dk_at dksX13_sentry_2 7 rfl rfl)
theorem dX13_sentry_53 : decode cX13_sentry 53 = .ok (.invokevirtual 422, 3) := dk_182 1 166 (dk_at dksX13_sentry_2 9 rfl rfl)
theorem dX13_sentry_56 : decode cX13_sentry 56 = .ok (.istore 6, 2) := dk_54 6 (dk_at dksX13_sentry_2 12 rfl rfl)
theorem dX13_sentry_58 : decode cX13_sentry 58 = .ok (.iload 6, 2) := dk_21 6 (dk_at dksX13_sentry_2 14 rfl rfl)
theorem dX13_sentry_60 : decode cX13_sentry 60 = .ok (.ifCond .ge 18, 3) := dk_156 0 18 (dk_at dksX13_sentry_2 16 rfl rfl)
theorem dX13_sentry_63 : decode cX13_sentry 63 = .ok (.aload_n 0, 1) := dk_42 (dk_at dksX13_sentry_2 19 rfl rfl)
theorem dX13_sentry_64 : decode cX13_sentry 64 = .ok (.aload_n 0, 1) := dk_42 (dk_at dksX13_sentry_2 20 rfl rfl)
theorem dX13_sentry_65 : decode cX13_sentry 65 = .ok (.invokevirtual 401, 3) := dk_182 1 145 (dk_at dksX13_sentry_2 21 rfl rfl)
theorem dX13_sentry_68 : decode cX13_sentry 68 = .ok (.iload_n 1, 1) := dk_27 (dk_at dksX13_sentry_3 0 rfl rfl)
theorem dX13_sentry_69 : decode cX13_sentry 69 = .ok (.invokevirtual 389, 3) := dk_182 1 133 (dk_at dksX13_sentry_3 1 rfl rfl)
theorem dX13_sentry_72 : decode cX13_sentry 72 = .ok (.invokestatic 398, 3) := dk_184 1 142 (dk_at dksX13_sentry_3 4 rfl rfl)
theorem dX13_sentry_75 : decode cX13_sentry 75 = .ok (.goto 10, 3) := dk_167 0 10 (dk_at dksX13_sentry_3 7 rfl rfl)
theorem dX13_sentry_78 : decode cX13_sentry 78 = .ok (.aload_n 0, 1) := dk_42 (dk_at dksX13_sentry_3 10 rfl rfl)
theorem dX13_sentry_79 : decode cX13_sentry 79 = .ok (.getfield 128, 3) := dk_180 0 128 (dk_at dksX13_sentry_3 11 rfl rfl)
theorem dX13_sentry_82 : decode cX13_sentry 82 = .ok (.iload 6, 2) := dk_21 6 (dk_at dksX13_sentry_3 14 rfl rfl)
theorem dX13_sentry_84 : decode cX13_sentry 84 = .ok (.iaload, 1) := dk_46 (dk_at dksX13_sentry_3 16 rfl rfl)
theorem dX13_sentry_85 : decode cX13_sentry 85 = .ok (.istore 7, 2) := dk_54 7 (dk_at dksX13_sentry_3 17 rfl rfl)
theorem dX13_sentry_87 : decode cX13_sentry 87 = .ok (.iload 7, 2) := dk_21 7 (dk_at dksX13_sentry_3 19 rfl rfl)
theorem dX13_sentry_89 : decode cX13_sentry 89 = .ok (.iload 4, 2) := dk_21 4 (dk_at dksX13_sentry_3 21 rfl rfl)
theorem dX13_sentry_91 : decode cX13_sentry 91 = .ok (.if_icmp .gt 6, 3) := dk_163 0 6 (dk_at dksX13_sentry_4 0 rfl rfl)
theorem dX13_sentry_94 : decode cX13_sentry 94 = .ok (.goto 10, 3) := dk_167 0 10 (dk_at dksX13_sentry_4 3 rfl rfl)
theorem dX13_sentry_97 : decode cX13_sentry 97 = .ok (.iload 5, 2) := dk_21 5 (dk_at dksX13_sentry_4 6 rfl rfl)
theorem dX13_sentry_99 : decode cX13_sentry 99 = .ok (.istore_n 3, 1) := dk_62 (dk_at dksX13_sentry_4 8 rfl rfl)
theorem dX13_sentry_100 : decode cX13_sentry 100 = .ok (.iload 7, 2) := dk_21 7 (dk_at dksX13_sentry_4 9 rfl rfl)
theorem dX13_sentry_102 : decode cX13_sentry 102 = .ok (.istore 4, 2) := dk_54 4 (dk_at dksX13_sentry_4 11 rfl rfl)
theorem dX13_sentry_104 : decode cX13_sentry 104 = .ok (.iinc 5 1, 3) := dk_132 5 1 (dk_at dksX13_sentry_4 13 rfl rfl)
theorem dX13_sentry_107 : decode cX13_sentry 107 = .ok (.goto (-66), 3) := dk_167 255 190 (dk_at dksX13_sentry_4 16 rfl rfl)
theorem dX13_sentry_110 : decode cX13_sentry 110 = .ok (.iload_n 2, 1) := dk_28 (dk_at dksX13_sentry_4 19 rfl rfl)
theorem dX13_sentry_111 : decode cX13_sentry 111 = .ok (.ifCond .ne 7, 3) := dk_154 0 7 (dk_at dksX13_sentry_4 20 rfl rfl)
theorem dX13_sentry_114 : decode cX13_sentry 114 = .ok (.iload_n 3, 1) := dk_29 (dk_at dksX13_sentry_4 23 rfl rfl)
theorem dX13_sentry_115 : decode cX13_sentry 115 = .ok (.goto 5, 3) := dk_167 0 5 (dk_at dksX13_sentry_5 0 rfl rfl)
theorem dX13_sentry_118 : decode cX13_sentry 118 = .ok (.iload 4, 2) := dk_21 4 (dk_at dksX13_sentry_5 3 rfl rfl)
theorem dX13_sentry_120 : decode cX13_sentry 120 = .ok (.ireturn, 1) := dk_172 (dk_at dksX13_sentry_5 5 rfl rfl)
abbrev cX13_fillsLeft : ByteArray := prog_21_method_90_code
def yX13_fillsLeft : MethodName := ⟨RX13, "fillsLeft", "(I)V"⟩
def dkwX13_fillsLeft_1 : List UInt8 := [27, 182, 1, 133, 184, 1, 142, 79, 132, 2, 1, 167, 255, 223, 177]
abbrev dktX13_fillsLeft_1 : List UInt8 := dkwX13_fillsLeft_1 ++ []
def dkwX13_fillsLeft_0 : List UInt8 := [3, 61, 28, 42, 182, 1, 48, 162, 0, 31, 42, 180, 0, 128, 28, 42, 42, 182, 1, 145, 4, 28, 120, 130]
abbrev dktX13_fillsLeft_0 : List UInt8 := dkwX13_fillsLeft_0 ++ dktX13_fillsLeft_1
theorem dksX13_fillsLeft_0 : cX13_fillsLeft.data.toList.drop 0 = dktX13_fillsLeft_0 := by decide +kernel
theorem dksX13_fillsLeft_1 : cX13_fillsLeft.data.toList.drop 24 = dktX13_fillsLeft_1 := dk_seg dksX13_fillsLeft_0 24 rfl rfl
theorem dX13_fillsLeft_0 : decode cX13_fillsLeft 0 = .ok (.iconst 0, 1) := dk_3 (dk_at dksX13_fillsLeft_0 0 rfl rfl)
theorem dX13_fillsLeft_1 : decode cX13_fillsLeft 1 = .ok (.istore_n 2, 1) := dk_61 (dk_at dksX13_fillsLeft_0 1 rfl rfl)
theorem dX13_fillsLeft_2 : decode cX13_fillsLeft 2 = .ok (.iload_n 2, 1) := dk_28 (dk_at dksX13_fillsLeft_0 2 rfl rfl)
theorem dX13_fillsLeft_3 : decode cX13_fillsLeft 3 = .ok (.aload_n 0, 1) := dk_42 (dk_at dksX13_fillsLeft_0 3 rfl rfl)
theorem dX13_fillsLeft_4 : decode cX13_fillsLeft 4 = .ok (.invokevirtual 304, 3) := dk_182 1 48 (dk_at dksX13_fillsLeft_0 4 rfl rfl)
theorem dX13_fillsLeft_7 : decode cX13_fillsLeft 7 = .ok (.if_icmp .ge 31, 3) := dk_162 0 31 (dk_at dksX13_fillsLeft_0 7 rfl rfl)
theorem dX13_fillsLeft_10 : decode cX13_fillsLeft 10 = .ok (.aload_n 0, 1) := dk_42 (dk_at dksX13_fillsLeft_0 10 rfl rfl)
theorem dX13_fillsLeft_11 : decode cX13_fillsLeft 11 = .ok (.getfield 128, 3) := dk_180 0 128 (dk_at dksX13_fillsLeft_0 11 rfl rfl)
theorem dX13_fillsLeft_14 : decode cX13_fillsLeft 14 = .ok (.iload_n 2, 1) := dk_28 (dk_at dksX13_fillsLeft_0 14 rfl rfl)
theorem dX13_fillsLeft_15 : decode cX13_fillsLeft 15 = .ok (.aload_n 0, 1) := dk_42 (dk_at dksX13_fillsLeft_0 15 rfl rfl)
theorem dX13_fillsLeft_16 : decode cX13_fillsLeft 16 = .ok (.aload_n 0, 1) := dk_42 (dk_at dksX13_fillsLeft_0 16 rfl rfl)
theorem dX13_fillsLeft_17 : decode cX13_fillsLeft 17 = .ok (.invokevirtual 401, 3) := dk_182 1 145 (dk_at dksX13_fillsLeft_0 17 rfl rfl)
theorem dX13_fillsLeft_20 : decode cX13_fillsLeft 20 = .ok (.iconst 1, 1) := dk_4 (dk_at dksX13_fillsLeft_0 20 rfl rfl)
theorem dX13_fillsLeft_21 : decode cX13_fillsLeft 21 = .ok (.iload_n 2, 1) := dk_28 (dk_at dksX13_fillsLeft_0 21 rfl rfl)
theorem dX13_fillsLeft_22 : decode cX13_fillsLeft 22 = .ok (.ishl, 1) := dk_120 (dk_at dksX13_fillsLeft_0 22 rfl rfl)
theorem dX13_fillsLeft_23 : decode cX13_fillsLeft 23 = .ok (.ixor, 1) := dk_130 (dk_at dksX13_fillsLeft_0 23 rfl rfl)
theorem dX13_fillsLeft_24 : decode cX13_fillsLeft 24 = .ok (.iload_n 1, 1) := dk_27 (dk_at dksX13_fillsLeft_1 0 rfl rfl)
theorem dX13_fillsLeft_25 : decode cX13_fillsLeft 25 = .ok (.invokevirtual 389, 3) := dk_182 1 133 (dk_at dksX13_fillsLeft_1 1 rfl rfl)
theorem dX13_fillsLeft_28 : decode cX13_fillsLeft 28 = .ok (.invokestatic 398, 3) := dk_184 1 142 (dk_at dksX13_fillsLeft_1 4 rfl rfl)
theorem dX13_fillsLeft_31 : decode cX13_fillsLeft 31 = .ok (.iastore, 1) := dk_79 (dk_at dksX13_fillsLeft_1 7 rfl rfl)
theorem dX13_fillsLeft_32 : decode cX13_fillsLeft 32 = .ok (.iinc 2 1, 3) := dk_132 2 1 (dk_at dksX13_fillsLeft_1 8 rfl rfl)
theorem dX13_fillsLeft_35 : decode cX13_fillsLeft 35 = .ok (.goto (-33), 3) := dk_167 255 223 (dk_at dksX13_fillsLeft_1 11 rfl rfl)
theorem dX13_fillsLeft_38 : decode cX13_fillsLeft 38 = .ok (.return_, 1) := dk_177 (dk_at dksX13_fillsLeft_1 14 rfl rfl)
abbrev cX13_worstBut : ByteArray := prog_21_method_91_code
def yX13_worstBut : MethodName := ⟨RX13, "worstBut", "(I)I"⟩
def dkwX13_worstBut_1 : List UInt8 := [180, 0, 128, 29, 46, 42, 180, 0, 128, 28, 46, 162, 0, 5, 29, 61, 132, 3, 1, 167, 255, 219, 28, 172]
abbrev dktX13_worstBut_1 : List UInt8 := dkwX13_worstBut_1 ++ []
def dkwX13_worstBut_0 : List UInt8 := [2, 61, 3, 62, 29, 42, 182, 1, 48, 162, 0, 35, 29, 27, 159, 0, 24, 28, 155, 0, 18, 42]
abbrev dktX13_worstBut_0 : List UInt8 := dkwX13_worstBut_0 ++ dktX13_worstBut_1
theorem dksX13_worstBut_0 : cX13_worstBut.data.toList.drop 0 = dktX13_worstBut_0 := by decide +kernel
theorem dksX13_worstBut_1 : cX13_worstBut.data.toList.drop 22 = dktX13_worstBut_1 := dk_seg dksX13_worstBut_0 22 rfl rfl
theorem dX13_worstBut_0 : decode cX13_worstBut 0 = .ok (.iconst (-1), 1) := dk_2 (dk_at dksX13_worstBut_0 0 rfl rfl)
theorem dX13_worstBut_1 : decode cX13_worstBut 1 = .ok (.istore_n 2, 1) := dk_61 (dk_at dksX13_worstBut_0 1 rfl rfl)
theorem dX13_worstBut_2 : decode cX13_worstBut 2 = .ok (.iconst 0, 1) := dk_3 (dk_at dksX13_worstBut_0 2 rfl rfl)
theorem dX13_worstBut_3 : decode cX13_worstBut 3 = .ok (.istore_n 3, 1) := dk_62 (dk_at dksX13_worstBut_0 3 rfl rfl)
theorem dX13_worstBut_4 : decode cX13_worstBut 4 = .ok (.iload_n 3, 1) := dk_29 (dk_at dksX13_worstBut_0 4 rfl rfl)
theorem dX13_worstBut_5 : decode cX13_worstBut 5 = .ok (.aload_n 0, 1) := dk_42 (dk_at dksX13_worstBut_0 5 rfl rfl)
theorem dX13_worstBut_6 : decode cX13_worstBut 6 = .ok (.invokevirtual 304, 3) := dk_182 1 48 (dk_at dksX13_worstBut_0 6 rfl rfl)
theorem dX13_worstBut_9 : decode cX13_worstBut 9 = .ok (.if_icmp .ge 35, 3) := dk_162 0 35 (dk_at dksX13_worstBut_0 9 rfl rfl)
theorem dX13_worstBut_12 : decode cX13_worstBut 12 = .ok (.iload_n 3, 1) := dk_29 (dk_at dksX13_worstBut_0 12 rfl rfl)
theorem dX13_worstBut_13 : decode cX13_worstBut 13 = .ok (.iload_n 1, 1) := dk_27 (dk_at dksX13_worstBut_0 13 rfl rfl)
theorem dX13_worstBut_14 : decode cX13_worstBut 14 = .ok (.if_icmp .eq 24, 3) := dk_159 0 24 (dk_at dksX13_worstBut_0 14 rfl rfl)
theorem dX13_worstBut_17 : decode cX13_worstBut 17 = .ok (.iload_n 2, 1) := dk_28 (dk_at dksX13_worstBut_0 17 rfl rfl)
theorem dX13_worstBut_18 : decode cX13_worstBut 18 = .ok (.ifCond .lt 18, 3) := dk_155 0 18 (dk_at dksX13_worstBut_0 18 rfl rfl)
theorem dX13_worstBut_21 : decode cX13_worstBut 21 = .ok (.aload_n 0, 1) := dk_42 (dk_at dksX13_worstBut_0 21 rfl rfl)
theorem dX13_worstBut_22 : decode cX13_worstBut 22 = .ok (.getfield 128, 3) := dk_180 0 128 (dk_at dksX13_worstBut_1 0 rfl rfl)
theorem dX13_worstBut_25 : decode cX13_worstBut 25 = .ok (.iload_n 3, 1) := dk_29 (dk_at dksX13_worstBut_1 3 rfl rfl)
theorem dX13_worstBut_26 : decode cX13_worstBut 26 = .ok (.iaload, 1) := dk_46 (dk_at dksX13_worstBut_1 4 rfl rfl)
theorem dX13_worstBut_27 : decode cX13_worstBut 27 = .ok (.aload_n 0, 1) := dk_42 (dk_at dksX13_worstBut_1 5 rfl rfl)
theorem dX13_worstBut_28 : decode cX13_worstBut 28 = .ok (.getfield 128, 3) := dk_180 0 128 (dk_at dksX13_worstBut_1 6 rfl rfl)
theorem dX13_worstBut_31 : decode cX13_worstBut 31 = .ok (.iload_n 2, 1) := dk_28 (dk_at dksX13_worstBut_1 9 rfl rfl)
theorem dX13_worstBut_32 : decode cX13_worstBut 32 = .ok (.iaload, 1) := dk_46 (dk_at dksX13_worstBut_1 10 rfl rfl)
theorem dX13_worstBut_33 : decode cX13_worstBut 33 = .ok (.if_icmp .ge 5, 3) := dk_162 0 5 (dk_at dksX13_worstBut_1 11 rfl rfl)
theorem dX13_worstBut_36 : decode cX13_worstBut 36 = .ok (.iload_n 3, 1) := dk_29 (dk_at dksX13_worstBut_1 14 rfl rfl)
theorem dX13_worstBut_37 : decode cX13_worstBut 37 = .ok (.istore_n 2, 1) := dk_61 (dk_at dksX13_worstBut_1 15 rfl rfl)
theorem dX13_worstBut_38 : decode cX13_worstBut 38 = .ok (.iinc 3 1, 3) := dk_132 3 1 (dk_at dksX13_worstBut_1 16 rfl rfl)
theorem dX13_worstBut_41 : decode cX13_worstBut 41 = .ok (.goto (-37), 3) := dk_167 255 219 (dk_at dksX13_worstBut_1 19 rfl rfl)
theorem dX13_worstBut_44 : decode cX13_worstBut 44 = .ok (.iload_n 2, 1) := dk_28 (dk_at dksX13_worstBut_1 22 rfl rfl)
theorem dX13_worstBut_45 : decode cX13_worstBut 45 = .ok (.ireturn, 1) := dk_172 (dk_at dksX13_worstBut_1 23 rfl rfl)
abbrev cX13_worst : ByteArray := prog_21_method_93_code
def yX13_worst : MethodName := ⟨RX13, "worst", "(II)I"⟩
def dkwX13_worst_2 : List UInt8 := [180, 0, 128, 42, 2, 182, 1, 166, 46, 172]
abbrev dktX13_worst_2 : List UInt8 := dkwX13_worst_2 ++ []
def dkwX13_worst_1 : List UInt8 := [154, 0, 6, 16, 254, 172, 42, 27, 182, 1, 163, 28, 154, 0, 11, 42, 2, 182, 1, 166, 167, 0, 13, 42]
abbrev dktX13_worst_1 : List UInt8 := dkwX13_worst_1 ++ dktX13_worst_2
def dkwX13_worst_0 : List UInt8 := [27, 184, 1, 148, 153, 0, 12, 28, 3, 4, 184, 1, 52, 154, 0, 5, 2, 172, 42, 182, 1, 48]
abbrev dktX13_worst_0 : List UInt8 := dkwX13_worst_0 ++ dktX13_worst_1
theorem dksX13_worst_0 : cX13_worst.data.toList.drop 0 = dktX13_worst_0 := by decide +kernel
theorem dksX13_worst_1 : cX13_worst.data.toList.drop 22 = dktX13_worst_1 := dk_seg dksX13_worst_0 22 rfl rfl
theorem dksX13_worst_2 : cX13_worst.data.toList.drop 46 = dktX13_worst_2 := dk_seg dksX13_worst_1 24 rfl rfl
theorem dX13_worst_0 : decode cX13_worst 0 = .ok (.iload_n 1, 1) := dk_27 (dk_at dksX13_worst_0 0 rfl rfl)
theorem dX13_worst_1 : decode cX13_worst 1 = .ok (.invokestatic 404, 3) := dk_184 1 148 (dk_at dksX13_worst_0 1 rfl rfl)
theorem dX13_worst_4 : decode cX13_worst 4 = .ok (.ifCond .eq 12, 3) := dk_153 0 12 (dk_at dksX13_worst_0 4 rfl rfl)
theorem dX13_worst_7 : decode cX13_worst 7 = .ok (.iload_n 2, 1) := dk_28 (dk_at dksX13_worst_0 7 rfl rfl)
theorem dX13_worst_8 : decode cX13_worst 8 = .ok (.iconst 0, 1) := dk_3 (dk_at dksX13_worst_0 8 rfl rfl)
theorem dX13_worst_9 : decode cX13_worst 9 = .ok (.iconst 1, 1) := dk_4 (dk_at dksX13_worst_0 9 rfl rfl)
theorem dX13_worst_10 : decode cX13_worst 10 = .ok (.invokestatic 308, 3) := dk_184 1 52 (dk_at dksX13_worst_0 10 rfl rfl)
theorem dX13_worst_13 : decode cX13_worst 13 = .ok (.ifCond .ne 5, 3) := dk_154 0 5 (dk_at dksX13_worst_0 13 rfl rfl)
theorem dX13_worst_16 : decode cX13_worst 16 = .ok (.iconst (-1), 1) := dk_2 (dk_at dksX13_worst_0 16 rfl rfl)
theorem dX13_worst_17 : decode cX13_worst 17 = .ok (.ireturn, 1) := dk_172 (dk_at dksX13_worst_0 17 rfl rfl)
theorem dX13_worst_18 : decode cX13_worst 18 = .ok (.aload_n 0, 1) := dk_42 (dk_at dksX13_worst_0 18 rfl rfl)
theorem dX13_worst_19 : decode cX13_worst 19 = .ok (.invokevirtual 304, 3) := dk_182 1 48 (dk_at dksX13_worst_0 19 rfl rfl)
theorem dX13_worst_22 : decode cX13_worst 22 = .ok (.ifCond .ne 6, 3) := dk_154 0 6 (dk_at dksX13_worst_1 0 rfl rfl)
theorem dX13_worst_25 : decode cX13_worst 25 = .ok (.bipush (-2), 2) := dk_16 254 (dk_at dksX13_worst_1 3 rfl rfl)
theorem dX13_worst_27 : decode cX13_worst 27 = .ok (.ireturn, 1) := dk_172 (dk_at dksX13_worst_1 5 rfl rfl)
theorem dX13_worst_28 : decode cX13_worst 28 = .ok (.aload_n 0, 1) := dk_42 (dk_at dksX13_worst_1 6 rfl rfl)
theorem dX13_worst_29 : decode cX13_worst 29 = .ok (.iload_n 1, 1) := dk_27 (dk_at dksX13_worst_1 7 rfl rfl)
theorem dX13_worst_30 : decode cX13_worst 30 = .ok (.invokevirtual 419, 3) := dk_182 1 163 (dk_at dksX13_worst_1 8 rfl rfl)
theorem dX13_worst_33 : decode cX13_worst 33 = .ok (.iload_n 2, 1) := dk_28 (dk_at dksX13_worst_1 11 rfl rfl)
theorem dX13_worst_34 : decode cX13_worst 34 = .ok (.ifCond .ne 11, 3) := dk_154 0 11 (dk_at dksX13_worst_1 12 rfl rfl)
theorem dX13_worst_37 : decode cX13_worst 37 = .ok (.aload_n 0, 1) := dk_42 (dk_at dksX13_worst_1 15 rfl rfl)
theorem dX13_worst_38 : decode cX13_worst 38 = .ok (.iconst (-1), 1) := dk_2 (dk_at dksX13_worst_1 16 rfl rfl)
theorem dX13_worst_39 : decode cX13_worst 39 = .ok (.invokevirtual 422, 3) := dk_182 1 166 (dk_at dksX13_worst_1 17 rfl rfl)
theorem dX13_worst_42 : decode cX13_worst 42 = .ok (.goto 13, 3) := dk_167 0 13 (dk_at dksX13_worst_1 20 rfl rfl)
theorem dX13_worst_45 : decode cX13_worst 45 = .ok (.aload_n 0, 1) := dk_42 (dk_at dksX13_worst_1 23 rfl rfl)
theorem dX13_worst_46 : decode cX13_worst 46 = .ok (.getfield 128, 3) := dk_180 0 128 (dk_at dksX13_worst_2 0 rfl rfl)
theorem dX13_worst_49 : decode cX13_worst 49 = .ok (.aload_n 0, 1) := dk_42 (dk_at dksX13_worst_2 3 rfl rfl)
theorem dX13_worst_50 : decode cX13_worst 50 = .ok (.iconst (-1), 1) := dk_2 (dk_at dksX13_worst_2 4 rfl rfl)
theorem dX13_worst_51 : decode cX13_worst 51 = .ok (.invokevirtual 422, 3) := dk_182 1 166 (dk_at dksX13_worst_2 5 rfl rfl)
theorem dX13_worst_54 : decode cX13_worst 54 = .ok (.iaload, 1) := dk_46 (dk_at dksX13_worst_2 8 rfl rfl)
theorem dX13_worst_55 : decode cX13_worst 55 = .ok (.ireturn, 1) := dk_172 (dk_at dksX13_worst_2 9 rfl rfl)
abbrev cX13_parting : ByteArray := prog_21_method_94_code
def yX13_parting : MethodName := ⟨RX13, "parting", "(I)I"⟩
def dkwX13_parting_3 : List UInt8 := [180, 0, 107, 16, 27, 28, 96, 46, 172]
abbrev dktX13_parting_3 : List UInt8 := dkwX13_parting_3 ++ []
def dkwX13_parting_2 : List UInt8 := [96, 46, 164, 0, 5, 29, 61, 132, 3, 1, 167, 255, 222, 27, 154, 0, 7, 28, 167, 0, 12, 42]
abbrev dktX13_parting_2 : List UInt8 := dkwX13_parting_2 ++ dktX13_parting_3
def dkwX13_parting_1 : List UInt8 := [29, 42, 182, 1, 48, 162, 0, 32, 42, 180, 0, 107, 16, 27, 29, 96, 46, 42, 180, 0, 107, 16, 27, 28]
abbrev dktX13_parting_1 : List UInt8 := dkwX13_parting_1 ++ dktX13_parting_2
def dkwX13_parting_0 : List UInt8 := [27, 3, 4, 184, 1, 52, 153, 0, 10, 42, 182, 1, 48, 154, 0, 7, 19, 1, 117, 172, 3, 61, 4, 62]
abbrev dktX13_parting_0 : List UInt8 := dkwX13_parting_0 ++ dktX13_parting_1
theorem dksX13_parting_0 : cX13_parting.data.toList.drop 0 = dktX13_parting_0 := by decide +kernel
theorem dksX13_parting_1 : cX13_parting.data.toList.drop 24 = dktX13_parting_1 := dk_seg dksX13_parting_0 24 rfl rfl
theorem dksX13_parting_2 : cX13_parting.data.toList.drop 48 = dktX13_parting_2 := dk_seg dksX13_parting_1 24 rfl rfl
theorem dksX13_parting_3 : cX13_parting.data.toList.drop 70 = dktX13_parting_3 := dk_seg dksX13_parting_2 22 rfl rfl
theorem dX13_parting_0 : decode cX13_parting 0 = .ok (.iload_n 1, 1) := dk_27 (dk_at dksX13_parting_0 0 rfl rfl)
theorem dX13_parting_1 : decode cX13_parting 1 = .ok (.iconst 0, 1) := dk_3 (dk_at dksX13_parting_0 1 rfl rfl)
theorem dX13_parting_2 : decode cX13_parting 2 = .ok (.iconst 1, 1) := dk_4 (dk_at dksX13_parting_0 2 rfl rfl)
theorem dX13_parting_3 : decode cX13_parting 3 = .ok (.invokestatic 308, 3) := dk_184 1 52 (dk_at dksX13_parting_0 3 rfl rfl)
theorem dX13_parting_6 : decode cX13_parting 6 = .ok (.ifCond .eq 10, 3) := dk_153 0 10 (dk_at dksX13_parting_0 6 rfl rfl)
theorem dX13_parting_9 : decode cX13_parting 9 = .ok (.aload_n 0, 1) := dk_42 (dk_at dksX13_parting_0 9 rfl rfl)
theorem dX13_parting_10 : decode cX13_parting 10 = .ok (.invokevirtual 304, 3) := dk_182 1 48 (dk_at dksX13_parting_0 10 rfl rfl)
theorem dX13_parting_13 : decode cX13_parting 13 = .ok (.ifCond .ne 7, 3) := dk_154 0 7 (dk_at dksX13_parting_0 13 rfl rfl)
theorem dX13_parting_16 : decode cX13_parting 16 = .ok (.ldc_w 373, 3) := dk_19 1 117 (dk_at dksX13_parting_0 16 rfl rfl)
theorem dX13_parting_19 : decode cX13_parting 19 = .ok (.ireturn, 1) := dk_172 (dk_at dksX13_parting_0 19 rfl rfl)
theorem dX13_parting_20 : decode cX13_parting 20 = .ok (.iconst 0, 1) := dk_3 (dk_at dksX13_parting_0 20 rfl rfl)
theorem dX13_parting_21 : decode cX13_parting 21 = .ok (.istore_n 2, 1) := dk_61 (dk_at dksX13_parting_0 21 rfl rfl)
theorem dX13_parting_22 : decode cX13_parting 22 = .ok (.iconst 1, 1) := dk_4 (dk_at dksX13_parting_0 22 rfl rfl)
theorem dX13_parting_23 : decode cX13_parting 23 = .ok (.istore_n 3, 1) := dk_62 (dk_at dksX13_parting_0 23 rfl rfl)
theorem dX13_parting_24 : decode cX13_parting 24 = .ok (.iload_n 3, 1) := dk_29 (dk_at dksX13_parting_1 0 rfl rfl)
theorem dX13_parting_25 : decode cX13_parting 25 = .ok (.aload_n 0, 1) := dk_42 (dk_at dksX13_parting_1 1 rfl rfl)
theorem dX13_parting_26 : decode cX13_parting 26 = .ok (.invokevirtual 304, 3) := dk_182 1 48 (dk_at dksX13_parting_1 2 rfl rfl)
theorem dX13_parting_29 : decode cX13_parting 29 = .ok (.if_icmp .ge 32, 3) := dk_162 0 32 (dk_at dksX13_parting_1 5 rfl rfl)
theorem dX13_parting_32 : decode cX13_parting 32 = .ok (.aload_n 0, 1) := dk_42 (dk_at dksX13_parting_1 8 rfl rfl)
theorem dX13_parting_33 : decode cX13_parting 33 = .ok (.getfield 107, 3) := dk_180 0 107 (dk_at dksX13_parting_1 9 rfl rfl)
theorem dX13_parting_36 : decode cX13_parting 36 = .ok (.bipush 27, 2) := dk_16 27 (dk_at dksX13_parting_1 12 rfl rfl)
theorem dX13_parting_38 : decode cX13_parting 38 = .ok (.iload_n 3, 1) := dk_29 (dk_at dksX13_parting_1 14 rfl rfl)
theorem dX13_parting_39 : decode cX13_parting 39 = .ok (.iadd, 1) := dk_96 (dk_at dksX13_parting_1 15 rfl rfl)
theorem dX13_parting_40 : decode cX13_parting 40 = .ok (.iaload, 1) := dk_46 (dk_at dksX13_parting_1 16 rfl rfl)
theorem dX13_parting_41 : decode cX13_parting 41 = .ok (.aload_n 0, 1) := dk_42 (dk_at dksX13_parting_1 17 rfl rfl)
theorem dX13_parting_42 : decode cX13_parting 42 = .ok (.getfield 107, 3) := dk_180 0 107 (dk_at dksX13_parting_1 18 rfl rfl)
theorem dX13_parting_45 : decode cX13_parting 45 = .ok (.bipush 27, 2) := dk_16 27 (dk_at dksX13_parting_1 21 rfl rfl)
theorem dX13_parting_47 : decode cX13_parting 47 = .ok (.iload_n 2, 1) := dk_28 (dk_at dksX13_parting_1 23 rfl rfl)
theorem dX13_parting_48 : decode cX13_parting 48 = .ok (.iadd, 1) := dk_96 (dk_at dksX13_parting_2 0 rfl rfl)
theorem dX13_parting_49 : decode cX13_parting 49 = .ok (.iaload, 1) := dk_46 (dk_at dksX13_parting_2 1 rfl rfl)
theorem dX13_parting_50 : decode cX13_parting 50 = .ok (.if_icmp .le 5, 3) := dk_164 0 5 (dk_at dksX13_parting_2 2 rfl rfl)
theorem dX13_parting_53 : decode cX13_parting 53 = .ok (.iload_n 3, 1) := dk_29 (dk_at dksX13_parting_2 5 rfl rfl)
theorem dX13_parting_54 : decode cX13_parting 54 = .ok (.istore_n 2, 1) := dk_61 (dk_at dksX13_parting_2 6 rfl rfl)
theorem dX13_parting_55 : decode cX13_parting 55 = .ok (.iinc 3 1, 3) := dk_132 3 1 (dk_at dksX13_parting_2 7 rfl rfl)
theorem dX13_parting_58 : decode cX13_parting 58 = .ok (.goto (-34), 3) := dk_167 255 222 (dk_at dksX13_parting_2 10 rfl rfl)
theorem dX13_parting_61 : decode cX13_parting 61 = .ok (.iload_n 1, 1) := dk_27 (dk_at dksX13_parting_2 13 rfl rfl)
theorem dX13_parting_62 : decode cX13_parting 62 = .ok (.ifCond .ne 7, 3) := dk_154 0 7 (dk_at dksX13_parting_2 14 rfl rfl)
theorem dX13_parting_65 : decode cX13_parting 65 = .ok (.iload_n 2, 1) := dk_28 (dk_at dksX13_parting_2 17 rfl rfl)
theorem dX13_parting_66 : decode cX13_parting 66 = .ok (.goto 12, 3) := dk_167 0 12 (dk_at dksX13_parting_2 18 rfl rfl)
theorem dX13_parting_69 : decode cX13_parting 69 = .ok (.aload_n 0, 1) := dk_42 (dk_at dksX13_parting_2 21 rfl rfl)
theorem dX13_parting_70 : decode cX13_parting 70 = .ok (.getfield 107, 3) := dk_180 0 107 (dk_at dksX13_parting_3 0 rfl rfl)
theorem dX13_parting_73 : decode cX13_parting 73 = .ok (.bipush 27, 2) := dk_16 27 (dk_at dksX13_parting_3 3 rfl rfl)
theorem dX13_parting_75 : decode cX13_parting 75 = .ok (.iload_n 2, 1) := dk_28 (dk_at dksX13_parting_3 5 rfl rfl)
theorem dX13_parting_76 : decode cX13_parting 76 = .ok (.iadd, 1) := dk_96 (dk_at dksX13_parting_3 6 rfl rfl)
theorem dX13_parting_77 : decode cX13_parting 77 = .ok (.iaload, 1) := dk_46 (dk_at dksX13_parting_3 7 rfl rfl)
theorem dX13_parting_78 : decode cX13_parting 78 = .ok (.ireturn, 1) := dk_172 (dk_at dksX13_parting_3 8 rfl rfl)
abbrev cX13_shows : ByteArray := prog_21_method_96_code
def yX13_shows : MethodName := ⟨RX13, "shows", "(I)I"⟩
def dkwX13_shows_1 : List UInt8 := [184, 1, 142, 172]
abbrev dktX13_shows_1 : List UInt8 := dkwX13_shows_1 ++ []
def dkwX13_shows_0 : List UInt8 := [27, 184, 1, 127, 154, 0, 5, 2, 172, 42, 182, 1, 105, 42, 27, 182, 1, 111, 42, 182, 1, 169]
abbrev dktX13_shows_0 : List UInt8 := dkwX13_shows_0 ++ dktX13_shows_1
theorem dksX13_shows_0 : cX13_shows.data.toList.drop 0 = dktX13_shows_0 := by decide +kernel
theorem dksX13_shows_1 : cX13_shows.data.toList.drop 22 = dktX13_shows_1 := dk_seg dksX13_shows_0 22 rfl rfl
theorem dX13_shows_0 : decode cX13_shows 0 = .ok (.iload_n 1, 1) := dk_27 (dk_at dksX13_shows_0 0 rfl rfl)
theorem dX13_shows_1 : decode cX13_shows 1 = .ok (.invokestatic 383, 3) := dk_184 1 127 (dk_at dksX13_shows_0 1 rfl rfl)
theorem dX13_shows_4 : decode cX13_shows 4 = .ok (.ifCond .ne 5, 3) := dk_154 0 5 (dk_at dksX13_shows_0 4 rfl rfl)
theorem dX13_shows_7 : decode cX13_shows 7 = .ok (.iconst (-1), 1) := dk_2 (dk_at dksX13_shows_0 7 rfl rfl)
theorem dX13_shows_8 : decode cX13_shows 8 = .ok (.ireturn, 1) := dk_172 (dk_at dksX13_shows_0 8 rfl rfl)
theorem dX13_shows_9 : decode cX13_shows 9 = .ok (.aload_n 0, 1) := dk_42 (dk_at dksX13_shows_0 9 rfl rfl)
theorem dX13_shows_10 : decode cX13_shows 10 = .ok (.invokevirtual 361, 3) := dk_182 1 105 (dk_at dksX13_shows_0 10 rfl rfl)
theorem dX13_shows_13 : decode cX13_shows 13 = .ok (.aload_n 0, 1) := dk_42 (dk_at dksX13_shows_0 13 rfl rfl)
theorem dX13_shows_14 : decode cX13_shows 14 = .ok (.iload_n 1, 1) := dk_27 (dk_at dksX13_shows_0 14 rfl rfl)
theorem dX13_shows_15 : decode cX13_shows 15 = .ok (.invokevirtual 367, 3) := dk_182 1 111 (dk_at dksX13_shows_0 15 rfl rfl)
theorem dX13_shows_18 : decode cX13_shows 18 = .ok (.aload_n 0, 1) := dk_42 (dk_at dksX13_shows_0 18 rfl rfl)
theorem dX13_shows_19 : decode cX13_shows 19 = .ok (.invokevirtual 425, 3) := dk_182 1 169 (dk_at dksX13_shows_0 19 rfl rfl)
theorem dX13_shows_22 : decode cX13_shows 22 = .ok (.invokestatic 398, 3) := dk_184 1 142 (dk_at dksX13_shows_1 0 rfl rfl)
theorem dX13_shows_25 : decode cX13_shows 25 = .ok (.ireturn, 1) := dk_172 (dk_at dksX13_shows_1 3 rfl rfl)
abbrev cX13_showBits : ByteArray := prog_21_method_95_code
def yX13_showBits : MethodName := ⟨RX13, "showBits", "()I"⟩
def dkwX13_showBits_1 : List UInt8 := [27, 4, 28, 120, 128, 60, 132, 2, 1, 167, 255, 227, 27, 172]
abbrev dktX13_showBits_1 : List UInt8 := dkwX13_showBits_1 ++ []
def dkwX13_showBits_0 : List UInt8 := [3, 60, 3, 61, 28, 42, 182, 1, 48, 162, 0, 27, 42, 180, 0, 110, 16, 27, 28, 96, 46, 158, 0, 9]
abbrev dktX13_showBits_0 : List UInt8 := dkwX13_showBits_0 ++ dktX13_showBits_1
theorem dksX13_showBits_0 : cX13_showBits.data.toList.drop 0 = dktX13_showBits_0 := by decide +kernel
theorem dksX13_showBits_1 : cX13_showBits.data.toList.drop 24 = dktX13_showBits_1 := dk_seg dksX13_showBits_0 24 rfl rfl
theorem dX13_showBits_0 : decode cX13_showBits 0 = .ok (.iconst 0, 1) := dk_3 (dk_at dksX13_showBits_0 0 rfl rfl)
theorem dX13_showBits_1 : decode cX13_showBits 1 = .ok (.istore_n 1, 1) := dk_60 (dk_at dksX13_showBits_0 1 rfl rfl)
theorem dX13_showBits_2 : decode cX13_showBits 2 = .ok (.iconst 0, 1) := dk_3 (dk_at dksX13_showBits_0 2 rfl rfl)
theorem dX13_showBits_3 : decode cX13_showBits 3 = .ok (.istore_n 2, 1) := dk_61 (dk_at dksX13_showBits_0 3 rfl rfl)
theorem dX13_showBits_4 : decode cX13_showBits 4 = .ok (.iload_n 2, 1) := dk_28 (dk_at dksX13_showBits_0 4 rfl rfl)
theorem dX13_showBits_5 : decode cX13_showBits 5 = .ok (.aload_n 0, 1) := dk_42 (dk_at dksX13_showBits_0 5 rfl rfl)
theorem dX13_showBits_6 : decode cX13_showBits 6 = .ok (.invokevirtual 304, 3) := dk_182 1 48 (dk_at dksX13_showBits_0 6 rfl rfl)
theorem dX13_showBits_9 : decode cX13_showBits 9 = .ok (.if_icmp .ge 27, 3) := dk_162 0 27 (dk_at dksX13_showBits_0 9 rfl rfl)
theorem dX13_showBits_12 : decode cX13_showBits 12 = .ok (.aload_n 0, 1) := dk_42 (dk_at dksX13_showBits_0 12 rfl rfl)
theorem dX13_showBits_13 : decode cX13_showBits 13 = .ok (.getfield 110, 3) := dk_180 0 110 (dk_at dksX13_showBits_0 13 rfl rfl)
theorem dX13_showBits_16 : decode cX13_showBits 16 = .ok (.bipush 27, 2) := dk_16 27 (dk_at dksX13_showBits_0 16 rfl rfl)
theorem dX13_showBits_18 : decode cX13_showBits 18 = .ok (.iload_n 2, 1) := dk_28 (dk_at dksX13_showBits_0 18 rfl rfl)
theorem dX13_showBits_19 : decode cX13_showBits 19 = .ok (.iadd, 1) := dk_96 (dk_at dksX13_showBits_0 19 rfl rfl)
theorem dX13_showBits_20 : decode cX13_showBits 20 = .ok (.iaload, 1) := dk_46 (dk_at dksX13_showBits_0 20 rfl rfl)
theorem dX13_showBits_21 : decode cX13_showBits 21 = .ok (.ifCond .le 9, 3) := dk_158 0 9 (dk_at dksX13_showBits_0 21 rfl rfl)
theorem dX13_showBits_24 : decode cX13_showBits 24 = .ok (.iload_n 1, 1) := dk_27 (dk_at dksX13_showBits_1 0 rfl rfl)
theorem dX13_showBits_25 : decode cX13_showBits 25 = .ok (.iconst 1, 1) := dk_4 (dk_at dksX13_showBits_1 1 rfl rfl)
theorem dX13_showBits_26 : decode cX13_showBits 26 = .ok (.iload_n 2, 1) := dk_28 (dk_at dksX13_showBits_1 2 rfl rfl)
theorem dX13_showBits_27 : decode cX13_showBits 27 = .ok (.ishl, 1) := dk_120 (dk_at dksX13_showBits_1 3 rfl rfl)
theorem dX13_showBits_28 : decode cX13_showBits 28 = .ok (.ior, 1) := dk_128 (dk_at dksX13_showBits_1 4 rfl rfl)
theorem dX13_showBits_29 : decode cX13_showBits 29 = .ok (.istore_n 1, 1) := dk_60 (dk_at dksX13_showBits_1 5 rfl rfl)
theorem dX13_showBits_30 : decode cX13_showBits 30 = .ok (.iinc 2 1, 3) := dk_132 2 1 (dk_at dksX13_showBits_1 6 rfl rfl)
theorem dX13_showBits_33 : decode cX13_showBits 33 = .ok (.goto (-29), 3) := dk_167 255 227 (dk_at dksX13_showBits_1 9 rfl rfl)
theorem dX13_showBits_36 : decode cX13_showBits 36 = .ok (.iload_n 1, 1) := dk_27 (dk_at dksX13_showBits_1 12 rfl rfl)
theorem dX13_showBits_37 : decode cX13_showBits 37 = .ok (.ireturn, 1) := dk_172 (dk_at dksX13_showBits_1 13 rfl rfl)
abbrev cX13_still : ByteArray := prog_21_method_97_code
def yX13_still : MethodName := ⟨RX13, "still", "(I)I"⟩
def dkwX13_still_3 : List UInt8 := [162, 0, 6, 21, 4, 62, 132, 4, 1, 167, 255, 197, 27, 154, 0, 7, 28, 167, 0, 4, 29, 172]
abbrev dktX13_still_3 : List UInt8 := dkwX13_still_3 ++ []
def dkwX13_still_2 : List UInt8 := [29, 155, 0, 25, 21, 4, 42, 182, 1, 145, 130, 184, 1, 142, 29, 42, 182, 1, 145, 130, 184, 1, 142]
abbrev dktX13_still_2 : List UInt8 := dkwX13_still_2 ++ dktX13_still_3
def dkwX13_still_1 : List UInt8 := [182, 1, 56, 163, 0, 56, 42, 21, 4, 4, 182, 1, 133, 21, 4, 159, 0, 6, 167, 0, 35, 132, 2, 1]
abbrev dktX13_still_1 : List UInt8 := dkwX13_still_1 ++ dktX13_still_2
def dkwX13_still_0 : List UInt8 := [27, 3, 4, 184, 1, 52, 154, 0, 5, 2, 172, 3, 61, 16, 254, 62, 3, 54, 4, 21, 4, 42]
abbrev dktX13_still_0 : List UInt8 := dkwX13_still_0 ++ dktX13_still_1
theorem dksX13_still_0 : cX13_still.data.toList.drop 0 = dktX13_still_0 := by decide +kernel
theorem dksX13_still_1 : cX13_still.data.toList.drop 22 = dktX13_still_1 := dk_seg dksX13_still_0 22 rfl rfl
theorem dksX13_still_2 : cX13_still.data.toList.drop 46 = dktX13_still_2 := dk_seg dksX13_still_1 24 rfl rfl
theorem dksX13_still_3 : cX13_still.data.toList.drop 69 = dktX13_still_3 := dk_seg dksX13_still_2 23 rfl rfl
theorem dX13_still_0 : decode cX13_still 0 = .ok (.iload_n 1, 1) := dk_27 (dk_at dksX13_still_0 0 rfl rfl)
theorem dX13_still_1 : decode cX13_still 1 = .ok (.iconst 0, 1) := dk_3 (dk_at dksX13_still_0 1 rfl rfl)
theorem dX13_still_2 : decode cX13_still 2 = .ok (.iconst 1, 1) := dk_4 (dk_at dksX13_still_0 2 rfl rfl)
theorem dX13_still_3 : decode cX13_still 3 = .ok (.invokestatic 308, 3) := dk_184 1 52 (dk_at dksX13_still_0 3 rfl rfl)
theorem dX13_still_6 : decode cX13_still 6 = .ok (.ifCond .ne 5, 3) := dk_154 0 5 (dk_at dksX13_still_0 6 rfl rfl)
theorem dX13_still_9 : decode cX13_still 9 = .ok (.iconst (-1), 1) := dk_2 (dk_at dksX13_still_0 9 rfl rfl)
theorem dX13_still_10 : decode cX13_still 10 = .ok (.ireturn, 1) := dk_172 (dk_at dksX13_still_0 10 rfl rfl)
theorem dX13_still_11 : decode cX13_still 11 = .ok (.iconst 0, 1) := dk_3 (dk_at dksX13_still_0 11 rfl rfl)
theorem dX13_still_12 : decode cX13_still 12 = .ok (.istore_n 2, 1) := dk_61 (dk_at dksX13_still_0 12 rfl rfl)
theorem dX13_still_13 : decode cX13_still 13 = .ok (.bipush (-2), 2) := dk_16 254 (dk_at dksX13_still_0 13 rfl rfl)
theorem dX13_still_15 : decode cX13_still 15 = .ok (.istore_n 3, 1) := dk_62 (dk_at dksX13_still_0 15 rfl rfl)
theorem dX13_still_16 : decode cX13_still 16 = .ok (.iconst 0, 1) := dk_3 (dk_at dksX13_still_0 16 rfl rfl)
theorem dX13_still_17 : decode cX13_still 17 = .ok (.istore 4, 2) := dk_54 4 (dk_at dksX13_still_0 17 rfl rfl)
theorem dX13_still_19 : decode cX13_still 19 = .ok (.iload 4, 2) := dk_21 4 (dk_at dksX13_still_0 19 rfl rfl)
theorem dX13_still_21 : decode cX13_still 21 = .ok (.aload_n 0, 1) := dk_42 (dk_at dksX13_still_0 21 rfl rfl)
theorem dX13_still_22 : decode cX13_still 22 = .ok (.invokevirtual 312, 3) := dk_182 1 56 (dk_at dksX13_still_1 0 rfl rfl)
theorem dX13_still_25 : decode cX13_still 25 = .ok (.if_icmp .gt 56, 3) := dk_163 0 56 (dk_at dksX13_still_1 3 rfl rfl)
theorem dX13_still_28 : decode cX13_still 28 = .ok (.aload_n 0, 1) := dk_42 (dk_at dksX13_still_1 6 rfl rfl)
theorem dX13_still_29 : decode cX13_still 29 = .ok (.iload 4, 2) := dk_21 4 (dk_at dksX13_still_1 7 rfl rfl)
theorem dX13_still_31 : decode cX13_still 31 = .ok (.iconst 1, 1) := dk_4 (dk_at dksX13_still_1 9 rfl rfl)
theorem dX13_still_32 : decode cX13_still 32 = .ok (.invokevirtual 389, 3) := dk_182 1 133 (dk_at dksX13_still_1 10 rfl rfl)
theorem dX13_still_35 : decode cX13_still 35 = .ok (.iload 4, 2) := dk_21 4 (dk_at dksX13_still_1 13 rfl rfl)
theorem dX13_still_37 : decode cX13_still 37 = .ok (.if_icmp .eq 6, 3) := dk_159 0 6 (dk_at dksX13_still_1 15 rfl rfl)
theorem dX13_still_40 : decode cX13_still 40 = .ok (.goto 35, 3) := dk_167 0 35 (dk_at dksX13_still_1 18 rfl rfl)
theorem dX13_still_43 : decode cX13_still 43 = .ok (.iinc 2 1, 3) := dk_132 2 1 (dk_at dksX13_still_1 21 rfl rfl)
theorem dX13_still_46 : decode cX13_still 46 = .ok (.iload_n 3, 1) := dk_29 (dk_at dksX13_still_2 0 rfl rfl)
theorem dX13_still_47 : decode cX13_still 47 = .ok (.ifCond .lt 25, 3) := dk_155 0 25 (dk_at dksX13_still_2 1 rfl rfl)
theorem dX13_still_50 : decode cX13_still 50 = .ok (.iload 4, 2) := dk_21 4 (dk_at dksX13_still_2 4 rfl rfl)
theorem dX13_still_52 : decode cX13_still 52 = .ok (.aload_n 0, 1) := dk_42 (dk_at dksX13_still_2 6 rfl rfl)
theorem dX13_still_53 : decode cX13_still 53 = .ok (.invokevirtual 401, 3) := dk_182 1 145 (dk_at dksX13_still_2 7 rfl rfl)
theorem dX13_still_56 : decode cX13_still 56 = .ok (.ixor, 1) := dk_130 (dk_at dksX13_still_2 10 rfl rfl)
theorem dX13_still_57 : decode cX13_still 57 = .ok (.invokestatic 398, 3) := dk_184 1 142 (dk_at dksX13_still_2 11 rfl rfl)
theorem dX13_still_60 : decode cX13_still 60 = .ok (.iload_n 3, 1) := dk_29 (dk_at dksX13_still_2 14 rfl rfl)
theorem dX13_still_61 : decode cX13_still 61 = .ok (.aload_n 0, 1) := dk_42 (dk_at dksX13_still_2 15 rfl rfl)
theorem dX13_still_62 : decode cX13_still 62 = .ok (.invokevirtual 401, 3) := dk_182 1 145 (dk_at dksX13_still_2 16 rfl rfl)
theorem dX13_still_65 : decode cX13_still 65 = .ok (.ixor, 1) := dk_130 (dk_at dksX13_still_2 19 rfl rfl)
theorem dX13_still_66 : decode cX13_still 66 = .ok (.invokestatic 398, 3) := dk_184 1 142 (dk_at dksX13_still_2 20 rfl rfl)
theorem dX13_still_69 : decode cX13_still 69 = .ok (.if_icmp .ge 6, 3) := dk_162 0 6 (dk_at dksX13_still_3 0 rfl rfl)
theorem dX13_still_72 : decode cX13_still 72 = .ok (.iload 4, 2) := dk_21 4 (dk_at dksX13_still_3 3 rfl rfl)
theorem dX13_still_74 : decode cX13_still 74 = .ok (.istore_n 3, 1) := dk_62 (dk_at dksX13_still_3 5 rfl rfl)
theorem dX13_still_75 : decode cX13_still 75 = .ok (.iinc 4 1, 3) := dk_132 4 1 (dk_at dksX13_still_3 6 rfl rfl)
theorem dX13_still_78 : decode cX13_still 78 = .ok (.goto (-59), 3) := dk_167 255 197 (dk_at dksX13_still_3 9 rfl rfl)
theorem dX13_still_81 : decode cX13_still 81 = .ok (.iload_n 1, 1) := dk_27 (dk_at dksX13_still_3 12 rfl rfl)
theorem dX13_still_82 : decode cX13_still 82 = .ok (.ifCond .ne 7, 3) := dk_154 0 7 (dk_at dksX13_still_3 13 rfl rfl)
theorem dX13_still_85 : decode cX13_still 85 = .ok (.iload_n 2, 1) := dk_28 (dk_at dksX13_still_3 16 rfl rfl)
theorem dX13_still_86 : decode cX13_still 86 = .ok (.goto 4, 3) := dk_167 0 4 (dk_at dksX13_still_3 17 rfl rfl)
theorem dX13_still_89 : decode cX13_still 89 = .ok (.iload_n 3, 1) := dk_29 (dk_at dksX13_still_3 20 rfl rfl)
theorem dX13_still_90 : decode cX13_still 90 = .ok (.ireturn, 1) := dk_172 (dk_at dksX13_still_3 21 rfl rfl)
abbrev cX13_again : ByteArray := prog_21_method_98_code
def yX13_again : MethodName := ⟨RX13, "again", "()I"⟩
def dkwX13_again_1 : List UInt8 := [182, 1, 145, 160, 0, 5, 27, 172, 132, 1, 1, 167, 255, 229, 16, 254, 172]
abbrev dktX13_again_1 : List UInt8 := dkwX13_again_1 ++ []
def dkwX13_again_0 : List UInt8 := [42, 182, 1, 105, 4, 60, 27, 17, 0, 240, 163, 0, 26, 42, 182, 1, 102, 42, 182, 1, 114, 42]
abbrev dktX13_again_0 : List UInt8 := dkwX13_again_0 ++ dktX13_again_1
theorem dksX13_again_0 : cX13_again.data.toList.drop 0 = dktX13_again_0 := by decide +kernel
theorem dksX13_again_1 : cX13_again.data.toList.drop 22 = dktX13_again_1 := dk_seg dksX13_again_0 22 rfl rfl
theorem dX13_again_0 : decode cX13_again 0 = .ok (.aload_n 0, 1) := dk_42 (dk_at dksX13_again_0 0 rfl rfl)
theorem dX13_again_1 : decode cX13_again 1 = .ok (.invokevirtual 361, 3) := dk_182 1 105 (dk_at dksX13_again_0 1 rfl rfl)
theorem dX13_again_4 : decode cX13_again 4 = .ok (.iconst 1, 1) := dk_4 (dk_at dksX13_again_0 4 rfl rfl)
theorem dX13_again_5 : decode cX13_again 5 = .ok (.istore_n 1, 1) := dk_60 (dk_at dksX13_again_0 5 rfl rfl)
theorem dX13_again_6 : decode cX13_again 6 = .ok (.iload_n 1, 1) := dk_27 (dk_at dksX13_again_0 6 rfl rfl)
theorem dX13_again_7 : decode cX13_again 7 = .ok (.sipush 240, 3) := dk_17 0 240 (dk_at dksX13_again_0 7 rfl rfl)
theorem dX13_again_10 : decode cX13_again 10 = .ok (.if_icmp .gt 26, 3) := dk_163 0 26 (dk_at dksX13_again_0 10 rfl rfl)
theorem dX13_again_13 : decode cX13_again 13 = .ok (.aload_n 0, 1) := dk_42 (dk_at dksX13_again_0 13 rfl rfl)
theorem dX13_again_14 : decode cX13_again 14 = .ok (.invokevirtual 358, 3) := dk_182 1 102 (dk_at dksX13_again_0 14 rfl rfl)
theorem dX13_again_17 : decode cX13_again 17 = .ok (.aload_n 0, 1) := dk_42 (dk_at dksX13_again_0 17 rfl rfl)
theorem dX13_again_18 : decode cX13_again 18 = .ok (.invokevirtual 370, 3) := dk_182 1 114 (dk_at dksX13_again_0 18 rfl rfl)
theorem dX13_again_21 : decode cX13_again 21 = .ok (.aload_n 0, 1) := dk_42 (dk_at dksX13_again_0 21 rfl rfl)
theorem dX13_again_22 : decode cX13_again 22 = .ok (.invokevirtual 401, 3) := dk_182 1 145 (dk_at dksX13_again_1 0 rfl rfl)
theorem dX13_again_25 : decode cX13_again 25 = .ok (.if_icmp .ne 5, 3) := dk_160 0 5 (dk_at dksX13_again_1 3 rfl rfl)
theorem dX13_again_28 : decode cX13_again 28 = .ok (.iload_n 1, 1) := dk_27 (dk_at dksX13_again_1 6 rfl rfl)
theorem dX13_again_29 : decode cX13_again 29 = .ok (.ireturn, 1) := dk_172 (dk_at dksX13_again_1 7 rfl rfl)
theorem dX13_again_30 : decode cX13_again 30 = .ok (.iinc 1 1, 3) := dk_132 1 1 (dk_at dksX13_again_1 8 rfl rfl)
theorem dX13_again_33 : decode cX13_again 33 = .ok (.goto (-27), 3) := dk_167 255 229 (dk_at dksX13_again_1 11 rfl rfl)
theorem dX13_again_36 : decode cX13_again 36 = .ok (.bipush (-2), 2) := dk_16 254 (dk_at dksX13_again_1 14 rfl rfl)
theorem dX13_again_38 : decode cX13_again 38 = .ok (.ireturn, 1) := dk_172 (dk_at dksX13_again_1 16 rfl rfl)
abbrev cX13_changeBest : ByteArray := prog_21_method_100_code
def yX13_changeBest : MethodName := ⟨RX13, "changeBest", "(II)I"⟩
def dkwX13_changeBest_5 : List UInt8 := [167, 255, 182, 21, 4, 155, 0, 7, 28, 154, 0, 8, 21, 4, 167, 0, 4, 29, 172]
abbrev dktX13_changeBest_5 : List UInt8 := dkwX13_changeBest_5 ++ []
def dkwX13_changeBest_4 : List UInt8 := [16, 10, 21, 5, 104, 21, 6, 96, 54, 4, 21, 7, 62, 132, 6, 1, 167, 255, 203, 132, 5, 1]
abbrev dktX13_changeBest_4 : List UInt8 := dkwX13_changeBest_4 ++ dktX13_changeBest_5
def dkwX13_changeBest_3 : List UInt8 := [21, 5, 21, 6, 182, 1, 124, 42, 27, 182, 1, 172, 54, 7, 21, 7, 29, 163, 0, 6, 167, 0, 16]
abbrev dktX13_changeBest_3 : List UInt8 := dkwX13_changeBest_3 ++ dktX13_changeBest_4
def dkwX13_changeBest_2 : List UInt8 := [162, 0, 71, 21, 5, 4, 96, 54, 6, 21, 6, 42, 182, 1, 48, 162, 0, 50, 42, 182, 1, 105, 42]
abbrev dktX13_changeBest_2 : List UInt8 := dkwX13_changeBest_2 ++ dktX13_changeBest_3
def dkwX13_changeBest_1 : List UInt8 := [182, 1, 105, 42, 27, 182, 1, 172, 62, 16, 254, 54, 4, 3, 54, 5, 21, 5, 42, 182, 1, 48]
abbrev dktX13_changeBest_1 : List UInt8 := dkwX13_changeBest_1 ++ dktX13_changeBest_2
def dkwX13_changeBest_0 : List UInt8 := [27, 4, 16, 24, 184, 1, 52, 153, 0, 12, 28, 3, 4, 184, 1, 52, 154, 0, 5, 2, 172, 42]
abbrev dktX13_changeBest_0 : List UInt8 := dkwX13_changeBest_0 ++ dktX13_changeBest_1
theorem dksX13_changeBest_0 : cX13_changeBest.data.toList.drop 0 = dktX13_changeBest_0 := by decide +kernel
theorem dksX13_changeBest_1 : cX13_changeBest.data.toList.drop 22 = dktX13_changeBest_1 := dk_seg dksX13_changeBest_0 22 rfl rfl
theorem dksX13_changeBest_2 : cX13_changeBest.data.toList.drop 44 = dktX13_changeBest_2 := dk_seg dksX13_changeBest_1 22 rfl rfl
theorem dksX13_changeBest_3 : cX13_changeBest.data.toList.drop 67 = dktX13_changeBest_3 := dk_seg dksX13_changeBest_2 23 rfl rfl
theorem dksX13_changeBest_4 : cX13_changeBest.data.toList.drop 90 = dktX13_changeBest_4 := dk_seg dksX13_changeBest_3 23 rfl rfl
theorem dksX13_changeBest_5 : cX13_changeBest.data.toList.drop 112 = dktX13_changeBest_5 := dk_seg dksX13_changeBest_4 22 rfl rfl
theorem dX13_changeBest_0 : decode cX13_changeBest 0 = .ok (.iload_n 1, 1) := dk_27 (dk_at dksX13_changeBest_0 0 rfl rfl)
theorem dX13_changeBest_1 : decode cX13_changeBest 1 = .ok (.iconst 1, 1) := dk_4 (dk_at dksX13_changeBest_0 1 rfl rfl)
theorem dX13_changeBest_2 : decode cX13_changeBest 2 = .ok (.bipush 24, 2) := dk_16 24 (dk_at dksX13_changeBest_0 2 rfl rfl)
theorem dX13_changeBest_4 : decode cX13_changeBest 4 = .ok (.invokestatic 308, 3) := dk_184 1 52 (dk_at dksX13_changeBest_0 4 rfl rfl)
theorem dX13_changeBest_7 : decode cX13_changeBest 7 = .ok (.ifCond .eq 12, 3) := dk_153 0 12 (dk_at dksX13_changeBest_0 7 rfl rfl)
theorem dX13_changeBest_10 : decode cX13_changeBest 10 = .ok (.iload_n 2, 1) := dk_28 (dk_at dksX13_changeBest_0 10 rfl rfl)
theorem dX13_changeBest_11 : decode cX13_changeBest 11 = .ok (.iconst 0, 1) := dk_3 (dk_at dksX13_changeBest_0 11 rfl rfl)
theorem dX13_changeBest_12 : decode cX13_changeBest 12 = .ok (.iconst 1, 1) := dk_4 (dk_at dksX13_changeBest_0 12 rfl rfl)
theorem dX13_changeBest_13 : decode cX13_changeBest 13 = .ok (.invokestatic 308, 3) := dk_184 1 52 (dk_at dksX13_changeBest_0 13 rfl rfl)
theorem dX13_changeBest_16 : decode cX13_changeBest 16 = .ok (.ifCond .ne 5, 3) := dk_154 0 5 (dk_at dksX13_changeBest_0 16 rfl rfl)
theorem dX13_changeBest_19 : decode cX13_changeBest 19 = .ok (.iconst (-1), 1) := dk_2 (dk_at dksX13_changeBest_0 19 rfl rfl)
theorem dX13_changeBest_20 : decode cX13_changeBest 20 = .ok (.ireturn, 1) := dk_172 (dk_at dksX13_changeBest_0 20 rfl rfl)
theorem dX13_changeBest_21 : decode cX13_changeBest 21 = .ok (.aload_n 0, 1) := dk_42 (dk_at dksX13_changeBest_0 21 rfl rfl)
theorem dX13_changeBest_22 : decode cX13_changeBest 22 = .ok (.invokevirtual 361, 3) := dk_182 1 105 (dk_at dksX13_changeBest_1 0 rfl rfl)
theorem dX13_changeBest_25 : decode cX13_changeBest 25 = .ok (.aload_n 0, 1) := dk_42 (dk_at dksX13_changeBest_1 3 rfl rfl)
theorem dX13_changeBest_26 : decode cX13_changeBest 26 = .ok (.iload_n 1, 1) := dk_27 (dk_at dksX13_changeBest_1 4 rfl rfl)
theorem dX13_changeBest_27 : decode cX13_changeBest 27 = .ok (.invokevirtual 428, 3) := dk_182 1 172 (dk_at dksX13_changeBest_1 5 rfl rfl)
theorem dX13_changeBest_30 : decode cX13_changeBest 30 = .ok (.istore_n 3, 1) := dk_62 (dk_at dksX13_changeBest_1 8 rfl rfl)
theorem dX13_changeBest_31 : decode cX13_changeBest 31 = .ok (.bipush (-2), 2) := dk_16 254 (dk_at dksX13_changeBest_1 9 rfl rfl)
theorem dX13_changeBest_33 : decode cX13_changeBest 33 = .ok (.istore 4, 2) := dk_54 4 (dk_at dksX13_changeBest_1 11 rfl rfl)
theorem dX13_changeBest_35 : decode cX13_changeBest 35 = .ok (.iconst 0, 1) := dk_3 (dk_at dksX13_changeBest_1 13 rfl rfl)
theorem dX13_changeBest_36 : decode cX13_changeBest 36 = .ok (.istore 5, 2) := dk_54 5 (dk_at dksX13_changeBest_1 14 rfl rfl)
theorem dX13_changeBest_38 : decode cX13_changeBest 38 = .ok (.iload 5, 2) := dk_21 5 (dk_at dksX13_changeBest_1 16 rfl rfl)
theorem dX13_changeBest_40 : decode cX13_changeBest 40 = .ok (.aload_n 0, 1) := dk_42 (dk_at dksX13_changeBest_1 18 rfl rfl)
theorem dX13_changeBest_41 : decode cX13_changeBest 41 = .ok (.invokevirtual 304, 3) := dk_182 1 48 (dk_at dksX13_changeBest_1 19 rfl rfl)
theorem dX13_changeBest_44 : decode cX13_changeBest 44 = .ok (.if_icmp .ge 71, 3) := dk_162 0 71 (dk_at dksX13_changeBest_2 0 rfl rfl)
theorem dX13_changeBest_47 : decode cX13_changeBest 47 = .ok (.iload 5, 2) := dk_21 5 (dk_at dksX13_changeBest_2 3 rfl rfl)
theorem dX13_changeBest_49 : decode cX13_changeBest 49 = .ok (.iconst 1, 1) := dk_4 (dk_at dksX13_changeBest_2 5 rfl rfl)
theorem dX13_changeBest_50 : decode cX13_changeBest 50 = .ok (.iadd, 1) := dk_96 (dk_at dksX13_changeBest_2 6 rfl rfl)
theorem dX13_changeBest_51 : decode cX13_changeBest 51 = .ok (.istore 6, 2) := dk_54 6 (dk_at dksX13_changeBest_2 7 rfl rfl)
theorem dX13_changeBest_53 : decode cX13_changeBest 53 = .ok (.iload 6, 2) := dk_21 6 (dk_at dksX13_changeBest_2 9 rfl rfl)
theorem dX13_changeBest_55 : decode cX13_changeBest 55 = .ok (.aload_n 0, 1) := dk_42 (dk_at dksX13_changeBest_2 11 rfl rfl)
theorem dX13_changeBest_56 : decode cX13_changeBest 56 = .ok (.invokevirtual 304, 3) := dk_182 1 48 (dk_at dksX13_changeBest_2 12 rfl rfl)
theorem dX13_changeBest_59 : decode cX13_changeBest 59 = .ok (.if_icmp .ge 50, 3) := dk_162 0 50 (dk_at dksX13_changeBest_2 15 rfl rfl)
theorem dX13_changeBest_62 : decode cX13_changeBest 62 = .ok (.aload_n 0, 1) := dk_42 (dk_at dksX13_changeBest_2 18 rfl rfl)
theorem dX13_changeBest_63 : decode cX13_changeBest 63 = .ok (.invokevirtual 361, 3) := dk_182 1 105 (dk_at dksX13_changeBest_2 19 rfl rfl)
theorem dX13_changeBest_66 : decode cX13_changeBest 66 = .ok (.aload_n 0, 1) := dk_42 (dk_at dksX13_changeBest_2 22 rfl rfl)
theorem dX13_changeBest_67 : decode cX13_changeBest 67 = .ok (.iload 5, 2) := dk_21 5 (dk_at dksX13_changeBest_3 0 rfl rfl)
theorem dX13_changeBest_69 : decode cX13_changeBest 69 = .ok (.iload 6, 2) := dk_21 6 (dk_at dksX13_changeBest_3 2 rfl rfl)
theorem dX13_changeBest_71 : decode cX13_changeBest 71 = .ok (.invokevirtual 380, 3) := dk_182 1 124 (dk_at dksX13_changeBest_3 4 rfl rfl)
theorem dX13_changeBest_74 : decode cX13_changeBest 74 = .ok (.aload_n 0, 1) := dk_42 (dk_at dksX13_changeBest_3 7 rfl rfl)
theorem dX13_changeBest_75 : decode cX13_changeBest 75 = .ok (.iload_n 1, 1) := dk_27 (dk_at dksX13_changeBest_3 8 rfl rfl)
theorem dX13_changeBest_76 : decode cX13_changeBest 76 = .ok (.invokevirtual 428, 3) := dk_182 1 172 (dk_at dksX13_changeBest_3 9 rfl rfl)
theorem dX13_changeBest_79 : decode cX13_changeBest 79 = .ok (.istore 7, 2) := dk_54 7 (dk_at dksX13_changeBest_3 12 rfl rfl)
theorem dX13_changeBest_81 : decode cX13_changeBest 81 = .ok (.iload 7, 2) := dk_21 7 (dk_at dksX13_changeBest_3 14 rfl rfl)
theorem dX13_changeBest_83 : decode cX13_changeBest 83 = .ok (.iload_n 3, 1) := dk_29 (dk_at dksX13_changeBest_3 16 rfl rfl)
theorem dX13_changeBest_84 : decode cX13_changeBest 84 = .ok (.if_icmp .gt 6, 3) := dk_163 0 6 (dk_at dksX13_changeBest_3 17 rfl rfl)
theorem dX13_changeBest_87 : decode cX13_changeBest 87 = .ok (.goto 16, 3) := dk_167 0 16 (dk_at dksX13_changeBest_3 20 rfl rfl)
theorem dX13_changeBest_90 : decode cX13_changeBest 90 = .ok (.bipush 10, 2) := dk_16 10 (dk_at dksX13_changeBest_4 0 rfl rfl)
theorem dX13_changeBest_92 : decode cX13_changeBest 92 = .ok (.iload 5, 2) := dk_21 5 (dk_at dksX13_changeBest_4 2 rfl rfl)
theorem dX13_changeBest_94 : decode cX13_changeBest 94 = .ok (.imul, 1) := dk_104 (dk_at dksX13_changeBest_4 4 rfl rfl)
theorem dX13_changeBest_95 : decode cX13_changeBest 95 = .ok (.iload 6, 2) := dk_21 6 (dk_at dksX13_changeBest_4 5 rfl rfl)
theorem dX13_changeBest_97 : decode cX13_changeBest 97 = .ok (.iadd, 1) := dk_96 (dk_at dksX13_changeBest_4 7 rfl rfl)
theorem dX13_changeBest_98 : decode cX13_changeBest 98 = .ok (.istore 4, 2) := dk_54 4 (dk_at dksX13_changeBest_4 8 rfl rfl)
theorem dX13_changeBest_100 : decode cX13_changeBest 100 = .ok (.iload 7, 2) := dk_21 7 (dk_at dksX13_changeBest_4 10 rfl rfl)
theorem dX13_changeBest_102 : decode cX13_changeBest 102 = .ok (.istore_n 3, 1) := dk_62 (dk_at dksX13_changeBest_4 12 rfl rfl)
theorem dX13_changeBest_103 : decode cX13_changeBest 103 = .ok (.iinc 6 1, 3) := dk_132 6 1 (dk_at dksX13_changeBest_4 13 rfl rfl)
theorem dX13_changeBest_106 : decode cX13_changeBest 106 = .ok (.goto (-53), 3) := dk_167 255 203 (dk_at dksX13_changeBest_4 16 rfl rfl)
theorem dX13_changeBest_109 : decode cX13_changeBest 109 = .ok (.iinc 5 1, 3) := dk_132 5 1 (dk_at dksX13_changeBest_4 19 rfl rfl)
theorem dX13_changeBest_112 : decode cX13_changeBest 112 = .ok (.goto (-74), 3) := dk_167 255 182 (dk_at dksX13_changeBest_5 0 rfl rfl)
theorem dX13_changeBest_115 : decode cX13_changeBest 115 = .ok (.iload 4, 2) := dk_21 4 (dk_at dksX13_changeBest_5 3 rfl rfl)
theorem dX13_changeBest_117 : decode cX13_changeBest 117 = .ok (.ifCond .lt 7, 3) := dk_155 0 7 (dk_at dksX13_changeBest_5 5 rfl rfl)
theorem dX13_changeBest_120 : decode cX13_changeBest 120 = .ok (.iload_n 2, 1) := dk_28 (dk_at dksX13_changeBest_5 8 rfl rfl)
theorem dX13_changeBest_121 : decode cX13_changeBest 121 = .ok (.ifCond .ne 8, 3) := dk_154 0 8 (dk_at dksX13_changeBest_5 9 rfl rfl)
theorem dX13_changeBest_124 : decode cX13_changeBest 124 = .ok (.iload 4, 2) := dk_21 4 (dk_at dksX13_changeBest_5 12 rfl rfl)
theorem dX13_changeBest_126 : decode cX13_changeBest 126 = .ok (.goto 4, 3) := dk_167 0 4 (dk_at dksX13_changeBest_5 14 rfl rfl)
theorem dX13_changeBest_129 : decode cX13_changeBest 129 = .ok (.iload_n 3, 1) := dk_29 (dk_at dksX13_changeBest_5 17 rfl rfl)
theorem dX13_changeBest_130 : decode cX13_changeBest 130 = .ok (.ireturn, 1) := dk_172 (dk_at dksX13_changeBest_5 18 rfl rfl)
abbrev cX13_leftIn : ByteArray := prog_21_method_99_code
def yX13_leftIn : MethodName := ⟨RX13, "leftIn", "(I)I"⟩
def dkwX13_leftIn_1 : List UInt8 := [132, 3, 1, 167, 255, 234, 28, 172]
abbrev dktX13_leftIn_1 : List UInt8 := dkwX13_leftIn_1 ++ []
def dkwX13_leftIn_0 : List UInt8 := [3, 61, 3, 62, 29, 27, 162, 0, 23, 42, 182, 1, 102, 28, 42, 182, 1, 114, 184, 1, 142, 96, 61]
abbrev dktX13_leftIn_0 : List UInt8 := dkwX13_leftIn_0 ++ dktX13_leftIn_1
theorem dksX13_leftIn_0 : cX13_leftIn.data.toList.drop 0 = dktX13_leftIn_0 := by decide +kernel
theorem dksX13_leftIn_1 : cX13_leftIn.data.toList.drop 23 = dktX13_leftIn_1 := dk_seg dksX13_leftIn_0 23 rfl rfl
theorem dX13_leftIn_0 : decode cX13_leftIn 0 = .ok (.iconst 0, 1) := dk_3 (dk_at dksX13_leftIn_0 0 rfl rfl)
theorem dX13_leftIn_1 : decode cX13_leftIn 1 = .ok (.istore_n 2, 1) := dk_61 (dk_at dksX13_leftIn_0 1 rfl rfl)
theorem dX13_leftIn_2 : decode cX13_leftIn 2 = .ok (.iconst 0, 1) := dk_3 (dk_at dksX13_leftIn_0 2 rfl rfl)
theorem dX13_leftIn_3 : decode cX13_leftIn 3 = .ok (.istore_n 3, 1) := dk_62 (dk_at dksX13_leftIn_0 3 rfl rfl)
theorem dX13_leftIn_4 : decode cX13_leftIn 4 = .ok (.iload_n 3, 1) := dk_29 (dk_at dksX13_leftIn_0 4 rfl rfl)
theorem dX13_leftIn_5 : decode cX13_leftIn 5 = .ok (.iload_n 1, 1) := dk_27 (dk_at dksX13_leftIn_0 5 rfl rfl)
theorem dX13_leftIn_6 : decode cX13_leftIn 6 = .ok (.if_icmp .ge 23, 3) := dk_162 0 23 (dk_at dksX13_leftIn_0 6 rfl rfl)
theorem dX13_leftIn_9 : decode cX13_leftIn 9 = .ok (.aload_n 0, 1) := dk_42 (dk_at dksX13_leftIn_0 9 rfl rfl)
theorem dX13_leftIn_10 : decode cX13_leftIn 10 = .ok (.invokevirtual 358, 3) := dk_182 1 102 (dk_at dksX13_leftIn_0 10 rfl rfl)
theorem dX13_leftIn_13 : decode cX13_leftIn 13 = .ok (.iload_n 2, 1) := dk_28 (dk_at dksX13_leftIn_0 13 rfl rfl)
theorem dX13_leftIn_14 : decode cX13_leftIn 14 = .ok (.aload_n 0, 1) := dk_42 (dk_at dksX13_leftIn_0 14 rfl rfl)
theorem dX13_leftIn_15 : decode cX13_leftIn 15 = .ok (.invokevirtual 370, 3) := dk_182 1 114 (dk_at dksX13_leftIn_0 15 rfl rfl)
theorem dX13_leftIn_18 : decode cX13_leftIn 18 = .ok (.invokestatic 398, 3) := dk_184 1 142 (dk_at dksX13_leftIn_0 18 rfl rfl)
theorem dX13_leftIn_21 : decode cX13_leftIn 21 = .ok (.iadd, 1) := dk_96 (dk_at dksX13_leftIn_0 21 rfl rfl)
theorem dX13_leftIn_22 : decode cX13_leftIn 22 = .ok (.istore_n 2, 1) := dk_61 (dk_at dksX13_leftIn_0 22 rfl rfl)
theorem dX13_leftIn_23 : decode cX13_leftIn 23 = .ok (.iinc 3 1, 3) := dk_132 3 1 (dk_at dksX13_leftIn_1 0 rfl rfl)
theorem dX13_leftIn_26 : decode cX13_leftIn 26 = .ok (.goto (-22), 3) := dk_167 255 234 (dk_at dksX13_leftIn_1 3 rfl rfl)
theorem dX13_leftIn_29 : decode cX13_leftIn 29 = .ok (.iload_n 2, 1) := dk_28 (dk_at dksX13_leftIn_1 6 rfl rfl)
theorem dX13_leftIn_30 : decode cX13_leftIn 30 = .ok (.ireturn, 1) := dk_172 (dk_at dksX13_leftIn_1 7 rfl rfl)
abbrev cX13_leave : ByteArray := prog_21_method_101_code
def yX13_leave : MethodName := ⟨RX13, "leave", "(I)I"⟩
def dkwX13_leave_3 : List UInt8 := [132, 3, 1, 167, 255, 219, 16, 254, 172]
abbrev dktX13_leave_3 : List UInt8 := dkwX13_leave_3 ++ []
def dkwX13_leave_2 : List UInt8 := [180, 0, 110, 16, 27, 27, 96, 46, 158, 0, 7, 4, 167, 0, 4, 3, 28, 159, 0, 5, 29, 172]
abbrev dktX13_leave_2 : List UInt8 := dkwX13_leave_2 ++ dktX13_leave_3
def dkwX13_leave_1 : List UInt8 := [158, 0, 7, 4, 167, 0, 4, 3, 61, 4, 62, 29, 17, 0, 240, 163, 0, 36, 42, 182, 1, 102, 42]
abbrev dktX13_leave_1 : List UInt8 := dkwX13_leave_1 ++ dktX13_leave_2
def dkwX13_leave_0 : List UInt8 := [42, 27, 182, 1, 72, 154, 0, 5, 2, 172, 42, 182, 1, 105, 42, 180, 0, 110, 16, 27, 27, 96, 46]
abbrev dktX13_leave_0 : List UInt8 := dkwX13_leave_0 ++ dktX13_leave_1
theorem dksX13_leave_0 : cX13_leave.data.toList.drop 0 = dktX13_leave_0 := by decide +kernel
theorem dksX13_leave_1 : cX13_leave.data.toList.drop 23 = dktX13_leave_1 := dk_seg dksX13_leave_0 23 rfl rfl
theorem dksX13_leave_2 : cX13_leave.data.toList.drop 46 = dktX13_leave_2 := dk_seg dksX13_leave_1 23 rfl rfl
theorem dksX13_leave_3 : cX13_leave.data.toList.drop 68 = dktX13_leave_3 := dk_seg dksX13_leave_2 22 rfl rfl
theorem dX13_leave_0 : decode cX13_leave 0 = .ok (.aload_n 0, 1) := dk_42 (dk_at dksX13_leave_0 0 rfl rfl)
theorem dX13_leave_1 : decode cX13_leave 1 = .ok (.iload_n 1, 1) := dk_27 (dk_at dksX13_leave_0 1 rfl rfl)
theorem dX13_leave_2 : decode cX13_leave 2 = .ok (.invokevirtual 328, 3) := dk_182 1 72 (dk_at dksX13_leave_0 2 rfl rfl)
theorem dX13_leave_5 : decode cX13_leave 5 = .ok (.ifCond .ne 5, 3) := dk_154 0 5 (dk_at dksX13_leave_0 5 rfl rfl)
theorem dX13_leave_8 : decode cX13_leave 8 = .ok (.iconst (-1), 1) := dk_2 (dk_at dksX13_leave_0 8 rfl rfl)
theorem dX13_leave_9 : decode cX13_leave 9 = .ok (.ireturn, 1) := dk_172 (dk_at dksX13_leave_0 9 rfl rfl)
theorem dX13_leave_10 : decode cX13_leave 10 = .ok (.aload_n 0, 1) := dk_42 (dk_at dksX13_leave_0 10 rfl rfl)
theorem dX13_leave_11 : decode cX13_leave 11 = .ok (.invokevirtual 361, 3) := dk_182 1 105 (dk_at dksX13_leave_0 11 rfl rfl)
theorem dX13_leave_14 : decode cX13_leave 14 = .ok (.aload_n 0, 1) := dk_42 (dk_at dksX13_leave_0 14 rfl rfl)
theorem dX13_leave_15 : decode cX13_leave 15 = .ok (.getfield 110, 3) := dk_180 0 110 (dk_at dksX13_leave_0 15 rfl rfl)
theorem dX13_leave_18 : decode cX13_leave 18 = .ok (.bipush 27, 2) := dk_16 27 (dk_at dksX13_leave_0 18 rfl rfl)
theorem dX13_leave_20 : decode cX13_leave 20 = .ok (.iload_n 1, 1) := dk_27 (dk_at dksX13_leave_0 20 rfl rfl)
theorem dX13_leave_21 : decode cX13_leave 21 = .ok (.iadd, 1) := dk_96 (dk_at dksX13_leave_0 21 rfl rfl)
theorem dX13_leave_22 : decode cX13_leave 22 = .ok (.iaload, 1) := dk_46 (dk_at dksX13_leave_0 22 rfl rfl)
theorem dX13_leave_23 : decode cX13_leave 23 = .ok (.ifCond .le 7, 3) := dk_158 0 7 (dk_at dksX13_leave_1 0 rfl rfl)
theorem dX13_leave_26 : decode cX13_leave 26 = .ok (.iconst 1, 1) := dk_4 (dk_at dksX13_leave_1 3 rfl rfl)
theorem dX13_leave_27 : decode cX13_leave 27 = .ok (.goto 4, 3) := dk_167 0 4 (dk_at dksX13_leave_1 4 rfl rfl)
theorem dX13_leave_30 : decode cX13_leave 30 = .ok (.iconst 0, 1) := dk_3 (dk_at dksX13_leave_1 7 rfl rfl)
theorem dX13_leave_31 : decode cX13_leave 31 = .ok (.istore_n 2, 1) := dk_61 (dk_at dksX13_leave_1 8 rfl rfl)
theorem dX13_leave_32 : decode cX13_leave 32 = .ok (.iconst 1, 1) := dk_4 (dk_at dksX13_leave_1 9 rfl rfl)
theorem dX13_leave_33 : decode cX13_leave 33 = .ok (.istore_n 3, 1) := dk_62 (dk_at dksX13_leave_1 10 rfl rfl)
theorem dX13_leave_34 : decode cX13_leave 34 = .ok (.iload_n 3, 1) := dk_29 (dk_at dksX13_leave_1 11 rfl rfl)
theorem dX13_leave_35 : decode cX13_leave 35 = .ok (.sipush 240, 3) := dk_17 0 240 (dk_at dksX13_leave_1 12 rfl rfl)
theorem dX13_leave_38 : decode cX13_leave 38 = .ok (.if_icmp .gt 36, 3) := dk_163 0 36 (dk_at dksX13_leave_1 15 rfl rfl)
theorem dX13_leave_41 : decode cX13_leave 41 = .ok (.aload_n 0, 1) := dk_42 (dk_at dksX13_leave_1 18 rfl rfl)
theorem dX13_leave_42 : decode cX13_leave 42 = .ok (.invokevirtual 358, 3) := dk_182 1 102 (dk_at dksX13_leave_1 19 rfl rfl)
theorem dX13_leave_45 : decode cX13_leave 45 = .ok (.aload_n 0, 1) := dk_42 (dk_at dksX13_leave_1 22 rfl rfl)
theorem dX13_leave_46 : decode cX13_leave 46 = .ok (.getfield 110, 3) := dk_180 0 110 (dk_at dksX13_leave_2 0 rfl rfl)
theorem dX13_leave_49 : decode cX13_leave 49 = .ok (.bipush 27, 2) := dk_16 27 (dk_at dksX13_leave_2 3 rfl rfl)
theorem dX13_leave_51 : decode cX13_leave 51 = .ok (.iload_n 1, 1) := dk_27 (dk_at dksX13_leave_2 5 rfl rfl)
theorem dX13_leave_52 : decode cX13_leave 52 = .ok (.iadd, 1) := dk_96 (dk_at dksX13_leave_2 6 rfl rfl)
theorem dX13_leave_53 : decode cX13_leave 53 = .ok (.iaload, 1) := dk_46 (dk_at dksX13_leave_2 7 rfl rfl)
theorem dX13_leave_54 : decode cX13_leave 54 = .ok (.ifCond .le 7, 3) := dk_158 0 7 (dk_at dksX13_leave_2 8 rfl rfl)
theorem dX13_leave_57 : decode cX13_leave 57 = .ok (.iconst 1, 1) := dk_4 (dk_at dksX13_leave_2 11 rfl rfl)
theorem dX13_leave_58 : decode cX13_leave 58 = .ok (.goto 4, 3) := dk_167 0 4 (dk_at dksX13_leave_2 12 rfl rfl)
theorem dX13_leave_61 : decode cX13_leave 61 = .ok (.iconst 0, 1) := dk_3 (dk_at dksX13_leave_2 15 rfl rfl)
theorem dX13_leave_62 : decode cX13_leave 62 = .ok (.iload_n 2, 1) := dk_28 (dk_at dksX13_leave_2 16 rfl rfl)
theorem dX13_leave_63 : decode cX13_leave 63 = .ok (.if_icmp .eq 5, 3) := dk_159 0 5 (dk_at dksX13_leave_2 17 rfl rfl)
theorem dX13_leave_66 : decode cX13_leave 66 = .ok (.iload_n 3, 1) := dk_29 (dk_at dksX13_leave_2 20 rfl rfl)
theorem dX13_leave_67 : decode cX13_leave 67 = .ok (.ireturn, 1) := dk_172 (dk_at dksX13_leave_2 21 rfl rfl)
theorem dX13_leave_68 : decode cX13_leave 68 = .ok (.iinc 3 1, 3) := dk_132 3 1 (dk_at dksX13_leave_3 0 rfl rfl)
theorem dX13_leave_71 : decode cX13_leave 71 = .ok (.goto (-37), 3) := dk_167 255 219 (dk_at dksX13_leave_3 3 rfl rfl)
theorem dX13_leave_74 : decode cX13_leave 74 = .ok (.bipush (-2), 2) := dk_16 254 (dk_at dksX13_leave_3 6 rfl rfl)
theorem dX13_leave_76 : decode cX13_leave 76 = .ok (.ireturn, 1) := dk_172 (dk_at dksX13_leave_3 8 rfl rfl)
abbrev cX13_then : ByteArray := prog_21_method_102_code
def yX13_then : MethodName := ⟨RX13, "then", "(III)I"⟩
def dkwX13_then_3 : List UInt8 := [167, 0, 10, 42, 182, 1, 114, 184, 1, 142, 172]
abbrev dktX13_then_3 : List UInt8 := dkwX13_then_3 ++ []
def dkwX13_then_2 : List UInt8 := [180, 0, 110, 27, 46, 167, 0, 27, 29, 4, 160, 0, 15, 42, 180, 0, 110, 16, 27, 27, 96, 46]
abbrev dktX13_then_2 : List UInt8 := dkwX13_then_2 ++ dktX13_then_3
def dkwX13_then_1 : List UInt8 := [182, 1, 72, 154, 0, 7, 19, 1, 117, 172, 42, 182, 1, 65, 42, 28, 182, 1, 111, 29, 154, 0, 12, 42]
abbrev dktX13_then_1 : List UInt8 := dkwX13_then_1 ++ dktX13_then_2
def dkwX13_then_0 : List UInt8 := [28, 184, 1, 127, 153, 0, 25, 29, 3, 5, 184, 1, 52, 153, 0, 16, 29, 5, 162, 0, 15, 42, 27]
abbrev dktX13_then_0 : List UInt8 := dkwX13_then_0 ++ dktX13_then_1
theorem dksX13_then_0 : cX13_then.data.toList.drop 0 = dktX13_then_0 := by decide +kernel
theorem dksX13_then_1 : cX13_then.data.toList.drop 23 = dktX13_then_1 := dk_seg dksX13_then_0 23 rfl rfl
theorem dksX13_then_2 : cX13_then.data.toList.drop 47 = dktX13_then_2 := dk_seg dksX13_then_1 24 rfl rfl
theorem dksX13_then_3 : cX13_then.data.toList.drop 69 = dktX13_then_3 := dk_seg dksX13_then_2 22 rfl rfl
theorem dX13_then_0 : decode cX13_then 0 = .ok (.iload_n 2, 1) := dk_28 (dk_at dksX13_then_0 0 rfl rfl)
theorem dX13_then_1 : decode cX13_then 1 = .ok (.invokestatic 383, 3) := dk_184 1 127 (dk_at dksX13_then_0 1 rfl rfl)
theorem dX13_then_4 : decode cX13_then 4 = .ok (.ifCond .eq 25, 3) := dk_153 0 25 (dk_at dksX13_then_0 4 rfl rfl)
theorem dX13_then_7 : decode cX13_then 7 = .ok (.iload_n 3, 1) := dk_29 (dk_at dksX13_then_0 7 rfl rfl)
theorem dX13_then_8 : decode cX13_then 8 = .ok (.iconst 0, 1) := dk_3 (dk_at dksX13_then_0 8 rfl rfl)
theorem dX13_then_9 : decode cX13_then 9 = .ok (.iconst 2, 1) := dk_5 (dk_at dksX13_then_0 9 rfl rfl)
theorem dX13_then_10 : decode cX13_then 10 = .ok (.invokestatic 308, 3) := dk_184 1 52 (dk_at dksX13_then_0 10 rfl rfl)
theorem dX13_then_13 : decode cX13_then 13 = .ok (.ifCond .eq 16, 3) := dk_153 0 16 (dk_at dksX13_then_0 13 rfl rfl)
theorem dX13_then_16 : decode cX13_then 16 = .ok (.iload_n 3, 1) := dk_29 (dk_at dksX13_then_0 16 rfl rfl)
theorem dX13_then_17 : decode cX13_then 17 = .ok (.iconst 2, 1) := dk_5 (dk_at dksX13_then_0 17 rfl rfl)
theorem dX13_then_18 : decode cX13_then 18 = .ok (.if_icmp .ge 15, 3) := dk_162 0 15 (dk_at dksX13_then_0 18 rfl rfl)
theorem dX13_then_21 : decode cX13_then 21 = .ok (.aload_n 0, 1) := dk_42 (dk_at dksX13_then_0 21 rfl rfl)
theorem dX13_then_22 : decode cX13_then 22 = .ok (.iload_n 1, 1) := dk_27 (dk_at dksX13_then_0 22 rfl rfl)
theorem dX13_then_23 : decode cX13_then 23 = .ok (.invokevirtual 328, 3) := dk_182 1 72 (dk_at dksX13_then_1 0 rfl rfl)
theorem dX13_then_26 : decode cX13_then 26 = .ok (.ifCond .ne 7, 3) := dk_154 0 7 (dk_at dksX13_then_1 3 rfl rfl)
theorem dX13_then_29 : decode cX13_then 29 = .ok (.ldc_w 373, 3) := dk_19 1 117 (dk_at dksX13_then_1 6 rfl rfl)
theorem dX13_then_32 : decode cX13_then 32 = .ok (.ireturn, 1) := dk_172 (dk_at dksX13_then_1 9 rfl rfl)
theorem dX13_then_33 : decode cX13_then 33 = .ok (.aload_n 0, 1) := dk_42 (dk_at dksX13_then_1 10 rfl rfl)
theorem dX13_then_34 : decode cX13_then 34 = .ok (.invokevirtual 321, 3) := dk_182 1 65 (dk_at dksX13_then_1 11 rfl rfl)
theorem dX13_then_37 : decode cX13_then 37 = .ok (.aload_n 0, 1) := dk_42 (dk_at dksX13_then_1 14 rfl rfl)
theorem dX13_then_38 : decode cX13_then 38 = .ok (.iload_n 2, 1) := dk_28 (dk_at dksX13_then_1 15 rfl rfl)
theorem dX13_then_39 : decode cX13_then 39 = .ok (.invokevirtual 367, 3) := dk_182 1 111 (dk_at dksX13_then_1 16 rfl rfl)
theorem dX13_then_42 : decode cX13_then 42 = .ok (.iload_n 3, 1) := dk_29 (dk_at dksX13_then_1 19 rfl rfl)
theorem dX13_then_43 : decode cX13_then 43 = .ok (.ifCond .ne 12, 3) := dk_154 0 12 (dk_at dksX13_then_1 20 rfl rfl)
theorem dX13_then_46 : decode cX13_then 46 = .ok (.aload_n 0, 1) := dk_42 (dk_at dksX13_then_1 23 rfl rfl)
theorem dX13_then_47 : decode cX13_then 47 = .ok (.getfield 110, 3) := dk_180 0 110 (dk_at dksX13_then_2 0 rfl rfl)
theorem dX13_then_50 : decode cX13_then 50 = .ok (.iload_n 1, 1) := dk_27 (dk_at dksX13_then_2 3 rfl rfl)
theorem dX13_then_51 : decode cX13_then 51 = .ok (.iaload, 1) := dk_46 (dk_at dksX13_then_2 4 rfl rfl)
theorem dX13_then_52 : decode cX13_then 52 = .ok (.goto 27, 3) := dk_167 0 27 (dk_at dksX13_then_2 5 rfl rfl)
theorem dX13_then_55 : decode cX13_then 55 = .ok (.iload_n 3, 1) := dk_29 (dk_at dksX13_then_2 8 rfl rfl)
theorem dX13_then_56 : decode cX13_then 56 = .ok (.iconst 1, 1) := dk_4 (dk_at dksX13_then_2 9 rfl rfl)
theorem dX13_then_57 : decode cX13_then 57 = .ok (.if_icmp .ne 15, 3) := dk_160 0 15 (dk_at dksX13_then_2 10 rfl rfl)
theorem dX13_then_60 : decode cX13_then 60 = .ok (.aload_n 0, 1) := dk_42 (dk_at dksX13_then_2 13 rfl rfl)
theorem dX13_then_61 : decode cX13_then 61 = .ok (.getfield 110, 3) := dk_180 0 110 (dk_at dksX13_then_2 14 rfl rfl)
theorem dX13_then_64 : decode cX13_then 64 = .ok (.bipush 27, 2) := dk_16 27 (dk_at dksX13_then_2 17 rfl rfl)
theorem dX13_then_66 : decode cX13_then 66 = .ok (.iload_n 1, 1) := dk_27 (dk_at dksX13_then_2 19 rfl rfl)
theorem dX13_then_67 : decode cX13_then 67 = .ok (.iadd, 1) := dk_96 (dk_at dksX13_then_2 20 rfl rfl)
theorem dX13_then_68 : decode cX13_then 68 = .ok (.iaload, 1) := dk_46 (dk_at dksX13_then_2 21 rfl rfl)
theorem dX13_then_69 : decode cX13_then 69 = .ok (.goto 10, 3) := dk_167 0 10 (dk_at dksX13_then_3 0 rfl rfl)
theorem dX13_then_72 : decode cX13_then 72 = .ok (.aload_n 0, 1) := dk_42 (dk_at dksX13_then_3 3 rfl rfl)
theorem dX13_then_73 : decode cX13_then 73 = .ok (.invokevirtual 370, 3) := dk_182 1 114 (dk_at dksX13_then_3 4 rfl rfl)
theorem dX13_then_76 : decode cX13_then 76 = .ok (.invokestatic 398, 3) := dk_184 1 142 (dk_at dksX13_then_3 7 rfl rfl)
theorem dX13_then_79 : decode cX13_then 79 = .ok (.ireturn, 1) := dk_172 (dk_at dksX13_then_3 10 rfl rfl)
abbrev cX13_year : ByteArray := prog_21_method_103_code
def yX13_year : MethodName := ⟨RX13, "year", "(II)I"⟩
def dkwX13_year_3 : List UInt8 := [172]
abbrev dktX13_year_3 : List UInt8 := dkwX13_year_3 ++ []
def dkwX13_year_2 : List UInt8 := [182, 1, 111, 42, 182, 1, 114, 42, 182, 1, 56, 160, 0, 6, 132, 3, 1, 132, 4, 1, 167, 255, 213, 29]
abbrev dktX13_year_2 : List UInt8 := dkwX13_year_2 ++ dktX13_year_3
def dkwX13_year_1 : List UInt8 := [21, 4, 28, 162, 0, 43, 42, 182, 1, 65, 42, 89, 180, 1, 59, 21, 4, 96, 181, 1, 59, 42, 27]
abbrev dktX13_year_1 : List UInt8 := dkwX13_year_1 ++ dktX13_year_2
def dkwX13_year_0 : List UInt8 := [27, 184, 1, 127, 153, 0, 13, 28, 4, 16, 20, 184, 1, 52, 154, 0, 5, 2, 172, 3, 62, 3, 54, 4]
abbrev dktX13_year_0 : List UInt8 := dkwX13_year_0 ++ dktX13_year_1
theorem dksX13_year_0 : cX13_year.data.toList.drop 0 = dktX13_year_0 := by decide +kernel
theorem dksX13_year_1 : cX13_year.data.toList.drop 24 = dktX13_year_1 := dk_seg dksX13_year_0 24 rfl rfl
theorem dksX13_year_2 : cX13_year.data.toList.drop 47 = dktX13_year_2 := dk_seg dksX13_year_1 23 rfl rfl
theorem dksX13_year_3 : cX13_year.data.toList.drop 71 = dktX13_year_3 := dk_seg dksX13_year_2 24 rfl rfl
theorem dX13_year_0 : decode cX13_year 0 = .ok (.iload_n 1, 1) := dk_27 (dk_at dksX13_year_0 0 rfl rfl)
theorem dX13_year_1 : decode cX13_year 1 = .ok (.invokestatic 383, 3) := dk_184 1 127 (dk_at dksX13_year_0 1 rfl rfl)
theorem dX13_year_4 : decode cX13_year 4 = .ok (.ifCond .eq 13, 3) := dk_153 0 13 (dk_at dksX13_year_0 4 rfl rfl)
theorem dX13_year_7 : decode cX13_year 7 = .ok (.iload_n 2, 1) := dk_28 (dk_at dksX13_year_0 7 rfl rfl)
theorem dX13_year_8 : decode cX13_year 8 = .ok (.iconst 1, 1) := dk_4 (dk_at dksX13_year_0 8 rfl rfl)
theorem dX13_year_9 : decode cX13_year 9 = .ok (.bipush 20, 2) := dk_16 20 (dk_at dksX13_year_0 9 rfl rfl)
theorem dX13_year_11 : decode cX13_year 11 = .ok (.invokestatic 308, 3) := dk_184 1 52 (dk_at dksX13_year_0 11 rfl rfl)
theorem dX13_year_14 : decode cX13_year 14 = .ok (.ifCond .ne 5, 3) := dk_154 0 5 (dk_at dksX13_year_0 14 rfl rfl)
theorem dX13_year_17 : decode cX13_year 17 = .ok (.iconst (-1), 1) := dk_2 (dk_at dksX13_year_0 17 rfl rfl)
theorem dX13_year_18 : decode cX13_year 18 = .ok (.ireturn, 1) := dk_172 (dk_at dksX13_year_0 18 rfl rfl)
theorem dX13_year_19 : decode cX13_year 19 = .ok (.iconst 0, 1) := dk_3 (dk_at dksX13_year_0 19 rfl rfl)
theorem dX13_year_20 : decode cX13_year 20 = .ok (.istore_n 3, 1) := dk_62 (dk_at dksX13_year_0 20 rfl rfl)
theorem dX13_year_21 : decode cX13_year 21 = .ok (.iconst 0, 1) := dk_3 (dk_at dksX13_year_0 21 rfl rfl)
theorem dX13_year_22 : decode cX13_year 22 = .ok (.istore 4, 2) := dk_54 4 (dk_at dksX13_year_0 22 rfl rfl)
theorem dX13_year_24 : decode cX13_year 24 = .ok (.iload 4, 2) := dk_21 4 (dk_at dksX13_year_1 0 rfl rfl)
theorem dX13_year_26 : decode cX13_year 26 = .ok (.iload_n 2, 1) := dk_28 (dk_at dksX13_year_1 2 rfl rfl)
theorem dX13_year_27 : decode cX13_year 27 = .ok (.if_icmp .ge 43, 3) := dk_162 0 43 (dk_at dksX13_year_1 3 rfl rfl)
theorem dX13_year_30 : decode cX13_year 30 = .ok (.aload_n 0, 1) := dk_42 (dk_at dksX13_year_1 6 rfl rfl)
theorem dX13_year_31 : decode cX13_year 31 = .ok (.invokevirtual 321, 3) := dk_182 1 65 (dk_at dksX13_year_1 7 rfl rfl)
theorem dX13_year_34 : decode cX13_year 34 = .ok (.aload_n 0, 1) := dk_42 (dk_at dksX13_year_1 10 rfl rfl)
theorem dX13_year_35 : decode cX13_year 35 = .ok (.dup, 1) := dk_89 (dk_at dksX13_year_1 11 rfl rfl)
theorem dX13_year_36 : decode cX13_year 36 = .ok (.getfield 315, 3) := dk_180 1 59 (dk_at dksX13_year_1 12 rfl rfl)
theorem dX13_year_39 : decode cX13_year 39 = .ok (.iload 4, 2) := dk_21 4 (dk_at dksX13_year_1 15 rfl rfl)
theorem dX13_year_41 : decode cX13_year 41 = .ok (.iadd, 1) := dk_96 (dk_at dksX13_year_1 17 rfl rfl)
theorem dX13_year_42 : decode cX13_year 42 = .ok (.putfield 315, 3) := dk_181 1 59 (dk_at dksX13_year_1 18 rfl rfl)
theorem dX13_year_45 : decode cX13_year 45 = .ok (.aload_n 0, 1) := dk_42 (dk_at dksX13_year_1 21 rfl rfl)
theorem dX13_year_46 : decode cX13_year 46 = .ok (.iload_n 1, 1) := dk_27 (dk_at dksX13_year_1 22 rfl rfl)
theorem dX13_year_47 : decode cX13_year 47 = .ok (.invokevirtual 367, 3) := dk_182 1 111 (dk_at dksX13_year_2 0 rfl rfl)
theorem dX13_year_50 : decode cX13_year 50 = .ok (.aload_n 0, 1) := dk_42 (dk_at dksX13_year_2 3 rfl rfl)
theorem dX13_year_51 : decode cX13_year 51 = .ok (.invokevirtual 370, 3) := dk_182 1 114 (dk_at dksX13_year_2 4 rfl rfl)
theorem dX13_year_54 : decode cX13_year 54 = .ok (.aload_n 0, 1) := dk_42 (dk_at dksX13_year_2 7 rfl rfl)
theorem dX13_year_55 : decode cX13_year 55 = .ok (.invokevirtual 312, 3) := dk_182 1 56 (dk_at dksX13_year_2 8 rfl rfl)
theorem dX13_year_58 : decode cX13_year 58 = .ok (.if_icmp .ne 6, 3) := dk_160 0 6 (dk_at dksX13_year_2 11 rfl rfl)
theorem dX13_year_61 : decode cX13_year 61 = .ok (.iinc 3 1, 3) := dk_132 3 1 (dk_at dksX13_year_2 14 rfl rfl)
theorem dX13_year_64 : decode cX13_year 64 = .ok (.iinc 4 1, 3) := dk_132 4 1 (dk_at dksX13_year_2 17 rfl rfl)
theorem dX13_year_67 : decode cX13_year 67 = .ok (.goto (-43), 3) := dk_167 255 213 (dk_at dksX13_year_2 20 rfl rfl)
theorem dX13_year_70 : decode cX13_year 70 = .ok (.iload_n 3, 1) := dk_29 (dk_at dksX13_year_2 23 rfl rfl)
theorem dX13_year_71 : decode cX13_year 71 = .ok (.ireturn, 1) := dk_172 (dk_at dksX13_year_3 0 rfl rfl)
abbrev cX13_tell : ByteArray := prog_21_method_104_code
def yX13_tell : MethodName := ⟨RX13, "tell", "(IIZ)I"⟩
def dkwX13_tell_3 : List UInt8 := [181, 1, 3, 42, 180, 1, 3, 4, 100, 172]
abbrev dktX13_tell_3 : List UInt8 := dkwX13_tell_3 ++ []
def dkwX13_tell_2 : List UInt8 := [180, 0, 137, 42, 180, 1, 3, 29, 153, 0, 7, 4, 167, 0, 4, 3, 79, 42, 89, 180, 1, 3, 4, 96]
abbrev dktX13_tell_2 : List UInt8 := dkwX13_tell_2 ++ dktX13_tell_3
def dkwX13_tell_1 : List UInt8 := [2, 172, 42, 180, 0, 131, 42, 180, 1, 3, 27, 79, 42, 180, 0, 134, 42, 180, 1, 3, 28, 79, 42]
abbrev dktX13_tell_1 : List UInt8 := dkwX13_tell_1 ++ dktX13_tell_2
def dkwX13_tell_0 : List UInt8 := [42, 180, 1, 3, 16, 20, 159, 0, 18, 42, 27, 182, 1, 72, 153, 0, 10, 28, 184, 1, 148, 154, 0, 5]
abbrev dktX13_tell_0 : List UInt8 := dkwX13_tell_0 ++ dktX13_tell_1
theorem dksX13_tell_0 : cX13_tell.data.toList.drop 0 = dktX13_tell_0 := by decide +kernel
theorem dksX13_tell_1 : cX13_tell.data.toList.drop 24 = dktX13_tell_1 := dk_seg dksX13_tell_0 24 rfl rfl
theorem dksX13_tell_2 : cX13_tell.data.toList.drop 47 = dktX13_tell_2 := dk_seg dksX13_tell_1 23 rfl rfl
theorem dksX13_tell_3 : cX13_tell.data.toList.drop 71 = dktX13_tell_3 := dk_seg dksX13_tell_2 24 rfl rfl
theorem dX13_tell_0 : decode cX13_tell 0 = .ok (.aload_n 0, 1) := dk_42 (dk_at dksX13_tell_0 0 rfl rfl)
theorem dX13_tell_1 : decode cX13_tell 1 = .ok (.getfield 259, 3) := dk_180 1 3 (dk_at dksX13_tell_0 1 rfl rfl)
theorem dX13_tell_4 : decode cX13_tell 4 = .ok (.bipush 20, 2) := dk_16 20 (dk_at dksX13_tell_0 4 rfl rfl)
theorem dX13_tell_6 : decode cX13_tell 6 = .ok (.if_icmp .eq 18, 3) := dk_159 0 18 (dk_at dksX13_tell_0 6 rfl rfl)
theorem dX13_tell_9 : decode cX13_tell 9 = .ok (.aload_n 0, 1) := dk_42 (dk_at dksX13_tell_0 9 rfl rfl)
theorem dX13_tell_10 : decode cX13_tell 10 = .ok (.iload_n 1, 1) := dk_27 (dk_at dksX13_tell_0 10 rfl rfl)
theorem dX13_tell_11 : decode cX13_tell 11 = .ok (.invokevirtual 328, 3) := dk_182 1 72 (dk_at dksX13_tell_0 11 rfl rfl)
theorem dX13_tell_14 : decode cX13_tell 14 = .ok (.ifCond .eq 10, 3) := dk_153 0 10 (dk_at dksX13_tell_0 14 rfl rfl)
theorem dX13_tell_17 : decode cX13_tell 17 = .ok (.iload_n 2, 1) := dk_28 (dk_at dksX13_tell_0 17 rfl rfl)
theorem dX13_tell_18 : decode cX13_tell 18 = .ok (.invokestatic 404, 3) := dk_184 1 148 (dk_at dksX13_tell_0 18 rfl rfl)
theorem dX13_tell_21 : decode cX13_tell 21 = .ok (.ifCond .ne 5, 3) := dk_154 0 5 (dk_at dksX13_tell_0 21 rfl rfl)
theorem dX13_tell_24 : decode cX13_tell 24 = .ok (.iconst (-1), 1) := dk_2 (dk_at dksX13_tell_1 0 rfl rfl)
theorem dX13_tell_25 : decode cX13_tell 25 = .ok (.ireturn, 1) := dk_172 (dk_at dksX13_tell_1 1 rfl rfl)
theorem dX13_tell_26 : decode cX13_tell 26 = .ok (.aload_n 0, 1) := dk_42 (dk_at dksX13_tell_1 2 rfl rfl)
theorem dX13_tell_27 : decode cX13_tell 27 = .ok (.getfield 131, 3) := dk_180 0 131 (dk_at dksX13_tell_1 3 rfl rfl)
theorem dX13_tell_30 : decode cX13_tell 30 = .ok (.aload_n 0, 1) := dk_42 (dk_at dksX13_tell_1 6 rfl rfl)
theorem dX13_tell_31 : decode cX13_tell 31 = .ok (.getfield 259, 3) := dk_180 1 3 (dk_at dksX13_tell_1 7 rfl rfl)
theorem dX13_tell_34 : decode cX13_tell 34 = .ok (.iload_n 1, 1) := dk_27 (dk_at dksX13_tell_1 10 rfl rfl)
theorem dX13_tell_35 : decode cX13_tell 35 = .ok (.iastore, 1) := dk_79 (dk_at dksX13_tell_1 11 rfl rfl)
theorem dX13_tell_36 : decode cX13_tell 36 = .ok (.aload_n 0, 1) := dk_42 (dk_at dksX13_tell_1 12 rfl rfl)
theorem dX13_tell_37 : decode cX13_tell 37 = .ok (.getfield 134, 3) := dk_180 0 134 (dk_at dksX13_tell_1 13 rfl rfl)
theorem dX13_tell_40 : decode cX13_tell 40 = .ok (.aload_n 0, 1) := dk_42 (dk_at dksX13_tell_1 16 rfl rfl)
theorem dX13_tell_41 : decode cX13_tell 41 = .ok (.getfield 259, 3) := dk_180 1 3 (dk_at dksX13_tell_1 17 rfl rfl)
theorem dX13_tell_44 : decode cX13_tell 44 = .ok (.iload_n 2, 1) := dk_28 (dk_at dksX13_tell_1 20 rfl rfl)
theorem dX13_tell_45 : decode cX13_tell 45 = .ok (.iastore, 1) := dk_79 (dk_at dksX13_tell_1 21 rfl rfl)
theorem dX13_tell_46 : decode cX13_tell 46 = .ok (.aload_n 0, 1) := dk_42 (dk_at dksX13_tell_1 22 rfl rfl)
theorem dX13_tell_47 : decode cX13_tell 47 = .ok (.getfield 137, 3) := dk_180 0 137 (dk_at dksX13_tell_2 0 rfl rfl)
theorem dX13_tell_50 : decode cX13_tell 50 = .ok (.aload_n 0, 1) := dk_42 (dk_at dksX13_tell_2 3 rfl rfl)
theorem dX13_tell_51 : decode cX13_tell 51 = .ok (.getfield 259, 3) := dk_180 1 3 (dk_at dksX13_tell_2 4 rfl rfl)
theorem dX13_tell_54 : decode cX13_tell 54 = .ok (.iload_n 3, 1) := dk_29 (dk_at dksX13_tell_2 7 rfl rfl)
theorem dX13_tell_55 : decode cX13_tell 55 = .ok (.ifCond .eq 7, 3) := dk_153 0 7 (dk_at dksX13_tell_2 8 rfl rfl)
theorem dX13_tell_58 : decode cX13_tell 58 = .ok (.iconst 1, 1) := dk_4 (dk_at dksX13_tell_2 11 rfl rfl)
theorem dX13_tell_59 : decode cX13_tell 59 = .ok (.goto 4, 3) := dk_167 0 4 (dk_at dksX13_tell_2 12 rfl rfl)
theorem dX13_tell_62 : decode cX13_tell 62 = .ok (.iconst 0, 1) := dk_3 (dk_at dksX13_tell_2 15 rfl rfl)
theorem dX13_tell_63 : decode cX13_tell 63 = .ok (.iastore, 1) := dk_79 (dk_at dksX13_tell_2 16 rfl rfl)
theorem dX13_tell_64 : decode cX13_tell 64 = .ok (.aload_n 0, 1) := dk_42 (dk_at dksX13_tell_2 17 rfl rfl)
theorem dX13_tell_65 : decode cX13_tell 65 = .ok (.dup, 1) := dk_89 (dk_at dksX13_tell_2 18 rfl rfl)
theorem dX13_tell_66 : decode cX13_tell 66 = .ok (.getfield 259, 3) := dk_180 1 3 (dk_at dksX13_tell_2 19 rfl rfl)
theorem dX13_tell_69 : decode cX13_tell 69 = .ok (.iconst 1, 1) := dk_4 (dk_at dksX13_tell_2 22 rfl rfl)
theorem dX13_tell_70 : decode cX13_tell 70 = .ok (.iadd, 1) := dk_96 (dk_at dksX13_tell_2 23 rfl rfl)
theorem dX13_tell_71 : decode cX13_tell 71 = .ok (.putfield 259, 3) := dk_181 1 3 (dk_at dksX13_tell_3 0 rfl rfl)
theorem dX13_tell_74 : decode cX13_tell 74 = .ok (.aload_n 0, 1) := dk_42 (dk_at dksX13_tell_3 3 rfl rfl)
theorem dX13_tell_75 : decode cX13_tell 75 = .ok (.getfield 259, 3) := dk_180 1 3 (dk_at dksX13_tell_3 4 rfl rfl)
theorem dX13_tell_78 : decode cX13_tell 78 = .ok (.iconst 1, 1) := dk_4 (dk_at dksX13_tell_3 7 rfl rfl)
theorem dX13_tell_79 : decode cX13_tell 79 = .ok (.isub, 1) := dk_100 (dk_at dksX13_tell_3 8 rfl rfl)
theorem dX13_tell_80 : decode cX13_tell 80 = .ok (.ireturn, 1) := dk_172 (dk_at dksX13_tell_3 9 rfl rfl)
abbrev cX13_forget : ByteArray := prog_21_method_105_code
def yX13_forget : MethodName := ⟨RX13, "forget", "()I"⟩
def dkwX13_forget_0 : List UInt8 := [42, 180, 1, 3, 60, 42, 3, 181, 1, 3, 27, 172]
abbrev dktX13_forget_0 : List UInt8 := dkwX13_forget_0 ++ []
theorem dksX13_forget_0 : cX13_forget.data.toList.drop 0 = dktX13_forget_0 := by decide +kernel
theorem dX13_forget_0 : decode cX13_forget 0 = .ok (.aload_n 0, 1) := dk_42 (dk_at dksX13_forget_0 0 rfl rfl)
theorem dX13_forget_1 : decode cX13_forget 1 = .ok (.getfield 259, 3) := dk_180 1 3 (dk_at dksX13_forget_0 1 rfl rfl)
theorem dX13_forget_4 : decode cX13_forget 4 = .ok (.istore_n 1, 1) := dk_60 (dk_at dksX13_forget_0 4 rfl rfl)
theorem dX13_forget_5 : decode cX13_forget 5 = .ok (.aload_n 0, 1) := dk_42 (dk_at dksX13_forget_0 5 rfl rfl)
theorem dX13_forget_6 : decode cX13_forget 6 = .ok (.iconst 0, 1) := dk_3 (dk_at dksX13_forget_0 6 rfl rfl)
theorem dX13_forget_7 : decode cX13_forget 7 = .ok (.putfield 259, 3) := dk_181 1 3 (dk_at dksX13_forget_0 7 rfl rfl)
theorem dX13_forget_10 : decode cX13_forget 10 = .ok (.iload_n 1, 1) := dk_27 (dk_at dksX13_forget_0 10 rfl rfl)
theorem dX13_forget_11 : decode cX13_forget 11 = .ok (.ireturn, 1) := dk_172 (dk_at dksX13_forget_0 11 rfl rfl)
abbrev cX13_lay : ByteArray := prog_21_method_107_code
def yX13_lay : MethodName := ⟨RX13, "lay", "(II)I"⟩
def dkwX13_lay_5 : List UInt8 := [21, 5, 167, 0, 12, 42, 182, 1, 56, 21, 6, 2, 130, 126, 172]
abbrev dktX13_lay_5 : List UInt8 := dkwX13_lay_5 ++ []
def dkwX13_lay_4 : List UInt8 := [128, 54, 6, 132, 7, 255, 167, 255, 217, 28, 4, 160, 0, 8, 21, 4, 167, 0, 22, 28, 5, 160, 0, 8]
abbrev dktX13_lay_4 : List UInt8 := dkwX13_lay_4 ++ dktX13_lay_5
def dkwX13_lay_3 : List UInt8 := [21, 7, 51, 154, 0, 6, 167, 0, 21, 21, 7, 54, 4, 21, 5, 21, 7, 126, 54, 5, 21, 6, 21, 7]
abbrev dktX13_lay_3 : List UInt8 := dkwX13_lay_3 ++ dktX13_lay_4
def dkwX13_lay_2 : List UInt8 := [182, 1, 56, 54, 5, 3, 54, 6, 42, 182, 1, 56, 54, 7, 21, 7, 155, 0, 40, 42, 180, 0, 140]
abbrev dktX13_lay_2 : List UInt8 := dkwX13_lay_2 ++ dktX13_lay_3
def dkwX13_lay_1 : List UInt8 := [27, 182, 1, 175, 62, 28, 154, 0, 5, 29, 172, 29, 154, 0, 6, 16, 254, 172, 2, 54, 4, 42]
abbrev dktX13_lay_1 : List UInt8 := dkwX13_lay_1 ++ dktX13_lay_2
def dkwX13_lay_0 : List UInt8 := [27, 3, 42, 180, 1, 3, 184, 1, 52, 153, 0, 12, 28, 3, 6, 184, 1, 52, 154, 0, 5, 2, 172, 42]
abbrev dktX13_lay_0 : List UInt8 := dkwX13_lay_0 ++ dktX13_lay_1
theorem dksX13_lay_0 : cX13_lay.data.toList.drop 0 = dktX13_lay_0 := by decide +kernel
theorem dksX13_lay_1 : cX13_lay.data.toList.drop 24 = dktX13_lay_1 := dk_seg dksX13_lay_0 24 rfl rfl
theorem dksX13_lay_2 : cX13_lay.data.toList.drop 46 = dktX13_lay_2 := dk_seg dksX13_lay_1 22 rfl rfl
theorem dksX13_lay_3 : cX13_lay.data.toList.drop 69 = dktX13_lay_3 := dk_seg dksX13_lay_2 23 rfl rfl
theorem dksX13_lay_4 : cX13_lay.data.toList.drop 93 = dktX13_lay_4 := dk_seg dksX13_lay_3 24 rfl rfl
theorem dksX13_lay_5 : cX13_lay.data.toList.drop 117 = dktX13_lay_5 := dk_seg dksX13_lay_4 24 rfl rfl
theorem dX13_lay_0 : decode cX13_lay 0 = .ok (.iload_n 1, 1) := dk_27 (dk_at dksX13_lay_0 0 rfl rfl)
theorem dX13_lay_1 : decode cX13_lay 1 = .ok (.iconst 0, 1) := dk_3 (dk_at dksX13_lay_0 1 rfl rfl)
theorem dX13_lay_2 : decode cX13_lay 2 = .ok (.aload_n 0, 1) := dk_42 (dk_at dksX13_lay_0 2 rfl rfl)
theorem dX13_lay_3 : decode cX13_lay 3 = .ok (.getfield 259, 3) := dk_180 1 3 (dk_at dksX13_lay_0 3 rfl rfl)
theorem dX13_lay_6 : decode cX13_lay 6 = .ok (.invokestatic 308, 3) := dk_184 1 52 (dk_at dksX13_lay_0 6 rfl rfl)
theorem dX13_lay_9 : decode cX13_lay 9 = .ok (.ifCond .eq 12, 3) := dk_153 0 12 (dk_at dksX13_lay_0 9 rfl rfl)
theorem dX13_lay_12 : decode cX13_lay 12 = .ok (.iload_n 2, 1) := dk_28 (dk_at dksX13_lay_0 12 rfl rfl)
theorem dX13_lay_13 : decode cX13_lay 13 = .ok (.iconst 0, 1) := dk_3 (dk_at dksX13_lay_0 13 rfl rfl)
theorem dX13_lay_14 : decode cX13_lay 14 = .ok (.iconst 3, 1) := dk_6 (dk_at dksX13_lay_0 14 rfl rfl)
theorem dX13_lay_15 : decode cX13_lay 15 = .ok (.invokestatic 308, 3) := dk_184 1 52 (dk_at dksX13_lay_0 15 rfl rfl)
theorem dX13_lay_18 : decode cX13_lay 18 = .ok (.ifCond .ne 5, 3) := dk_154 0 5 (dk_at dksX13_lay_0 18 rfl rfl)
theorem dX13_lay_21 : decode cX13_lay 21 = .ok (.iconst (-1), 1) := dk_2 (dk_at dksX13_lay_0 21 rfl rfl)
theorem dX13_lay_22 : decode cX13_lay 22 = .ok (.ireturn, 1) := dk_172 (dk_at dksX13_lay_0 22 rfl rfl)
theorem dX13_lay_23 : decode cX13_lay 23 = .ok (.aload_n 0, 1) := dk_42 (dk_at dksX13_lay_0 23 rfl rfl)
theorem dX13_lay_24 : decode cX13_lay 24 = .ok (.iload_n 1, 1) := dk_27 (dk_at dksX13_lay_1 0 rfl rfl)
theorem dX13_lay_25 : decode cX13_lay 25 = .ok (.invokevirtual 431, 3) := dk_182 1 175 (dk_at dksX13_lay_1 1 rfl rfl)
theorem dX13_lay_28 : decode cX13_lay 28 = .ok (.istore_n 3, 1) := dk_62 (dk_at dksX13_lay_1 4 rfl rfl)
theorem dX13_lay_29 : decode cX13_lay 29 = .ok (.iload_n 2, 1) := dk_28 (dk_at dksX13_lay_1 5 rfl rfl)
theorem dX13_lay_30 : decode cX13_lay 30 = .ok (.ifCond .ne 5, 3) := dk_154 0 5 (dk_at dksX13_lay_1 6 rfl rfl)
theorem dX13_lay_33 : decode cX13_lay 33 = .ok (.iload_n 3, 1) := dk_29 (dk_at dksX13_lay_1 9 rfl rfl)
theorem dX13_lay_34 : decode cX13_lay 34 = .ok (.ireturn, 1) := dk_172 (dk_at dksX13_lay_1 10 rfl rfl)
theorem dX13_lay_35 : decode cX13_lay 35 = .ok (.iload_n 3, 1) := dk_29 (dk_at dksX13_lay_1 11 rfl rfl)
theorem dX13_lay_36 : decode cX13_lay 36 = .ok (.ifCond .ne 6, 3) := dk_154 0 6 (dk_at dksX13_lay_1 12 rfl rfl)
theorem dX13_lay_39 : decode cX13_lay 39 = .ok (.bipush (-2), 2) := dk_16 254 (dk_at dksX13_lay_1 15 rfl rfl)
theorem dX13_lay_41 : decode cX13_lay 41 = .ok (.ireturn, 1) := dk_172 (dk_at dksX13_lay_1 17 rfl rfl)
theorem dX13_lay_42 : decode cX13_lay 42 = .ok (.iconst (-1), 1) := dk_2 (dk_at dksX13_lay_1 18 rfl rfl)
theorem dX13_lay_43 : decode cX13_lay 43 = .ok (.istore 4, 2) := dk_54 4 (dk_at dksX13_lay_1 19 rfl rfl)
theorem dX13_lay_45 : decode cX13_lay 45 = .ok (.aload_n 0, 1) := dk_42 (dk_at dksX13_lay_1 21 rfl rfl)
theorem dX13_lay_46 : decode cX13_lay 46 = .ok (.invokevirtual 312, 3) := dk_182 1 56 (dk_at dksX13_lay_2 0 rfl rfl)
theorem dX13_lay_49 : decode cX13_lay 49 = .ok (.istore 5, 2) := dk_54 5 (dk_at dksX13_lay_2 3 rfl rfl)
theorem dX13_lay_51 : decode cX13_lay 51 = .ok (.iconst 0, 1) := dk_3 (dk_at dksX13_lay_2 5 rfl rfl)
theorem dX13_lay_52 : decode cX13_lay 52 = .ok (.istore 6, 2) := dk_54 6 (dk_at dksX13_lay_2 6 rfl rfl)
theorem dX13_lay_54 : decode cX13_lay 54 = .ok (.aload_n 0, 1) := dk_42 (dk_at dksX13_lay_2 8 rfl rfl)
theorem dX13_lay_55 : decode cX13_lay 55 = .ok (.invokevirtual 312, 3) := dk_182 1 56 (dk_at dksX13_lay_2 9 rfl rfl)
theorem dX13_lay_58 : decode cX13_lay 58 = .ok (.istore 7, 2) := dk_54 7 (dk_at dksX13_lay_2 12 rfl rfl)
theorem dX13_lay_60 : decode cX13_lay 60 = .ok (.iload 7, 2) := dk_21 7 (dk_at dksX13_lay_2 14 rfl rfl)
theorem dX13_lay_62 : decode cX13_lay 62 = .ok (.ifCond .lt 40, 3) := dk_155 0 40 (dk_at dksX13_lay_2 16 rfl rfl)
theorem dX13_lay_65 : decode cX13_lay 65 = .ok (.aload_n 0, 1) := dk_42 (dk_at dksX13_lay_2 19 rfl rfl)
theorem dX13_lay_66 : decode cX13_lay 66 = .ok (.getfield 140, 3) := dk_180 0 140 (dk_at dksX13_lay_2 20 rfl rfl)
theorem dX13_lay_69 : decode cX13_lay 69 = .ok (.iload 7, 2) := dk_21 7 (dk_at dksX13_lay_3 0 rfl rfl)
theorem dX13_lay_71 : decode cX13_lay 71 = .ok (.baload, 1) := dk_51 (dk_at dksX13_lay_3 2 rfl rfl)
theorem dX13_lay_72 : decode cX13_lay 72 = .ok (.ifCond .ne 6, 3) := dk_154 0 6 (dk_at dksX13_lay_3 3 rfl rfl)
theorem dX13_lay_75 : decode cX13_lay 75 = .ok (.goto 21, 3) := dk_167 0 21 (dk_at dksX13_lay_3 6 rfl rfl)
theorem dX13_lay_78 : decode cX13_lay 78 = .ok (.iload 7, 2) := dk_21 7 (dk_at dksX13_lay_3 9 rfl rfl)
theorem dX13_lay_80 : decode cX13_lay 80 = .ok (.istore 4, 2) := dk_54 4 (dk_at dksX13_lay_3 11 rfl rfl)
theorem dX13_lay_82 : decode cX13_lay 82 = .ok (.iload 5, 2) := dk_21 5 (dk_at dksX13_lay_3 13 rfl rfl)
theorem dX13_lay_84 : decode cX13_lay 84 = .ok (.iload 7, 2) := dk_21 7 (dk_at dksX13_lay_3 15 rfl rfl)
theorem dX13_lay_86 : decode cX13_lay 86 = .ok (.iand, 1) := dk_126 (dk_at dksX13_lay_3 17 rfl rfl)
theorem dX13_lay_87 : decode cX13_lay 87 = .ok (.istore 5, 2) := dk_54 5 (dk_at dksX13_lay_3 18 rfl rfl)
theorem dX13_lay_89 : decode cX13_lay 89 = .ok (.iload 6, 2) := dk_21 6 (dk_at dksX13_lay_3 20 rfl rfl)
theorem dX13_lay_91 : decode cX13_lay 91 = .ok (.iload 7, 2) := dk_21 7 (dk_at dksX13_lay_3 22 rfl rfl)
theorem dX13_lay_93 : decode cX13_lay 93 = .ok (.ior, 1) := dk_128 (dk_at dksX13_lay_4 0 rfl rfl)
theorem dX13_lay_94 : decode cX13_lay 94 = .ok (.istore 6, 2) := dk_54 6 (dk_at dksX13_lay_4 1 rfl rfl)
theorem dX13_lay_96 : decode cX13_lay 96 = .ok (.iinc 7 (-1), 3) := dk_132 7 255 (dk_at dksX13_lay_4 3 rfl rfl)
theorem dX13_lay_99 : decode cX13_lay 99 = .ok (.goto (-39), 3) := dk_167 255 217 (dk_at dksX13_lay_4 6 rfl rfl)
theorem dX13_lay_102 : decode cX13_lay 102 = .ok (.iload_n 2, 1) := dk_28 (dk_at dksX13_lay_4 9 rfl rfl)
theorem dX13_lay_103 : decode cX13_lay 103 = .ok (.iconst 1, 1) := dk_4 (dk_at dksX13_lay_4 10 rfl rfl)
theorem dX13_lay_104 : decode cX13_lay 104 = .ok (.if_icmp .ne 8, 3) := dk_160 0 8 (dk_at dksX13_lay_4 11 rfl rfl)
theorem dX13_lay_107 : decode cX13_lay 107 = .ok (.iload 4, 2) := dk_21 4 (dk_at dksX13_lay_4 14 rfl rfl)
theorem dX13_lay_109 : decode cX13_lay 109 = .ok (.goto 22, 3) := dk_167 0 22 (dk_at dksX13_lay_4 16 rfl rfl)
theorem dX13_lay_112 : decode cX13_lay 112 = .ok (.iload_n 2, 1) := dk_28 (dk_at dksX13_lay_4 19 rfl rfl)
theorem dX13_lay_113 : decode cX13_lay 113 = .ok (.iconst 2, 1) := dk_5 (dk_at dksX13_lay_4 20 rfl rfl)
theorem dX13_lay_114 : decode cX13_lay 114 = .ok (.if_icmp .ne 8, 3) := dk_160 0 8 (dk_at dksX13_lay_4 21 rfl rfl)
theorem dX13_lay_117 : decode cX13_lay 117 = .ok (.iload 5, 2) := dk_21 5 (dk_at dksX13_lay_5 0 rfl rfl)
theorem dX13_lay_119 : decode cX13_lay 119 = .ok (.goto 12, 3) := dk_167 0 12 (dk_at dksX13_lay_5 2 rfl rfl)
theorem dX13_lay_122 : decode cX13_lay 122 = .ok (.aload_n 0, 1) := dk_42 (dk_at dksX13_lay_5 5 rfl rfl)
theorem dX13_lay_123 : decode cX13_lay 123 = .ok (.invokevirtual 312, 3) := dk_182 1 56 (dk_at dksX13_lay_5 6 rfl rfl)
theorem dX13_lay_126 : decode cX13_lay 126 = .ok (.iload 6, 2) := dk_21 6 (dk_at dksX13_lay_5 9 rfl rfl)
theorem dX13_lay_128 : decode cX13_lay 128 = .ok (.iconst (-1), 1) := dk_2 (dk_at dksX13_lay_5 11 rfl rfl)
theorem dX13_lay_129 : decode cX13_lay 129 = .ok (.ixor, 1) := dk_130 (dk_at dksX13_lay_5 12 rfl rfl)
theorem dX13_lay_130 : decode cX13_lay 130 = .ok (.iand, 1) := dk_126 (dk_at dksX13_lay_5 13 rfl rfl)
theorem dX13_lay_131 : decode cX13_lay 131 = .ok (.ireturn, 1) := dk_172 (dk_at dksX13_lay_5 14 rfl rfl)
abbrev cX13_fillsLay : ByteArray := prog_21_method_106_code
def yX13_fillsLay : MethodName := ⟨RX13, "fillsLay", "(I)I"⟩
def dkwX13_fillsLay_4 : List UInt8 := [132, 2, 1, 132, 3, 1, 167, 255, 159, 28, 172]
abbrev dktX13_fillsLay_4 : List UInt8 := dkwX13_fillsLay_4 ++ []
def dkwX13_fillsLay_3 : List UInt8 := [160, 0, 7, 4, 167, 0, 4, 3, 84, 132, 4, 1, 167, 255, 195, 42, 180, 0, 140, 29, 51, 153, 0, 6]
abbrev dktX13_fillsLay_3 : List UInt8 := dkwX13_fillsLay_3 ++ dktX13_fillsLay_4
def dkwX13_fillsLay_2 : List UInt8 := [21, 4, 46, 182, 1, 133, 42, 180, 0, 131, 21, 4, 46, 122, 4, 126, 42, 180, 0, 137, 21, 4, 46]
abbrev dktX13_fillsLay_2 : List UInt8 := dkwX13_fillsLay_2 ++ dktX13_fillsLay_3
def dkwX13_fillsLay_1 : List UInt8 := [27, 162, 0, 61, 42, 180, 0, 140, 29, 51, 153, 0, 52, 42, 180, 0, 140, 29, 42, 29, 42, 180, 0, 134]
abbrev dktX13_fillsLay_1 : List UInt8 := dkwX13_fillsLay_1 ++ dktX13_fillsLay_2
def dkwX13_fillsLay_0 : List UInt8 := [3, 61, 3, 62, 29, 42, 182, 1, 56, 163, 0, 95, 42, 180, 0, 140, 29, 4, 84, 3, 54, 4, 21, 4]
abbrev dktX13_fillsLay_0 : List UInt8 := dkwX13_fillsLay_0 ++ dktX13_fillsLay_1
theorem dksX13_fillsLay_0 : cX13_fillsLay.data.toList.drop 0 = dktX13_fillsLay_0 := by decide +kernel
theorem dksX13_fillsLay_1 : cX13_fillsLay.data.toList.drop 24 = dktX13_fillsLay_1 := dk_seg dksX13_fillsLay_0 24 rfl rfl
theorem dksX13_fillsLay_2 : cX13_fillsLay.data.toList.drop 48 = dktX13_fillsLay_2 := dk_seg dksX13_fillsLay_1 24 rfl rfl
theorem dksX13_fillsLay_3 : cX13_fillsLay.data.toList.drop 71 = dktX13_fillsLay_3 := dk_seg dksX13_fillsLay_2 23 rfl rfl
theorem dksX13_fillsLay_4 : cX13_fillsLay.data.toList.drop 95 = dktX13_fillsLay_4 := dk_seg dksX13_fillsLay_3 24 rfl rfl
theorem dX13_fillsLay_0 : decode cX13_fillsLay 0 = .ok (.iconst 0, 1) := dk_3 (dk_at dksX13_fillsLay_0 0 rfl rfl)
theorem dX13_fillsLay_1 : decode cX13_fillsLay 1 = .ok (.istore_n 2, 1) := dk_61 (dk_at dksX13_fillsLay_0 1 rfl rfl)
theorem dX13_fillsLay_2 : decode cX13_fillsLay 2 = .ok (.iconst 0, 1) := dk_3 (dk_at dksX13_fillsLay_0 2 rfl rfl)
theorem dX13_fillsLay_3 : decode cX13_fillsLay 3 = .ok (.istore_n 3, 1) := dk_62 (dk_at dksX13_fillsLay_0 3 rfl rfl)
theorem dX13_fillsLay_4 : decode cX13_fillsLay 4 = .ok (.iload_n 3, 1) := dk_29 (dk_at dksX13_fillsLay_0 4 rfl rfl)
theorem dX13_fillsLay_5 : decode cX13_fillsLay 5 = .ok (.aload_n 0, 1) := dk_42 (dk_at dksX13_fillsLay_0 5 rfl rfl)
theorem dX13_fillsLay_6 : decode cX13_fillsLay 6 = .ok (.invokevirtual 312, 3) := dk_182 1 56 (dk_at dksX13_fillsLay_0 6 rfl rfl)
theorem dX13_fillsLay_9 : decode cX13_fillsLay 9 = .ok (.if_icmp .gt 95, 3) := dk_163 0 95 (dk_at dksX13_fillsLay_0 9 rfl rfl)
theorem dX13_fillsLay_12 : decode cX13_fillsLay 12 = .ok (.aload_n 0, 1) := dk_42 (dk_at dksX13_fillsLay_0 12 rfl rfl)
theorem dX13_fillsLay_13 : decode cX13_fillsLay 13 = .ok (.getfield 140, 3) := dk_180 0 140 (dk_at dksX13_fillsLay_0 13 rfl rfl)
theorem dX13_fillsLay_16 : decode cX13_fillsLay 16 = .ok (.iload_n 3, 1) := dk_29 (dk_at dksX13_fillsLay_0 16 rfl rfl)
theorem dX13_fillsLay_17 : decode cX13_fillsLay 17 = .ok (.iconst 1, 1) := dk_4 (dk_at dksX13_fillsLay_0 17 rfl rfl)
theorem dX13_fillsLay_18 : decode cX13_fillsLay 18 = .ok (.bastore, 1) := dk_84 (dk_at dksX13_fillsLay_0 18 rfl rfl)
theorem dX13_fillsLay_19 : decode cX13_fillsLay 19 = .ok (.iconst 0, 1) := dk_3 (dk_at dksX13_fillsLay_0 19 rfl rfl)
theorem dX13_fillsLay_20 : decode cX13_fillsLay 20 = .ok (.istore 4, 2) := dk_54 4 (dk_at dksX13_fillsLay_0 20 rfl rfl)
theorem dX13_fillsLay_22 : decode cX13_fillsLay 22 = .ok (.iload 4, 2) := dk_21 4 (dk_at dksX13_fillsLay_0 22 rfl rfl)
theorem dX13_fillsLay_24 : decode cX13_fillsLay 24 = .ok (.iload_n 1, 1) := dk_27 (dk_at dksX13_fillsLay_1 0 rfl rfl)
theorem dX13_fillsLay_25 : decode cX13_fillsLay 25 = .ok (.if_icmp .ge 61, 3) := dk_162 0 61 (dk_at dksX13_fillsLay_1 1 rfl rfl)
theorem dX13_fillsLay_28 : decode cX13_fillsLay 28 = .ok (.aload_n 0, 1) := dk_42 (dk_at dksX13_fillsLay_1 4 rfl rfl)
theorem dX13_fillsLay_29 : decode cX13_fillsLay 29 = .ok (.getfield 140, 3) := dk_180 0 140 (dk_at dksX13_fillsLay_1 5 rfl rfl)
theorem dX13_fillsLay_32 : decode cX13_fillsLay 32 = .ok (.iload_n 3, 1) := dk_29 (dk_at dksX13_fillsLay_1 8 rfl rfl)
theorem dX13_fillsLay_33 : decode cX13_fillsLay 33 = .ok (.baload, 1) := dk_51 (dk_at dksX13_fillsLay_1 9 rfl rfl)
theorem dX13_fillsLay_34 : decode cX13_fillsLay 34 = .ok (.ifCond .eq 52, 3) := dk_153 0 52 (dk_at dksX13_fillsLay_1 10 rfl rfl)
theorem dX13_fillsLay_37 : decode cX13_fillsLay 37 = .ok (.aload_n 0, 1) := dk_42 (dk_at dksX13_fillsLay_1 13 rfl rfl)
theorem dX13_fillsLay_38 : decode cX13_fillsLay 38 = .ok (.getfield 140, 3) := dk_180 0 140 (dk_at dksX13_fillsLay_1 14 rfl rfl)
theorem dX13_fillsLay_41 : decode cX13_fillsLay 41 = .ok (.iload_n 3, 1) := dk_29 (dk_at dksX13_fillsLay_1 17 rfl rfl)
theorem dX13_fillsLay_42 : decode cX13_fillsLay 42 = .ok (.aload_n 0, 1) := dk_42 (dk_at dksX13_fillsLay_1 18 rfl rfl)
theorem dX13_fillsLay_43 : decode cX13_fillsLay 43 = .ok (.iload_n 3, 1) := dk_29 (dk_at dksX13_fillsLay_1 19 rfl rfl)
theorem dX13_fillsLay_44 : decode cX13_fillsLay 44 = .ok (.aload_n 0, 1) := dk_42 (dk_at dksX13_fillsLay_1 20 rfl rfl)
theorem dX13_fillsLay_45 : decode cX13_fillsLay 45 = .ok (.getfield 134, 3) := dk_180 0 134 (dk_at dksX13_fillsLay_1 21 rfl rfl)
theorem dX13_fillsLay_48 : decode cX13_fillsLay 48 = .ok (.iload 4, 2) := dk_21 4 (dk_at dksX13_fillsLay_2 0 rfl rfl)
theorem dX13_fillsLay_50 : decode cX13_fillsLay 50 = .ok (.iaload, 1) := dk_46 (dk_at dksX13_fillsLay_2 2 rfl rfl)
theorem dX13_fillsLay_51 : decode cX13_fillsLay 51 = .ok (.invokevirtual 389, 3) := dk_182 1 133 (dk_at dksX13_fillsLay_2 3 rfl rfl)
theorem dX13_fillsLay_54 : decode cX13_fillsLay 54 = .ok (.aload_n 0, 1) := dk_42 (dk_at dksX13_fillsLay_2 6 rfl rfl)
theorem dX13_fillsLay_55 : decode cX13_fillsLay 55 = .ok (.getfield 131, 3) := dk_180 0 131 (dk_at dksX13_fillsLay_2 7 rfl rfl)
theorem dX13_fillsLay_58 : decode cX13_fillsLay 58 = .ok (.iload 4, 2) := dk_21 4 (dk_at dksX13_fillsLay_2 10 rfl rfl)
theorem dX13_fillsLay_60 : decode cX13_fillsLay 60 = .ok (.iaload, 1) := dk_46 (dk_at dksX13_fillsLay_2 12 rfl rfl)
theorem dX13_fillsLay_61 : decode cX13_fillsLay 61 = .ok (.ishr, 1) := dk_122 (dk_at dksX13_fillsLay_2 13 rfl rfl)
theorem dX13_fillsLay_62 : decode cX13_fillsLay 62 = .ok (.iconst 1, 1) := dk_4 (dk_at dksX13_fillsLay_2 14 rfl rfl)
theorem dX13_fillsLay_63 : decode cX13_fillsLay 63 = .ok (.iand, 1) := dk_126 (dk_at dksX13_fillsLay_2 15 rfl rfl)
theorem dX13_fillsLay_64 : decode cX13_fillsLay 64 = .ok (.aload_n 0, 1) := dk_42 (dk_at dksX13_fillsLay_2 16 rfl rfl)
theorem dX13_fillsLay_65 : decode cX13_fillsLay 65 = .ok (.getfield 137, 3) := dk_180 0 137 (dk_at dksX13_fillsLay_2 17 rfl rfl)
theorem dX13_fillsLay_68 : decode cX13_fillsLay 68 = .ok (.iload 4, 2) := dk_21 4 (dk_at dksX13_fillsLay_2 20 rfl rfl)
theorem dX13_fillsLay_70 : decode cX13_fillsLay 70 = .ok (.iaload, 1) := dk_46 (dk_at dksX13_fillsLay_2 22 rfl rfl)
theorem dX13_fillsLay_71 : decode cX13_fillsLay 71 = .ok (.if_icmp .ne 7, 3) := dk_160 0 7 (dk_at dksX13_fillsLay_3 0 rfl rfl)
theorem dX13_fillsLay_74 : decode cX13_fillsLay 74 = .ok (.iconst 1, 1) := dk_4 (dk_at dksX13_fillsLay_3 3 rfl rfl)
theorem dX13_fillsLay_75 : decode cX13_fillsLay 75 = .ok (.goto 4, 3) := dk_167 0 4 (dk_at dksX13_fillsLay_3 4 rfl rfl)
theorem dX13_fillsLay_78 : decode cX13_fillsLay 78 = .ok (.iconst 0, 1) := dk_3 (dk_at dksX13_fillsLay_3 7 rfl rfl)
theorem dX13_fillsLay_79 : decode cX13_fillsLay 79 = .ok (.bastore, 1) := dk_84 (dk_at dksX13_fillsLay_3 8 rfl rfl)
theorem dX13_fillsLay_80 : decode cX13_fillsLay 80 = .ok (.iinc 4 1, 3) := dk_132 4 1 (dk_at dksX13_fillsLay_3 9 rfl rfl)
theorem dX13_fillsLay_83 : decode cX13_fillsLay 83 = .ok (.goto (-61), 3) := dk_167 255 195 (dk_at dksX13_fillsLay_3 12 rfl rfl)
theorem dX13_fillsLay_86 : decode cX13_fillsLay 86 = .ok (.aload_n 0, 1) := dk_42 (dk_at dksX13_fillsLay_3 15 rfl rfl)
theorem dX13_fillsLay_87 : decode cX13_fillsLay 87 = .ok (.getfield 140, 3) := dk_180 0 140 (dk_at dksX13_fillsLay_3 16 rfl rfl)
theorem dX13_fillsLay_90 : decode cX13_fillsLay 90 = .ok (.iload_n 3, 1) := dk_29 (dk_at dksX13_fillsLay_3 19 rfl rfl)
theorem dX13_fillsLay_91 : decode cX13_fillsLay 91 = .ok (.baload, 1) := dk_51 (dk_at dksX13_fillsLay_3 20 rfl rfl)
theorem dX13_fillsLay_92 : decode cX13_fillsLay 92 = .ok (.ifCond .eq 6, 3) := dk_153 0 6 (dk_at dksX13_fillsLay_3 21 rfl rfl)
theorem dX13_fillsLay_95 : decode cX13_fillsLay 95 = .ok (.iinc 2 1, 3) := dk_132 2 1 (dk_at dksX13_fillsLay_4 0 rfl rfl)
theorem dX13_fillsLay_98 : decode cX13_fillsLay 98 = .ok (.iinc 3 1, 3) := dk_132 3 1 (dk_at dksX13_fillsLay_4 3 rfl rfl)
theorem dX13_fillsLay_101 : decode cX13_fillsLay 101 = .ok (.goto (-97), 3) := dk_167 255 159 (dk_at dksX13_fillsLay_4 6 rfl rfl)
theorem dX13_fillsLay_104 : decode cX13_fillsLay 104 = .ok (.iload_n 2, 1) := dk_28 (dk_at dksX13_fillsLay_4 9 rfl rfl)
theorem dX13_fillsLay_105 : decode cX13_fillsLay 105 = .ok (.ireturn, 1) := dk_172 (dk_at dksX13_fillsLay_4 10 rfl rfl)
abbrev cX13_look : ByteArray := prog_21_method_108_code
def yX13_look : MethodName := ⟨RX13, "look", "(II)I"⟩
def dkwX13_look_9 : List UInt8 := [21, 7, 54, 5, 132, 6, 1, 167, 255, 177, 21, 4, 172]
abbrev dktX13_look_9 : List UInt8 := dkwX13_look_9 ++ []
def dkwX13_look_8 : List UInt8 := [46, 100, 54, 7, 21, 4, 155, 0, 13, 21, 7, 21, 5, 161, 0, 6, 167, 0, 11, 21, 6, 54, 4]
abbrev dktX13_look_8 : List UInt8 := dkwX13_look_8 ++ dktX13_look_9
def dkwX13_look_7 : List UInt8 := [21, 6, 46, 100, 164, 0, 13, 42, 180, 0, 128, 21, 6, 46, 167, 0, 12, 29, 42, 180, 0, 128, 21, 6]
abbrev dktX13_look_7 : List UInt8 := dkwX13_look_7 ++ dktX13_look_8
def dkwX13_look_6 : List UInt8 := [42, 182, 1, 48, 162, 0, 76, 29, 158, 0, 72, 42, 180, 0, 128, 21, 6, 46, 29, 42, 180, 0, 128]
abbrev dktX13_look_6 : List UInt8 := dkwX13_look_6 ++ dktX13_look_7
def dkwX13_look_5 : List UInt8 := [132, 6, 1, 167, 255, 227, 132, 4, 1, 167, 255, 187, 16, 254, 54, 4, 3, 54, 5, 3, 54, 6, 21, 6]
abbrev dktX13_look_5 : List UInt8 := dkwX13_look_5 ++ dktX13_look_6
def dkwX13_look_4 : List UInt8 := [182, 1, 48, 162, 0, 26, 42, 180, 0, 128, 21, 6, 92, 46, 21, 5, 21, 6, 122, 4, 126, 96, 79]
abbrev dktX13_look_4 : List UInt8 := dkwX13_look_4 ++ dktX13_look_5
def dkwX13_look_3 : List UInt8 := [51, 154, 0, 6, 167, 0, 47, 42, 21, 4, 28, 182, 1, 133, 54, 5, 3, 54, 6, 21, 6, 42]
abbrev dktX13_look_3 : List UInt8 := dkwX13_look_3 ++ dktX13_look_4
def dkwX13_look_2 : List UInt8 := [132, 4, 1, 167, 255, 236, 3, 54, 4, 21, 4, 42, 182, 1, 56, 163, 0, 66, 42, 180, 0, 140, 21, 4]
abbrev dktX13_look_2 : List UInt8 := dkwX13_look_2 ++ dktX13_look_3
def dkwX13_look_1 : List UInt8 := [182, 1, 175, 62, 3, 54, 4, 21, 4, 42, 182, 1, 48, 162, 0, 17, 42, 180, 0, 128, 21, 4, 3, 79]
abbrev dktX13_look_1 : List UInt8 := dkwX13_look_1 ++ dktX13_look_2
def dkwX13_look_0 : List UInt8 := [27, 3, 42, 180, 1, 3, 184, 1, 52, 153, 0, 10, 28, 184, 1, 148, 154, 0, 5, 2, 172, 42, 27]
abbrev dktX13_look_0 : List UInt8 := dkwX13_look_0 ++ dktX13_look_1
theorem dksX13_look_0 : cX13_look.data.toList.drop 0 = dktX13_look_0 := by decide +kernel
theorem dksX13_look_1 : cX13_look.data.toList.drop 23 = dktX13_look_1 := dk_seg dksX13_look_0 23 rfl rfl
theorem dksX13_look_2 : cX13_look.data.toList.drop 47 = dktX13_look_2 := dk_seg dksX13_look_1 24 rfl rfl
theorem dksX13_look_3 : cX13_look.data.toList.drop 71 = dktX13_look_3 := dk_seg dksX13_look_2 24 rfl rfl
theorem dksX13_look_4 : cX13_look.data.toList.drop 93 = dktX13_look_4 := dk_seg dksX13_look_3 22 rfl rfl
theorem dksX13_look_5 : cX13_look.data.toList.drop 116 = dktX13_look_5 := dk_seg dksX13_look_4 23 rfl rfl
theorem dksX13_look_6 : cX13_look.data.toList.drop 140 = dktX13_look_6 := dk_seg dksX13_look_5 24 rfl rfl
theorem dksX13_look_7 : cX13_look.data.toList.drop 163 = dktX13_look_7 := dk_seg dksX13_look_6 23 rfl rfl
theorem dksX13_look_8 : cX13_look.data.toList.drop 187 = dktX13_look_8 := dk_seg dksX13_look_7 24 rfl rfl
theorem dksX13_look_9 : cX13_look.data.toList.drop 210 = dktX13_look_9 := dk_seg dksX13_look_8 23 rfl rfl
theorem dX13_look_0 : decode cX13_look 0 = .ok (.iload_n 1, 1) := dk_27 (dk_at dksX13_look_0 0 rfl rfl)
theorem dX13_look_1 : decode cX13_look 1 = .ok (.iconst 0, 1) := dk_3 (dk_at dksX13_look_0 1 rfl rfl)
theorem dX13_look_2 : decode cX13_look 2 = .ok (.aload_n 0, 1) := dk_42 (dk_at dksX13_look_0 2 rfl rfl)
theorem dX13_look_3 : decode cX13_look 3 = .ok (.getfield 259, 3) := dk_180 1 3 (dk_at dksX13_look_0 3 rfl rfl)
theorem dX13_look_6 : decode cX13_look 6 = .ok (.invokestatic 308, 3) := dk_184 1 52 (dk_at dksX13_look_0 6 rfl rfl)
theorem dX13_look_9 : decode cX13_look 9 = .ok (.ifCond .eq 10, 3) := dk_153 0 10 (dk_at dksX13_look_0 9 rfl rfl)
theorem dX13_look_12 : decode cX13_look 12 = .ok (.iload_n 2, 1) := dk_28 (dk_at dksX13_look_0 12 rfl rfl)
theorem dX13_look_13 : decode cX13_look 13 = .ok (.invokestatic 404, 3) := dk_184 1 148 (dk_at dksX13_look_0 13 rfl rfl)
theorem dX13_look_16 : decode cX13_look 16 = .ok (.ifCond .ne 5, 3) := dk_154 0 5 (dk_at dksX13_look_0 16 rfl rfl)
theorem dX13_look_19 : decode cX13_look 19 = .ok (.iconst (-1), 1) := dk_2 (dk_at dksX13_look_0 19 rfl rfl)
theorem dX13_look_20 : decode cX13_look 20 = .ok (.ireturn, 1) := dk_172 (dk_at dksX13_look_0 20 rfl rfl)
theorem dX13_look_21 : decode cX13_look 21 = .ok (.aload_n 0, 1) := dk_42 (dk_at dksX13_look_0 21 rfl rfl)
theorem dX13_look_22 : decode cX13_look 22 = .ok (.iload_n 1, 1) := dk_27 (dk_at dksX13_look_0 22 rfl rfl)
theorem dX13_look_23 : decode cX13_look 23 = .ok (.invokevirtual 431, 3) := dk_182 1 175 (dk_at dksX13_look_1 0 rfl rfl)
theorem dX13_look_26 : decode cX13_look 26 = .ok (.istore_n 3, 1) := dk_62 (dk_at dksX13_look_1 3 rfl rfl)
theorem dX13_look_27 : decode cX13_look 27 = .ok (.iconst 0, 1) := dk_3 (dk_at dksX13_look_1 4 rfl rfl)
theorem dX13_look_28 : decode cX13_look 28 = .ok (.istore 4, 2) := dk_54 4 (dk_at dksX13_look_1 5 rfl rfl)
theorem dX13_look_30 : decode cX13_look 30 = .ok (.iload 4, 2) := dk_21 4 (dk_at dksX13_look_1 7 rfl rfl)
theorem dX13_look_32 : decode cX13_look 32 = .ok (.aload_n 0, 1) := dk_42 (dk_at dksX13_look_1 9 rfl rfl)
theorem dX13_look_33 : decode cX13_look 33 = .ok (.invokevirtual 304, 3) := dk_182 1 48 (dk_at dksX13_look_1 10 rfl rfl)
theorem dX13_look_36 : decode cX13_look 36 = .ok (.if_icmp .ge 17, 3) := dk_162 0 17 (dk_at dksX13_look_1 13 rfl rfl)
theorem dX13_look_39 : decode cX13_look 39 = .ok (.aload_n 0, 1) := dk_42 (dk_at dksX13_look_1 16 rfl rfl)
theorem dX13_look_40 : decode cX13_look 40 = .ok (.getfield 128, 3) := dk_180 0 128 (dk_at dksX13_look_1 17 rfl rfl)
theorem dX13_look_43 : decode cX13_look 43 = .ok (.iload 4, 2) := dk_21 4 (dk_at dksX13_look_1 20 rfl rfl)
theorem dX13_look_45 : decode cX13_look 45 = .ok (.iconst 0, 1) := dk_3 (dk_at dksX13_look_1 22 rfl rfl)
theorem dX13_look_46 : decode cX13_look 46 = .ok (.iastore, 1) := dk_79 (dk_at dksX13_look_1 23 rfl rfl)
theorem dX13_look_47 : decode cX13_look 47 = .ok (.iinc 4 1, 3) := dk_132 4 1 (dk_at dksX13_look_2 0 rfl rfl)
theorem dX13_look_50 : decode cX13_look 50 = .ok (.goto (-20), 3) := dk_167 255 236 (dk_at dksX13_look_2 3 rfl rfl)
theorem dX13_look_53 : decode cX13_look 53 = .ok (.iconst 0, 1) := dk_3 (dk_at dksX13_look_2 6 rfl rfl)
theorem dX13_look_54 : decode cX13_look 54 = .ok (.istore 4, 2) := dk_54 4 (dk_at dksX13_look_2 7 rfl rfl)
theorem dX13_look_56 : decode cX13_look 56 = .ok (.iload 4, 2) := dk_21 4 (dk_at dksX13_look_2 9 rfl rfl)
theorem dX13_look_58 : decode cX13_look 58 = .ok (.aload_n 0, 1) := dk_42 (dk_at dksX13_look_2 11 rfl rfl)
theorem dX13_look_59 : decode cX13_look 59 = .ok (.invokevirtual 312, 3) := dk_182 1 56 (dk_at dksX13_look_2 12 rfl rfl)
theorem dX13_look_62 : decode cX13_look 62 = .ok (.if_icmp .gt 66, 3) := dk_163 0 66 (dk_at dksX13_look_2 15 rfl rfl)
theorem dX13_look_65 : decode cX13_look 65 = .ok (.aload_n 0, 1) := dk_42 (dk_at dksX13_look_2 18 rfl rfl)
theorem dX13_look_66 : decode cX13_look 66 = .ok (.getfield 140, 3) := dk_180 0 140 (dk_at dksX13_look_2 19 rfl rfl)
theorem dX13_look_69 : decode cX13_look 69 = .ok (.iload 4, 2) := dk_21 4 (dk_at dksX13_look_2 22 rfl rfl)
theorem dX13_look_71 : decode cX13_look 71 = .ok (.baload, 1) := dk_51 (dk_at dksX13_look_3 0 rfl rfl)
theorem dX13_look_72 : decode cX13_look 72 = .ok (.ifCond .ne 6, 3) := dk_154 0 6 (dk_at dksX13_look_3 1 rfl rfl)
theorem dX13_look_75 : decode cX13_look 75 = .ok (.goto 47, 3) := dk_167 0 47 (dk_at dksX13_look_3 4 rfl rfl)
theorem dX13_look_78 : decode cX13_look 78 = .ok (.aload_n 0, 1) := dk_42 (dk_at dksX13_look_3 7 rfl rfl)
theorem dX13_look_79 : decode cX13_look 79 = .ok (.iload 4, 2) := dk_21 4 (dk_at dksX13_look_3 8 rfl rfl)
theorem dX13_look_81 : decode cX13_look 81 = .ok (.iload_n 2, 1) := dk_28 (dk_at dksX13_look_3 10 rfl rfl)
theorem dX13_look_82 : decode cX13_look 82 = .ok (.invokevirtual 389, 3) := dk_182 1 133 (dk_at dksX13_look_3 11 rfl rfl)
theorem dX13_look_85 : decode cX13_look 85 = .ok (.istore 5, 2) := dk_54 5 (dk_at dksX13_look_3 14 rfl rfl)
theorem dX13_look_87 : decode cX13_look 87 = .ok (.iconst 0, 1) := dk_3 (dk_at dksX13_look_3 16 rfl rfl)
theorem dX13_look_88 : decode cX13_look 88 = .ok (.istore 6, 2) := dk_54 6 (dk_at dksX13_look_3 17 rfl rfl)
theorem dX13_look_90 : decode cX13_look 90 = .ok (.iload 6, 2) := dk_21 6 (dk_at dksX13_look_3 19 rfl rfl)
theorem dX13_look_92 : decode cX13_look 92 = .ok (.aload_n 0, 1) := dk_42 (dk_at dksX13_look_3 21 rfl rfl)
theorem dX13_look_93 : decode cX13_look 93 = .ok (.invokevirtual 304, 3) := dk_182 1 48 (dk_at dksX13_look_4 0 rfl rfl)
theorem dX13_look_96 : decode cX13_look 96 = .ok (.if_icmp .ge 26, 3) := dk_162 0 26 (dk_at dksX13_look_4 3 rfl rfl)
theorem dX13_look_99 : decode cX13_look 99 = .ok (.aload_n 0, 1) := dk_42 (dk_at dksX13_look_4 6 rfl rfl)
theorem dX13_look_100 : decode cX13_look 100 = .ok (.getfield 128, 3) := dk_180 0 128 (dk_at dksX13_look_4 7 rfl rfl)
theorem dX13_look_103 : decode cX13_look 103 = .ok (.iload 6, 2) := dk_21 6 (dk_at dksX13_look_4 10 rfl rfl)
theorem dX13_look_105 : decode cX13_look 105 = .ok (.dup2, 1) := dk_92 (dk_at dksX13_look_4 12 rfl rfl)
theorem dX13_look_106 : decode cX13_look 106 = .ok (.iaload, 1) := dk_46 (dk_at dksX13_look_4 13 rfl rfl)
theorem dX13_look_107 : decode cX13_look 107 = .ok (.iload 5, 2) := dk_21 5 (dk_at dksX13_look_4 14 rfl rfl)
theorem dX13_look_109 : decode cX13_look 109 = .ok (.iload 6, 2) := dk_21 6 (dk_at dksX13_look_4 16 rfl rfl)
theorem dX13_look_111 : decode cX13_look 111 = .ok (.ishr, 1) := dk_122 (dk_at dksX13_look_4 18 rfl rfl)
theorem dX13_look_112 : decode cX13_look 112 = .ok (.iconst 1, 1) := dk_4 (dk_at dksX13_look_4 19 rfl rfl)
theorem dX13_look_113 : decode cX13_look 113 = .ok (.iand, 1) := dk_126 (dk_at dksX13_look_4 20 rfl rfl)
theorem dX13_look_114 : decode cX13_look 114 = .ok (.iadd, 1) := dk_96 (dk_at dksX13_look_4 21 rfl rfl)
theorem dX13_look_115 : decode cX13_look 115 = .ok (.iastore, 1) := dk_79 (dk_at dksX13_look_4 22 rfl rfl)
theorem dX13_look_116 : decode cX13_look 116 = .ok (.iinc 6 1, 3) := dk_132 6 1 (dk_at dksX13_look_5 0 rfl rfl)
theorem dX13_look_119 : decode cX13_look 119 = .ok (.goto (-29), 3) := dk_167 255 227 (dk_at dksX13_look_5 3 rfl rfl)
theorem dX13_look_122 : decode cX13_look 122 = .ok (.iinc 4 1, 3) := dk_132 4 1 (dk_at dksX13_look_5 6 rfl rfl)
theorem dX13_look_125 : decode cX13_look 125 = .ok (.goto (-69), 3) := dk_167 255 187 (dk_at dksX13_look_5 9 rfl rfl)
theorem dX13_look_128 : decode cX13_look 128 = .ok (.bipush (-2), 2) := dk_16 254 (dk_at dksX13_look_5 12 rfl rfl)
theorem dX13_look_130 : decode cX13_look 130 = .ok (.istore 4, 2) := dk_54 4 (dk_at dksX13_look_5 14 rfl rfl)
theorem dX13_look_132 : decode cX13_look 132 = .ok (.iconst 0, 1) := dk_3 (dk_at dksX13_look_5 16 rfl rfl)
theorem dX13_look_133 : decode cX13_look 133 = .ok (.istore 5, 2) := dk_54 5 (dk_at dksX13_look_5 17 rfl rfl)
theorem dX13_look_135 : decode cX13_look 135 = .ok (.iconst 0, 1) := dk_3 (dk_at dksX13_look_5 19 rfl rfl)
theorem dX13_look_136 : decode cX13_look 136 = .ok (.istore 6, 2) := dk_54 6 (dk_at dksX13_look_5 20 rfl rfl)
theorem dX13_look_138 : decode cX13_look 138 = .ok (.iload 6, 2) := dk_21 6 (dk_at dksX13_look_5 22 rfl rfl)
theorem dX13_look_140 : decode cX13_look 140 = .ok (.aload_n 0, 1) := dk_42 (dk_at dksX13_look_6 0 rfl rfl)
theorem dX13_look_141 : decode cX13_look 141 = .ok (.invokevirtual 304, 3) := dk_182 1 48 (dk_at dksX13_look_6 1 rfl rfl)
theorem dX13_look_144 : decode cX13_look 144 = .ok (.if_icmp .ge 76, 3) := dk_162 0 76 (dk_at dksX13_look_6 4 rfl rfl)
theorem dX13_look_147 : decode cX13_look 147 = .ok (.iload_n 3, 1) := dk_29 (dk_at dksX13_look_6 7 rfl rfl)
theorem dX13_look_148 : decode cX13_look 148 = .ok (.ifCond .le 72, 3) := dk_158 0 72 (dk_at dksX13_look_6 8 rfl rfl)
theorem dX13_look_151 : decode cX13_look 151 = .ok (.aload_n 0, 1) := dk_42 (dk_at dksX13_look_6 11 rfl rfl)
theorem dX13_look_152 : decode cX13_look 152 = .ok (.getfield 128, 3) := dk_180 0 128 (dk_at dksX13_look_6 12 rfl rfl)
theorem dX13_look_155 : decode cX13_look 155 = .ok (.iload 6, 2) := dk_21 6 (dk_at dksX13_look_6 15 rfl rfl)
theorem dX13_look_157 : decode cX13_look 157 = .ok (.iaload, 1) := dk_46 (dk_at dksX13_look_6 17 rfl rfl)
theorem dX13_look_158 : decode cX13_look 158 = .ok (.iload_n 3, 1) := dk_29 (dk_at dksX13_look_6 18 rfl rfl)
theorem dX13_look_159 : decode cX13_look 159 = .ok (.aload_n 0, 1) := dk_42 (dk_at dksX13_look_6 19 rfl rfl)
theorem dX13_look_160 : decode cX13_look 160 = .ok (.getfield 128, 3) := dk_180 0 128 (dk_at dksX13_look_6 20 rfl rfl)
theorem dX13_look_163 : decode cX13_look 163 = .ok (.iload 6, 2) := dk_21 6 (dk_at dksX13_look_7 0 rfl rfl)
theorem dX13_look_165 : decode cX13_look 165 = .ok (.iaload, 1) := dk_46 (dk_at dksX13_look_7 2 rfl rfl)
theorem dX13_look_166 : decode cX13_look 166 = .ok (.isub, 1) := dk_100 (dk_at dksX13_look_7 3 rfl rfl)
theorem dX13_look_167 : decode cX13_look 167 = .ok (.if_icmp .le 13, 3) := dk_164 0 13 (dk_at dksX13_look_7 4 rfl rfl)
theorem dX13_look_170 : decode cX13_look 170 = .ok (.aload_n 0, 1) := dk_42 (dk_at dksX13_look_7 7 rfl rfl)
theorem dX13_look_171 : decode cX13_look 171 = .ok (.getfield 128, 3) := dk_180 0 128 (dk_at dksX13_look_7 8 rfl rfl)
theorem dX13_look_174 : decode cX13_look 174 = .ok (.iload 6, 2) := dk_21 6 (dk_at dksX13_look_7 11 rfl rfl)
theorem dX13_look_176 : decode cX13_look 176 = .ok (.iaload, 1) := dk_46 (dk_at dksX13_look_7 13 rfl rfl)
theorem dX13_look_177 : decode cX13_look 177 = .ok (.goto 12, 3) := dk_167 0 12 (dk_at dksX13_look_7 14 rfl rfl)
theorem dX13_look_180 : decode cX13_look 180 = .ok (.iload_n 3, 1) := dk_29 (dk_at dksX13_look_7 17 rfl rfl)
theorem dX13_look_181 : decode cX13_look 181 = .ok (.aload_n 0, 1) := dk_42 (dk_at dksX13_look_7 18 rfl rfl)
theorem dX13_look_182 : decode cX13_look 182 = .ok (.getfield 128, 3) := dk_180 0 128 (dk_at dksX13_look_7 19 rfl rfl)
theorem dX13_look_185 : decode cX13_look 185 = .ok (.iload 6, 2) := dk_21 6 (dk_at dksX13_look_7 22 rfl rfl)
theorem dX13_look_187 : decode cX13_look 187 = .ok (.iaload, 1) := dk_46 (dk_at dksX13_look_8 0 rfl rfl)
theorem dX13_look_188 : decode cX13_look 188 = .ok (.isub, 1) := dk_100 (dk_at dksX13_look_8 1 rfl rfl)
theorem dX13_look_189 : decode cX13_look 189 = .ok (.istore 7, 2) := dk_54 7 (dk_at dksX13_look_8 2 rfl rfl)
theorem dX13_look_191 : decode cX13_look 191 = .ok (.iload 4, 2) := dk_21 4 (dk_at dksX13_look_8 4 rfl rfl)
theorem dX13_look_193 : decode cX13_look 193 = .ok (.ifCond .lt 13, 3) := dk_155 0 13 (dk_at dksX13_look_8 6 rfl rfl)
theorem dX13_look_196 : decode cX13_look 196 = .ok (.iload 7, 2) := dk_21 7 (dk_at dksX13_look_8 9 rfl rfl)
theorem dX13_look_198 : decode cX13_look 198 = .ok (.iload 5, 2) := dk_21 5 (dk_at dksX13_look_8 11 rfl rfl)
theorem dX13_look_200 : decode cX13_look 200 = .ok (.if_icmp .lt 6, 3) := dk_161 0 6 (dk_at dksX13_look_8 13 rfl rfl)
theorem dX13_look_203 : decode cX13_look 203 = .ok (.goto 11, 3) := dk_167 0 11 (dk_at dksX13_look_8 16 rfl rfl)
theorem dX13_look_206 : decode cX13_look 206 = .ok (.iload 6, 2) := dk_21 6 (dk_at dksX13_look_8 19 rfl rfl)
theorem dX13_look_208 : decode cX13_look 208 = .ok (.istore 4, 2) := dk_54 4 (dk_at dksX13_look_8 21 rfl rfl)
theorem dX13_look_210 : decode cX13_look 210 = .ok (.iload 7, 2) := dk_21 7 (dk_at dksX13_look_9 0 rfl rfl)
theorem dX13_look_212 : decode cX13_look 212 = .ok (.istore 5, 2) := dk_54 5 (dk_at dksX13_look_9 2 rfl rfl)
theorem dX13_look_214 : decode cX13_look 214 = .ok (.iinc 6 1, 3) := dk_132 6 1 (dk_at dksX13_look_9 4 rfl rfl)
theorem dX13_look_217 : decode cX13_look 217 = .ok (.goto (-79), 3) := dk_167 255 177 (dk_at dksX13_look_9 7 rfl rfl)
theorem dX13_look_220 : decode cX13_look 220 = .ok (.iload 4, 2) := dk_21 4 (dk_at dksX13_look_9 10 rfl rfl)
theorem dX13_look_222 : decode cX13_look 222 = .ok (.ireturn, 1) := dk_172 (dk_at dksX13_look_9 12 rfl rfl)
abbrev cX13_hold : ByteArray := prog_21_method_109_code
def yX13_hold : MethodName := ⟨RX13, "hold", "(I)Z"⟩
def dkwX13_hold_2 : List UInt8 := [167, 255, 230, 4, 172]
abbrev dktX13_hold_2 : List UInt8 := dkwX13_hold_2 ++ []
def dkwX13_hold_1 : List UInt8 := [162, 0, 26, 42, 180, 0, 146, 16, 48, 27, 104, 28, 96, 42, 180, 0, 107, 28, 46, 79, 132, 2, 1]
abbrev dktX13_hold_1 : List UInt8 := dkwX13_hold_1 ++ dktX13_hold_2
def dkwX13_hold_0 : List UInt8 := [27, 3, 5, 184, 1, 52, 154, 0, 5, 3, 172, 42, 180, 0, 143, 27, 4, 84, 3, 61, 28, 16, 48]
abbrev dktX13_hold_0 : List UInt8 := dkwX13_hold_0 ++ dktX13_hold_1
theorem dksX13_hold_0 : cX13_hold.data.toList.drop 0 = dktX13_hold_0 := by decide +kernel
theorem dksX13_hold_1 : cX13_hold.data.toList.drop 23 = dktX13_hold_1 := dk_seg dksX13_hold_0 23 rfl rfl
theorem dksX13_hold_2 : cX13_hold.data.toList.drop 46 = dktX13_hold_2 := dk_seg dksX13_hold_1 23 rfl rfl
theorem dX13_hold_0 : decode cX13_hold 0 = .ok (.iload_n 1, 1) := dk_27 (dk_at dksX13_hold_0 0 rfl rfl)
theorem dX13_hold_1 : decode cX13_hold 1 = .ok (.iconst 0, 1) := dk_3 (dk_at dksX13_hold_0 1 rfl rfl)
theorem dX13_hold_2 : decode cX13_hold 2 = .ok (.iconst 2, 1) := dk_5 (dk_at dksX13_hold_0 2 rfl rfl)
theorem dX13_hold_3 : decode cX13_hold 3 = .ok (.invokestatic 308, 3) := dk_184 1 52 (dk_at dksX13_hold_0 3 rfl rfl)
theorem dX13_hold_6 : decode cX13_hold 6 = .ok (.ifCond .ne 5, 3) := dk_154 0 5 (dk_at dksX13_hold_0 6 rfl rfl)
theorem dX13_hold_9 : decode cX13_hold 9 = .ok (.iconst 0, 1) := dk_3 (dk_at dksX13_hold_0 9 rfl rfl)
theorem dX13_hold_10 : decode cX13_hold 10 = .ok (.ireturn, 1) := dk_172 (dk_at dksX13_hold_0 10 rfl rfl)
theorem dX13_hold_11 : decode cX13_hold 11 = .ok (.aload_n 0, 1) := dk_42 (dk_at dksX13_hold_0 11 rfl rfl)
theorem dX13_hold_12 : decode cX13_hold 12 = .ok (.getfield 143, 3) := dk_180 0 143 (dk_at dksX13_hold_0 12 rfl rfl)
theorem dX13_hold_15 : decode cX13_hold 15 = .ok (.iload_n 1, 1) := dk_27 (dk_at dksX13_hold_0 15 rfl rfl)
theorem dX13_hold_16 : decode cX13_hold 16 = .ok (.iconst 1, 1) := dk_4 (dk_at dksX13_hold_0 16 rfl rfl)
theorem dX13_hold_17 : decode cX13_hold 17 = .ok (.bastore, 1) := dk_84 (dk_at dksX13_hold_0 17 rfl rfl)
theorem dX13_hold_18 : decode cX13_hold 18 = .ok (.iconst 0, 1) := dk_3 (dk_at dksX13_hold_0 18 rfl rfl)
theorem dX13_hold_19 : decode cX13_hold 19 = .ok (.istore_n 2, 1) := dk_61 (dk_at dksX13_hold_0 19 rfl rfl)
theorem dX13_hold_20 : decode cX13_hold 20 = .ok (.iload_n 2, 1) := dk_28 (dk_at dksX13_hold_0 20 rfl rfl)
theorem dX13_hold_21 : decode cX13_hold 21 = .ok (.bipush 48, 2) := dk_16 48 (dk_at dksX13_hold_0 21 rfl rfl)
theorem dX13_hold_23 : decode cX13_hold 23 = .ok (.if_icmp .ge 26, 3) := dk_162 0 26 (dk_at dksX13_hold_1 0 rfl rfl)
theorem dX13_hold_26 : decode cX13_hold 26 = .ok (.aload_n 0, 1) := dk_42 (dk_at dksX13_hold_1 3 rfl rfl)
theorem dX13_hold_27 : decode cX13_hold 27 = .ok (.getfield 146, 3) := dk_180 0 146 (dk_at dksX13_hold_1 4 rfl rfl)
theorem dX13_hold_30 : decode cX13_hold 30 = .ok (.bipush 48, 2) := dk_16 48 (dk_at dksX13_hold_1 7 rfl rfl)
theorem dX13_hold_32 : decode cX13_hold 32 = .ok (.iload_n 1, 1) := dk_27 (dk_at dksX13_hold_1 9 rfl rfl)
theorem dX13_hold_33 : decode cX13_hold 33 = .ok (.imul, 1) := dk_104 (dk_at dksX13_hold_1 10 rfl rfl)
theorem dX13_hold_34 : decode cX13_hold 34 = .ok (.iload_n 2, 1) := dk_28 (dk_at dksX13_hold_1 11 rfl rfl)
theorem dX13_hold_35 : decode cX13_hold 35 = .ok (.iadd, 1) := dk_96 (dk_at dksX13_hold_1 12 rfl rfl)
theorem dX13_hold_36 : decode cX13_hold 36 = .ok (.aload_n 0, 1) := dk_42 (dk_at dksX13_hold_1 13 rfl rfl)
theorem dX13_hold_37 : decode cX13_hold 37 = .ok (.getfield 107, 3) := dk_180 0 107 (dk_at dksX13_hold_1 14 rfl rfl)
theorem dX13_hold_40 : decode cX13_hold 40 = .ok (.iload_n 2, 1) := dk_28 (dk_at dksX13_hold_1 17 rfl rfl)
theorem dX13_hold_41 : decode cX13_hold 41 = .ok (.iaload, 1) := dk_46 (dk_at dksX13_hold_1 18 rfl rfl)
theorem dX13_hold_42 : decode cX13_hold 42 = .ok (.iastore, 1) := dk_79 (dk_at dksX13_hold_1 19 rfl rfl)
theorem dX13_hold_43 : decode cX13_hold 43 = .ok (.iinc 2 1, 3) := dk_132 2 1 (dk_at dksX13_hold_1 20 rfl rfl)
theorem dX13_hold_46 : decode cX13_hold 46 = .ok (.goto (-26), 3) := dk_167 255 230 (dk_at dksX13_hold_2 0 rfl rfl)
theorem dX13_hold_49 : decode cX13_hold 49 = .ok (.iconst 1, 1) := dk_4 (dk_at dksX13_hold_2 3 rfl rfl)
theorem dX13_hold_50 : decode cX13_hold 50 = .ok (.ireturn, 1) := dk_172 (dk_at dksX13_hold_2 4 rfl rfl)
abbrev cX13_restore : ByteArray := prog_21_method_110_code
def yX13_restore : MethodName := ⟨RX13, "restore", "(I)Z"⟩
def dkwX13_restore_2 : List UInt8 := [132, 2, 1, 167, 255, 230, 42, 3, 181, 1, 0, 4, 172]
abbrev dktX13_restore_2 : List UInt8 := dkwX13_restore_2 ++ []
def dkwX13_restore_1 : List UInt8 := [16, 48, 162, 0, 26, 42, 180, 0, 107, 28, 42, 180, 0, 146, 16, 48, 27, 104, 28, 96, 46, 79]
abbrev dktX13_restore_1 : List UInt8 := dkwX13_restore_1 ++ dktX13_restore_2
def dkwX13_restore_0 : List UInt8 := [27, 3, 5, 184, 1, 52, 153, 0, 12, 42, 180, 0, 143, 27, 51, 154, 0, 5, 3, 172, 3, 61, 28]
abbrev dktX13_restore_0 : List UInt8 := dkwX13_restore_0 ++ dktX13_restore_1
theorem dksX13_restore_0 : cX13_restore.data.toList.drop 0 = dktX13_restore_0 := by decide +kernel
theorem dksX13_restore_1 : cX13_restore.data.toList.drop 23 = dktX13_restore_1 := dk_seg dksX13_restore_0 23 rfl rfl
theorem dksX13_restore_2 : cX13_restore.data.toList.drop 45 = dktX13_restore_2 := dk_seg dksX13_restore_1 22 rfl rfl
theorem dX13_restore_0 : decode cX13_restore 0 = .ok (.iload_n 1, 1) := dk_27 (dk_at dksX13_restore_0 0 rfl rfl)
theorem dX13_restore_1 : decode cX13_restore 1 = .ok (.iconst 0, 1) := dk_3 (dk_at dksX13_restore_0 1 rfl rfl)
theorem dX13_restore_2 : decode cX13_restore 2 = .ok (.iconst 2, 1) := dk_5 (dk_at dksX13_restore_0 2 rfl rfl)
theorem dX13_restore_3 : decode cX13_restore 3 = .ok (.invokestatic 308, 3) := dk_184 1 52 (dk_at dksX13_restore_0 3 rfl rfl)
theorem dX13_restore_6 : decode cX13_restore 6 = .ok (.ifCond .eq 12, 3) := dk_153 0 12 (dk_at dksX13_restore_0 6 rfl rfl)
theorem dX13_restore_9 : decode cX13_restore 9 = .ok (.aload_n 0, 1) := dk_42 (dk_at dksX13_restore_0 9 rfl rfl)
theorem dX13_restore_10 : decode cX13_restore 10 = .ok (.getfield 143, 3) := dk_180 0 143 (dk_at dksX13_restore_0 10 rfl rfl)
theorem dX13_restore_13 : decode cX13_restore 13 = .ok (.iload_n 1, 1) := dk_27 (dk_at dksX13_restore_0 13 rfl rfl)
theorem dX13_restore_14 : decode cX13_restore 14 = .ok (.baload, 1) := dk_51 (dk_at dksX13_restore_0 14 rfl rfl)
theorem dX13_restore_15 : decode cX13_restore 15 = .ok (.ifCond .ne 5, 3) := dk_154 0 5 (dk_at dksX13_restore_0 15 rfl rfl)
theorem dX13_restore_18 : decode cX13_restore 18 = .ok (.iconst 0, 1) := dk_3 (dk_at dksX13_restore_0 18 rfl rfl)
theorem dX13_restore_19 : decode cX13_restore 19 = .ok (.ireturn, 1) := dk_172 (dk_at dksX13_restore_0 19 rfl rfl)
theorem dX13_restore_20 : decode cX13_restore 20 = .ok (.iconst 0, 1) := dk_3 (dk_at dksX13_restore_0 20 rfl rfl)
theorem dX13_restore_21 : decode cX13_restore 21 = .ok (.istore_n 2, 1) := dk_61 (dk_at dksX13_restore_0 21 rfl rfl)
theorem dX13_restore_22 : decode cX13_restore 22 = .ok (.iload_n 2, 1) := dk_28 (dk_at dksX13_restore_0 22 rfl rfl)
theorem dX13_restore_23 : decode cX13_restore 23 = .ok (.bipush 48, 2) := dk_16 48 (dk_at dksX13_restore_1 0 rfl rfl)
theorem dX13_restore_25 : decode cX13_restore 25 = .ok (.if_icmp .ge 26, 3) := dk_162 0 26 (dk_at dksX13_restore_1 2 rfl rfl)
theorem dX13_restore_28 : decode cX13_restore 28 = .ok (.aload_n 0, 1) := dk_42 (dk_at dksX13_restore_1 5 rfl rfl)
theorem dX13_restore_29 : decode cX13_restore 29 = .ok (.getfield 107, 3) := dk_180 0 107 (dk_at dksX13_restore_1 6 rfl rfl)
theorem dX13_restore_32 : decode cX13_restore 32 = .ok (.iload_n 2, 1) := dk_28 (dk_at dksX13_restore_1 9 rfl rfl)
theorem dX13_restore_33 : decode cX13_restore 33 = .ok (.aload_n 0, 1) := dk_42 (dk_at dksX13_restore_1 10 rfl rfl)
theorem dX13_restore_34 : decode cX13_restore 34 = .ok (.getfield 146, 3) := dk_180 0 146 (dk_at dksX13_restore_1 11 rfl rfl)
theorem dX13_restore_37 : decode cX13_restore 37 = .ok (.bipush 48, 2) := dk_16 48 (dk_at dksX13_restore_1 14 rfl rfl)
theorem dX13_restore_39 : decode cX13_restore 39 = .ok (.iload_n 1, 1) := dk_27 (dk_at dksX13_restore_1 16 rfl rfl)
theorem dX13_restore_40 : decode cX13_restore 40 = .ok (.imul, 1) := dk_104 (dk_at dksX13_restore_1 17 rfl rfl)
theorem dX13_restore_41 : decode cX13_restore 41 = .ok (.iload_n 2, 1) := dk_28 (dk_at dksX13_restore_1 18 rfl rfl)
theorem dX13_restore_42 : decode cX13_restore 42 = .ok (.iadd, 1) := dk_96 (dk_at dksX13_restore_1 19 rfl rfl)
theorem dX13_restore_43 : decode cX13_restore 43 = .ok (.iaload, 1) := dk_46 (dk_at dksX13_restore_1 20 rfl rfl)
theorem dX13_restore_44 : decode cX13_restore 44 = .ok (.iastore, 1) := dk_79 (dk_at dksX13_restore_1 21 rfl rfl)
theorem dX13_restore_45 : decode cX13_restore 45 = .ok (.iinc 2 1, 3) := dk_132 2 1 (dk_at dksX13_restore_2 0 rfl rfl)
theorem dX13_restore_48 : decode cX13_restore 48 = .ok (.goto (-26), 3) := dk_167 255 230 (dk_at dksX13_restore_2 3 rfl rfl)
theorem dX13_restore_51 : decode cX13_restore 51 = .ok (.aload_n 0, 1) := dk_42 (dk_at dksX13_restore_2 6 rfl rfl)
theorem dX13_restore_52 : decode cX13_restore 52 = .ok (.iconst 0, 1) := dk_3 (dk_at dksX13_restore_2 7 rfl rfl)
theorem dX13_restore_53 : decode cX13_restore 53 = .ok (.putfield 256, 3) := dk_181 1 0 (dk_at dksX13_restore_2 8 rfl rfl)
theorem dX13_restore_56 : decode cX13_restore 56 = .ok (.iconst 1, 1) := dk_4 (dk_at dksX13_restore_2 11 rfl rfl)
theorem dX13_restore_57 : decode cX13_restore 57 = .ok (.ireturn, 1) := dk_172 (dk_at dksX13_restore_2 12 rfl rfl)
abbrev cX13_count : ByteArray := prog_21_method_112_code
def yX13_count : MethodName := ⟨RX13, "count", "(I)I"⟩
def dkwX13_count_10 : List UInt8 := [172, 42, 180, 0, 110, 16, 47, 46, 172, 42, 16, 9, 182, 1, 178, 172, 2, 172]
abbrev dktX13_count_10 : List UInt8 := dkwX13_count_10 ++ []
def dkwX13_count_9 : List UInt8 := [132, 3, 1, 167, 255, 228, 28, 172, 42, 180, 0, 62, 42, 180, 0, 230, 46, 172, 42, 16, 36, 182, 1, 178]
abbrev dktX13_count_9 : List UInt8 := dkwX13_count_9 ++ dktX13_count_10
def dkwX13_count_8 : List UInt8 := [182, 1, 48, 162, 0, 26, 42, 180, 0, 110, 29, 46, 154, 0, 11, 28, 42, 29, 182, 1, 118, 96, 61]
abbrev dktX13_count_8 : List UInt8 := dkwX13_count_8 ++ dktX13_count_9
def dkwX13_count_7 : List UInt8 := [5, 51, 153, 0, 7, 4, 167, 0, 4, 3, 96, 172, 42, 180, 0, 110, 16, 46, 46, 172, 3, 62, 29, 42]
abbrev dktX13_count_7 : List UInt8 := dkwX13_count_7 ++ dktX13_count_8
def dkwX13_count_6 : List UInt8 := [4, 167, 0, 4, 3, 42, 180, 0, 143, 4, 51, 153, 0, 7, 4, 167, 0, 4, 3, 96, 42, 180, 0, 143]
abbrev dktX13_count_6 : List UInt8 := dkwX13_count_6 ++ dktX13_count_7
def dkwX13_count_5 : List UInt8 := [42, 180, 0, 163, 172, 42, 180, 1, 0, 172, 42, 180, 1, 3, 172, 42, 180, 0, 143, 3, 51, 153, 0, 7]
abbrev dktX13_count_5 : List UInt8 := dkwX13_count_5 ++ dktX13_count_6
def dkwX13_count_4 : List UInt8 := [182, 1, 48, 162, 0, 19, 28, 42, 29, 182, 1, 93, 29, 120, 128, 61, 132, 3, 1, 167, 255, 235, 28, 172]
abbrev dktX13_count_4 : List UInt8 := dkwX13_count_4 ++ dktX13_count_5
def dkwX13_count_3 : List UInt8 := [42, 182, 1, 114, 172, 42, 182, 1, 114, 184, 1, 142, 172, 42, 182, 1, 169, 172, 3, 62, 29, 42]
abbrev dktX13_count_3 : List UInt8 := dkwX13_count_3 ++ dktX13_count_4
def dkwX13_count_2 : List UInt8 := [42, 182, 1, 48, 172, 42, 180, 0, 110, 16, 45, 46, 172, 42, 180, 0, 110, 16, 45, 46, 16, 24, 112, 172]
abbrev dktX13_count_2 : List UInt8 := dkwX13_count_2 ++ dktX13_count_3
def dkwX13_count_1 : List UInt8 := [170, 0, 0, 1, 30, 0, 0, 0, 0, 0, 0, 0, 16, 0, 0, 0, 81, 0, 0, 0, 86, 0, 0, 0, 94, 0, 0, 0, 105, 0, 0, 0, 110, 0, 0, 0, 118, 0, 0, 0, 123, 0, 0, 0, 151, 0, 0, 0, 156, 0, 0, 0, 161, 0, 0, 0, 166, 0, 0, 0, 211, 0, 0, 0, 219, 0, 0, 0, 254, 0, 0, 1, 8, 0, 0, 1, 15, 0, 0, 1, 23]
abbrev dktX13_count_1 : List UInt8 := dkwX13_count_1 ++ dktX13_count_2
def dkwX13_count_0 : List UInt8 := [42, 182, 1, 65, 3, 61, 27]
abbrev dktX13_count_0 : List UInt8 := dkwX13_count_0 ++ dktX13_count_1
theorem dksX13_count_0 : cX13_count.data.toList.drop 0 = dktX13_count_0 := by decide +kernel
theorem dksX13_count_1 : cX13_count.data.toList.drop 7 = dktX13_count_1 := dk_seg dksX13_count_0 7 rfl rfl
theorem dksX13_count_2 : cX13_count.data.toList.drop 88 = dktX13_count_2 := dk_seg dksX13_count_1 81 rfl rfl
theorem dksX13_count_3 : cX13_count.data.toList.drop 112 = dktX13_count_3 := dk_seg dksX13_count_2 24 rfl rfl
theorem dksX13_count_4 : cX13_count.data.toList.drop 134 = dktX13_count_4 := dk_seg dksX13_count_3 22 rfl rfl
theorem dksX13_count_5 : cX13_count.data.toList.drop 158 = dktX13_count_5 := dk_seg dksX13_count_4 24 rfl rfl
theorem dksX13_count_6 : cX13_count.data.toList.drop 182 = dktX13_count_6 := dk_seg dksX13_count_5 24 rfl rfl
theorem dksX13_count_7 : cX13_count.data.toList.drop 206 = dktX13_count_7 := dk_seg dksX13_count_6 24 rfl rfl
theorem dksX13_count_8 : cX13_count.data.toList.drop 230 = dktX13_count_8 := dk_seg dksX13_count_7 24 rfl rfl
theorem dksX13_count_9 : cX13_count.data.toList.drop 253 = dktX13_count_9 := dk_seg dksX13_count_8 23 rfl rfl
theorem dksX13_count_10 : cX13_count.data.toList.drop 277 = dktX13_count_10 := dk_seg dksX13_count_9 24 rfl rfl
theorem dX13_count_0 : decode cX13_count 0 = .ok (.aload_n 0, 1) := dk_42 (dk_at dksX13_count_0 0 rfl rfl)
theorem dX13_count_1 : decode cX13_count 1 = .ok (.invokevirtual 321, 3) := dk_182 1 65 (dk_at dksX13_count_0 1 rfl rfl)
theorem dX13_count_4 : decode cX13_count 4 = .ok (.iconst 0, 1) := dk_3 (dk_at dksX13_count_0 4 rfl rfl)
theorem dX13_count_5 : decode cX13_count 5 = .ok (.istore_n 2, 1) := dk_61 (dk_at dksX13_count_0 5 rfl rfl)
theorem dX13_count_6 : decode cX13_count 6 = .ok (.iload_n 1, 1) := dk_27 (dk_at dksX13_count_0 6 rfl rfl)
theorem dX13_count_7 : decode cX13_count 7 = .ok (.tableswitch 286 0 16 #[81, 86, 94, 105, 110, 118, 123, 151, 156, 161, 166, 211, 219, 254, 264, 271, 279], 81) := by decide +kernel
theorem dX13_count_88 : decode cX13_count 88 = .ok (.aload_n 0, 1) := dk_42 (dk_at dksX13_count_2 0 rfl rfl)
theorem dX13_count_89 : decode cX13_count 89 = .ok (.invokevirtual 304, 3) := dk_182 1 48 (dk_at dksX13_count_2 1 rfl rfl)
theorem dX13_count_92 : decode cX13_count 92 = .ok (.ireturn, 1) := dk_172 (dk_at dksX13_count_2 4 rfl rfl)
theorem dX13_count_93 : decode cX13_count 93 = .ok (.aload_n 0, 1) := dk_42 (dk_at dksX13_count_2 5 rfl rfl)
theorem dX13_count_94 : decode cX13_count 94 = .ok (.getfield 110, 3) := dk_180 0 110 (dk_at dksX13_count_2 6 rfl rfl)
theorem dX13_count_97 : decode cX13_count 97 = .ok (.bipush 45, 2) := dk_16 45 (dk_at dksX13_count_2 9 rfl rfl)
theorem dX13_count_99 : decode cX13_count 99 = .ok (.iaload, 1) := dk_46 (dk_at dksX13_count_2 11 rfl rfl)
theorem dX13_count_100 : decode cX13_count 100 = .ok (.ireturn, 1) := dk_172 (dk_at dksX13_count_2 12 rfl rfl)
theorem dX13_count_101 : decode cX13_count 101 = .ok (.aload_n 0, 1) := dk_42 (dk_at dksX13_count_2 13 rfl rfl)
theorem dX13_count_102 : decode cX13_count 102 = .ok (.getfield 110, 3) := dk_180 0 110 (dk_at dksX13_count_2 14 rfl rfl)
theorem dX13_count_105 : decode cX13_count 105 = .ok (.bipush 45, 2) := dk_16 45 (dk_at dksX13_count_2 17 rfl rfl)
theorem dX13_count_107 : decode cX13_count 107 = .ok (.iaload, 1) := dk_46 (dk_at dksX13_count_2 19 rfl rfl)
theorem dX13_count_108 : decode cX13_count 108 = .ok (.bipush 24, 2) := dk_16 24 (dk_at dksX13_count_2 20 rfl rfl)
theorem dX13_count_110 : decode cX13_count 110 = .ok (.irem, 1) := dk_112 (dk_at dksX13_count_2 22 rfl rfl)
theorem dX13_count_111 : decode cX13_count 111 = .ok (.ireturn, 1) := dk_172 (dk_at dksX13_count_2 23 rfl rfl)
theorem dX13_count_112 : decode cX13_count 112 = .ok (.aload_n 0, 1) := dk_42 (dk_at dksX13_count_3 0 rfl rfl)
theorem dX13_count_113 : decode cX13_count 113 = .ok (.invokevirtual 370, 3) := dk_182 1 114 (dk_at dksX13_count_3 1 rfl rfl)
theorem dX13_count_116 : decode cX13_count 116 = .ok (.ireturn, 1) := dk_172 (dk_at dksX13_count_3 4 rfl rfl)
theorem dX13_count_117 : decode cX13_count 117 = .ok (.aload_n 0, 1) := dk_42 (dk_at dksX13_count_3 5 rfl rfl)
theorem dX13_count_118 : decode cX13_count 118 = .ok (.invokevirtual 370, 3) := dk_182 1 114 (dk_at dksX13_count_3 6 rfl rfl)
theorem dX13_count_121 : decode cX13_count 121 = .ok (.invokestatic 398, 3) := dk_184 1 142 (dk_at dksX13_count_3 9 rfl rfl)
theorem dX13_count_124 : decode cX13_count 124 = .ok (.ireturn, 1) := dk_172 (dk_at dksX13_count_3 12 rfl rfl)
theorem dX13_count_125 : decode cX13_count 125 = .ok (.aload_n 0, 1) := dk_42 (dk_at dksX13_count_3 13 rfl rfl)
theorem dX13_count_126 : decode cX13_count 126 = .ok (.invokevirtual 425, 3) := dk_182 1 169 (dk_at dksX13_count_3 14 rfl rfl)
theorem dX13_count_129 : decode cX13_count 129 = .ok (.ireturn, 1) := dk_172 (dk_at dksX13_count_3 17 rfl rfl)
theorem dX13_count_130 : decode cX13_count 130 = .ok (.iconst 0, 1) := dk_3 (dk_at dksX13_count_3 18 rfl rfl)
theorem dX13_count_131 : decode cX13_count 131 = .ok (.istore_n 3, 1) := dk_62 (dk_at dksX13_count_3 19 rfl rfl)
theorem dX13_count_132 : decode cX13_count 132 = .ok (.iload_n 3, 1) := dk_29 (dk_at dksX13_count_3 20 rfl rfl)
theorem dX13_count_133 : decode cX13_count 133 = .ok (.aload_n 0, 1) := dk_42 (dk_at dksX13_count_3 21 rfl rfl)
theorem dX13_count_134 : decode cX13_count 134 = .ok (.invokevirtual 304, 3) := dk_182 1 48 (dk_at dksX13_count_4 0 rfl rfl)
theorem dX13_count_137 : decode cX13_count 137 = .ok (.if_icmp .ge 19, 3) := dk_162 0 19 (dk_at dksX13_count_4 3 rfl rfl)
theorem dX13_count_140 : decode cX13_count 140 = .ok (.iload_n 2, 1) := dk_28 (dk_at dksX13_count_4 6 rfl rfl)
theorem dX13_count_141 : decode cX13_count 141 = .ok (.aload_n 0, 1) := dk_42 (dk_at dksX13_count_4 7 rfl rfl)
theorem dX13_count_142 : decode cX13_count 142 = .ok (.iload_n 3, 1) := dk_29 (dk_at dksX13_count_4 8 rfl rfl)
theorem dX13_count_143 : decode cX13_count 143 = .ok (.invokevirtual 349, 3) := dk_182 1 93 (dk_at dksX13_count_4 9 rfl rfl)
theorem dX13_count_146 : decode cX13_count 146 = .ok (.iload_n 3, 1) := dk_29 (dk_at dksX13_count_4 12 rfl rfl)
theorem dX13_count_147 : decode cX13_count 147 = .ok (.ishl, 1) := dk_120 (dk_at dksX13_count_4 13 rfl rfl)
theorem dX13_count_148 : decode cX13_count 148 = .ok (.ior, 1) := dk_128 (dk_at dksX13_count_4 14 rfl rfl)
theorem dX13_count_149 : decode cX13_count 149 = .ok (.istore_n 2, 1) := dk_61 (dk_at dksX13_count_4 15 rfl rfl)
theorem dX13_count_150 : decode cX13_count 150 = .ok (.iinc 3 1, 3) := dk_132 3 1 (dk_at dksX13_count_4 16 rfl rfl)
theorem dX13_count_153 : decode cX13_count 153 = .ok (.goto (-21), 3) := dk_167 255 235 (dk_at dksX13_count_4 19 rfl rfl)
theorem dX13_count_156 : decode cX13_count 156 = .ok (.iload_n 2, 1) := dk_28 (dk_at dksX13_count_4 22 rfl rfl)
theorem dX13_count_157 : decode cX13_count 157 = .ok (.ireturn, 1) := dk_172 (dk_at dksX13_count_4 23 rfl rfl)
theorem dX13_count_158 : decode cX13_count 158 = .ok (.aload_n 0, 1) := dk_42 (dk_at dksX13_count_5 0 rfl rfl)
theorem dX13_count_159 : decode cX13_count 159 = .ok (.getfield 163, 3) := dk_180 0 163 (dk_at dksX13_count_5 1 rfl rfl)
theorem dX13_count_162 : decode cX13_count 162 = .ok (.ireturn, 1) := dk_172 (dk_at dksX13_count_5 4 rfl rfl)
theorem dX13_count_163 : decode cX13_count 163 = .ok (.aload_n 0, 1) := dk_42 (dk_at dksX13_count_5 5 rfl rfl)
theorem dX13_count_164 : decode cX13_count 164 = .ok (.getfield 256, 3) := dk_180 1 0 (dk_at dksX13_count_5 6 rfl rfl)
theorem dX13_count_167 : decode cX13_count 167 = .ok (.ireturn, 1) := dk_172 (dk_at dksX13_count_5 9 rfl rfl)
theorem dX13_count_168 : decode cX13_count 168 = .ok (.aload_n 0, 1) := dk_42 (dk_at dksX13_count_5 10 rfl rfl)
theorem dX13_count_169 : decode cX13_count 169 = .ok (.getfield 259, 3) := dk_180 1 3 (dk_at dksX13_count_5 11 rfl rfl)
theorem dX13_count_172 : decode cX13_count 172 = .ok (.ireturn, 1) := dk_172 (dk_at dksX13_count_5 14 rfl rfl)
theorem dX13_count_173 : decode cX13_count 173 = .ok (.aload_n 0, 1) := dk_42 (dk_at dksX13_count_5 15 rfl rfl)
theorem dX13_count_174 : decode cX13_count 174 = .ok (.getfield 143, 3) := dk_180 0 143 (dk_at dksX13_count_5 16 rfl rfl)
theorem dX13_count_177 : decode cX13_count 177 = .ok (.iconst 0, 1) := dk_3 (dk_at dksX13_count_5 19 rfl rfl)
theorem dX13_count_178 : decode cX13_count 178 = .ok (.baload, 1) := dk_51 (dk_at dksX13_count_5 20 rfl rfl)
theorem dX13_count_179 : decode cX13_count 179 = .ok (.ifCond .eq 7, 3) := dk_153 0 7 (dk_at dksX13_count_5 21 rfl rfl)
theorem dX13_count_182 : decode cX13_count 182 = .ok (.iconst 1, 1) := dk_4 (dk_at dksX13_count_6 0 rfl rfl)
theorem dX13_count_183 : decode cX13_count 183 = .ok (.goto 4, 3) := dk_167 0 4 (dk_at dksX13_count_6 1 rfl rfl)
theorem dX13_count_186 : decode cX13_count 186 = .ok (.iconst 0, 1) := dk_3 (dk_at dksX13_count_6 4 rfl rfl)
theorem dX13_count_187 : decode cX13_count 187 = .ok (.aload_n 0, 1) := dk_42 (dk_at dksX13_count_6 5 rfl rfl)
theorem dX13_count_188 : decode cX13_count 188 = .ok (.getfield 143, 3) := dk_180 0 143 (dk_at dksX13_count_6 6 rfl rfl)
theorem dX13_count_191 : decode cX13_count 191 = .ok (.iconst 1, 1) := dk_4 (dk_at dksX13_count_6 9 rfl rfl)
theorem dX13_count_192 : decode cX13_count 192 = .ok (.baload, 1) := dk_51 (dk_at dksX13_count_6 10 rfl rfl)
theorem dX13_count_193 : decode cX13_count 193 = .ok (.ifCond .eq 7, 3) := dk_153 0 7 (dk_at dksX13_count_6 11 rfl rfl)
theorem dX13_count_196 : decode cX13_count 196 = .ok (.iconst 1, 1) := dk_4 (dk_at dksX13_count_6 14 rfl rfl)
theorem dX13_count_197 : decode cX13_count 197 = .ok (.goto 4, 3) := dk_167 0 4 (dk_at dksX13_count_6 15 rfl rfl)
theorem dX13_count_200 : decode cX13_count 200 = .ok (.iconst 0, 1) := dk_3 (dk_at dksX13_count_6 18 rfl rfl)
theorem dX13_count_201 : decode cX13_count 201 = .ok (.iadd, 1) := dk_96 (dk_at dksX13_count_6 19 rfl rfl)
theorem dX13_count_202 : decode cX13_count 202 = .ok (.aload_n 0, 1) := dk_42 (dk_at dksX13_count_6 20 rfl rfl)
theorem dX13_count_203 : decode cX13_count 203 = .ok (.getfield 143, 3) := dk_180 0 143 (dk_at dksX13_count_6 21 rfl rfl)
theorem dX13_count_206 : decode cX13_count 206 = .ok (.iconst 2, 1) := dk_5 (dk_at dksX13_count_7 0 rfl rfl)
theorem dX13_count_207 : decode cX13_count 207 = .ok (.baload, 1) := dk_51 (dk_at dksX13_count_7 1 rfl rfl)
theorem dX13_count_208 : decode cX13_count 208 = .ok (.ifCond .eq 7, 3) := dk_153 0 7 (dk_at dksX13_count_7 2 rfl rfl)
theorem dX13_count_211 : decode cX13_count 211 = .ok (.iconst 1, 1) := dk_4 (dk_at dksX13_count_7 5 rfl rfl)
theorem dX13_count_212 : decode cX13_count 212 = .ok (.goto 4, 3) := dk_167 0 4 (dk_at dksX13_count_7 6 rfl rfl)
theorem dX13_count_215 : decode cX13_count 215 = .ok (.iconst 0, 1) := dk_3 (dk_at dksX13_count_7 9 rfl rfl)
theorem dX13_count_216 : decode cX13_count 216 = .ok (.iadd, 1) := dk_96 (dk_at dksX13_count_7 10 rfl rfl)
theorem dX13_count_217 : decode cX13_count 217 = .ok (.ireturn, 1) := dk_172 (dk_at dksX13_count_7 11 rfl rfl)
theorem dX13_count_218 : decode cX13_count 218 = .ok (.aload_n 0, 1) := dk_42 (dk_at dksX13_count_7 12 rfl rfl)
theorem dX13_count_219 : decode cX13_count 219 = .ok (.getfield 110, 3) := dk_180 0 110 (dk_at dksX13_count_7 13 rfl rfl)
theorem dX13_count_222 : decode cX13_count 222 = .ok (.bipush 46, 2) := dk_16 46 (dk_at dksX13_count_7 16 rfl rfl)
theorem dX13_count_224 : decode cX13_count 224 = .ok (.iaload, 1) := dk_46 (dk_at dksX13_count_7 18 rfl rfl)
theorem dX13_count_225 : decode cX13_count 225 = .ok (.ireturn, 1) := dk_172 (dk_at dksX13_count_7 19 rfl rfl)
theorem dX13_count_226 : decode cX13_count 226 = .ok (.iconst 0, 1) := dk_3 (dk_at dksX13_count_7 20 rfl rfl)
theorem dX13_count_227 : decode cX13_count 227 = .ok (.istore_n 3, 1) := dk_62 (dk_at dksX13_count_7 21 rfl rfl)
theorem dX13_count_228 : decode cX13_count 228 = .ok (.iload_n 3, 1) := dk_29 (dk_at dksX13_count_7 22 rfl rfl)
theorem dX13_count_229 : decode cX13_count 229 = .ok (.aload_n 0, 1) := dk_42 (dk_at dksX13_count_7 23 rfl rfl)
theorem dX13_count_230 : decode cX13_count 230 = .ok (.invokevirtual 304, 3) := dk_182 1 48 (dk_at dksX13_count_8 0 rfl rfl)
theorem dX13_count_233 : decode cX13_count 233 = .ok (.if_icmp .ge 26, 3) := dk_162 0 26 (dk_at dksX13_count_8 3 rfl rfl)
theorem dX13_count_236 : decode cX13_count 236 = .ok (.aload_n 0, 1) := dk_42 (dk_at dksX13_count_8 6 rfl rfl)
theorem dX13_count_237 : decode cX13_count 237 = .ok (.getfield 110, 3) := dk_180 0 110 (dk_at dksX13_count_8 7 rfl rfl)
theorem dX13_count_240 : decode cX13_count 240 = .ok (.iload_n 3, 1) := dk_29 (dk_at dksX13_count_8 10 rfl rfl)
theorem dX13_count_241 : decode cX13_count 241 = .ok (.iaload, 1) := dk_46 (dk_at dksX13_count_8 11 rfl rfl)
theorem dX13_count_242 : decode cX13_count 242 = .ok (.ifCond .ne 11, 3) := dk_154 0 11 (dk_at dksX13_count_8 12 rfl rfl)
theorem dX13_count_245 : decode cX13_count 245 = .ok (.iload_n 2, 1) := dk_28 (dk_at dksX13_count_8 15 rfl rfl)
theorem dX13_count_246 : decode cX13_count 246 = .ok (.aload_n 0, 1) := dk_42 (dk_at dksX13_count_8 16 rfl rfl)
theorem dX13_count_247 : decode cX13_count 247 = .ok (.iload_n 3, 1) := dk_29 (dk_at dksX13_count_8 17 rfl rfl)
theorem dX13_count_248 : decode cX13_count 248 = .ok (.invokevirtual 374, 3) := dk_182 1 118 (dk_at dksX13_count_8 18 rfl rfl)
theorem dX13_count_251 : decode cX13_count 251 = .ok (.iadd, 1) := dk_96 (dk_at dksX13_count_8 21 rfl rfl)
theorem dX13_count_252 : decode cX13_count 252 = .ok (.istore_n 2, 1) := dk_61 (dk_at dksX13_count_8 22 rfl rfl)
theorem dX13_count_253 : decode cX13_count 253 = .ok (.iinc 3 1, 3) := dk_132 3 1 (dk_at dksX13_count_9 0 rfl rfl)
theorem dX13_count_256 : decode cX13_count 256 = .ok (.goto (-28), 3) := dk_167 255 228 (dk_at dksX13_count_9 3 rfl rfl)
theorem dX13_count_259 : decode cX13_count 259 = .ok (.iload_n 2, 1) := dk_28 (dk_at dksX13_count_9 6 rfl rfl)
theorem dX13_count_260 : decode cX13_count 260 = .ok (.ireturn, 1) := dk_172 (dk_at dksX13_count_9 7 rfl rfl)
theorem dX13_count_261 : decode cX13_count 261 = .ok (.aload_n 0, 1) := dk_42 (dk_at dksX13_count_9 8 rfl rfl)
theorem dX13_count_262 : decode cX13_count 262 = .ok (.getfield 62, 3) := dk_180 0 62 (dk_at dksX13_count_9 9 rfl rfl)
theorem dX13_count_265 : decode cX13_count 265 = .ok (.aload_n 0, 1) := dk_42 (dk_at dksX13_count_9 12 rfl rfl)
theorem dX13_count_266 : decode cX13_count 266 = .ok (.getfield 230, 3) := dk_180 0 230 (dk_at dksX13_count_9 13 rfl rfl)
theorem dX13_count_269 : decode cX13_count 269 = .ok (.iaload, 1) := dk_46 (dk_at dksX13_count_9 16 rfl rfl)
theorem dX13_count_270 : decode cX13_count 270 = .ok (.ireturn, 1) := dk_172 (dk_at dksX13_count_9 17 rfl rfl)
theorem dX13_count_271 : decode cX13_count 271 = .ok (.aload_n 0, 1) := dk_42 (dk_at dksX13_count_9 18 rfl rfl)
theorem dX13_count_272 : decode cX13_count 272 = .ok (.bipush 36, 2) := dk_16 36 (dk_at dksX13_count_9 19 rfl rfl)
theorem dX13_count_274 : decode cX13_count 274 = .ok (.invokevirtual 434, 3) := dk_182 1 178 (dk_at dksX13_count_9 21 rfl rfl)
theorem dX13_count_277 : decode cX13_count 277 = .ok (.ireturn, 1) := dk_172 (dk_at dksX13_count_10 0 rfl rfl)
theorem dX13_count_278 : decode cX13_count 278 = .ok (.aload_n 0, 1) := dk_42 (dk_at dksX13_count_10 1 rfl rfl)
theorem dX13_count_279 : decode cX13_count 279 = .ok (.getfield 110, 3) := dk_180 0 110 (dk_at dksX13_count_10 2 rfl rfl)
theorem dX13_count_282 : decode cX13_count 282 = .ok (.bipush 47, 2) := dk_16 47 (dk_at dksX13_count_10 5 rfl rfl)
theorem dX13_count_284 : decode cX13_count 284 = .ok (.iaload, 1) := dk_46 (dk_at dksX13_count_10 7 rfl rfl)
theorem dX13_count_285 : decode cX13_count 285 = .ok (.ireturn, 1) := dk_172 (dk_at dksX13_count_10 8 rfl rfl)
theorem dX13_count_286 : decode cX13_count 286 = .ok (.aload_n 0, 1) := dk_42 (dk_at dksX13_count_10 9 rfl rfl)
theorem dX13_count_287 : decode cX13_count 287 = .ok (.bipush 9, 2) := dk_16 9 (dk_at dksX13_count_10 10 rfl rfl)
theorem dX13_count_289 : decode cX13_count 289 = .ok (.invokevirtual 434, 3) := dk_182 1 178 (dk_at dksX13_count_10 12 rfl rfl)
theorem dX13_count_292 : decode cX13_count 292 = .ok (.ireturn, 1) := dk_172 (dk_at dksX13_count_10 15 rfl rfl)
theorem dX13_count_293 : decode cX13_count 293 = .ok (.iconst (-1), 1) := dk_2 (dk_at dksX13_count_10 16 rfl rfl)
theorem dX13_count_294 : decode cX13_count 294 = .ok (.ireturn, 1) := dk_172 (dk_at dksX13_count_10 17 rfl rfl)
abbrev cX13_sumNow : ByteArray := prog_21_method_111_code
def yX13_sumNow : MethodName := ⟨RX13, "sumNow", "(I)I"⟩
def dkwX13_sumNow_1 : List UInt8 := [167, 255, 236, 28, 172]
abbrev dktX13_sumNow_1 : List UInt8 := dkwX13_sumNow_1 ++ []
def dkwX13_sumNow_0 : List UInt8 := [3, 61, 27, 62, 29, 27, 16, 9, 96, 162, 0, 18, 28, 42, 180, 0, 107, 29, 46, 96, 61, 132, 3, 1]
abbrev dktX13_sumNow_0 : List UInt8 := dkwX13_sumNow_0 ++ dktX13_sumNow_1
theorem dksX13_sumNow_0 : cX13_sumNow.data.toList.drop 0 = dktX13_sumNow_0 := by decide +kernel
theorem dksX13_sumNow_1 : cX13_sumNow.data.toList.drop 24 = dktX13_sumNow_1 := dk_seg dksX13_sumNow_0 24 rfl rfl
theorem dX13_sumNow_0 : decode cX13_sumNow 0 = .ok (.iconst 0, 1) := dk_3 (dk_at dksX13_sumNow_0 0 rfl rfl)
theorem dX13_sumNow_1 : decode cX13_sumNow 1 = .ok (.istore_n 2, 1) := dk_61 (dk_at dksX13_sumNow_0 1 rfl rfl)
theorem dX13_sumNow_2 : decode cX13_sumNow 2 = .ok (.iload_n 1, 1) := dk_27 (dk_at dksX13_sumNow_0 2 rfl rfl)
theorem dX13_sumNow_3 : decode cX13_sumNow 3 = .ok (.istore_n 3, 1) := dk_62 (dk_at dksX13_sumNow_0 3 rfl rfl)
theorem dX13_sumNow_4 : decode cX13_sumNow 4 = .ok (.iload_n 3, 1) := dk_29 (dk_at dksX13_sumNow_0 4 rfl rfl)
theorem dX13_sumNow_5 : decode cX13_sumNow 5 = .ok (.iload_n 1, 1) := dk_27 (dk_at dksX13_sumNow_0 5 rfl rfl)
theorem dX13_sumNow_6 : decode cX13_sumNow 6 = .ok (.bipush 9, 2) := dk_16 9 (dk_at dksX13_sumNow_0 6 rfl rfl)
theorem dX13_sumNow_8 : decode cX13_sumNow 8 = .ok (.iadd, 1) := dk_96 (dk_at dksX13_sumNow_0 8 rfl rfl)
theorem dX13_sumNow_9 : decode cX13_sumNow 9 = .ok (.if_icmp .ge 18, 3) := dk_162 0 18 (dk_at dksX13_sumNow_0 9 rfl rfl)
theorem dX13_sumNow_12 : decode cX13_sumNow 12 = .ok (.iload_n 2, 1) := dk_28 (dk_at dksX13_sumNow_0 12 rfl rfl)
theorem dX13_sumNow_13 : decode cX13_sumNow 13 = .ok (.aload_n 0, 1) := dk_42 (dk_at dksX13_sumNow_0 13 rfl rfl)
theorem dX13_sumNow_14 : decode cX13_sumNow 14 = .ok (.getfield 107, 3) := dk_180 0 107 (dk_at dksX13_sumNow_0 14 rfl rfl)
theorem dX13_sumNow_17 : decode cX13_sumNow 17 = .ok (.iload_n 3, 1) := dk_29 (dk_at dksX13_sumNow_0 17 rfl rfl)
theorem dX13_sumNow_18 : decode cX13_sumNow 18 = .ok (.iaload, 1) := dk_46 (dk_at dksX13_sumNow_0 18 rfl rfl)
theorem dX13_sumNow_19 : decode cX13_sumNow 19 = .ok (.iadd, 1) := dk_96 (dk_at dksX13_sumNow_0 19 rfl rfl)
theorem dX13_sumNow_20 : decode cX13_sumNow 20 = .ok (.istore_n 2, 1) := dk_61 (dk_at dksX13_sumNow_0 20 rfl rfl)
theorem dX13_sumNow_21 : decode cX13_sumNow 21 = .ok (.iinc 3 1, 3) := dk_132 3 1 (dk_at dksX13_sumNow_0 21 rfl rfl)
theorem dX13_sumNow_24 : decode cX13_sumNow 24 = .ok (.goto (-20), 3) := dk_167 255 236 (dk_at dksX13_sumNow_1 0 rfl rfl)
theorem dX13_sumNow_27 : decode cX13_sumNow 27 = .ok (.iload_n 2, 1) := dk_28 (dk_at dksX13_sumNow_1 3 rfl rfl)
theorem dX13_sumNow_28 : decode cX13_sumNow 28 = .ok (.ireturn, 1) := dk_172 (dk_at dksX13_sumNow_1 4 rfl rfl)
theorem q129 : (Jvm.Cond.initialized "PartedSideModel") ∈ lw_all := lw_g (lw_at lw_m1 22 rfl) rfl
theorem q1081 : (Jvm.Cond.selects "PartedSideModel" ({ cls := "java/lang/Object", name := "getClass", desc := "()Ljava/lang/Class;" } : Jvm.MethodName) ({ cls := "java/lang/Object", name := "getClass", desc := "()Ljava/lang/Class;" } : Jvm.MethodName)) ∈ lw_all := lw_g (lw_at lw_m5 14 rfl) rfl
theorem q1444 : (Jvm.Cond.instantiable "PartedSideModel" (65 : Nat)) ∈ lw_all := lw_g (lw_at lw_m6 137 rfl) rfl
theorem q1446 : (Jvm.Cond.instanceMethod ({ cls := "PartedSideModel", name := "<init>", desc := "()V" } : Jvm.MethodName)) ∈ lw_all := lw_g (lw_at lw_m6 139 rfl) rfl
theorem q1447 : (Jvm.Cond.code ({ cls := "PartedSideModel", name := "<init>", desc := "()V" } : Jvm.MethodName) prog_21_method_2_code (1 : Nat) (Option.none : Option Jvm.ClassFile.FieldType)) ∈ lw_all := lw_g (lw_at lw_m6 140 rfl) rfl
theorem q1448 : (Jvm.Cond.methodLink "PartedSideModel" (7 : Nat) ({ cls := "java/lang/Object", name := "<init>", desc := "()V" } : Jvm.MethodName)) ∈ lw_all := lw_g (lw_at lw_m6 141 rfl) rfl
theorem q1449 : (Jvm.Cond.methodLink "PartedSideModel" (149 : Nat) ({ cls := "PartedSideModel", name := "plain", desc := "(I)V" } : Jvm.MethodName)) ∈ lw_all := lw_g (lw_at lw_m6 142 rfl) rfl
theorem q1450 : (Jvm.Cond.privateMethod ({ cls := "PartedSideModel", name := "plain", desc := "(I)V" } : Jvm.MethodName)) ∈ lw_tbl := lw_at lw_m6 143 rfl
theorem q1451 : (Jvm.Cond.instanceMethod ({ cls := "PartedSideModel", name := "plain", desc := "(I)V" } : Jvm.MethodName)) ∈ lw_all := lw_g (lw_at lw_m6 144 rfl) rfl
theorem q1452 : (Jvm.Cond.code ({ cls := "PartedSideModel", name := "plain", desc := "(I)V" } : Jvm.MethodName) prog_21_method_19_code (3 : Nat) (Option.none : Option Jvm.ClassFile.FieldType)) ∈ lw_all := lw_g (lw_at lw_m6 145 rfl) rfl
theorem q1453 : (Jvm.Cond.methodLink "PartedSideModel" (153 : Nat) ({ cls := "PartedSideModel", name := "word", desc := "(IIIIIII)J" } : Jvm.MethodName)) ∈ lw_all := lw_g (lw_at lw_m6 146 rfl) rfl
theorem q1454 : (Jvm.Cond.static ({ cls := "PartedSideModel", name := "word", desc := "(IIIIIII)J" } : Jvm.MethodName)) ∈ lw_all := lw_g (lw_at lw_m6 147 rfl) rfl
theorem q1455 : (Jvm.Cond.code ({ cls := "PartedSideModel", name := "word", desc := "(IIIIIII)J" } : Jvm.MethodName) prog_21_method_10_code (7 : Nat) (Option.some Jvm.ClassFile.FieldType.long)) ∈ lw_all := lw_g (lw_at lw_m6 148 rfl) rfl
theorem q1456 : (Jvm.Cond.methodLink "PartedSideModel" (174 : Nat) ({ cls := "PartedSideModel", name := "appends", desc := "(JI)J" } : Jvm.MethodName)) ∈ lw_all := lw_g (lw_at lw_m6 149 rfl) rfl
theorem q1457 : (Jvm.Cond.static ({ cls := "PartedSideModel", name := "appends", desc := "(JI)J" } : Jvm.MethodName)) ∈ lw_all := lw_g (lw_at lw_m6 150 rfl) rfl
theorem q1458 : (Jvm.Cond.code ({ cls := "PartedSideModel", name := "appends", desc := "(JI)J" } : Jvm.MethodName) prog_21_method_9_code (3 : Nat) (Option.some Jvm.ClassFile.FieldType.long)) ∈ lw_all := lw_g (lw_at lw_m6 151 rfl) rfl
theorem q1459 : (Jvm.Cond.constantLong "PartedSideModel" (172 : Nat) (27 : Int64)) ∈ lw_all := lw_g (lw_at lw_m6 152 rfl) rfl
theorem q1460 : (Jvm.Cond.methodLink "PartedSideModel" (157 : Nat) ({ cls := "PartedSideModel", name := "begins", desc := "()V" } : Jvm.MethodName)) ∈ lw_all := lw_g (lw_at lw_m6 153 rfl) rfl
theorem q1461 : (Jvm.Cond.privateMethod ({ cls := "PartedSideModel", name := "begins", desc := "()V" } : Jvm.MethodName)) ∈ lw_tbl := lw_at lw_m6 154 rfl
theorem q1462 : (Jvm.Cond.instanceMethod ({ cls := "PartedSideModel", name := "begins", desc := "()V" } : Jvm.MethodName)) ∈ lw_all := lw_g (lw_at lw_m6 155 rfl) rfl
theorem q1463 : (Jvm.Cond.code ({ cls := "PartedSideModel", name := "begins", desc := "()V" } : Jvm.MethodName) prog_21_method_42_code (2 : Nat) (Option.none : Option Jvm.ClassFile.FieldType)) ∈ lw_all := lw_g (lw_at lw_m6 156 rfl) rfl
theorem q1464 : (Jvm.Cond.methodLink "PartedSideModel" (304 : Nat) ({ cls := "PartedSideModel", name := "many", desc := "()I" } : Jvm.MethodName)) ∈ lw_all := lw_g (lw_at lw_m6 157 rfl) rfl
theorem q1465 : (Jvm.Cond.privateMethod ({ cls := "PartedSideModel", name := "many", desc := "()I" } : Jvm.MethodName)) ∈ lw_tbl := lw_at lw_m6 158 rfl
theorem q1466 : (Jvm.Cond.instanceMethod ({ cls := "PartedSideModel", name := "many", desc := "()I" } : Jvm.MethodName)) ∈ lw_all := lw_g (lw_at lw_m6 159 rfl) rfl
theorem q1467 : (Jvm.Cond.code ({ cls := "PartedSideModel", name := "many", desc := "()I" } : Jvm.MethodName) prog_21_method_38_code (1 : Nat) (Option.some Jvm.ClassFile.FieldType.int)) ∈ lw_all := lw_g (lw_at lw_m6 160 rfl) rfl
theorem q1468 : (Jvm.Cond.methodLink "PartedSideModel" (160 : Nat) ({ cls := "PartedSideModel", name := "keepsRow", desc := "()V" } : Jvm.MethodName)) ∈ lw_all := lw_g (lw_at lw_m6 161 rfl) rfl
theorem q1469 : (Jvm.Cond.privateMethod ({ cls := "PartedSideModel", name := "keepsRow", desc := "()V" } : Jvm.MethodName)) ∈ lw_tbl := lw_at lw_m6 162 rfl
theorem q1470 : (Jvm.Cond.instanceMethod ({ cls := "PartedSideModel", name := "keepsRow", desc := "()V" } : Jvm.MethodName)) ∈ lw_all := lw_g (lw_at lw_m6 163 rfl) rfl
theorem q1471 : (Jvm.Cond.code ({ cls := "PartedSideModel", name := "keepsRow", desc := "()V" } : Jvm.MethodName) prog_21_method_43_code (2 : Nat) (Option.none : Option Jvm.ClassFile.FieldType)) ∈ lw_all := lw_g (lw_at lw_m6 164 rfl) rfl
theorem q1472 : (Jvm.Cond.fieldLink "PartedSideModel" (13 : Nat) "PartedSideModel" "tape" "[B") ∈ lw_all := lw_g (lw_at lw_m6 165 rfl) rfl
theorem q1473 : (Jvm.Cond.fieldLink "PartedSideModel" (163 : Nat) "PartedSideModel" "taped" "I") ∈ lw_all := lw_g (lw_at lw_m6 166 rfl) rfl
theorem q1474 : (Jvm.Cond.fieldLink "PartedSideModel" (17 : Nat) "PartedSideModel" "text" "[B") ∈ lw_all := lw_g (lw_at lw_m6 167 rfl) rfl
theorem q1475 : (Jvm.Cond.fieldLink "PartedSideModel" (169 : Nat) "PartedSideModel" "size" "I") ∈ lw_all := lw_g (lw_at lw_m6 168 rfl) rfl
theorem q1476 : (Jvm.Cond.fieldLink "PartedSideModel" (20 : Nat) "PartedSideModel" "tKind" "[I") ∈ lw_all := lw_g (lw_at lw_m6 169 rfl) rfl
theorem q1477 : (Jvm.Cond.fieldLink "PartedSideModel" (24 : Nat) "PartedSideModel" "tPlace" "[I") ∈ lw_all := lw_g (lw_at lw_m6 170 rfl) rfl
theorem q1478 : (Jvm.Cond.fieldLink "PartedSideModel" (27 : Nat) "PartedSideModel" "tValue" "[I") ∈ lw_all := lw_g (lw_at lw_m6 171 rfl) rfl
theorem q1479 : (Jvm.Cond.fieldLink "PartedSideModel" (30 : Nat) "PartedSideModel" "tName" "[J") ∈ lw_all := lw_g (lw_at lw_m6 172 rfl) rfl
theorem q1480 : (Jvm.Cond.fieldLink "PartedSideModel" (34 : Nat) "PartedSideModel" "keys" "[J") ∈ lw_all := lw_g (lw_at lw_m6 173 rfl) rfl
theorem q1481 : (Jvm.Cond.fieldLink "PartedSideModel" (178 : Nat) "PartedSideModel" "tokens" "I") ∈ lw_all := lw_g (lw_at lw_m6 174 rfl) rfl
theorem q1482 : (Jvm.Cond.fieldLink "PartedSideModel" (203 : Nat) "PartedSideModel" "t" "I") ∈ lw_all := lw_g (lw_at lw_m6 175 rfl) rfl
theorem q1483 : (Jvm.Cond.fieldLink "PartedSideModel" (227 : Nat) "PartedSideModel" "open" "I") ∈ lw_all := lw_g (lw_at lw_m6 176 rfl) rfl
theorem q1484 : (Jvm.Cond.fieldLink "PartedSideModel" (200 : Nat) "PartedSideModel" "fault" "I") ∈ lw_all := lw_g (lw_at lw_m6 177 rfl) rfl
theorem q1485 : (Jvm.Cond.fieldLink "PartedSideModel" (206 : Nat) "PartedSideModel" "faultPlace" "I") ∈ lw_all := lw_g (lw_at lw_m6 178 rfl) rfl
theorem q1486 : (Jvm.Cond.fieldLink "PartedSideModel" (209 : Nat) "PartedSideModel" "worstSo" "I") ∈ lw_all := lw_g (lw_at lw_m6 179 rfl) rfl
theorem q1487 : (Jvm.Cond.fieldLink "PartedSideModel" (212 : Nat) "PartedSideModel" "worstPlace" "I") ∈ lw_all := lw_g (lw_at lw_m6 180 rfl) rfl
theorem q1488 : (Jvm.Cond.fieldLink "PartedSideModel" (37 : Nat) "PartedSideModel" "place" "I") ∈ lw_all := lw_g (lw_at lw_m6 181 rfl) rfl
theorem q1489 : (Jvm.Cond.fieldLink "PartedSideModel" (230 : Nat) "PartedSideModel" "live" "I") ∈ lw_all := lw_g (lw_at lw_m6 182 rfl) rfl
theorem q1490 : (Jvm.Cond.fieldLink "PartedSideModel" (233 : Nat) "PartedSideModel" "side" "I") ∈ lw_all := lw_g (lw_at lw_m6 183 rfl) rfl
theorem q1491 : (Jvm.Cond.fieldLink "PartedSideModel" (236 : Nat) "PartedSideModel" "names" "I") ∈ lw_all := lw_g (lw_at lw_m6 184 rfl) rfl
theorem q1492 : (Jvm.Cond.fieldLink "PartedSideModel" (40 : Nat) "PartedSideModel" "nameOf" "[J") ∈ lw_all := lw_g (lw_at lw_m6 185 rfl) rfl
theorem q1493 : (Jvm.Cond.fieldLink "PartedSideModel" (43 : Nat) "PartedSideModel" "sleepers" "[I") ∈ lw_all := lw_g (lw_at lw_m6 186 rfl) rfl
theorem q1494 : (Jvm.Cond.fieldLink "PartedSideModel" (46 : Nat) "PartedSideModel" "leftTold" "[I") ∈ lw_all := lw_g (lw_at lw_m6 187 rfl) rfl
theorem q1495 : (Jvm.Cond.fieldLink "PartedSideModel" (49 : Nat) "PartedSideModel" "habitTold" "[I") ∈ lw_all := lw_g (lw_at lw_m6 188 rfl) rfl
theorem q1496 : (Jvm.Cond.fieldLink "PartedSideModel" (52 : Nat) "PartedSideModel" "coldOf" "[I") ∈ lw_all := lw_g (lw_at lw_m6 189 rfl) rfl
theorem q1497 : (Jvm.Cond.fieldLink "PartedSideModel" (55 : Nat) "PartedSideModel" "colds" "[I") ∈ lw_all := lw_g (lw_at lw_m6 190 rfl) rfl
theorem q1498 : (Jvm.Cond.fieldLink "PartedSideModel" (58 : Nat) "PartedSideModel" "hasCold" "[Z") ∈ lw_all := lw_g (lw_at lw_m6 191 rfl) rfl
theorem q1499 : (Jvm.Cond.fieldLink "PartedSideModel" (62 : Nat) "PartedSideModel" "ring" "[I") ∈ lw_all := lw_g (lw_at lw_m6 192 rfl) rfl
theorem q1500 : (Jvm.Cond.fieldLink "PartedSideModel" (65 : Nat) "PartedSideModel" "startsAt" "[I") ∈ lw_all := lw_g (lw_at lw_m6 193 rfl) rfl
theorem q1501 : (Jvm.Cond.fieldLink "PartedSideModel" (68 : Nat) "PartedSideModel" "seed" "[I") ∈ lw_all := lw_g (lw_at lw_m6 194 rfl) rfl
theorem q1502 : (Jvm.Cond.fieldLink "PartedSideModel" (71 : Nat) "PartedSideModel" "lawFirst" "[I") ∈ lw_all := lw_g (lw_at lw_m6 195 rfl) rfl
theorem q1503 : (Jvm.Cond.fieldLink "PartedSideModel" (74 : Nat) "PartedSideModel" "lawLast" "[I") ∈ lw_all := lw_g (lw_at lw_m6 196 rfl) rfl
theorem q1504 : (Jvm.Cond.fieldLink "PartedSideModel" (239 : Nat) "PartedSideModel" "branches" "I") ∈ lw_all := lw_g (lw_at lw_m6 197 rfl) rfl
theorem q1505 : (Jvm.Cond.fieldLink "PartedSideModel" (77 : Nat) "PartedSideModel" "hasTest" "[Z") ∈ lw_all := lw_g (lw_at lw_m6 198 rfl) rfl
theorem q1506 : (Jvm.Cond.fieldLink "PartedSideModel" (80 : Nat) "PartedSideModel" "testFrom" "[I") ∈ lw_all := lw_g (lw_at lw_m6 199 rfl) rfl
theorem q1507 : (Jvm.Cond.fieldLink "PartedSideModel" (83 : Nat) "PartedSideModel" "testMid" "[I") ∈ lw_all := lw_g (lw_at lw_m6 200 rfl) rfl
theorem q1508 : (Jvm.Cond.fieldLink "PartedSideModel" (86 : Nat) "PartedSideModel" "testTo" "[I") ∈ lw_all := lw_g (lw_at lw_m6 201 rfl) rfl
theorem q1509 : (Jvm.Cond.fieldLink "PartedSideModel" (89 : Nat) "PartedSideModel" "termTo" "[I") ∈ lw_all := lw_g (lw_at lw_m6 202 rfl) rfl
theorem q1510 : (Jvm.Cond.fieldLink "PartedSideModel" (242 : Nat) "PartedSideModel" "codes" "I") ∈ lw_all := lw_g (lw_at lw_m6 203 rfl) rfl
theorem q1511 : (Jvm.Cond.fieldLink "PartedSideModel" (92 : Nat) "PartedSideModel" "code" "[I") ∈ lw_all := lw_g (lw_at lw_m6 204 rfl) rfl
theorem q1512 : (Jvm.Cond.fieldLink "PartedSideModel" (95 : Nat) "PartedSideModel" "codeInt" "[I") ∈ lw_all := lw_g (lw_at lw_m6 205 rfl) rfl
theorem q1513 : (Jvm.Cond.fieldLink "PartedSideModel" (98 : Nat) "PartedSideModel" "waits" "[I") ∈ lw_all := lw_g (lw_at lw_m6 206 rfl) rfl
theorem q1514 : (Jvm.Cond.fieldLink "PartedSideModel" (287 : Nat) "PartedSideModel" "waiting" "I") ∈ lw_all := lw_g (lw_at lw_m6 207 rfl) rfl
theorem q1515 : (Jvm.Cond.fieldLink "PartedSideModel" (101 : Nat) "PartedSideModel" "variables" "[I") ∈ lw_all := lw_g (lw_at lw_m6 208 rfl) rfl
theorem q1516 : (Jvm.Cond.fieldLink "PartedSideModel" (104 : Nat) "PartedSideModel" "pile" "[I") ∈ lw_all := lw_g (lw_at lw_m6 209 rfl) rfl
theorem q1517 : (Jvm.Cond.fieldLink "PartedSideModel" (300 : Nat) "PartedSideModel" "isBroken" "Z") ∈ lw_all := lw_g (lw_at lw_m6 210 rfl) rfl
theorem q1518 : (Jvm.Cond.fieldLink "PartedSideModel" (107 : Nat) "PartedSideModel" "now" "[I") ∈ lw_all := lw_g (lw_at lw_m6 211 rfl) rfl
theorem q1519 : (Jvm.Cond.fieldLink "PartedSideModel" (110 : Nat) "PartedSideModel" "row" "[I") ∈ lw_all := lw_g (lw_at lw_m6 212 rfl) rfl
theorem q1520 : (Jvm.Cond.fieldLink "PartedSideModel" (315 : Nat) "PartedSideModel" "lots" "I") ∈ lw_all := lw_g (lw_at lw_m6 213 rfl) rfl
theorem q1521 : (Jvm.Cond.fieldLink "PartedSideModel" (318 : Nat) "PartedSideModel" "isStill" "Z") ∈ lw_all := lw_g (lw_at lw_m6 214 rfl) rfl
theorem q1522 : (Jvm.Cond.fieldLink "PartedSideModel" (113 : Nat) "PartedSideModel" "leftNext" "[I") ∈ lw_all := lw_g (lw_at lw_m6 215 rfl) rfl
theorem q1523 : (Jvm.Cond.fieldLink "PartedSideModel" (116 : Nat) "PartedSideModel" "partingNext" "[I") ∈ lw_all := lw_g (lw_at lw_m6 216 rfl) rfl
theorem q1524 : (Jvm.Cond.fieldLink "PartedSideModel" (256 : Nat) "PartedSideModel" "undos" "I") ∈ lw_all := lw_g (lw_at lw_m6 217 rfl) rfl
theorem q1525 : (Jvm.Cond.fieldLink "PartedSideModel" (119 : Nat) "PartedSideModel" "history" "[I") ∈ lw_all := lw_g (lw_at lw_m6 218 rfl) rfl
theorem q1526 : (Jvm.Cond.fieldLink "PartedSideModel" (122 : Nat) "PartedSideModel" "costsBy" "[I") ∈ lw_all := lw_g (lw_at lw_m6 219 rfl) rfl
theorem q1527 : (Jvm.Cond.fieldLink "PartedSideModel" (125 : Nat) "PartedSideModel" "isLed" "[Z") ∈ lw_all := lw_g (lw_at lw_m6 220 rfl) rfl
theorem q1528 : (Jvm.Cond.fieldLink "PartedSideModel" (128 : Nat) "PartedSideModel" "leftBy" "[I") ∈ lw_all := lw_g (lw_at lw_m6 221 rfl) rfl
theorem q1529 : (Jvm.Cond.fieldLink "PartedSideModel" (259 : Nat) "PartedSideModel" "tolds" "I") ∈ lw_all := lw_g (lw_at lw_m6 222 rfl) rfl
theorem q1530 : (Jvm.Cond.fieldLink "PartedSideModel" (131 : Nat) "PartedSideModel" "toldBed" "[I") ∈ lw_all := lw_g (lw_at lw_m6 223 rfl) rfl
theorem q1531 : (Jvm.Cond.fieldLink "PartedSideModel" (134 : Nat) "PartedSideModel" "toldHours" "[I") ∈ lw_all := lw_g (lw_at lw_m6 224 rfl) rfl
theorem q1532 : (Jvm.Cond.fieldLink "PartedSideModel" (137 : Nat) "PartedSideModel" "toldLeft" "[I") ∈ lw_all := lw_g (lw_at lw_m6 225 rfl) rfl
theorem q1533 : (Jvm.Cond.fieldLink "PartedSideModel" (140 : Nat) "PartedSideModel" "isSo" "[Z") ∈ lw_all := lw_g (lw_at lw_m6 226 rfl) rfl
theorem q1534 : (Jvm.Cond.fieldLink "PartedSideModel" (143 : Nat) "PartedSideModel" "isHeld" "[Z") ∈ lw_all := lw_g (lw_at lw_m6 227 rfl) rfl
theorem q1535 : (Jvm.Cond.fieldLink "PartedSideModel" (146 : Nat) "PartedSideModel" "heldRows" "[I") ∈ lw_all := lw_g (lw_at lw_m6 228 rfl) rfl
theorem q1536 : (Jvm.Cond.lays "PartedSideModel" "PartedSideModel" "thrown" "I") ∈ lw_all := lw_g (lw_at lw_m6 229 rfl) rfl
theorem q1537 : (Jvm.Cond.soleField "PartedSideModel" "thrown") ∈ lw_all := lw_g (lw_at lw_m6 230 rfl) rfl
theorem q1538 : (Jvm.Cond.laysFinal "PartedSideModel" "PartedSideModel" "tape" "[B") ∈ lw_all := lw_g (lw_at lw_m6 231 rfl) rfl
theorem q1539 : (Jvm.Cond.soleField "PartedSideModel" "tape") ∈ lw_all := lw_g (lw_at lw_m6 232 rfl) rfl
theorem q1540 : (Jvm.Cond.lays "PartedSideModel" "PartedSideModel" "taped" "I") ∈ lw_all := lw_g (lw_at lw_m6 233 rfl) rfl
theorem q1541 : (Jvm.Cond.soleField "PartedSideModel" "taped") ∈ lw_all := lw_g (lw_at lw_m6 234 rfl) rfl
theorem q1542 : (Jvm.Cond.laysFinal "PartedSideModel" "PartedSideModel" "text" "[B") ∈ lw_all := lw_g (lw_at lw_m6 235 rfl) rfl
theorem q1543 : (Jvm.Cond.soleField "PartedSideModel" "text") ∈ lw_all := lw_g (lw_at lw_m6 236 rfl) rfl
theorem q1544 : (Jvm.Cond.lays "PartedSideModel" "PartedSideModel" "size" "I") ∈ lw_all := lw_g (lw_at lw_m6 237 rfl) rfl
theorem q1545 : (Jvm.Cond.soleField "PartedSideModel" "size") ∈ lw_all := lw_g (lw_at lw_m6 238 rfl) rfl
theorem q1546 : (Jvm.Cond.laysFinal "PartedSideModel" "PartedSideModel" "tKind" "[I") ∈ lw_all := lw_g (lw_at lw_m6 239 rfl) rfl
theorem q1547 : (Jvm.Cond.soleField "PartedSideModel" "tKind") ∈ lw_all := lw_g (lw_at lw_m7 0 rfl) rfl
theorem q1548 : (Jvm.Cond.laysFinal "PartedSideModel" "PartedSideModel" "tPlace" "[I") ∈ lw_all := lw_g (lw_at lw_m7 1 rfl) rfl
theorem q1549 : (Jvm.Cond.soleField "PartedSideModel" "tPlace") ∈ lw_all := lw_g (lw_at lw_m7 2 rfl) rfl
theorem q1550 : (Jvm.Cond.laysFinal "PartedSideModel" "PartedSideModel" "tValue" "[I") ∈ lw_all := lw_g (lw_at lw_m7 3 rfl) rfl
theorem q1551 : (Jvm.Cond.soleField "PartedSideModel" "tValue") ∈ lw_all := lw_g (lw_at lw_m7 4 rfl) rfl
theorem q1552 : (Jvm.Cond.laysFinal "PartedSideModel" "PartedSideModel" "tName" "[J") ∈ lw_all := lw_g (lw_at lw_m7 5 rfl) rfl
theorem q1553 : (Jvm.Cond.soleField "PartedSideModel" "tName") ∈ lw_all := lw_g (lw_at lw_m7 6 rfl) rfl
theorem q1554 : (Jvm.Cond.laysFinal "PartedSideModel" "PartedSideModel" "keys" "[J") ∈ lw_all := lw_g (lw_at lw_m7 7 rfl) rfl
theorem q1555 : (Jvm.Cond.soleField "PartedSideModel" "keys") ∈ lw_all := lw_g (lw_at lw_m7 8 rfl) rfl
theorem q1556 : (Jvm.Cond.lays "PartedSideModel" "PartedSideModel" "tokens" "I") ∈ lw_all := lw_g (lw_at lw_m7 9 rfl) rfl
theorem q1557 : (Jvm.Cond.soleField "PartedSideModel" "tokens") ∈ lw_all := lw_g (lw_at lw_m7 10 rfl) rfl
theorem q1558 : (Jvm.Cond.lays "PartedSideModel" "PartedSideModel" "t" "I") ∈ lw_all := lw_g (lw_at lw_m7 11 rfl) rfl
theorem q1559 : (Jvm.Cond.soleField "PartedSideModel" "t") ∈ lw_all := lw_g (lw_at lw_m7 12 rfl) rfl
theorem q1560 : (Jvm.Cond.lays "PartedSideModel" "PartedSideModel" "open" "I") ∈ lw_all := lw_g (lw_at lw_m7 13 rfl) rfl
theorem q1561 : (Jvm.Cond.soleField "PartedSideModel" "open") ∈ lw_all := lw_g (lw_at lw_m7 14 rfl) rfl
theorem q1562 : (Jvm.Cond.lays "PartedSideModel" "PartedSideModel" "fault" "I") ∈ lw_all := lw_g (lw_at lw_m7 15 rfl) rfl
theorem q1563 : (Jvm.Cond.soleField "PartedSideModel" "fault") ∈ lw_all := lw_g (lw_at lw_m7 16 rfl) rfl
theorem q1564 : (Jvm.Cond.lays "PartedSideModel" "PartedSideModel" "faultPlace" "I") ∈ lw_all := lw_g (lw_at lw_m7 17 rfl) rfl
theorem q1565 : (Jvm.Cond.soleField "PartedSideModel" "faultPlace") ∈ lw_all := lw_g (lw_at lw_m7 18 rfl) rfl
theorem q1566 : (Jvm.Cond.lays "PartedSideModel" "PartedSideModel" "worstSo" "I") ∈ lw_all := lw_g (lw_at lw_m7 19 rfl) rfl
theorem q1567 : (Jvm.Cond.soleField "PartedSideModel" "worstSo") ∈ lw_all := lw_g (lw_at lw_m7 20 rfl) rfl
theorem q1568 : (Jvm.Cond.lays "PartedSideModel" "PartedSideModel" "worstPlace" "I") ∈ lw_all := lw_g (lw_at lw_m7 21 rfl) rfl
theorem q1569 : (Jvm.Cond.soleField "PartedSideModel" "worstPlace") ∈ lw_all := lw_g (lw_at lw_m7 22 rfl) rfl
theorem q1570 : (Jvm.Cond.lays "PartedSideModel" "PartedSideModel" "place" "I") ∈ lw_all := lw_g (lw_at lw_m7 23 rfl) rfl
theorem q1571 : (Jvm.Cond.soleField "PartedSideModel" "place") ∈ lw_all := lw_g (lw_at lw_m7 24 rfl) rfl
theorem q1572 : (Jvm.Cond.lays "PartedSideModel" "PartedSideModel" "live" "I") ∈ lw_all := lw_g (lw_at lw_m7 25 rfl) rfl
theorem q1573 : (Jvm.Cond.soleField "PartedSideModel" "live") ∈ lw_all := lw_g (lw_at lw_m7 26 rfl) rfl
theorem q1574 : (Jvm.Cond.lays "PartedSideModel" "PartedSideModel" "side" "I") ∈ lw_all := lw_g (lw_at lw_m7 27 rfl) rfl
theorem q1575 : (Jvm.Cond.soleField "PartedSideModel" "side") ∈ lw_all := lw_g (lw_at lw_m7 28 rfl) rfl
theorem q1576 : (Jvm.Cond.lays "PartedSideModel" "PartedSideModel" "names" "I") ∈ lw_all := lw_g (lw_at lw_m7 29 rfl) rfl
theorem q1577 : (Jvm.Cond.soleField "PartedSideModel" "names") ∈ lw_all := lw_g (lw_at lw_m7 30 rfl) rfl
theorem q1578 : (Jvm.Cond.laysFinal "PartedSideModel" "PartedSideModel" "nameOf" "[J") ∈ lw_all := lw_g (lw_at lw_m7 31 rfl) rfl
theorem q1579 : (Jvm.Cond.soleField "PartedSideModel" "nameOf") ∈ lw_all := lw_g (lw_at lw_m7 32 rfl) rfl
theorem q1580 : (Jvm.Cond.laysFinal "PartedSideModel" "PartedSideModel" "sleepers" "[I") ∈ lw_all := lw_g (lw_at lw_m7 33 rfl) rfl
theorem q1581 : (Jvm.Cond.soleField "PartedSideModel" "sleepers") ∈ lw_all := lw_g (lw_at lw_m7 34 rfl) rfl
theorem q1582 : (Jvm.Cond.laysFinal "PartedSideModel" "PartedSideModel" "leftTold" "[I") ∈ lw_all := lw_g (lw_at lw_m7 35 rfl) rfl
theorem q1583 : (Jvm.Cond.soleField "PartedSideModel" "leftTold") ∈ lw_all := lw_g (lw_at lw_m7 36 rfl) rfl
theorem q1584 : (Jvm.Cond.laysFinal "PartedSideModel" "PartedSideModel" "habitTold" "[I") ∈ lw_all := lw_g (lw_at lw_m7 37 rfl) rfl
theorem q1585 : (Jvm.Cond.soleField "PartedSideModel" "habitTold") ∈ lw_all := lw_g (lw_at lw_m7 38 rfl) rfl
theorem q1586 : (Jvm.Cond.laysFinal "PartedSideModel" "PartedSideModel" "coldOf" "[I") ∈ lw_all := lw_g (lw_at lw_m7 39 rfl) rfl
theorem q1587 : (Jvm.Cond.soleField "PartedSideModel" "coldOf") ∈ lw_all := lw_g (lw_at lw_m7 40 rfl) rfl
theorem q1588 : (Jvm.Cond.laysFinal "PartedSideModel" "PartedSideModel" "colds" "[I") ∈ lw_all := lw_g (lw_at lw_m7 41 rfl) rfl
theorem q1589 : (Jvm.Cond.soleField "PartedSideModel" "colds") ∈ lw_all := lw_g (lw_at lw_m7 42 rfl) rfl
theorem q1590 : (Jvm.Cond.laysFinal "PartedSideModel" "PartedSideModel" "hasCold" "[Z") ∈ lw_all := lw_g (lw_at lw_m7 43 rfl) rfl
theorem q1591 : (Jvm.Cond.soleField "PartedSideModel" "hasCold") ∈ lw_all := lw_g (lw_at lw_m7 44 rfl) rfl
theorem q1592 : (Jvm.Cond.laysFinal "PartedSideModel" "PartedSideModel" "ring" "[I") ∈ lw_all := lw_g (lw_at lw_m7 45 rfl) rfl
theorem q1593 : (Jvm.Cond.soleField "PartedSideModel" "ring") ∈ lw_all := lw_g (lw_at lw_m7 46 rfl) rfl
theorem q1594 : (Jvm.Cond.laysFinal "PartedSideModel" "PartedSideModel" "startsAt" "[I") ∈ lw_all := lw_g (lw_at lw_m7 47 rfl) rfl
theorem q1595 : (Jvm.Cond.soleField "PartedSideModel" "startsAt") ∈ lw_all := lw_g (lw_at lw_m7 48 rfl) rfl
theorem q1596 : (Jvm.Cond.laysFinal "PartedSideModel" "PartedSideModel" "seed" "[I") ∈ lw_all := lw_g (lw_at lw_m7 49 rfl) rfl
theorem q1597 : (Jvm.Cond.soleField "PartedSideModel" "seed") ∈ lw_all := lw_g (lw_at lw_m7 50 rfl) rfl
theorem q1598 : (Jvm.Cond.laysFinal "PartedSideModel" "PartedSideModel" "lawFirst" "[I") ∈ lw_all := lw_g (lw_at lw_m7 51 rfl) rfl
theorem q1599 : (Jvm.Cond.soleField "PartedSideModel" "lawFirst") ∈ lw_all := lw_g (lw_at lw_m7 52 rfl) rfl
theorem q1600 : (Jvm.Cond.laysFinal "PartedSideModel" "PartedSideModel" "lawLast" "[I") ∈ lw_all := lw_g (lw_at lw_m7 53 rfl) rfl
theorem q1601 : (Jvm.Cond.soleField "PartedSideModel" "lawLast") ∈ lw_all := lw_g (lw_at lw_m7 54 rfl) rfl
theorem q1602 : (Jvm.Cond.lays "PartedSideModel" "PartedSideModel" "branches" "I") ∈ lw_all := lw_g (lw_at lw_m7 55 rfl) rfl
theorem q1603 : (Jvm.Cond.soleField "PartedSideModel" "branches") ∈ lw_all := lw_g (lw_at lw_m7 56 rfl) rfl
theorem q1604 : (Jvm.Cond.laysFinal "PartedSideModel" "PartedSideModel" "hasTest" "[Z") ∈ lw_all := lw_g (lw_at lw_m7 57 rfl) rfl
theorem q1605 : (Jvm.Cond.soleField "PartedSideModel" "hasTest") ∈ lw_all := lw_g (lw_at lw_m7 58 rfl) rfl
theorem q1606 : (Jvm.Cond.laysFinal "PartedSideModel" "PartedSideModel" "testFrom" "[I") ∈ lw_all := lw_g (lw_at lw_m7 59 rfl) rfl
theorem q1607 : (Jvm.Cond.soleField "PartedSideModel" "testFrom") ∈ lw_all := lw_g (lw_at lw_m7 60 rfl) rfl
theorem q1608 : (Jvm.Cond.laysFinal "PartedSideModel" "PartedSideModel" "testMid" "[I") ∈ lw_all := lw_g (lw_at lw_m7 61 rfl) rfl
theorem q1609 : (Jvm.Cond.soleField "PartedSideModel" "testMid") ∈ lw_all := lw_g (lw_at lw_m7 62 rfl) rfl
theorem q1610 : (Jvm.Cond.laysFinal "PartedSideModel" "PartedSideModel" "testTo" "[I") ∈ lw_all := lw_g (lw_at lw_m7 63 rfl) rfl
theorem q1611 : (Jvm.Cond.soleField "PartedSideModel" "testTo") ∈ lw_all := lw_g (lw_at lw_m7 64 rfl) rfl
theorem q1612 : (Jvm.Cond.laysFinal "PartedSideModel" "PartedSideModel" "termTo" "[I") ∈ lw_all := lw_g (lw_at lw_m7 65 rfl) rfl
theorem q1613 : (Jvm.Cond.soleField "PartedSideModel" "termTo") ∈ lw_all := lw_g (lw_at lw_m7 66 rfl) rfl
theorem q1614 : (Jvm.Cond.lays "PartedSideModel" "PartedSideModel" "codes" "I") ∈ lw_all := lw_g (lw_at lw_m7 67 rfl) rfl
theorem q1615 : (Jvm.Cond.soleField "PartedSideModel" "codes") ∈ lw_all := lw_g (lw_at lw_m7 68 rfl) rfl
theorem q1616 : (Jvm.Cond.laysFinal "PartedSideModel" "PartedSideModel" "code" "[I") ∈ lw_all := lw_g (lw_at lw_m7 69 rfl) rfl
theorem q1617 : (Jvm.Cond.soleField "PartedSideModel" "code") ∈ lw_all := lw_g (lw_at lw_m7 70 rfl) rfl
theorem q1618 : (Jvm.Cond.laysFinal "PartedSideModel" "PartedSideModel" "codeInt" "[I") ∈ lw_all := lw_g (lw_at lw_m7 71 rfl) rfl
theorem q1619 : (Jvm.Cond.soleField "PartedSideModel" "codeInt") ∈ lw_all := lw_g (lw_at lw_m7 72 rfl) rfl
theorem q1620 : (Jvm.Cond.laysFinal "PartedSideModel" "PartedSideModel" "waits" "[I") ∈ lw_all := lw_g (lw_at lw_m7 73 rfl) rfl
theorem q1621 : (Jvm.Cond.soleField "PartedSideModel" "waits") ∈ lw_all := lw_g (lw_at lw_m7 74 rfl) rfl
theorem q1622 : (Jvm.Cond.lays "PartedSideModel" "PartedSideModel" "waiting" "I") ∈ lw_all := lw_g (lw_at lw_m7 75 rfl) rfl
theorem q1623 : (Jvm.Cond.soleField "PartedSideModel" "waiting") ∈ lw_all := lw_g (lw_at lw_m7 76 rfl) rfl
theorem q1624 : (Jvm.Cond.laysFinal "PartedSideModel" "PartedSideModel" "variables" "[I") ∈ lw_all := lw_g (lw_at lw_m7 77 rfl) rfl
theorem q1625 : (Jvm.Cond.soleField "PartedSideModel" "variables") ∈ lw_all := lw_g (lw_at lw_m7 78 rfl) rfl
theorem q1626 : (Jvm.Cond.laysFinal "PartedSideModel" "PartedSideModel" "pile" "[I") ∈ lw_all := lw_g (lw_at lw_m7 79 rfl) rfl
theorem q1627 : (Jvm.Cond.soleField "PartedSideModel" "pile") ∈ lw_all := lw_g (lw_at lw_m7 80 rfl) rfl
theorem q1628 : (Jvm.Cond.lays "PartedSideModel" "PartedSideModel" "isBroken" "Z") ∈ lw_all := lw_g (lw_at lw_m7 81 rfl) rfl
theorem q1629 : (Jvm.Cond.soleField "PartedSideModel" "isBroken") ∈ lw_all := lw_g (lw_at lw_m7 82 rfl) rfl
theorem q1630 : (Jvm.Cond.laysFinal "PartedSideModel" "PartedSideModel" "now" "[I") ∈ lw_all := lw_g (lw_at lw_m7 83 rfl) rfl
theorem q1631 : (Jvm.Cond.soleField "PartedSideModel" "now") ∈ lw_all := lw_g (lw_at lw_m7 84 rfl) rfl
theorem q1632 : (Jvm.Cond.laysFinal "PartedSideModel" "PartedSideModel" "row" "[I") ∈ lw_all := lw_g (lw_at lw_m7 85 rfl) rfl
theorem q1633 : (Jvm.Cond.soleField "PartedSideModel" "row") ∈ lw_all := lw_g (lw_at lw_m7 86 rfl) rfl
theorem q1634 : (Jvm.Cond.lays "PartedSideModel" "PartedSideModel" "lots" "I") ∈ lw_all := lw_g (lw_at lw_m7 87 rfl) rfl
theorem q1635 : (Jvm.Cond.soleField "PartedSideModel" "lots") ∈ lw_all := lw_g (lw_at lw_m7 88 rfl) rfl
theorem q1636 : (Jvm.Cond.lays "PartedSideModel" "PartedSideModel" "isStill" "Z") ∈ lw_all := lw_g (lw_at lw_m7 89 rfl) rfl
theorem q1637 : (Jvm.Cond.soleField "PartedSideModel" "isStill") ∈ lw_all := lw_g (lw_at lw_m7 90 rfl) rfl
theorem q1638 : (Jvm.Cond.laysFinal "PartedSideModel" "PartedSideModel" "leftNext" "[I") ∈ lw_all := lw_g (lw_at lw_m7 91 rfl) rfl
theorem q1639 : (Jvm.Cond.soleField "PartedSideModel" "leftNext") ∈ lw_all := lw_g (lw_at lw_m7 92 rfl) rfl
theorem q1640 : (Jvm.Cond.laysFinal "PartedSideModel" "PartedSideModel" "partingNext" "[I") ∈ lw_all := lw_g (lw_at lw_m7 93 rfl) rfl
theorem q1641 : (Jvm.Cond.soleField "PartedSideModel" "partingNext") ∈ lw_all := lw_g (lw_at lw_m7 94 rfl) rfl
theorem q1642 : (Jvm.Cond.lays "PartedSideModel" "PartedSideModel" "undos" "I") ∈ lw_all := lw_g (lw_at lw_m7 95 rfl) rfl
theorem q1643 : (Jvm.Cond.soleField "PartedSideModel" "undos") ∈ lw_all := lw_g (lw_at lw_m7 96 rfl) rfl
theorem q1644 : (Jvm.Cond.laysFinal "PartedSideModel" "PartedSideModel" "history" "[I") ∈ lw_all := lw_g (lw_at lw_m7 97 rfl) rfl
theorem q1645 : (Jvm.Cond.soleField "PartedSideModel" "history") ∈ lw_all := lw_g (lw_at lw_m7 98 rfl) rfl
theorem q1646 : (Jvm.Cond.laysFinal "PartedSideModel" "PartedSideModel" "costsBy" "[I") ∈ lw_all := lw_g (lw_at lw_m7 99 rfl) rfl
theorem q1647 : (Jvm.Cond.soleField "PartedSideModel" "costsBy") ∈ lw_all := lw_g (lw_at lw_m7 100 rfl) rfl
theorem q1648 : (Jvm.Cond.laysFinal "PartedSideModel" "PartedSideModel" "isLed" "[Z") ∈ lw_all := lw_g (lw_at lw_m7 101 rfl) rfl
theorem q1649 : (Jvm.Cond.soleField "PartedSideModel" "isLed") ∈ lw_all := lw_g (lw_at lw_m7 102 rfl) rfl
theorem q1650 : (Jvm.Cond.laysFinal "PartedSideModel" "PartedSideModel" "leftBy" "[I") ∈ lw_all := lw_g (lw_at lw_m7 103 rfl) rfl
theorem q1651 : (Jvm.Cond.soleField "PartedSideModel" "leftBy") ∈ lw_all := lw_g (lw_at lw_m7 104 rfl) rfl
theorem q1652 : (Jvm.Cond.lays "PartedSideModel" "PartedSideModel" "tolds" "I") ∈ lw_all := lw_g (lw_at lw_m7 105 rfl) rfl
theorem q1653 : (Jvm.Cond.soleField "PartedSideModel" "tolds") ∈ lw_all := lw_g (lw_at lw_m7 106 rfl) rfl
theorem q1654 : (Jvm.Cond.laysFinal "PartedSideModel" "PartedSideModel" "toldBed" "[I") ∈ lw_all := lw_g (lw_at lw_m7 107 rfl) rfl
theorem q1655 : (Jvm.Cond.soleField "PartedSideModel" "toldBed") ∈ lw_all := lw_g (lw_at lw_m7 108 rfl) rfl
theorem q1656 : (Jvm.Cond.laysFinal "PartedSideModel" "PartedSideModel" "toldHours" "[I") ∈ lw_all := lw_g (lw_at lw_m7 109 rfl) rfl
theorem q1657 : (Jvm.Cond.soleField "PartedSideModel" "toldHours") ∈ lw_all := lw_g (lw_at lw_m7 110 rfl) rfl
theorem q1658 : (Jvm.Cond.laysFinal "PartedSideModel" "PartedSideModel" "toldLeft" "[I") ∈ lw_all := lw_g (lw_at lw_m7 111 rfl) rfl
theorem q1659 : (Jvm.Cond.soleField "PartedSideModel" "toldLeft") ∈ lw_all := lw_g (lw_at lw_m7 112 rfl) rfl
theorem q1660 : (Jvm.Cond.laysFinal "PartedSideModel" "PartedSideModel" "isSo" "[Z") ∈ lw_all := lw_g (lw_at lw_m7 113 rfl) rfl
theorem q1661 : (Jvm.Cond.soleField "PartedSideModel" "isSo") ∈ lw_all := lw_g (lw_at lw_m7 114 rfl) rfl
theorem q1662 : (Jvm.Cond.laysFinal "PartedSideModel" "PartedSideModel" "isHeld" "[Z") ∈ lw_all := lw_g (lw_at lw_m7 115 rfl) rfl
theorem q1663 : (Jvm.Cond.soleField "PartedSideModel" "isHeld") ∈ lw_all := lw_g (lw_at lw_m7 116 rfl) rfl
theorem q1664 : (Jvm.Cond.laysFinal "PartedSideModel" "PartedSideModel" "heldRows" "[I") ∈ lw_all := lw_g (lw_at lw_m7 117 rfl) rfl
theorem q1665 : (Jvm.Cond.soleField "PartedSideModel" "heldRows") ∈ lw_all := lw_g (lw_at lw_m7 118 rfl) rfl
theorem q1666 : (Jvm.Cond.superclass "PartedSideModel" "java/lang/Object") ∈ lw_all := lw_g (lw_at lw_m7 119 rfl) rfl
theorem q1669 : (Jvm.Cond.instanceMethod ({ cls := "PartedSideModel", name := "feed", desc := "(IIIII)I" } : Jvm.MethodName)) ∈ lw_all := lw_g (lw_at lw_m7 122 rfl) rfl
theorem q1670 : (Jvm.Cond.selects "PartedSideModel" ({ cls := "PartedSideModel", name := "feed", desc := "(IIIII)I" } : Jvm.MethodName) ({ cls := "PartedSideModel", name := "feed", desc := "(IIIII)I" } : Jvm.MethodName)) ∈ lw_all := lw_g (lw_at lw_m7 123 rfl) rfl
theorem q1671 : (Jvm.Cond.code ({ cls := "PartedSideModel", name := "feed", desc := "(IIIII)I" } : Jvm.MethodName) prog_21_method_3_code (6 : Nat) (Option.some Jvm.ClassFile.FieldType.int)) ∈ lw_all := lw_g (lw_at lw_m7 124 rfl) rfl
theorem q1672 : (Jvm.Cond.methodLink "PartedSideModel" (166 : Nat) ({ cls := "PartedSideModel", name := "put", desc := "(I)V" } : Jvm.MethodName)) ∈ lw_all := lw_g (lw_at lw_m7 125 rfl) rfl
theorem q1673 : (Jvm.Cond.privateMethod ({ cls := "PartedSideModel", name := "put", desc := "(I)V" } : Jvm.MethodName)) ∈ lw_tbl := lw_at lw_m7 126 rfl
theorem q1674 : (Jvm.Cond.instanceMethod ({ cls := "PartedSideModel", name := "put", desc := "(I)V" } : Jvm.MethodName)) ∈ lw_all := lw_g (lw_at lw_m7 127 rfl) rfl
theorem q1675 : (Jvm.Cond.code ({ cls := "PartedSideModel", name := "put", desc := "(I)V" } : Jvm.MethodName) prog_21_method_4_code (3 : Nat) (Option.none : Option Jvm.ClassFile.FieldType)) ∈ lw_all := lw_g (lw_at lw_m7 128 rfl) rfl
theorem q1677 : (Jvm.Cond.instanceMethod ({ cls := "PartedSideModel", name := "back", desc := "(I)I" } : Jvm.MethodName)) ∈ lw_all := lw_g (lw_at lw_m7 130 rfl) rfl
theorem q1678 : (Jvm.Cond.selects "PartedSideModel" ({ cls := "PartedSideModel", name := "back", desc := "(I)I" } : Jvm.MethodName) ({ cls := "PartedSideModel", name := "back", desc := "(I)I" } : Jvm.MethodName)) ∈ lw_all := lw_g (lw_at lw_m7 131 rfl) rfl
theorem q1679 : (Jvm.Cond.code ({ cls := "PartedSideModel", name := "back", desc := "(I)I" } : Jvm.MethodName) prog_21_method_5_code (2 : Nat) (Option.some Jvm.ClassFile.FieldType.int)) ∈ lw_all := lw_g (lw_at lw_m7 132 rfl) rfl
theorem q1681 : (Jvm.Cond.instanceMethod ({ cls := "PartedSideModel", name := "read", desc := "()I" } : Jvm.MethodName)) ∈ lw_all := lw_g (lw_at lw_m7 134 rfl) rfl
theorem q1682 : (Jvm.Cond.selects "PartedSideModel" ({ cls := "PartedSideModel", name := "read", desc := "()I" } : Jvm.MethodName) ({ cls := "PartedSideModel", name := "read", desc := "()I" } : Jvm.MethodName)) ∈ lw_all := lw_g (lw_at lw_m7 135 rfl) rfl
theorem q1683 : (Jvm.Cond.code ({ cls := "PartedSideModel", name := "read", desc := "()I" } : Jvm.MethodName) prog_21_method_20_code (2 : Nat) (Option.some Jvm.ClassFile.FieldType.int)) ∈ lw_all := lw_g (lw_at lw_m7 136 rfl) rfl
theorem q1684 : (Jvm.Cond.methodLink "PartedSideModel" (224 : Nat) ({ cls := "PartedSideModel", name := "cut", desc := "()V" } : Jvm.MethodName)) ∈ lw_all := lw_g (lw_at lw_m7 137 rfl) rfl
theorem q1685 : (Jvm.Cond.privateMethod ({ cls := "PartedSideModel", name := "cut", desc := "()V" } : Jvm.MethodName)) ∈ lw_tbl := lw_at lw_m7 138 rfl
theorem q1686 : (Jvm.Cond.instanceMethod ({ cls := "PartedSideModel", name := "cut", desc := "()V" } : Jvm.MethodName)) ∈ lw_all := lw_g (lw_at lw_m7 139 rfl) rfl
theorem q1687 : (Jvm.Cond.code ({ cls := "PartedSideModel", name := "cut", desc := "()V" } : Jvm.MethodName) prog_21_method_12_code (8 : Nat) (Option.none : Option Jvm.ClassFile.FieldType)) ∈ lw_all := lw_g (lw_at lw_m7 140 rfl) rfl
theorem q1688 : (Jvm.Cond.methodLink "PartedSideModel" (181 : Nat) ({ cls := "PartedSideModel", name := "byteAt", desc := "(I)I" } : Jvm.MethodName)) ∈ lw_all := lw_g (lw_at lw_m7 141 rfl) rfl
theorem q1689 : (Jvm.Cond.privateMethod ({ cls := "PartedSideModel", name := "byteAt", desc := "(I)I" } : Jvm.MethodName)) ∈ lw_tbl := lw_at lw_m7 142 rfl
theorem q1690 : (Jvm.Cond.instanceMethod ({ cls := "PartedSideModel", name := "byteAt", desc := "(I)I" } : Jvm.MethodName)) ∈ lw_all := lw_g (lw_at lw_m7 143 rfl) rfl
theorem q1691 : (Jvm.Cond.code ({ cls := "PartedSideModel", name := "byteAt", desc := "(I)I" } : Jvm.MethodName) prog_21_method_6_code (2 : Nat) (Option.some Jvm.ClassFile.FieldType.int)) ∈ lw_all := lw_g (lw_at lw_m7 144 rfl) rfl
theorem q1692 : (Jvm.Cond.methodLink "PartedSideModel" (185 : Nat) ({ cls := "PartedSideModel", name := "token", desc := "(IIIJ)V" } : Jvm.MethodName)) ∈ lw_all := lw_g (lw_at lw_m7 145 rfl) rfl
theorem q1693 : (Jvm.Cond.privateMethod ({ cls := "PartedSideModel", name := "token", desc := "(IIIJ)V" } : Jvm.MethodName)) ∈ lw_tbl := lw_at lw_m7 146 rfl
theorem q1694 : (Jvm.Cond.instanceMethod ({ cls := "PartedSideModel", name := "token", desc := "(IIIJ)V" } : Jvm.MethodName)) ∈ lw_all := lw_g (lw_at lw_m7 147 rfl) rfl
theorem q1695 : (Jvm.Cond.code ({ cls := "PartedSideModel", name := "token", desc := "(IIIJ)V" } : Jvm.MethodName) prog_21_method_11_code (6 : Nat) (Option.none : Option Jvm.ClassFile.FieldType)) ∈ lw_all := lw_g (lw_at lw_m7 148 rfl) rfl
theorem q1696 : (Jvm.Cond.methodLink "PartedSideModel" (189 : Nat) ({ cls := "PartedSideModel", name := "isLetter", desc := "(I)Z" } : Jvm.MethodName)) ∈ lw_all := lw_g (lw_at lw_m7 149 rfl) rfl
theorem q1697 : (Jvm.Cond.static ({ cls := "PartedSideModel", name := "isLetter", desc := "(I)Z" } : Jvm.MethodName)) ∈ lw_all := lw_g (lw_at lw_m7 150 rfl) rfl
theorem q1698 : (Jvm.Cond.code ({ cls := "PartedSideModel", name := "isLetter", desc := "(I)Z" } : Jvm.MethodName) prog_21_method_8_code (1 : Nat) (Option.some Jvm.ClassFile.FieldType.boolean)) ∈ lw_all := lw_g (lw_at lw_m7 151 rfl) rfl
theorem q1699 : (Jvm.Cond.methodLink "PartedSideModel" (193 : Nat) ({ cls := "PartedSideModel", name := "isDigit", desc := "(I)Z" } : Jvm.MethodName)) ∈ lw_all := lw_g (lw_at lw_m7 152 rfl) rfl
theorem q1700 : (Jvm.Cond.static ({ cls := "PartedSideModel", name := "isDigit", desc := "(I)Z" } : Jvm.MethodName)) ∈ lw_all := lw_g (lw_at lw_m7 153 rfl) rfl
theorem q1701 : (Jvm.Cond.code ({ cls := "PartedSideModel", name := "isDigit", desc := "(I)Z" } : Jvm.MethodName) prog_21_method_7_code (1 : Nat) (Option.some Jvm.ClassFile.FieldType.boolean)) ∈ lw_all := lw_g (lw_at lw_m7 154 rfl) rfl
theorem q1702 : (Jvm.Cond.methodLink "PartedSideModel" (196 : Nat) ({ cls := "PartedSideModel", name := "sign", desc := "(III)I" } : Jvm.MethodName)) ∈ lw_all := lw_g (lw_at lw_m7 155 rfl) rfl
theorem q1703 : (Jvm.Cond.privateMethod ({ cls := "PartedSideModel", name := "sign", desc := "(III)I" } : Jvm.MethodName)) ∈ lw_tbl := lw_at lw_m7 156 rfl
theorem q1704 : (Jvm.Cond.instanceMethod ({ cls := "PartedSideModel", name := "sign", desc := "(III)I" } : Jvm.MethodName)) ∈ lw_all := lw_g (lw_at lw_m7 157 rfl) rfl
theorem q1705 : (Jvm.Cond.code ({ cls := "PartedSideModel", name := "sign", desc := "(III)I" } : Jvm.MethodName) prog_21_method_13_code (5 : Nat) (Option.some Jvm.ClassFile.FieldType.int)) ∈ lw_all := lw_g (lw_at lw_m7 158 rfl) rfl
theorem q1706 : (Jvm.Cond.methodLink "PartedSideModel" (218 : Nat) ({ cls := "PartedSideModel", name := "is", desc := "(I)Z" } : Jvm.MethodName)) ∈ lw_all := lw_g (lw_at lw_m7 159 rfl) rfl
theorem q1707 : (Jvm.Cond.privateMethod ({ cls := "PartedSideModel", name := "is", desc := "(I)Z" } : Jvm.MethodName)) ∈ lw_tbl := lw_at lw_m7 160 rfl
theorem q1708 : (Jvm.Cond.instanceMethod ({ cls := "PartedSideModel", name := "is", desc := "(I)Z" } : Jvm.MethodName)) ∈ lw_all := lw_g (lw_at lw_m7 161 rfl) rfl
theorem q1709 : (Jvm.Cond.code ({ cls := "PartedSideModel", name := "is", desc := "(I)Z" } : Jvm.MethodName) prog_21_method_14_code (2 : Nat) (Option.some Jvm.ClassFile.FieldType.boolean)) ∈ lw_all := lw_g (lw_at lw_m7 162 rfl) rfl
theorem q1710 : (Jvm.Cond.methodLink "PartedSideModel" (245 : Nat) ({ cls := "PartedSideModel", name := "tellOne", desc := "()V" } : Jvm.MethodName)) ∈ lw_all := lw_g (lw_at lw_m7 163 rfl) rfl
theorem q1711 : (Jvm.Cond.privateMethod ({ cls := "PartedSideModel", name := "tellOne", desc := "()V" } : Jvm.MethodName)) ∈ lw_tbl := lw_at lw_m7 164 rfl
theorem q1712 : (Jvm.Cond.instanceMethod ({ cls := "PartedSideModel", name := "tellOne", desc := "()V" } : Jvm.MethodName)) ∈ lw_all := lw_g (lw_at lw_m7 165 rfl) rfl
theorem q1713 : (Jvm.Cond.code ({ cls := "PartedSideModel", name := "tellOne", desc := "()V" } : Jvm.MethodName) prog_21_method_25_code (3 : Nat) (Option.none : Option Jvm.ClassFile.FieldType)) ∈ lw_all := lw_g (lw_at lw_m7 166 rfl) rfl
theorem q1714 : (Jvm.Cond.methodLink "PartedSideModel" (269 : Nat) ({ cls := "PartedSideModel", name := "roomFor", desc := "(II)V" } : Jvm.MethodName)) ∈ lw_all := lw_g (lw_at lw_m7 167 rfl) rfl
theorem q1715 : (Jvm.Cond.privateMethod ({ cls := "PartedSideModel", name := "roomFor", desc := "(II)V" } : Jvm.MethodName)) ∈ lw_tbl := lw_at lw_m7 168 rfl
theorem q1716 : (Jvm.Cond.instanceMethod ({ cls := "PartedSideModel", name := "roomFor", desc := "(II)V" } : Jvm.MethodName)) ∈ lw_all := lw_g (lw_at lw_m7 169 rfl) rfl
theorem q1717 : (Jvm.Cond.code ({ cls := "PartedSideModel", name := "roomFor", desc := "(II)V" } : Jvm.MethodName) prog_21_method_23_code (3 : Nat) (Option.none : Option Jvm.ClassFile.FieldType)) ∈ lw_all := lw_g (lw_at lw_m7 170 rfl) rfl
theorem q1718 : (Jvm.Cond.methodLink "PartedSideModel" (215 : Nat) ({ cls := "PartedSideModel", name := "fail", desc := "(I)V" } : Jvm.MethodName)) ∈ lw_all := lw_g (lw_at lw_m7 171 rfl) rfl
theorem q1719 : (Jvm.Cond.privateMethod ({ cls := "PartedSideModel", name := "fail", desc := "(I)V" } : Jvm.MethodName)) ∈ lw_tbl := lw_at lw_m7 172 rfl
theorem q1720 : (Jvm.Cond.instanceMethod ({ cls := "PartedSideModel", name := "fail", desc := "(I)V" } : Jvm.MethodName)) ∈ lw_all := lw_g (lw_at lw_m7 173 rfl) rfl
theorem q1721 : (Jvm.Cond.code ({ cls := "PartedSideModel", name := "fail", desc := "(I)V" } : Jvm.MethodName) prog_21_method_15_code (2 : Nat) (Option.none : Option Jvm.ClassFile.FieldType)) ∈ lw_all := lw_g (lw_at lw_m7 174 rfl) rfl
theorem q1722 : (Jvm.Cond.methodLink "PartedSideModel" (221 : Nat) ({ cls := "PartedSideModel", name := "goesOn", desc := "()V" } : Jvm.MethodName)) ∈ lw_all := lw_g (lw_at lw_m7 175 rfl) rfl
theorem q1723 : (Jvm.Cond.privateMethod ({ cls := "PartedSideModel", name := "goesOn", desc := "()V" } : Jvm.MethodName)) ∈ lw_tbl := lw_at lw_m7 176 rfl
theorem q1724 : (Jvm.Cond.instanceMethod ({ cls := "PartedSideModel", name := "goesOn", desc := "()V" } : Jvm.MethodName)) ∈ lw_all := lw_g (lw_at lw_m7 177 rfl) rfl
theorem q1725 : (Jvm.Cond.code ({ cls := "PartedSideModel", name := "goesOn", desc := "()V" } : Jvm.MethodName) prog_21_method_17_code (1 : Nat) (Option.none : Option Jvm.ClassFile.FieldType)) ∈ lw_all := lw_g (lw_at lw_m7 178 rfl) rfl
theorem q1726 : (Jvm.Cond.methodLink "PartedSideModel" (272 : Nat) ({ cls := "PartedSideModel", name := "tellSleeper", desc := "()V" } : Jvm.MethodName)) ∈ lw_all := lw_g (lw_at lw_m7 179 rfl) rfl
theorem q1727 : (Jvm.Cond.privateMethod ({ cls := "PartedSideModel", name := "tellSleeper", desc := "()V" } : Jvm.MethodName)) ∈ lw_tbl := lw_at lw_m7 180 rfl
theorem q1728 : (Jvm.Cond.instanceMethod ({ cls := "PartedSideModel", name := "tellSleeper", desc := "()V" } : Jvm.MethodName)) ∈ lw_all := lw_g (lw_at lw_m7 181 rfl) rfl
theorem q1729 : (Jvm.Cond.code ({ cls := "PartedSideModel", name := "tellSleeper", desc := "()V" } : Jvm.MethodName) prog_21_method_27_code (4 : Nat) (Option.none : Option Jvm.ClassFile.FieldType)) ∈ lw_all := lw_g (lw_at lw_m7 182 rfl) rfl
theorem q1730 : (Jvm.Cond.methodLink "PartedSideModel" (266 : Nat) ({ cls := "PartedSideModel", name := "must", desc := "(I)V" } : Jvm.MethodName)) ∈ lw_all := lw_g (lw_at lw_m7 183 rfl) rfl
theorem q1731 : (Jvm.Cond.privateMethod ({ cls := "PartedSideModel", name := "must", desc := "(I)V" } : Jvm.MethodName)) ∈ lw_tbl := lw_at lw_m7 184 rfl
theorem q1732 : (Jvm.Cond.instanceMethod ({ cls := "PartedSideModel", name := "must", desc := "(I)V" } : Jvm.MethodName)) ∈ lw_all := lw_g (lw_at lw_m7 185 rfl) rfl
theorem q1733 : (Jvm.Cond.code ({ cls := "PartedSideModel", name := "must", desc := "(I)V" } : Jvm.MethodName) prog_21_method_18_code (2 : Nat) (Option.none : Option Jvm.ClassFile.FieldType)) ∈ lw_all := lw_g (lw_at lw_m7 186 rfl) rfl
theorem q1734 : (Jvm.Cond.methodLink "PartedSideModel" (252 : Nat) ({ cls := "PartedSideModel", name := "wrong", desc := "(II)V" } : Jvm.MethodName)) ∈ lw_all := lw_g (lw_at lw_m7 187 rfl) rfl
theorem q1735 : (Jvm.Cond.privateMethod ({ cls := "PartedSideModel", name := "wrong", desc := "(II)V" } : Jvm.MethodName)) ∈ lw_tbl := lw_at lw_m7 188 rfl
theorem q1736 : (Jvm.Cond.instanceMethod ({ cls := "PartedSideModel", name := "wrong", desc := "(II)V" } : Jvm.MethodName)) ∈ lw_all := lw_g (lw_at lw_m7 189 rfl) rfl
theorem q1737 : (Jvm.Cond.code ({ cls := "PartedSideModel", name := "wrong", desc := "(II)V" } : Jvm.MethodName) prog_21_method_16_code (4 : Nat) (Option.none : Option Jvm.ClassFile.FieldType)) ∈ lw_all := lw_g (lw_at lw_m7 190 rfl) rfl
theorem q1738 : (Jvm.Cond.methodLink "PartedSideModel" (262 : Nat) ({ cls := "PartedSideModel", name := "bounded", desc := "(II)I" } : Jvm.MethodName)) ∈ lw_all := lw_g (lw_at lw_m7 191 rfl) rfl
theorem q1739 : (Jvm.Cond.privateMethod ({ cls := "PartedSideModel", name := "bounded", desc := "(II)I" } : Jvm.MethodName)) ∈ lw_tbl := lw_at lw_m7 192 rfl
theorem q1740 : (Jvm.Cond.instanceMethod ({ cls := "PartedSideModel", name := "bounded", desc := "(II)I" } : Jvm.MethodName)) ∈ lw_all := lw_g (lw_at lw_m7 193 rfl) rfl
theorem q1741 : (Jvm.Cond.code ({ cls := "PartedSideModel", name := "bounded", desc := "(II)I" } : Jvm.MethodName) prog_21_method_26_code (4 : Nat) (Option.some Jvm.ClassFile.FieldType.int)) ∈ lw_all := lw_g (lw_at lw_m7 194 rfl) rfl
theorem q1742 : (Jvm.Cond.methodLink "PartedSideModel" (275 : Nat) ({ cls := "PartedSideModel", name := "toldInt", desc := "(II)I" } : Jvm.MethodName)) ∈ lw_all := lw_g (lw_at lw_m7 195 rfl) rfl
theorem q1743 : (Jvm.Cond.privateMethod ({ cls := "PartedSideModel", name := "toldInt", desc := "(II)I" } : Jvm.MethodName)) ∈ lw_tbl := lw_at lw_m7 196 rfl
theorem q1744 : (Jvm.Cond.instanceMethod ({ cls := "PartedSideModel", name := "toldInt", desc := "(II)I" } : Jvm.MethodName)) ∈ lw_all := lw_g (lw_at lw_m7 197 rfl) rfl
theorem q1745 : (Jvm.Cond.code ({ cls := "PartedSideModel", name := "toldInt", desc := "(II)I" } : Jvm.MethodName) prog_21_method_24_code (4 : Nat) (Option.some Jvm.ClassFile.FieldType.int)) ∈ lw_all := lw_g (lw_at lw_m7 198 rfl) rfl
theorem q1746 : (Jvm.Cond.methodLink "PartedSideModel" (278 : Nat) ({ cls := "PartedSideModel", name := "tellLaw", desc := "(I)V" } : Jvm.MethodName)) ∈ lw_all := lw_g (lw_at lw_m7 199 rfl) rfl
theorem q1747 : (Jvm.Cond.privateMethod ({ cls := "PartedSideModel", name := "tellLaw", desc := "(I)V" } : Jvm.MethodName)) ∈ lw_tbl := lw_at lw_m7 200 rfl
theorem q1748 : (Jvm.Cond.instanceMethod ({ cls := "PartedSideModel", name := "tellLaw", desc := "(I)V" } : Jvm.MethodName)) ∈ lw_all := lw_g (lw_at lw_m7 201 rfl) rfl
theorem q1749 : (Jvm.Cond.code ({ cls := "PartedSideModel", name := "tellLaw", desc := "(I)V" } : Jvm.MethodName) prog_21_method_28_code (4 : Nat) (Option.none : Option Jvm.ClassFile.FieldType)) ∈ lw_all := lw_g (lw_at lw_m7 202 rfl) rfl
theorem q1750 : (Jvm.Cond.methodLink "PartedSideModel" (281 : Nat) ({ cls := "PartedSideModel", name := "expression", desc := "()V" } : Jvm.MethodName)) ∈ lw_all := lw_g (lw_at lw_m7 203 rfl) rfl
theorem q1751 : (Jvm.Cond.privateMethod ({ cls := "PartedSideModel", name := "expression", desc := "()V" } : Jvm.MethodName)) ∈ lw_tbl := lw_at lw_m7 204 rfl
theorem q1752 : (Jvm.Cond.instanceMethod ({ cls := "PartedSideModel", name := "expression", desc := "()V" } : Jvm.MethodName)) ∈ lw_all := lw_g (lw_at lw_m7 205 rfl) rfl
theorem q1753 : (Jvm.Cond.code ({ cls := "PartedSideModel", name := "expression", desc := "()V" } : Jvm.MethodName) prog_21_method_32_code (3 : Nat) (Option.none : Option Jvm.ClassFile.FieldType)) ∈ lw_all := lw_g (lw_at lw_m7 206 rfl) rfl
theorem q1754 : (Jvm.Cond.methodLink "PartedSideModel" (293 : Nat) ({ cls := "PartedSideModel", name := "unit", desc := "()V" } : Jvm.MethodName)) ∈ lw_all := lw_g (lw_at lw_m7 207 rfl) rfl
theorem q1755 : (Jvm.Cond.privateMethod ({ cls := "PartedSideModel", name := "unit", desc := "()V" } : Jvm.MethodName)) ∈ lw_tbl := lw_at lw_m7 208 rfl
theorem q1756 : (Jvm.Cond.instanceMethod ({ cls := "PartedSideModel", name := "unit", desc := "()V" } : Jvm.MethodName)) ∈ lw_all := lw_g (lw_at lw_m7 209 rfl) rfl
theorem q1757 : (Jvm.Cond.code ({ cls := "PartedSideModel", name := "unit", desc := "()V" } : Jvm.MethodName) prog_21_method_33_code (1 : Nat) (Option.none : Option Jvm.ClassFile.FieldType)) ∈ lw_all := lw_g (lw_at lw_m7 210 rfl) rfl
theorem q1758 : (Jvm.Cond.methodLink "PartedSideModel" (290 : Nat) ({ cls := "PartedSideModel", name := "emit", desc := "(II)V" } : Jvm.MethodName)) ∈ lw_all := lw_g (lw_at lw_m7 211 rfl) rfl
theorem q1759 : (Jvm.Cond.privateMethod ({ cls := "PartedSideModel", name := "emit", desc := "(II)V" } : Jvm.MethodName)) ∈ lw_tbl := lw_at lw_m7 212 rfl
theorem q1760 : (Jvm.Cond.instanceMethod ({ cls := "PartedSideModel", name := "emit", desc := "(II)V" } : Jvm.MethodName)) ∈ lw_all := lw_g (lw_at lw_m7 213 rfl) rfl
theorem q1761 : (Jvm.Cond.code ({ cls := "PartedSideModel", name := "emit", desc := "(II)V" } : Jvm.MethodName) prog_21_method_30_code (3 : Nat) (Option.none : Option Jvm.ClassFile.FieldType)) ∈ lw_all := lw_g (lw_at lw_m7 214 rfl) rfl
theorem q1762 : (Jvm.Cond.methodLink "PartedSideModel" (296 : Nat) ({ cls := "PartedSideModel", name := "comesOut", desc := "(Z)V" } : Jvm.MethodName)) ∈ lw_all := lw_g (lw_at lw_m7 215 rfl) rfl
theorem q1763 : (Jvm.Cond.privateMethod ({ cls := "PartedSideModel", name := "comesOut", desc := "(Z)V" } : Jvm.MethodName)) ∈ lw_tbl := lw_at lw_m7 216 rfl
theorem q1764 : (Jvm.Cond.instanceMethod ({ cls := "PartedSideModel", name := "comesOut", desc := "(Z)V" } : Jvm.MethodName)) ∈ lw_all := lw_g (lw_at lw_m7 217 rfl) rfl
theorem q1765 : (Jvm.Cond.code ({ cls := "PartedSideModel", name := "comesOut", desc := "(Z)V" } : Jvm.MethodName) prog_21_method_31_code (3 : Nat) (Option.none : Option Jvm.ClassFile.FieldType)) ∈ lw_all := lw_g (lw_at lw_m7 218 rfl) rfl
theorem q1766 : (Jvm.Cond.methodLink "PartedSideModel" (284 : Nat) ({ cls := "PartedSideModel", name := "term", desc := "()V" } : Jvm.MethodName)) ∈ lw_all := lw_g (lw_at lw_m7 219 rfl) rfl
theorem q1767 : (Jvm.Cond.privateMethod ({ cls := "PartedSideModel", name := "term", desc := "()V" } : Jvm.MethodName)) ∈ lw_tbl := lw_at lw_m7 220 rfl
theorem q1768 : (Jvm.Cond.instanceMethod ({ cls := "PartedSideModel", name := "term", desc := "()V" } : Jvm.MethodName)) ∈ lw_all := lw_g (lw_at lw_m7 221 rfl) rfl
theorem q1769 : (Jvm.Cond.code ({ cls := "PartedSideModel", name := "term", desc := "()V" } : Jvm.MethodName) prog_21_method_29_code (1 : Nat) (Option.none : Option Jvm.ClassFile.FieldType)) ∈ lw_all := lw_g (lw_at lw_m7 222 rfl) rfl
theorem q1770 : (Jvm.Cond.methodLink "PartedSideModel" (248 : Nat) ({ cls := "PartedSideModel", name := "areBeds", desc := "()Z" } : Jvm.MethodName)) ∈ lw_all := lw_g (lw_at lw_m7 223 rfl) rfl
theorem q1771 : (Jvm.Cond.privateMethod ({ cls := "PartedSideModel", name := "areBeds", desc := "()Z" } : Jvm.MethodName)) ∈ lw_tbl := lw_at lw_m7 224 rfl
theorem q1772 : (Jvm.Cond.instanceMethod ({ cls := "PartedSideModel", name := "areBeds", desc := "()Z" } : Jvm.MethodName)) ∈ lw_all := lw_g (lw_at lw_m7 225 rfl) rfl
theorem q1773 : (Jvm.Cond.code ({ cls := "PartedSideModel", name := "areBeds", desc := "()Z" } : Jvm.MethodName) prog_21_method_22_code (2 : Nat) (Option.some Jvm.ClassFile.FieldType.boolean)) ∈ lw_all := lw_g (lw_at lw_m7 226 rfl) rfl
theorem q1775 : (Jvm.Cond.instanceMethod ({ cls := "PartedSideModel", name := "place", desc := "()I" } : Jvm.MethodName)) ∈ lw_all := lw_g (lw_at lw_m7 228 rfl) rfl
theorem q1776 : (Jvm.Cond.selects "PartedSideModel" ({ cls := "PartedSideModel", name := "place", desc := "()I" } : Jvm.MethodName) ({ cls := "PartedSideModel", name := "place", desc := "()I" } : Jvm.MethodName)) ∈ lw_all := lw_g (lw_at lw_m7 229 rfl) rfl
theorem q1777 : (Jvm.Cond.code ({ cls := "PartedSideModel", name := "place", desc := "()I" } : Jvm.MethodName) prog_21_method_21_code (1 : Nat) (Option.some Jvm.ClassFile.FieldType.int)) ∈ lw_all := lw_g (lw_at lw_m7 230 rfl) rfl
theorem q1779 : (Jvm.Cond.instanceMethod ({ cls := "PartedSideModel", name := "sleeper", desc := "(II)I" } : Jvm.MethodName)) ∈ lw_all := lw_g (lw_at lw_m7 232 rfl) rfl
theorem q1780 : (Jvm.Cond.selects "PartedSideModel" ({ cls := "PartedSideModel", name := "sleeper", desc := "(II)I" } : Jvm.MethodName) ({ cls := "PartedSideModel", name := "sleeper", desc := "(II)I" } : Jvm.MethodName)) ∈ lw_all := lw_g (lw_at lw_m7 233 rfl) rfl
theorem q1781 : (Jvm.Cond.code ({ cls := "PartedSideModel", name := "sleeper", desc := "(II)I" } : Jvm.MethodName) prog_21_method_61_code (3 : Nat) (Option.some Jvm.ClassFile.FieldType.int)) ∈ lw_all := lw_g (lw_at lw_m7 234 rfl) rfl
theorem q1782 : (Jvm.Cond.methodLink "PartedSideModel" (328 : Nat) ({ cls := "PartedSideModel", name := "isBed", desc := "(I)Z" } : Jvm.MethodName)) ∈ lw_all := lw_g (lw_at lw_m7 235 rfl) rfl
theorem q1783 : (Jvm.Cond.privateMethod ({ cls := "PartedSideModel", name := "isBed", desc := "(I)Z" } : Jvm.MethodName)) ∈ lw_tbl := lw_at lw_m7 236 rfl
theorem q1784 : (Jvm.Cond.instanceMethod ({ cls := "PartedSideModel", name := "isBed", desc := "(I)Z" } : Jvm.MethodName)) ∈ lw_all := lw_g (lw_at lw_m7 237 rfl) rfl
theorem q1785 : (Jvm.Cond.code ({ cls := "PartedSideModel", name := "isBed", desc := "(I)Z" } : Jvm.MethodName) prog_21_method_39_code (2 : Nat) (Option.some Jvm.ClassFile.FieldType.boolean)) ∈ lw_all := lw_g (lw_at lw_m7 238 rfl) rfl
theorem q1786 : (Jvm.Cond.methodLink "PartedSideModel" (308 : Nat) ({ cls := "PartedSideModel", name := "in", desc := "(III)Z" } : Jvm.MethodName)) ∈ lw_all := lw_g (lw_at lw_m7 239 rfl) rfl
theorem q1787 : (Jvm.Cond.static ({ cls := "PartedSideModel", name := "in", desc := "(III)Z" } : Jvm.MethodName)) ∈ lw_all := lw_g (lw_at lw_m8 0 rfl) rfl
theorem q1788 : (Jvm.Cond.code ({ cls := "PartedSideModel", name := "in", desc := "(III)Z" } : Jvm.MethodName) prog_21_method_35_code (3 : Nat) (Option.some Jvm.ClassFile.FieldType.boolean)) ∈ lw_all := lw_g (lw_at lw_m8 1 rfl) rfl
theorem q1789 : (Jvm.Cond.constant "PartedSideModel" (373 : Nat) (-100000 : Int32)) ∈ lw_all := lw_g (lw_at lw_m8 2 rfl) rfl
theorem q1790 : (Jvm.Cond.methodLink "PartedSideModel" (321 : Nat) ({ cls := "PartedSideModel", name := "copies", desc := "()V" } : Jvm.MethodName)) ∈ lw_all := lw_g (lw_at lw_m8 3 rfl) rfl
theorem q1791 : (Jvm.Cond.privateMethod ({ cls := "PartedSideModel", name := "copies", desc := "()V" } : Jvm.MethodName)) ∈ lw_tbl := lw_at lw_m8 4 rfl
theorem q1792 : (Jvm.Cond.instanceMethod ({ cls := "PartedSideModel", name := "copies", desc := "()V" } : Jvm.MethodName)) ∈ lw_all := lw_g (lw_at lw_m8 5 rfl) rfl
theorem q1793 : (Jvm.Cond.code ({ cls := "PartedSideModel", name := "copies", desc := "()V" } : Jvm.MethodName) prog_21_method_44_code (2 : Nat) (Option.none : Option Jvm.ClassFile.FieldType)) ∈ lw_all := lw_g (lw_at lw_m8 6 rfl) rfl
theorem q1794 : (Jvm.Cond.methodLink "PartedSideModel" (349 : Nat) ({ cls := "PartedSideModel", name := "liesThen", desc := "(I)I" } : Jvm.MethodName)) ∈ lw_all := lw_g (lw_at lw_m8 7 rfl) rfl
theorem q1795 : (Jvm.Cond.privateMethod ({ cls := "PartedSideModel", name := "liesThen", desc := "(I)I" } : Jvm.MethodName)) ∈ lw_tbl := lw_at lw_m8 8 rfl
theorem q1796 : (Jvm.Cond.instanceMethod ({ cls := "PartedSideModel", name := "liesThen", desc := "(I)I" } : Jvm.MethodName)) ∈ lw_all := lw_g (lw_at lw_m8 9 rfl) rfl
theorem q1797 : (Jvm.Cond.code ({ cls := "PartedSideModel", name := "liesThen", desc := "(I)I" } : Jvm.MethodName) prog_21_method_51_code (2 : Nat) (Option.some Jvm.ClassFile.FieldType.int)) ∈ lw_all := lw_g (lw_at lw_m8 10 rfl) rfl
theorem q1798 : (Jvm.Cond.methodLink "PartedSideModel" (337 : Nat) ({ cls := "PartedSideModel", name := "looks", desc := "(I)V" } : Jvm.MethodName)) ∈ lw_all := lw_g (lw_at lw_m8 11 rfl) rfl
theorem q1799 : (Jvm.Cond.privateMethod ({ cls := "PartedSideModel", name := "looks", desc := "(I)V" } : Jvm.MethodName)) ∈ lw_tbl := lw_at lw_m8 12 rfl
theorem q1800 : (Jvm.Cond.instanceMethod ({ cls := "PartedSideModel", name := "looks", desc := "(I)V" } : Jvm.MethodName)) ∈ lw_all := lw_g (lw_at lw_m8 13 rfl) rfl
theorem q1801 : (Jvm.Cond.code ({ cls := "PartedSideModel", name := "looks", desc := "(I)V" } : Jvm.MethodName) prog_21_method_49_code (2 : Nat) (Option.none : Option Jvm.ClassFile.FieldType)) ∈ lw_all := lw_g (lw_at lw_m8 14 rfl) rfl
theorem q1802 : (Jvm.Cond.methodLink "PartedSideModel" (331 : Nat) ({ cls := "PartedSideModel", name := "leftAt", desc := "(I)I" } : Jvm.MethodName)) ∈ lw_all := lw_g (lw_at lw_m8 15 rfl) rfl
theorem q1803 : (Jvm.Cond.privateMethod ({ cls := "PartedSideModel", name := "leftAt", desc := "(I)I" } : Jvm.MethodName)) ∈ lw_tbl := lw_at lw_m8 16 rfl
theorem q1804 : (Jvm.Cond.instanceMethod ({ cls := "PartedSideModel", name := "leftAt", desc := "(I)I" } : Jvm.MethodName)) ∈ lw_all := lw_g (lw_at lw_m8 17 rfl) rfl
theorem q1805 : (Jvm.Cond.code ({ cls := "PartedSideModel", name := "leftAt", desc := "(I)I" } : Jvm.MethodName) prog_21_method_48_code (2 : Nat) (Option.some Jvm.ClassFile.FieldType.int)) ∈ lw_all := lw_g (lw_at lw_m8 18 rfl) rfl
theorem q1806 : (Jvm.Cond.methodLink "PartedSideModel" (340 : Nat) ({ cls := "PartedSideModel", name := "lawTells", desc := "(II)I" } : Jvm.MethodName)) ∈ lw_all := lw_g (lw_at lw_m8 19 rfl) rfl
theorem q1807 : (Jvm.Cond.privateMethod ({ cls := "PartedSideModel", name := "lawTells", desc := "(II)I" } : Jvm.MethodName)) ∈ lw_tbl := lw_at lw_m8 20 rfl
theorem q1808 : (Jvm.Cond.instanceMethod ({ cls := "PartedSideModel", name := "lawTells", desc := "(II)I" } : Jvm.MethodName)) ∈ lw_all := lw_g (lw_at lw_m8 21 rfl) rfl
theorem q1809 : (Jvm.Cond.code ({ cls := "PartedSideModel", name := "lawTells", desc := "(II)I" } : Jvm.MethodName) prog_21_method_50_code (7 : Nat) (Option.some Jvm.ClassFile.FieldType.int)) ∈ lw_all := lw_g (lw_at lw_m8 22 rfl) rfl
theorem q1810 : (Jvm.Cond.methodLink "PartedSideModel" (334 : Nat) ({ cls := "PartedSideModel", name := "termOf", desc := "(II)I" } : Jvm.MethodName)) ∈ lw_all := lw_g (lw_at lw_m8 23 rfl) rfl
theorem q1811 : (Jvm.Cond.privateMethod ({ cls := "PartedSideModel", name := "termOf", desc := "(II)I" } : Jvm.MethodName)) ∈ lw_tbl := lw_at lw_m8 24 rfl
theorem q1812 : (Jvm.Cond.instanceMethod ({ cls := "PartedSideModel", name := "termOf", desc := "(II)I" } : Jvm.MethodName)) ∈ lw_all := lw_g (lw_at lw_m8 25 rfl) rfl
theorem q1813 : (Jvm.Cond.code ({ cls := "PartedSideModel", name := "termOf", desc := "(II)I" } : Jvm.MethodName) prog_21_method_34_code (8 : Nat) (Option.some Jvm.ClassFile.FieldType.int)) ∈ lw_all := lw_g (lw_at lw_m8 26 rfl) rfl
theorem q1814 : (Jvm.Cond.methodLink "PartedSideModel" (346 : Nat) ({ cls := "PartedSideModel", name := "partsOf", desc := "(I)I" } : Jvm.MethodName)) ∈ lw_all := lw_g (lw_at lw_m8 27 rfl) rfl
theorem q1815 : (Jvm.Cond.privateMethod ({ cls := "PartedSideModel", name := "partsOf", desc := "(I)I" } : Jvm.MethodName)) ∈ lw_tbl := lw_at lw_m8 28 rfl
theorem q1816 : (Jvm.Cond.instanceMethod ({ cls := "PartedSideModel", name := "partsOf", desc := "(I)I" } : Jvm.MethodName)) ∈ lw_all := lw_g (lw_at lw_m8 29 rfl) rfl
theorem q1817 : (Jvm.Cond.code ({ cls := "PartedSideModel", name := "partsOf", desc := "(I)I" } : Jvm.MethodName) prog_21_method_52_code (2 : Nat) (Option.some Jvm.ClassFile.FieldType.int)) ∈ lw_all := lw_g (lw_at lw_m8 30 rfl) rfl
theorem q1818 : (Jvm.Cond.methodLink "PartedSideModel" (343 : Nat) ({ cls := "PartedSideModel", name := "within", desc := "(III)I" } : Jvm.MethodName)) ∈ lw_all := lw_g (lw_at lw_m8 31 rfl) rfl
theorem q1819 : (Jvm.Cond.static ({ cls := "PartedSideModel", name := "within", desc := "(III)I" } : Jvm.MethodName)) ∈ lw_all := lw_g (lw_at lw_m8 32 rfl) rfl
theorem q1820 : (Jvm.Cond.code ({ cls := "PartedSideModel", name := "within", desc := "(III)I" } : Jvm.MethodName) prog_21_method_36_code (3 : Nat) (Option.some Jvm.ClassFile.FieldType.int)) ∈ lw_all := lw_g (lw_at lw_m8 33 rfl) rfl
theorem q1821 : (Jvm.Cond.methodLink "PartedSideModel" (355 : Nat) ({ cls := "PartedSideModel", name := "chillsOf", desc := "(I)I" } : Jvm.MethodName)) ∈ lw_all := lw_g (lw_at lw_m8 34 rfl) rfl
theorem q1822 : (Jvm.Cond.privateMethod ({ cls := "PartedSideModel", name := "chillsOf", desc := "(I)I" } : Jvm.MethodName)) ∈ lw_tbl := lw_at lw_m8 35 rfl
theorem q1823 : (Jvm.Cond.instanceMethod ({ cls := "PartedSideModel", name := "chillsOf", desc := "(I)I" } : Jvm.MethodName)) ∈ lw_all := lw_g (lw_at lw_m8 36 rfl) rfl
theorem q1824 : (Jvm.Cond.code ({ cls := "PartedSideModel", name := "chillsOf", desc := "(I)I" } : Jvm.MethodName) prog_21_method_53_code (2 : Nat) (Option.some Jvm.ClassFile.FieldType.int)) ∈ lw_all := lw_g (lw_at lw_m8 37 rfl) rfl
theorem q1825 : (Jvm.Cond.methodLink "PartedSideModel" (374 : Nat) ({ cls := "PartedSideModel", name := "costsOf", desc := "(I)I" } : Jvm.MethodName)) ∈ lw_all := lw_g (lw_at lw_m8 38 rfl) rfl
theorem q1826 : (Jvm.Cond.privateMethod ({ cls := "PartedSideModel", name := "costsOf", desc := "(I)I" } : Jvm.MethodName)) ∈ lw_tbl := lw_at lw_m8 39 rfl
theorem q1827 : (Jvm.Cond.instanceMethod ({ cls := "PartedSideModel", name := "costsOf", desc := "(I)I" } : Jvm.MethodName)) ∈ lw_all := lw_g (lw_at lw_m8 40 rfl) rfl
theorem q1828 : (Jvm.Cond.code ({ cls := "PartedSideModel", name := "costsOf", desc := "(I)I" } : Jvm.MethodName) prog_21_method_54_code (2 : Nat) (Option.some Jvm.ClassFile.FieldType.int)) ∈ lw_all := lw_g (lw_at lw_m8 41 rfl) rfl
theorem q1830 : (Jvm.Cond.instanceMethod ({ cls := "PartedSideModel", name := "turn", desc := "(I)Z" } : Jvm.MethodName)) ∈ lw_all := lw_g (lw_at lw_m8 43 rfl) rfl
theorem q1831 : (Jvm.Cond.selects "PartedSideModel" ({ cls := "PartedSideModel", name := "turn", desc := "(I)Z" } : Jvm.MethodName) ({ cls := "PartedSideModel", name := "turn", desc := "(I)Z" } : Jvm.MethodName)) ∈ lw_all := lw_g (lw_at lw_m8 44 rfl) rfl
theorem q1832 : (Jvm.Cond.code ({ cls := "PartedSideModel", name := "turn", desc := "(I)Z" } : Jvm.MethodName) prog_21_method_63_code (2 : Nat) (Option.some Jvm.ClassFile.FieldType.boolean)) ∈ lw_all := lw_g (lw_at lw_m8 45 rfl) rfl
theorem q1833 : (Jvm.Cond.methodLink "PartedSideModel" (377 : Nat) ({ cls := "PartedSideModel", name := "records", desc := "()V" } : Jvm.MethodName)) ∈ lw_all := lw_g (lw_at lw_m8 46 rfl) rfl
theorem q1834 : (Jvm.Cond.privateMethod ({ cls := "PartedSideModel", name := "records", desc := "()V" } : Jvm.MethodName)) ∈ lw_tbl := lw_at lw_m8 47 rfl
theorem q1835 : (Jvm.Cond.instanceMethod ({ cls := "PartedSideModel", name := "records", desc := "()V" } : Jvm.MethodName)) ∈ lw_all := lw_g (lw_at lw_m8 48 rfl) rfl
theorem q1836 : (Jvm.Cond.code ({ cls := "PartedSideModel", name := "records", desc := "()V" } : Jvm.MethodName) prog_21_method_62_code (2 : Nat) (Option.none : Option Jvm.ClassFile.FieldType)) ∈ lw_all := lw_g (lw_at lw_m8 49 rfl) rfl
theorem q1838 : (Jvm.Cond.instanceMethod ({ cls := "PartedSideModel", name := "whistle", desc := "()Z" } : Jvm.MethodName)) ∈ lw_all := lw_g (lw_at lw_m8 51 rfl) rfl
theorem q1839 : (Jvm.Cond.selects "PartedSideModel" ({ cls := "PartedSideModel", name := "whistle", desc := "()Z" } : Jvm.MethodName) ({ cls := "PartedSideModel", name := "whistle", desc := "()Z" } : Jvm.MethodName)) ∈ lw_all := lw_g (lw_at lw_m8 52 rfl) rfl
theorem q1840 : (Jvm.Cond.code ({ cls := "PartedSideModel", name := "whistle", desc := "()Z" } : Jvm.MethodName) prog_21_method_64_code (2 : Nat) (Option.some Jvm.ClassFile.FieldType.boolean)) ∈ lw_all := lw_g (lw_at lw_m8 53 rfl) rfl
theorem q1842 : (Jvm.Cond.instanceMethod ({ cls := "PartedSideModel", name := "change", desc := "(II)Z" } : Jvm.MethodName)) ∈ lw_all := lw_g (lw_at lw_m8 55 rfl) rfl
theorem q1843 : (Jvm.Cond.selects "PartedSideModel" ({ cls := "PartedSideModel", name := "change", desc := "(II)Z" } : Jvm.MethodName) ({ cls := "PartedSideModel", name := "change", desc := "(II)Z" } : Jvm.MethodName)) ∈ lw_all := lw_g (lw_at lw_m8 56 rfl) rfl
theorem q1844 : (Jvm.Cond.code ({ cls := "PartedSideModel", name := "change", desc := "(II)Z" } : Jvm.MethodName) prog_21_method_66_code (3 : Nat) (Option.some Jvm.ClassFile.FieldType.boolean)) ∈ lw_all := lw_g (lw_at lw_m8 57 rfl) rfl
theorem q1845 : (Jvm.Cond.methodLink "PartedSideModel" (380 : Nat) ({ cls := "PartedSideModel", name := "changes", desc := "(II)V" } : Jvm.MethodName)) ∈ lw_all := lw_g (lw_at lw_m8 58 rfl) rfl
theorem q1846 : (Jvm.Cond.privateMethod ({ cls := "PartedSideModel", name := "changes", desc := "(II)V" } : Jvm.MethodName)) ∈ lw_tbl := lw_at lw_m8 59 rfl
theorem q1847 : (Jvm.Cond.instanceMethod ({ cls := "PartedSideModel", name := "changes", desc := "(II)V" } : Jvm.MethodName)) ∈ lw_all := lw_g (lw_at lw_m8 60 rfl) rfl
theorem q1848 : (Jvm.Cond.code ({ cls := "PartedSideModel", name := "changes", desc := "(II)V" } : Jvm.MethodName) prog_21_method_65_code (5 : Nat) (Option.none : Option Jvm.ClassFile.FieldType)) ∈ lw_all := lw_g (lw_at lw_m8 61 rfl) rfl
theorem q1850 : (Jvm.Cond.instanceMethod ({ cls := "PartedSideModel", name := "hours", desc := "(I)I" } : Jvm.MethodName)) ∈ lw_all := lw_g (lw_at lw_m8 63 rfl) rfl
theorem q1851 : (Jvm.Cond.selects "PartedSideModel" ({ cls := "PartedSideModel", name := "hours", desc := "(I)I" } : Jvm.MethodName) ({ cls := "PartedSideModel", name := "hours", desc := "(I)I" } : Jvm.MethodName)) ∈ lw_all := lw_g (lw_at lw_m8 64 rfl) rfl
theorem q1852 : (Jvm.Cond.code ({ cls := "PartedSideModel", name := "hours", desc := "(I)I" } : Jvm.MethodName) prog_21_method_69_code (2 : Nat) (Option.some Jvm.ClassFile.FieldType.int)) ∈ lw_all := lw_g (lw_at lw_m8 65 rfl) rfl
theorem q1853 : (Jvm.Cond.methodLink "PartedSideModel" (383 : Nat) ({ cls := "PartedSideModel", name := "isLong", desc := "(I)Z" } : Jvm.MethodName)) ∈ lw_all := lw_g (lw_at lw_m8 66 rfl) rfl
theorem q1854 : (Jvm.Cond.static ({ cls := "PartedSideModel", name := "isLong", desc := "(I)Z" } : Jvm.MethodName)) ∈ lw_all := lw_g (lw_at lw_m8 67 rfl) rfl
theorem q1855 : (Jvm.Cond.code ({ cls := "PartedSideModel", name := "isLong", desc := "(I)Z" } : Jvm.MethodName) prog_21_method_67_code (1 : Nat) (Option.some Jvm.ClassFile.FieldType.boolean)) ∈ lw_all := lw_g (lw_at lw_m8 68 rfl) rfl
theorem q1856 : (Jvm.Cond.methodLink "PartedSideModel" (367 : Nat) ({ cls := "PartedSideModel", name := "goes", desc := "(I)V" } : Jvm.MethodName)) ∈ lw_all := lw_g (lw_at lw_m8 69 rfl) rfl
theorem q1857 : (Jvm.Cond.privateMethod ({ cls := "PartedSideModel", name := "goes", desc := "(I)V" } : Jvm.MethodName)) ∈ lw_tbl := lw_at lw_m8 70 rfl
theorem q1858 : (Jvm.Cond.instanceMethod ({ cls := "PartedSideModel", name := "goes", desc := "(I)V" } : Jvm.MethodName)) ∈ lw_all := lw_g (lw_at lw_m8 71 rfl) rfl
theorem q1859 : (Jvm.Cond.code ({ cls := "PartedSideModel", name := "goes", desc := "(I)V" } : Jvm.MethodName) prog_21_method_58_code (3 : Nat) (Option.none : Option Jvm.ClassFile.FieldType)) ∈ lw_all := lw_g (lw_at lw_m8 72 rfl) rfl
theorem q1860 : (Jvm.Cond.methodLink "PartedSideModel" (358 : Nat) ({ cls := "PartedSideModel", name := "hourGoes", desc := "()V" } : Jvm.MethodName)) ∈ lw_all := lw_g (lw_at lw_m8 73 rfl) rfl
theorem q1861 : (Jvm.Cond.privateMethod ({ cls := "PartedSideModel", name := "hourGoes", desc := "()V" } : Jvm.MethodName)) ∈ lw_tbl := lw_at lw_m8 74 rfl
theorem q1862 : (Jvm.Cond.instanceMethod ({ cls := "PartedSideModel", name := "hourGoes", desc := "()V" } : Jvm.MethodName)) ∈ lw_all := lw_g (lw_at lw_m8 75 rfl) rfl
theorem q1863 : (Jvm.Cond.code ({ cls := "PartedSideModel", name := "hourGoes", desc := "()V" } : Jvm.MethodName) prog_21_method_57_code (3 : Nat) (Option.none : Option Jvm.ClassFile.FieldType)) ∈ lw_all := lw_g (lw_at lw_m8 76 rfl) rfl
theorem q1864 : (Jvm.Cond.methodLink "PartedSideModel" (352 : Nat) ({ cls := "PartedSideModel", name := "lotOf", desc := "(I)I" } : Jvm.MethodName)) ∈ lw_all := lw_g (lw_at lw_m8 77 rfl) rfl
theorem q1865 : (Jvm.Cond.privateMethod ({ cls := "PartedSideModel", name := "lotOf", desc := "(I)I" } : Jvm.MethodName)) ∈ lw_tbl := lw_at lw_m8 78 rfl
theorem q1866 : (Jvm.Cond.instanceMethod ({ cls := "PartedSideModel", name := "lotOf", desc := "(I)I" } : Jvm.MethodName)) ∈ lw_all := lw_g (lw_at lw_m8 79 rfl) rfl
theorem q1867 : (Jvm.Cond.code ({ cls := "PartedSideModel", name := "lotOf", desc := "(I)I" } : Jvm.MethodName) prog_21_method_47_code (2 : Nat) (Option.some Jvm.ClassFile.FieldType.int)) ∈ lw_all := lw_g (lw_at lw_m8 80 rfl) rfl
theorem q1868 : (Jvm.Cond.methodLink "PartedSideModel" (325 : Nat) ({ cls := "PartedSideModel", name := "mixed", desc := "(II)I" } : Jvm.MethodName)) ∈ lw_all := lw_g (lw_at lw_m8 81 rfl) rfl
theorem q1869 : (Jvm.Cond.static ({ cls := "PartedSideModel", name := "mixed", desc := "(II)I" } : Jvm.MethodName)) ∈ lw_all := lw_g (lw_at lw_m8 82 rfl) rfl
theorem q1870 : (Jvm.Cond.code ({ cls := "PartedSideModel", name := "mixed", desc := "(II)I" } : Jvm.MethodName) prog_21_method_46_code (3 : Nat) (Option.some Jvm.ClassFile.FieldType.int)) ∈ lw_all := lw_g (lw_at lw_m8 83 rfl) rfl
theorem q1871 : (Jvm.Cond.constant "PartedSideModel" (324 : Nat) (1103515245 : Int32)) ∈ lw_all := lw_g (lw_at lw_m8 84 rfl) rfl
theorem q1873 : (Jvm.Cond.instanceMethod ({ cls := "PartedSideModel", name := "undo", desc := "()Z" } : Jvm.MethodName)) ∈ lw_all := lw_g (lw_at lw_m8 86 rfl) rfl
theorem q1874 : (Jvm.Cond.selects "PartedSideModel" ({ cls := "PartedSideModel", name := "undo", desc := "()Z" } : Jvm.MethodName) ({ cls := "PartedSideModel", name := "undo", desc := "()Z" } : Jvm.MethodName)) ∈ lw_all := lw_g (lw_at lw_m8 87 rfl) rfl
theorem q1875 : (Jvm.Cond.code ({ cls := "PartedSideModel", name := "undo", desc := "()Z" } : Jvm.MethodName) prog_21_method_70_code (2 : Nat) (Option.some Jvm.ClassFile.FieldType.boolean)) ∈ lw_all := lw_g (lw_at lw_m8 88 rfl) rfl
theorem q1877 : (Jvm.Cond.instanceMethod ({ cls := "PartedSideModel", name := "after", desc := "(II)I" } : Jvm.MethodName)) ∈ lw_all := lw_g (lw_at lw_m8 90 rfl) rfl
theorem q1878 : (Jvm.Cond.selects "PartedSideModel" ({ cls := "PartedSideModel", name := "after", desc := "(II)I" } : Jvm.MethodName) ({ cls := "PartedSideModel", name := "after", desc := "(II)I" } : Jvm.MethodName)) ∈ lw_all := lw_g (lw_at lw_m8 91 rfl) rfl
theorem q1879 : (Jvm.Cond.code ({ cls := "PartedSideModel", name := "after", desc := "(II)I" } : Jvm.MethodName) prog_21_method_71_code (3 : Nat) (Option.some Jvm.ClassFile.FieldType.int)) ∈ lw_all := lw_g (lw_at lw_m8 92 rfl) rfl
theorem q1880 : (Jvm.Cond.methodLink "PartedSideModel" (386 : Nat) ({ cls := "PartedSideModel", name := "isRow", desc := "(I)Z" } : Jvm.MethodName)) ∈ lw_all := lw_g (lw_at lw_m8 93 rfl) rfl
theorem q1881 : (Jvm.Cond.privateMethod ({ cls := "PartedSideModel", name := "isRow", desc := "(I)Z" } : Jvm.MethodName)) ∈ lw_tbl := lw_at lw_m8 94 rfl
theorem q1882 : (Jvm.Cond.instanceMethod ({ cls := "PartedSideModel", name := "isRow", desc := "(I)Z" } : Jvm.MethodName)) ∈ lw_all := lw_g (lw_at lw_m8 95 rfl) rfl
theorem q1883 : (Jvm.Cond.code ({ cls := "PartedSideModel", name := "isRow", desc := "(I)Z" } : Jvm.MethodName) prog_21_method_41_code (2 : Nat) (Option.some Jvm.ClassFile.FieldType.boolean)) ∈ lw_all := lw_g (lw_at lw_m8 96 rfl) rfl
theorem q1884 : (Jvm.Cond.methodLink "PartedSideModel" (312 : Nat) ({ cls := "PartedSideModel", name := "allBits", desc := "()I" } : Jvm.MethodName)) ∈ lw_all := lw_g (lw_at lw_m8 97 rfl) rfl
theorem q1885 : (Jvm.Cond.privateMethod ({ cls := "PartedSideModel", name := "allBits", desc := "()I" } : Jvm.MethodName)) ∈ lw_tbl := lw_at lw_m8 98 rfl
theorem q1886 : (Jvm.Cond.instanceMethod ({ cls := "PartedSideModel", name := "allBits", desc := "()I" } : Jvm.MethodName)) ∈ lw_all := lw_g (lw_at lw_m8 99 rfl) rfl
theorem q1887 : (Jvm.Cond.code ({ cls := "PartedSideModel", name := "allBits", desc := "()I" } : Jvm.MethodName) prog_21_method_40_code (1 : Nat) (Option.some Jvm.ClassFile.FieldType.int)) ∈ lw_all := lw_g (lw_at lw_m8 100 rfl) rfl
theorem q1888 : (Jvm.Cond.methodLink "PartedSideModel" (389 : Nat) ({ cls := "PartedSideModel", name := "rowAfter", desc := "(II)I" } : Jvm.MethodName)) ∈ lw_all := lw_g (lw_at lw_m8 101 rfl) rfl
theorem q1889 : (Jvm.Cond.privateMethod ({ cls := "PartedSideModel", name := "rowAfter", desc := "(II)I" } : Jvm.MethodName)) ∈ lw_tbl := lw_at lw_m8 102 rfl
theorem q1890 : (Jvm.Cond.instanceMethod ({ cls := "PartedSideModel", name := "rowAfter", desc := "(II)I" } : Jvm.MethodName)) ∈ lw_all := lw_g (lw_at lw_m8 103 rfl) rfl
theorem q1891 : (Jvm.Cond.code ({ cls := "PartedSideModel", name := "rowAfter", desc := "(II)I" } : Jvm.MethodName) prog_21_method_59_code (3 : Nat) (Option.some Jvm.ClassFile.FieldType.int)) ∈ lw_all := lw_g (lw_at lw_m8 104 rfl) rfl
theorem q1892 : (Jvm.Cond.methodLink "PartedSideModel" (361 : Nat) ({ cls := "PartedSideModel", name := "copiesStill", desc := "()V" } : Jvm.MethodName)) ∈ lw_all := lw_g (lw_at lw_m8 105 rfl) rfl
theorem q1893 : (Jvm.Cond.privateMethod ({ cls := "PartedSideModel", name := "copiesStill", desc := "()V" } : Jvm.MethodName)) ∈ lw_tbl := lw_at lw_m8 106 rfl
theorem q1894 : (Jvm.Cond.instanceMethod ({ cls := "PartedSideModel", name := "copiesStill", desc := "()V" } : Jvm.MethodName)) ∈ lw_all := lw_g (lw_at lw_m8 107 rfl) rfl
theorem q1895 : (Jvm.Cond.code ({ cls := "PartedSideModel", name := "copiesStill", desc := "()V" } : Jvm.MethodName) prog_21_method_45_code (1 : Nat) (Option.none : Option Jvm.ClassFile.FieldType)) ∈ lw_all := lw_g (lw_at lw_m8 108 rfl) rfl
theorem q1896 : (Jvm.Cond.methodLink "PartedSideModel" (364 : Nat) ({ cls := "PartedSideModel", name := "laysRow", desc := "(I)V" } : Jvm.MethodName)) ∈ lw_all := lw_g (lw_at lw_m8 109 rfl) rfl
theorem q1897 : (Jvm.Cond.privateMethod ({ cls := "PartedSideModel", name := "laysRow", desc := "(I)V" } : Jvm.MethodName)) ∈ lw_tbl := lw_at lw_m8 110 rfl
theorem q1898 : (Jvm.Cond.instanceMethod ({ cls := "PartedSideModel", name := "laysRow", desc := "(I)V" } : Jvm.MethodName)) ∈ lw_all := lw_g (lw_at lw_m8 111 rfl) rfl
theorem q1899 : (Jvm.Cond.code ({ cls := "PartedSideModel", name := "laysRow", desc := "(I)V" } : Jvm.MethodName) prog_21_method_56_code (3 : Nat) (Option.none : Option Jvm.ClassFile.FieldType)) ∈ lw_all := lw_g (lw_at lw_m8 112 rfl) rfl
theorem q1900 : (Jvm.Cond.methodLink "PartedSideModel" (370 : Nat) ({ cls := "PartedSideModel", name := "rowBits", desc := "()I" } : Jvm.MethodName)) ∈ lw_all := lw_g (lw_at lw_m8 113 rfl) rfl
theorem q1901 : (Jvm.Cond.privateMethod ({ cls := "PartedSideModel", name := "rowBits", desc := "()I" } : Jvm.MethodName)) ∈ lw_tbl := lw_at lw_m8 114 rfl
theorem q1902 : (Jvm.Cond.instanceMethod ({ cls := "PartedSideModel", name := "rowBits", desc := "()I" } : Jvm.MethodName)) ∈ lw_all := lw_g (lw_at lw_m8 115 rfl) rfl
theorem q1903 : (Jvm.Cond.code ({ cls := "PartedSideModel", name := "rowBits", desc := "()I" } : Jvm.MethodName) prog_21_method_55_code (3 : Nat) (Option.some Jvm.ClassFile.FieldType.int)) ∈ lw_all := lw_g (lw_at lw_m8 116 rfl) rfl
theorem q1905 : (Jvm.Cond.instanceMethod ({ cls := "PartedSideModel", name := "turned", desc := "(II)I" } : Jvm.MethodName)) ∈ lw_all := lw_g (lw_at lw_m8 118 rfl) rfl
theorem q1906 : (Jvm.Cond.selects "PartedSideModel" ({ cls := "PartedSideModel", name := "turned", desc := "(II)I" } : Jvm.MethodName) ({ cls := "PartedSideModel", name := "turned", desc := "(II)I" } : Jvm.MethodName)) ∈ lw_all := lw_g (lw_at lw_m8 119 rfl) rfl
theorem q1907 : (Jvm.Cond.code ({ cls := "PartedSideModel", name := "turned", desc := "(II)I" } : Jvm.MethodName) prog_21_method_75_code (4 : Nat) (Option.some Jvm.ClassFile.FieldType.int)) ∈ lw_all := lw_g (lw_at lw_m8 120 rfl) rfl
theorem q1908 : (Jvm.Cond.methodLink "PartedSideModel" (404 : Nat) ({ cls := "PartedSideModel", name := "isShort", desc := "(I)Z" } : Jvm.MethodName)) ∈ lw_all := lw_g (lw_at lw_m8 121 rfl) rfl
theorem q1909 : (Jvm.Cond.static ({ cls := "PartedSideModel", name := "isShort", desc := "(I)Z" } : Jvm.MethodName)) ∈ lw_all := lw_g (lw_at lw_m8 122 rfl) rfl
theorem q1910 : (Jvm.Cond.code ({ cls := "PartedSideModel", name := "isShort", desc := "(I)Z" } : Jvm.MethodName) prog_21_method_68_code (1 : Nat) (Option.some Jvm.ClassFile.FieldType.boolean)) ∈ lw_all := lw_g (lw_at lw_m8 123 rfl) rfl
theorem q1911 : (Jvm.Cond.methodLink "PartedSideModel" (407 : Nat) ({ cls := "PartedSideModel", name := "cheapest", desc := "(II)I" } : Jvm.MethodName)) ∈ lw_all := lw_g (lw_at lw_m8 124 rfl) rfl
theorem q1912 : (Jvm.Cond.privateMethod ({ cls := "PartedSideModel", name := "cheapest", desc := "(II)I" } : Jvm.MethodName)) ∈ lw_tbl := lw_at lw_m8 125 rfl
theorem q1913 : (Jvm.Cond.instanceMethod ({ cls := "PartedSideModel", name := "cheapest", desc := "(II)I" } : Jvm.MethodName)) ∈ lw_all := lw_g (lw_at lw_m8 126 rfl) rfl
theorem q1914 : (Jvm.Cond.code ({ cls := "PartedSideModel", name := "cheapest", desc := "(II)I" } : Jvm.MethodName) prog_21_method_74_code (6 : Nat) (Option.some Jvm.ClassFile.FieldType.int)) ∈ lw_all := lw_g (lw_at lw_m8 127 rfl) rfl
theorem q1915 : (Jvm.Cond.methodLink "PartedSideModel" (392 : Nat) ({ cls := "PartedSideModel", name := "fillsCosts", desc := "()V" } : Jvm.MethodName)) ∈ lw_all := lw_g (lw_at lw_m8 128 rfl) rfl
theorem q1916 : (Jvm.Cond.privateMethod ({ cls := "PartedSideModel", name := "fillsCosts", desc := "()V" } : Jvm.MethodName)) ∈ lw_tbl := lw_at lw_m8 129 rfl
theorem q1917 : (Jvm.Cond.instanceMethod ({ cls := "PartedSideModel", name := "fillsCosts", desc := "()V" } : Jvm.MethodName)) ∈ lw_all := lw_g (lw_at lw_m8 130 rfl) rfl
theorem q1918 : (Jvm.Cond.code ({ cls := "PartedSideModel", name := "fillsCosts", desc := "()V" } : Jvm.MethodName) prog_21_method_72_code (2 : Nat) (Option.none : Option Jvm.ClassFile.FieldType)) ∈ lw_all := lw_g (lw_at lw_m8 131 rfl) rfl
theorem q1919 : (Jvm.Cond.methodLink "PartedSideModel" (395 : Nat) ({ cls := "PartedSideModel", name := "costsOfAll", desc := "(I)I" } : Jvm.MethodName)) ∈ lw_all := lw_g (lw_at lw_m8 132 rfl) rfl
theorem q1920 : (Jvm.Cond.privateMethod ({ cls := "PartedSideModel", name := "costsOfAll", desc := "(I)I" } : Jvm.MethodName)) ∈ lw_tbl := lw_at lw_m8 133 rfl
theorem q1921 : (Jvm.Cond.instanceMethod ({ cls := "PartedSideModel", name := "costsOfAll", desc := "(I)I" } : Jvm.MethodName)) ∈ lw_all := lw_g (lw_at lw_m8 134 rfl) rfl
theorem q1922 : (Jvm.Cond.code ({ cls := "PartedSideModel", name := "costsOfAll", desc := "(I)I" } : Jvm.MethodName) prog_21_method_73_code (4 : Nat) (Option.some Jvm.ClassFile.FieldType.int)) ∈ lw_all := lw_g (lw_at lw_m8 135 rfl) rfl
theorem q1923 : (Jvm.Cond.methodLink "PartedSideModel" (398 : Nat) ({ cls := "PartedSideModel", name := "bits", desc := "(I)I" } : Jvm.MethodName)) ∈ lw_all := lw_g (lw_at lw_m8 136 rfl) rfl
theorem q1924 : (Jvm.Cond.static ({ cls := "PartedSideModel", name := "bits", desc := "(I)I" } : Jvm.MethodName)) ∈ lw_all := lw_g (lw_at lw_m8 137 rfl) rfl
theorem q1925 : (Jvm.Cond.code ({ cls := "PartedSideModel", name := "bits", desc := "(I)I" } : Jvm.MethodName) prog_21_method_37_code (3 : Nat) (Option.some Jvm.ClassFile.FieldType.int)) ∈ lw_all := lw_g (lw_at lw_m8 138 rfl) rfl
theorem q1926 : (Jvm.Cond.methodLink "PartedSideModel" (401 : Nat) ({ cls := "PartedSideModel", name := "rowNow", desc := "()I" } : Jvm.MethodName)) ∈ lw_all := lw_g (lw_at lw_m8 139 rfl) rfl
theorem q1927 : (Jvm.Cond.privateMethod ({ cls := "PartedSideModel", name := "rowNow", desc := "()I" } : Jvm.MethodName)) ∈ lw_tbl := lw_at lw_m8 140 rfl
theorem q1928 : (Jvm.Cond.instanceMethod ({ cls := "PartedSideModel", name := "rowNow", desc := "()I" } : Jvm.MethodName)) ∈ lw_all := lw_g (lw_at lw_m8 141 rfl) rfl
theorem q1929 : (Jvm.Cond.code ({ cls := "PartedSideModel", name := "rowNow", desc := "()I" } : Jvm.MethodName) prog_21_method_60_code (3 : Nat) (Option.some Jvm.ClassFile.FieldType.int)) ∈ lw_all := lw_g (lw_at lw_m8 142 rfl) rfl
theorem q1931 : (Jvm.Cond.instanceMethod ({ cls := "PartedSideModel", name := "turnTo", desc := "(II)I" } : Jvm.MethodName)) ∈ lw_all := lw_g (lw_at lw_m8 144 rfl) rfl
theorem q1932 : (Jvm.Cond.selects "PartedSideModel" ({ cls := "PartedSideModel", name := "turnTo", desc := "(II)I" } : Jvm.MethodName) ({ cls := "PartedSideModel", name := "turnTo", desc := "(II)I" } : Jvm.MethodName)) ∈ lw_all := lw_g (lw_at lw_m8 145 rfl) rfl
theorem q1933 : (Jvm.Cond.code ({ cls := "PartedSideModel", name := "turnTo", desc := "(II)I" } : Jvm.MethodName) prog_21_method_76_code (4 : Nat) (Option.some Jvm.ClassFile.FieldType.int)) ∈ lw_all := lw_g (lw_at lw_m8 146 rfl) rfl
theorem q1935 : (Jvm.Cond.instanceMethod ({ cls := "PartedSideModel", name := "soonest", desc := "(I)I" } : Jvm.MethodName)) ∈ lw_all := lw_g (lw_at lw_m8 148 rfl) rfl
theorem q1936 : (Jvm.Cond.selects "PartedSideModel" ({ cls := "PartedSideModel", name := "soonest", desc := "(I)I" } : Jvm.MethodName) ({ cls := "PartedSideModel", name := "soonest", desc := "(I)I" } : Jvm.MethodName)) ∈ lw_all := lw_g (lw_at lw_m8 149 rfl) rfl
theorem q1937 : (Jvm.Cond.code ({ cls := "PartedSideModel", name := "soonest", desc := "(I)I" } : Jvm.MethodName) prog_21_method_77_code (4 : Nat) (Option.some Jvm.ClassFile.FieldType.int)) ∈ lw_all := lw_g (lw_at lw_m8 150 rfl) rfl
theorem q1939 : (Jvm.Cond.instanceMethod ({ cls := "PartedSideModel", name := "spread", desc := "(II)I" } : Jvm.MethodName)) ∈ lw_all := lw_g (lw_at lw_m8 152 rfl) rfl
theorem q1940 : (Jvm.Cond.selects "PartedSideModel" ({ cls := "PartedSideModel", name := "spread", desc := "(II)I" } : Jvm.MethodName) ({ cls := "PartedSideModel", name := "spread", desc := "(II)I" } : Jvm.MethodName)) ∈ lw_all := lw_g (lw_at lw_m8 153 rfl) rfl
theorem q1941 : (Jvm.Cond.code ({ cls := "PartedSideModel", name := "spread", desc := "(II)I" } : Jvm.MethodName) prog_21_method_78_code (4 : Nat) (Option.some Jvm.ClassFile.FieldType.int)) ∈ lw_all := lw_g (lw_at lw_m8 154 rfl) rfl
theorem q1943 : (Jvm.Cond.instanceMethod ({ cls := "PartedSideModel", name := "leads", desc := "(III)I" } : Jvm.MethodName)) ∈ lw_all := lw_g (lw_at lw_m8 156 rfl) rfl
theorem q1944 : (Jvm.Cond.selects "PartedSideModel" ({ cls := "PartedSideModel", name := "leads", desc := "(III)I" } : Jvm.MethodName) ({ cls := "PartedSideModel", name := "leads", desc := "(III)I" } : Jvm.MethodName)) ∈ lw_all := lw_g (lw_at lw_m8 157 rfl) rfl
theorem q1945 : (Jvm.Cond.code ({ cls := "PartedSideModel", name := "leads", desc := "(III)I" } : Jvm.MethodName) prog_21_method_79_code (7 : Nat) (Option.some Jvm.ClassFile.FieldType.int)) ∈ lw_all := lw_g (lw_at lw_m8 158 rfl) rfl
theorem q1947 : (Jvm.Cond.instanceMethod ({ cls := "PartedSideModel", name := "round", desc := "(II)I" } : Jvm.MethodName)) ∈ lw_all := lw_g (lw_at lw_m8 160 rfl) rfl
theorem q1948 : (Jvm.Cond.selects "PartedSideModel" ({ cls := "PartedSideModel", name := "round", desc := "(II)I" } : Jvm.MethodName) ({ cls := "PartedSideModel", name := "round", desc := "(II)I" } : Jvm.MethodName)) ∈ lw_all := lw_g (lw_at lw_m8 161 rfl) rfl
theorem q1949 : (Jvm.Cond.code ({ cls := "PartedSideModel", name := "round", desc := "(II)I" } : Jvm.MethodName) prog_21_method_80_code (7 : Nat) (Option.some Jvm.ClassFile.FieldType.int)) ∈ lw_all := lw_g (lw_at lw_m8 162 rfl) rfl
theorem q1951 : (Jvm.Cond.instanceMethod ({ cls := "PartedSideModel", name := "rule", desc := "(I)I" } : Jvm.MethodName)) ∈ lw_all := lw_g (lw_at lw_m8 164 rfl) rfl
theorem q1952 : (Jvm.Cond.selects "PartedSideModel" ({ cls := "PartedSideModel", name := "rule", desc := "(I)I" } : Jvm.MethodName) ({ cls := "PartedSideModel", name := "rule", desc := "(I)I" } : Jvm.MethodName)) ∈ lw_all := lw_g (lw_at lw_m8 165 rfl) rfl
theorem q1953 : (Jvm.Cond.code ({ cls := "PartedSideModel", name := "rule", desc := "(I)I" } : Jvm.MethodName) prog_21_method_81_code (4 : Nat) (Option.some Jvm.ClassFile.FieldType.int)) ∈ lw_all := lw_g (lw_at lw_m8 166 rfl) rfl
theorem q1955 : (Jvm.Cond.instanceMethod ({ cls := "PartedSideModel", name := "coldest", desc := "(I)I" } : Jvm.MethodName)) ∈ lw_all := lw_g (lw_at lw_m8 168 rfl) rfl
theorem q1956 : (Jvm.Cond.selects "PartedSideModel" ({ cls := "PartedSideModel", name := "coldest", desc := "(I)I" } : Jvm.MethodName) ({ cls := "PartedSideModel", name := "coldest", desc := "(I)I" } : Jvm.MethodName)) ∈ lw_all := lw_g (lw_at lw_m8 169 rfl) rfl
theorem q1957 : (Jvm.Cond.code ({ cls := "PartedSideModel", name := "coldest", desc := "(I)I" } : Jvm.MethodName) prog_21_method_82_code (7 : Nat) (Option.some Jvm.ClassFile.FieldType.int)) ∈ lw_all := lw_g (lw_at lw_m8 170 rfl) rfl
theorem q1959 : (Jvm.Cond.instanceMethod ({ cls := "PartedSideModel", name := "run", desc := "(I)I" } : Jvm.MethodName)) ∈ lw_all := lw_g (lw_at lw_m8 172 rfl) rfl
theorem q1960 : (Jvm.Cond.selects "PartedSideModel" ({ cls := "PartedSideModel", name := "run", desc := "(I)I" } : Jvm.MethodName) ({ cls := "PartedSideModel", name := "run", desc := "(I)I" } : Jvm.MethodName)) ∈ lw_all := lw_g (lw_at lw_m8 173 rfl) rfl
theorem q1961 : (Jvm.Cond.code ({ cls := "PartedSideModel", name := "run", desc := "(I)I" } : Jvm.MethodName) prog_21_method_85_code (6 : Nat) (Option.some Jvm.ClassFile.FieldType.int)) ∈ lw_all := lw_g (lw_at lw_m8 174 rfl) rfl
theorem q1962 : (Jvm.Cond.methodLink "PartedSideModel" (413 : Nat) ({ cls := "PartedSideModel", name := "runFrom", desc := "(I)I" } : Jvm.MethodName)) ∈ lw_all := lw_g (lw_at lw_m8 175 rfl) rfl
theorem q1963 : (Jvm.Cond.privateMethod ({ cls := "PartedSideModel", name := "runFrom", desc := "(I)I" } : Jvm.MethodName)) ∈ lw_tbl := lw_at lw_m8 176 rfl
theorem q1964 : (Jvm.Cond.instanceMethod ({ cls := "PartedSideModel", name := "runFrom", desc := "(I)I" } : Jvm.MethodName)) ∈ lw_all := lw_g (lw_at lw_m8 177 rfl) rfl
theorem q1965 : (Jvm.Cond.code ({ cls := "PartedSideModel", name := "runFrom", desc := "(I)I" } : Jvm.MethodName) prog_21_method_84_code (4 : Nat) (Option.some Jvm.ClassFile.FieldType.int)) ∈ lw_all := lw_g (lw_at lw_m8 178 rfl) rfl
theorem q1966 : (Jvm.Cond.methodLink "PartedSideModel" (410 : Nat) ({ cls := "PartedSideModel", name := "ringAt", desc := "(I)I" } : Jvm.MethodName)) ∈ lw_all := lw_g (lw_at lw_m8 179 rfl) rfl
theorem q1967 : (Jvm.Cond.privateMethod ({ cls := "PartedSideModel", name := "ringAt", desc := "(I)I" } : Jvm.MethodName)) ∈ lw_tbl := lw_at lw_m8 180 rfl
theorem q1968 : (Jvm.Cond.instanceMethod ({ cls := "PartedSideModel", name := "ringAt", desc := "(I)I" } : Jvm.MethodName)) ∈ lw_all := lw_g (lw_at lw_m8 181 rfl) rfl
theorem q1969 : (Jvm.Cond.code ({ cls := "PartedSideModel", name := "ringAt", desc := "(I)I" } : Jvm.MethodName) prog_21_method_83_code (2 : Nat) (Option.some Jvm.ClassFile.FieldType.int)) ∈ lw_all := lw_g (lw_at lw_m8 182 rfl) rfl
theorem q1971 : (Jvm.Cond.instanceMethod ({ cls := "PartedSideModel", name := "unlike", desc := "()I" } : Jvm.MethodName)) ∈ lw_all := lw_g (lw_at lw_m8 184 rfl) rfl
theorem q1972 : (Jvm.Cond.selects "PartedSideModel" ({ cls := "PartedSideModel", name := "unlike", desc := "()I" } : Jvm.MethodName) ({ cls := "PartedSideModel", name := "unlike", desc := "()I" } : Jvm.MethodName)) ∈ lw_all := lw_g (lw_at lw_m8 185 rfl) rfl
theorem q1973 : (Jvm.Cond.code ({ cls := "PartedSideModel", name := "unlike", desc := "()I" } : Jvm.MethodName) prog_21_method_86_code (3 : Nat) (Option.some Jvm.ClassFile.FieldType.int)) ∈ lw_all := lw_g (lw_at lw_m8 186 rfl) rfl
theorem q1975 : (Jvm.Cond.instanceMethod ({ cls := "PartedSideModel", name := "eden", desc := "(I)I" } : Jvm.MethodName)) ∈ lw_all := lw_g (lw_at lw_m8 188 rfl) rfl
theorem q1976 : (Jvm.Cond.selects "PartedSideModel" ({ cls := "PartedSideModel", name := "eden", desc := "(I)I" } : Jvm.MethodName) ({ cls := "PartedSideModel", name := "eden", desc := "(I)I" } : Jvm.MethodName)) ∈ lw_all := lw_g (lw_at lw_m8 189 rfl) rfl
theorem q1977 : (Jvm.Cond.code ({ cls := "PartedSideModel", name := "eden", desc := "(I)I" } : Jvm.MethodName) prog_21_method_87_code (4 : Nat) (Option.some Jvm.ClassFile.FieldType.int)) ∈ lw_all := lw_g (lw_at lw_m8 190 rfl) rfl
theorem q1979 : (Jvm.Cond.instanceMethod ({ cls := "PartedSideModel", name := "duel", desc := "(II)I" } : Jvm.MethodName)) ∈ lw_all := lw_g (lw_at lw_m8 192 rfl) rfl
theorem q1980 : (Jvm.Cond.selects "PartedSideModel" ({ cls := "PartedSideModel", name := "duel", desc := "(II)I" } : Jvm.MethodName) ({ cls := "PartedSideModel", name := "duel", desc := "(II)I" } : Jvm.MethodName)) ∈ lw_all := lw_g (lw_at lw_m8 193 rfl) rfl
theorem q1981 : (Jvm.Cond.code ({ cls := "PartedSideModel", name := "duel", desc := "(II)I" } : Jvm.MethodName) prog_21_method_89_code (7 : Nat) (Option.some Jvm.ClassFile.FieldType.int)) ∈ lw_all := lw_g (lw_at lw_m8 194 rfl) rfl
theorem q1982 : (Jvm.Cond.methodLink "PartedSideModel" (416 : Nat) ({ cls := "PartedSideModel", name := "mostWith", desc := "(II)I" } : Jvm.MethodName)) ∈ lw_all := lw_g (lw_at lw_m8 195 rfl) rfl
theorem q1983 : (Jvm.Cond.privateMethod ({ cls := "PartedSideModel", name := "mostWith", desc := "(II)I" } : Jvm.MethodName)) ∈ lw_tbl := lw_at lw_m8 196 rfl
theorem q1984 : (Jvm.Cond.instanceMethod ({ cls := "PartedSideModel", name := "mostWith", desc := "(II)I" } : Jvm.MethodName)) ∈ lw_all := lw_g (lw_at lw_m8 197 rfl) rfl
theorem q1985 : (Jvm.Cond.code ({ cls := "PartedSideModel", name := "mostWith", desc := "(II)I" } : Jvm.MethodName) prog_21_method_88_code (6 : Nat) (Option.some Jvm.ClassFile.FieldType.int)) ∈ lw_all := lw_g (lw_at lw_m8 198 rfl) rfl
theorem q1987 : (Jvm.Cond.instanceMethod ({ cls := "PartedSideModel", name := "sentry", desc := "(II)I" } : Jvm.MethodName)) ∈ lw_all := lw_g (lw_at lw_m8 200 rfl) rfl
theorem q1988 : (Jvm.Cond.selects "PartedSideModel" ({ cls := "PartedSideModel", name := "sentry", desc := "(II)I" } : Jvm.MethodName) ({ cls := "PartedSideModel", name := "sentry", desc := "(II)I" } : Jvm.MethodName)) ∈ lw_all := lw_g (lw_at lw_m8 201 rfl) rfl
theorem q1989 : (Jvm.Cond.code ({ cls := "PartedSideModel", name := "sentry", desc := "(II)I" } : Jvm.MethodName) prog_21_method_92_code (8 : Nat) (Option.some Jvm.ClassFile.FieldType.int)) ∈ lw_all := lw_g (lw_at lw_m8 202 rfl) rfl
theorem q1990 : (Jvm.Cond.methodLink "PartedSideModel" (419 : Nat) ({ cls := "PartedSideModel", name := "fillsLeft", desc := "(I)V" } : Jvm.MethodName)) ∈ lw_all := lw_g (lw_at lw_m8 203 rfl) rfl
theorem q1991 : (Jvm.Cond.privateMethod ({ cls := "PartedSideModel", name := "fillsLeft", desc := "(I)V" } : Jvm.MethodName)) ∈ lw_tbl := lw_at lw_m8 204 rfl
theorem q1992 : (Jvm.Cond.instanceMethod ({ cls := "PartedSideModel", name := "fillsLeft", desc := "(I)V" } : Jvm.MethodName)) ∈ lw_all := lw_g (lw_at lw_m8 205 rfl) rfl
theorem q1993 : (Jvm.Cond.code ({ cls := "PartedSideModel", name := "fillsLeft", desc := "(I)V" } : Jvm.MethodName) prog_21_method_90_code (3 : Nat) (Option.none : Option Jvm.ClassFile.FieldType)) ∈ lw_all := lw_g (lw_at lw_m8 206 rfl) rfl
theorem q1994 : (Jvm.Cond.methodLink "PartedSideModel" (422 : Nat) ({ cls := "PartedSideModel", name := "worstBut", desc := "(I)I" } : Jvm.MethodName)) ∈ lw_all := lw_g (lw_at lw_m8 207 rfl) rfl
theorem q1995 : (Jvm.Cond.privateMethod ({ cls := "PartedSideModel", name := "worstBut", desc := "(I)I" } : Jvm.MethodName)) ∈ lw_tbl := lw_at lw_m8 208 rfl
theorem q1996 : (Jvm.Cond.instanceMethod ({ cls := "PartedSideModel", name := "worstBut", desc := "(I)I" } : Jvm.MethodName)) ∈ lw_all := lw_g (lw_at lw_m8 209 rfl) rfl
theorem q1997 : (Jvm.Cond.code ({ cls := "PartedSideModel", name := "worstBut", desc := "(I)I" } : Jvm.MethodName) prog_21_method_91_code (4 : Nat) (Option.some Jvm.ClassFile.FieldType.int)) ∈ lw_all := lw_g (lw_at lw_m8 210 rfl) rfl
theorem q1999 : (Jvm.Cond.instanceMethod ({ cls := "PartedSideModel", name := "worst", desc := "(II)I" } : Jvm.MethodName)) ∈ lw_all := lw_g (lw_at lw_m8 212 rfl) rfl
theorem q2000 : (Jvm.Cond.selects "PartedSideModel" ({ cls := "PartedSideModel", name := "worst", desc := "(II)I" } : Jvm.MethodName) ({ cls := "PartedSideModel", name := "worst", desc := "(II)I" } : Jvm.MethodName)) ∈ lw_all := lw_g (lw_at lw_m8 213 rfl) rfl
theorem q2001 : (Jvm.Cond.code ({ cls := "PartedSideModel", name := "worst", desc := "(II)I" } : Jvm.MethodName) prog_21_method_93_code (3 : Nat) (Option.some Jvm.ClassFile.FieldType.int)) ∈ lw_all := lw_g (lw_at lw_m8 214 rfl) rfl
theorem q2003 : (Jvm.Cond.instanceMethod ({ cls := "PartedSideModel", name := "parting", desc := "(I)I" } : Jvm.MethodName)) ∈ lw_all := lw_g (lw_at lw_m8 216 rfl) rfl
theorem q2004 : (Jvm.Cond.selects "PartedSideModel" ({ cls := "PartedSideModel", name := "parting", desc := "(I)I" } : Jvm.MethodName) ({ cls := "PartedSideModel", name := "parting", desc := "(I)I" } : Jvm.MethodName)) ∈ lw_all := lw_g (lw_at lw_m8 217 rfl) rfl
theorem q2005 : (Jvm.Cond.code ({ cls := "PartedSideModel", name := "parting", desc := "(I)I" } : Jvm.MethodName) prog_21_method_94_code (4 : Nat) (Option.some Jvm.ClassFile.FieldType.int)) ∈ lw_all := lw_g (lw_at lw_m8 218 rfl) rfl
theorem q2007 : (Jvm.Cond.instanceMethod ({ cls := "PartedSideModel", name := "shows", desc := "(I)I" } : Jvm.MethodName)) ∈ lw_all := lw_g (lw_at lw_m8 220 rfl) rfl
theorem q2008 : (Jvm.Cond.selects "PartedSideModel" ({ cls := "PartedSideModel", name := "shows", desc := "(I)I" } : Jvm.MethodName) ({ cls := "PartedSideModel", name := "shows", desc := "(I)I" } : Jvm.MethodName)) ∈ lw_all := lw_g (lw_at lw_m8 221 rfl) rfl
theorem q2009 : (Jvm.Cond.code ({ cls := "PartedSideModel", name := "shows", desc := "(I)I" } : Jvm.MethodName) prog_21_method_96_code (2 : Nat) (Option.some Jvm.ClassFile.FieldType.int)) ∈ lw_all := lw_g (lw_at lw_m8 222 rfl) rfl
theorem q2010 : (Jvm.Cond.methodLink "PartedSideModel" (425 : Nat) ({ cls := "PartedSideModel", name := "showBits", desc := "()I" } : Jvm.MethodName)) ∈ lw_all := lw_g (lw_at lw_m8 223 rfl) rfl
theorem q2011 : (Jvm.Cond.privateMethod ({ cls := "PartedSideModel", name := "showBits", desc := "()I" } : Jvm.MethodName)) ∈ lw_tbl := lw_at lw_m8 224 rfl
theorem q2012 : (Jvm.Cond.instanceMethod ({ cls := "PartedSideModel", name := "showBits", desc := "()I" } : Jvm.MethodName)) ∈ lw_all := lw_g (lw_at lw_m8 225 rfl) rfl
theorem q2013 : (Jvm.Cond.code ({ cls := "PartedSideModel", name := "showBits", desc := "()I" } : Jvm.MethodName) prog_21_method_95_code (3 : Nat) (Option.some Jvm.ClassFile.FieldType.int)) ∈ lw_all := lw_g (lw_at lw_m8 226 rfl) rfl
theorem q2015 : (Jvm.Cond.instanceMethod ({ cls := "PartedSideModel", name := "still", desc := "(I)I" } : Jvm.MethodName)) ∈ lw_all := lw_g (lw_at lw_m8 228 rfl) rfl
theorem q2016 : (Jvm.Cond.selects "PartedSideModel" ({ cls := "PartedSideModel", name := "still", desc := "(I)I" } : Jvm.MethodName) ({ cls := "PartedSideModel", name := "still", desc := "(I)I" } : Jvm.MethodName)) ∈ lw_all := lw_g (lw_at lw_m8 229 rfl) rfl
theorem q2017 : (Jvm.Cond.code ({ cls := "PartedSideModel", name := "still", desc := "(I)I" } : Jvm.MethodName) prog_21_method_97_code (5 : Nat) (Option.some Jvm.ClassFile.FieldType.int)) ∈ lw_all := lw_g (lw_at lw_m8 230 rfl) rfl
theorem q2019 : (Jvm.Cond.instanceMethod ({ cls := "PartedSideModel", name := "again", desc := "()I" } : Jvm.MethodName)) ∈ lw_all := lw_g (lw_at lw_m8 232 rfl) rfl
theorem q2020 : (Jvm.Cond.selects "PartedSideModel" ({ cls := "PartedSideModel", name := "again", desc := "()I" } : Jvm.MethodName) ({ cls := "PartedSideModel", name := "again", desc := "()I" } : Jvm.MethodName)) ∈ lw_all := lw_g (lw_at lw_m8 233 rfl) rfl
theorem q2021 : (Jvm.Cond.code ({ cls := "PartedSideModel", name := "again", desc := "()I" } : Jvm.MethodName) prog_21_method_98_code (2 : Nat) (Option.some Jvm.ClassFile.FieldType.int)) ∈ lw_all := lw_g (lw_at lw_m8 234 rfl) rfl
theorem q2023 : (Jvm.Cond.instanceMethod ({ cls := "PartedSideModel", name := "changeBest", desc := "(II)I" } : Jvm.MethodName)) ∈ lw_all := lw_g (lw_at lw_m8 236 rfl) rfl
theorem q2024 : (Jvm.Cond.selects "PartedSideModel" ({ cls := "PartedSideModel", name := "changeBest", desc := "(II)I" } : Jvm.MethodName) ({ cls := "PartedSideModel", name := "changeBest", desc := "(II)I" } : Jvm.MethodName)) ∈ lw_all := lw_g (lw_at lw_m8 237 rfl) rfl
theorem q2025 : (Jvm.Cond.code ({ cls := "PartedSideModel", name := "changeBest", desc := "(II)I" } : Jvm.MethodName) prog_21_method_100_code (8 : Nat) (Option.some Jvm.ClassFile.FieldType.int)) ∈ lw_all := lw_g (lw_at lw_m8 238 rfl) rfl
theorem q2026 : (Jvm.Cond.methodLink "PartedSideModel" (428 : Nat) ({ cls := "PartedSideModel", name := "leftIn", desc := "(I)I" } : Jvm.MethodName)) ∈ lw_all := lw_g (lw_at lw_m8 239 rfl) rfl
theorem q2027 : (Jvm.Cond.privateMethod ({ cls := "PartedSideModel", name := "leftIn", desc := "(I)I" } : Jvm.MethodName)) ∈ lw_tbl := lw_at lw_m9 0 rfl
theorem q2028 : (Jvm.Cond.instanceMethod ({ cls := "PartedSideModel", name := "leftIn", desc := "(I)I" } : Jvm.MethodName)) ∈ lw_all := lw_g (lw_at lw_m9 1 rfl) rfl
theorem q2029 : (Jvm.Cond.code ({ cls := "PartedSideModel", name := "leftIn", desc := "(I)I" } : Jvm.MethodName) prog_21_method_99_code (4 : Nat) (Option.some Jvm.ClassFile.FieldType.int)) ∈ lw_all := lw_g (lw_at lw_m9 2 rfl) rfl
theorem q2031 : (Jvm.Cond.instanceMethod ({ cls := "PartedSideModel", name := "leave", desc := "(I)I" } : Jvm.MethodName)) ∈ lw_all := lw_g (lw_at lw_m9 4 rfl) rfl
theorem q2032 : (Jvm.Cond.selects "PartedSideModel" ({ cls := "PartedSideModel", name := "leave", desc := "(I)I" } : Jvm.MethodName) ({ cls := "PartedSideModel", name := "leave", desc := "(I)I" } : Jvm.MethodName)) ∈ lw_all := lw_g (lw_at lw_m9 5 rfl) rfl
theorem q2033 : (Jvm.Cond.code ({ cls := "PartedSideModel", name := "leave", desc := "(I)I" } : Jvm.MethodName) prog_21_method_101_code (4 : Nat) (Option.some Jvm.ClassFile.FieldType.int)) ∈ lw_all := lw_g (lw_at lw_m9 6 rfl) rfl
theorem q2035 : (Jvm.Cond.instanceMethod ({ cls := "PartedSideModel", name := "then", desc := "(III)I" } : Jvm.MethodName)) ∈ lw_all := lw_g (lw_at lw_m9 8 rfl) rfl
theorem q2036 : (Jvm.Cond.selects "PartedSideModel" ({ cls := "PartedSideModel", name := "then", desc := "(III)I" } : Jvm.MethodName) ({ cls := "PartedSideModel", name := "then", desc := "(III)I" } : Jvm.MethodName)) ∈ lw_all := lw_g (lw_at lw_m9 9 rfl) rfl
theorem q2037 : (Jvm.Cond.code ({ cls := "PartedSideModel", name := "then", desc := "(III)I" } : Jvm.MethodName) prog_21_method_102_code (4 : Nat) (Option.some Jvm.ClassFile.FieldType.int)) ∈ lw_all := lw_g (lw_at lw_m9 10 rfl) rfl
theorem q2039 : (Jvm.Cond.instanceMethod ({ cls := "PartedSideModel", name := "year", desc := "(II)I" } : Jvm.MethodName)) ∈ lw_all := lw_g (lw_at lw_m9 12 rfl) rfl
theorem q2040 : (Jvm.Cond.selects "PartedSideModel" ({ cls := "PartedSideModel", name := "year", desc := "(II)I" } : Jvm.MethodName) ({ cls := "PartedSideModel", name := "year", desc := "(II)I" } : Jvm.MethodName)) ∈ lw_all := lw_g (lw_at lw_m9 13 rfl) rfl
theorem q2041 : (Jvm.Cond.code ({ cls := "PartedSideModel", name := "year", desc := "(II)I" } : Jvm.MethodName) prog_21_method_103_code (5 : Nat) (Option.some Jvm.ClassFile.FieldType.int)) ∈ lw_all := lw_g (lw_at lw_m9 14 rfl) rfl
theorem q2043 : (Jvm.Cond.instanceMethod ({ cls := "PartedSideModel", name := "tell", desc := "(IIZ)I" } : Jvm.MethodName)) ∈ lw_all := lw_g (lw_at lw_m9 16 rfl) rfl
theorem q2044 : (Jvm.Cond.selects "PartedSideModel" ({ cls := "PartedSideModel", name := "tell", desc := "(IIZ)I" } : Jvm.MethodName) ({ cls := "PartedSideModel", name := "tell", desc := "(IIZ)I" } : Jvm.MethodName)) ∈ lw_all := lw_g (lw_at lw_m9 17 rfl) rfl
theorem q2045 : (Jvm.Cond.code ({ cls := "PartedSideModel", name := "tell", desc := "(IIZ)I" } : Jvm.MethodName) prog_21_method_104_code (4 : Nat) (Option.some Jvm.ClassFile.FieldType.int)) ∈ lw_all := lw_g (lw_at lw_m9 18 rfl) rfl
theorem q2047 : (Jvm.Cond.instanceMethod ({ cls := "PartedSideModel", name := "forget", desc := "()I" } : Jvm.MethodName)) ∈ lw_all := lw_g (lw_at lw_m9 20 rfl) rfl
theorem q2048 : (Jvm.Cond.selects "PartedSideModel" ({ cls := "PartedSideModel", name := "forget", desc := "()I" } : Jvm.MethodName) ({ cls := "PartedSideModel", name := "forget", desc := "()I" } : Jvm.MethodName)) ∈ lw_all := lw_g (lw_at lw_m9 21 rfl) rfl
theorem q2049 : (Jvm.Cond.code ({ cls := "PartedSideModel", name := "forget", desc := "()I" } : Jvm.MethodName) prog_21_method_105_code (2 : Nat) (Option.some Jvm.ClassFile.FieldType.int)) ∈ lw_all := lw_g (lw_at lw_m9 22 rfl) rfl
theorem q2051 : (Jvm.Cond.instanceMethod ({ cls := "PartedSideModel", name := "lay", desc := "(II)I" } : Jvm.MethodName)) ∈ lw_all := lw_g (lw_at lw_m9 24 rfl) rfl
theorem q2052 : (Jvm.Cond.selects "PartedSideModel" ({ cls := "PartedSideModel", name := "lay", desc := "(II)I" } : Jvm.MethodName) ({ cls := "PartedSideModel", name := "lay", desc := "(II)I" } : Jvm.MethodName)) ∈ lw_all := lw_g (lw_at lw_m9 25 rfl) rfl
theorem q2053 : (Jvm.Cond.code ({ cls := "PartedSideModel", name := "lay", desc := "(II)I" } : Jvm.MethodName) prog_21_method_107_code (8 : Nat) (Option.some Jvm.ClassFile.FieldType.int)) ∈ lw_all := lw_g (lw_at lw_m9 26 rfl) rfl
theorem q2054 : (Jvm.Cond.methodLink "PartedSideModel" (431 : Nat) ({ cls := "PartedSideModel", name := "fillsLay", desc := "(I)I" } : Jvm.MethodName)) ∈ lw_all := lw_g (lw_at lw_m9 27 rfl) rfl
theorem q2055 : (Jvm.Cond.privateMethod ({ cls := "PartedSideModel", name := "fillsLay", desc := "(I)I" } : Jvm.MethodName)) ∈ lw_tbl := lw_at lw_m9 28 rfl
theorem q2056 : (Jvm.Cond.instanceMethod ({ cls := "PartedSideModel", name := "fillsLay", desc := "(I)I" } : Jvm.MethodName)) ∈ lw_all := lw_g (lw_at lw_m9 29 rfl) rfl
theorem q2057 : (Jvm.Cond.code ({ cls := "PartedSideModel", name := "fillsLay", desc := "(I)I" } : Jvm.MethodName) prog_21_method_106_code (5 : Nat) (Option.some Jvm.ClassFile.FieldType.int)) ∈ lw_all := lw_g (lw_at lw_m9 30 rfl) rfl
theorem q2059 : (Jvm.Cond.instanceMethod ({ cls := "PartedSideModel", name := "look", desc := "(II)I" } : Jvm.MethodName)) ∈ lw_all := lw_g (lw_at lw_m9 32 rfl) rfl
theorem q2060 : (Jvm.Cond.selects "PartedSideModel" ({ cls := "PartedSideModel", name := "look", desc := "(II)I" } : Jvm.MethodName) ({ cls := "PartedSideModel", name := "look", desc := "(II)I" } : Jvm.MethodName)) ∈ lw_all := lw_g (lw_at lw_m9 33 rfl) rfl
theorem q2061 : (Jvm.Cond.code ({ cls := "PartedSideModel", name := "look", desc := "(II)I" } : Jvm.MethodName) prog_21_method_108_code (8 : Nat) (Option.some Jvm.ClassFile.FieldType.int)) ∈ lw_all := lw_g (lw_at lw_m9 34 rfl) rfl
theorem q2063 : (Jvm.Cond.instanceMethod ({ cls := "PartedSideModel", name := "hold", desc := "(I)Z" } : Jvm.MethodName)) ∈ lw_all := lw_g (lw_at lw_m9 36 rfl) rfl
theorem q2064 : (Jvm.Cond.selects "PartedSideModel" ({ cls := "PartedSideModel", name := "hold", desc := "(I)Z" } : Jvm.MethodName) ({ cls := "PartedSideModel", name := "hold", desc := "(I)Z" } : Jvm.MethodName)) ∈ lw_all := lw_g (lw_at lw_m9 37 rfl) rfl
theorem q2065 : (Jvm.Cond.code ({ cls := "PartedSideModel", name := "hold", desc := "(I)Z" } : Jvm.MethodName) prog_21_method_109_code (3 : Nat) (Option.some Jvm.ClassFile.FieldType.boolean)) ∈ lw_all := lw_g (lw_at lw_m9 38 rfl) rfl
theorem q2067 : (Jvm.Cond.instanceMethod ({ cls := "PartedSideModel", name := "restore", desc := "(I)Z" } : Jvm.MethodName)) ∈ lw_all := lw_g (lw_at lw_m9 40 rfl) rfl
theorem q2068 : (Jvm.Cond.selects "PartedSideModel" ({ cls := "PartedSideModel", name := "restore", desc := "(I)Z" } : Jvm.MethodName) ({ cls := "PartedSideModel", name := "restore", desc := "(I)Z" } : Jvm.MethodName)) ∈ lw_all := lw_g (lw_at lw_m9 41 rfl) rfl
theorem q2069 : (Jvm.Cond.code ({ cls := "PartedSideModel", name := "restore", desc := "(I)Z" } : Jvm.MethodName) prog_21_method_110_code (3 : Nat) (Option.some Jvm.ClassFile.FieldType.boolean)) ∈ lw_all := lw_g (lw_at lw_m9 42 rfl) rfl
theorem q2071 : (Jvm.Cond.instanceMethod ({ cls := "PartedSideModel", name := "count", desc := "(I)I" } : Jvm.MethodName)) ∈ lw_all := lw_g (lw_at lw_m9 44 rfl) rfl
theorem q2072 : (Jvm.Cond.selects "PartedSideModel" ({ cls := "PartedSideModel", name := "count", desc := "(I)I" } : Jvm.MethodName) ({ cls := "PartedSideModel", name := "count", desc := "(I)I" } : Jvm.MethodName)) ∈ lw_all := lw_g (lw_at lw_m9 45 rfl) rfl
theorem q2073 : (Jvm.Cond.code ({ cls := "PartedSideModel", name := "count", desc := "(I)I" } : Jvm.MethodName) prog_21_method_112_code (4 : Nat) (Option.some Jvm.ClassFile.FieldType.int)) ∈ lw_all := lw_g (lw_at lw_m9 46 rfl) rfl
theorem q2074 : (Jvm.Cond.methodLink "PartedSideModel" (434 : Nat) ({ cls := "PartedSideModel", name := "sumNow", desc := "(I)I" } : Jvm.MethodName)) ∈ lw_all := lw_g (lw_at lw_m9 47 rfl) rfl
theorem q2075 : (Jvm.Cond.privateMethod ({ cls := "PartedSideModel", name := "sumNow", desc := "(I)I" } : Jvm.MethodName)) ∈ lw_tbl := lw_at lw_m9 48 rfl
theorem q2076 : (Jvm.Cond.instanceMethod ({ cls := "PartedSideModel", name := "sumNow", desc := "(I)I" } : Jvm.MethodName)) ∈ lw_all := lw_g (lw_at lw_m9 49 rfl) rfl
theorem q2077 : (Jvm.Cond.code ({ cls := "PartedSideModel", name := "sumNow", desc := "(I)I" } : Jvm.MethodName) prog_21_method_111_code (4 : Nat) (Option.some Jvm.ClassFile.FieldType.int)) ∈ lw_all := lw_g (lw_at lw_m9 50 rfl) rfl
theorem q2100 : (Jvm.Cond.castable "PartedSideModel" "java/lang/Object") ∈ lw_tbl := lw_at lw_m9 73 rfl
theorem in_X13 : ∀ w ∈ wsX130, w ∈ lw_all := lw_in wsX130 [1536, 1538, 1540, 1542, 1544, 1546, 1548, 1550, 1552, 1554, 1556, 1558, 1560, 1562, 1564, 1566, 1568, 1570, 1572, 1574, 1576, 1578, 1580, 1582, 1584, 1586, 1588, 1590, 1592, 1594, 1596, 1598, 1600, 1602, 1604, 1606, 1608, 1610, 1612, 1614, 1616, 1618, 1620, 1622, 1624, 1626, 1628, 1630, 1632, 1634, 1636, 1638, 1640, 1642, 1644, 1646, 1648, 1650, 1652, 1654, 1656, 1658, 1660, 1662, 1664] (by decide +kernel) (by decide +kernel)
