/-! BogsignModel -/
set_option maxRecDepth 100000
def RX4 : String := "BogsignModel"
def TX4 : u_T := fun k => match k with
  | 0 => ("BogsignModel", "softness", "[I", true)
  | 1 => ("BogsignModel", "takes", "[I", true)
  | 2 => ("BogsignModel", "found", "[I", true)
  | 3 => ("BogsignModel", "weights", "[I", true)
  | 4 => ("BogsignModel", "total", "[J", true)
  | 5 => ("BogsignModel", "begins", "[J", true)
  | 6 => ("BogsignModel", "ends", "[J", true)
  | 7 => ("BogsignModel", "where", "[I", true)
  | 8 => ("BogsignModel", "at", "[I", true)
  | 9 => ("BogsignModel", "came", "[I", true)
  | 10 => ("BogsignModel", "sending", "[I", true)
  | 11 => ("BogsignModel", "depth", "[J", true)
  | 12 => ("BogsignModel", "toCome", "[I", true)
  | 13 => ("BogsignModel", "what", "[I", true)
  | 14 => ("BogsignModel", "which", "[I", true)
  | 15 => ("BogsignModel", "owedTo", "[I", true)
  | 16 => ("BogsignModel", "owes", "[I", true)
  | 17 => ("BogsignModel", "rider", "[I", true)
  | 18 => ("BogsignModel", "stretch", "[I", true)
  | 19 => ("BogsignModel", "word", "[I", true)
  | 20 => ("BogsignModel", "sent", "[I", true)
  | 21 => ("BogsignModel", "arrives", "[I", true)
  | 22 => ("BogsignModel", "isIn", "[Z", true)
  | 23 => ("BogsignModel", "isWeighed", "[Z", true)
  | 24 => ("BogsignModel", "noted", "[J", true)
  | 25 => ("BogsignModel", "many", "[I", true)
  | 26 => ("BogsignModel", "good", "[I", true)
  | 27 => ("BogsignModel", "first", "[I", true)
  | 28 => ("BogsignModel", "sends", "[I", true)
  | 29 => ("BogsignModel", "letters", "[B", true)
  | 30 => ("BogsignModel", "day", "I", false)
  | 31 => ("BogsignModel", "limit", "I", false)
  | 32 => ("BogsignModel", "boards", "I", false)
  | 33 => ("BogsignModel", "ordered", "I", false)
  | 34 => ("BogsignModel", "events", "I", false)
  | 35 => ("BogsignModel", "row", "I", false)
  | 36 => ("BogsignModel", "messages", "I", false)
  | _ => ("BogsignModel", "code", "I", false)
def tyX4 : Nat → FieldType := fun k => match k with
  | 0 => .array .int
  | 1 => .array .int
  | 2 => .array .int
  | 3 => .array .int
  | 4 => .array .long
  | 5 => .array .long
  | 6 => .array .long
  | 7 => .array .int
  | 8 => .array .int
  | 9 => .array .int
  | 10 => .array .int
  | 11 => .array .long
  | 12 => .array .int
  | 13 => .array .int
  | 14 => .array .int
  | 15 => .array .int
  | 16 => .array .int
  | 17 => .array .int
  | 18 => .array .int
  | 19 => .array .int
  | 20 => .array .int
  | 21 => .array .int
  | 22 => .array .boolean
  | 23 => .array .boolean
  | 24 => .array .long
  | 25 => .array .int
  | 26 => .array .int
  | 27 => .array .int
  | 28 => .array .int
  | 29 => .array .byte
  | 30 => .int
  | 31 => .int
  | 32 => .int
  | 33 => .int
  | 34 => .int
  | 35 => .int
  | 36 => .int
  | _ => .int
abbrev wsX40 : List Cond := u_ws RX4 TX4 38
set_option maxRecDepth 100000 in
theorem nmX4 : ∀ a, a < 38 → ∀ b, b < 38 → a ≠ b → (TX4 a).2.1 ≠ (TX4 b).2.1 := by decide +kernel
set_option maxRecDepth 100000 in
theorem tyX4_ok : ∀ k, k < 38 → parseFieldDescriptor (TX4 k).2.2.1 = some (tyX4 k) := by decide +kernel
abbrev cX4_init : ByteArray := prog_14_method_1_code
def yX4_init : MethodName := ⟨RX4, "<init>", "()V"⟩
def dkwX4_init_21 : List UInt8 := [79, 132, 1, 1, 167, 255, 240, 177]
abbrev dktX4_init_21 : List UInt8 := dkwX4_init_21 ++ []
def dkwX4_init_20 : List UInt8 := [181, 0, 99, 42, 17, 0, 200, 181, 0, 103, 3, 60, 27, 16, 12, 162, 0, 16, 42, 180, 0, 16, 27, 2]
abbrev dktX4_init_20 : List UInt8 := dkwX4_init_20 ++ dktX4_init_21
def dkwX4_init_19 : List UInt8 := [16, 12, 16, 103, 84, 89, 16, 13, 16, 111, 84, 89, 16, 14, 16, 110, 84, 89, 16, 15, 16, 101, 84]
abbrev dktX4_init_19 : List UInt8 := dkwX4_init_19 ++ dktX4_init_20
def dkwX4_init_18 : List UInt8 := [16, 8, 16, 100, 84, 89, 16, 9, 16, 101, 84, 89, 16, 10, 16, 101, 84, 89, 16, 11, 16, 112, 84, 89]
abbrev dktX4_init_18 : List UInt8 := dkwX4_init_18 ++ dktX4_init_19
def dkwX4_init_17 : List UInt8 := [89, 7, 16, 115, 84, 89, 8, 16, 111, 84, 89, 16, 6, 16, 102, 84, 89, 16, 7, 16, 116, 84, 89]
abbrev dktX4_init_17 : List UInt8 := dkwX4_init_17 ++ dktX4_init_18
def dkwX4_init_16 : List UInt8 := [16, 16, 188, 8, 89, 3, 16, 102, 84, 89, 4, 16, 105, 84, 89, 5, 16, 114, 84, 89, 6, 16, 109, 84]
abbrev dktX4_init_16 : List UInt8 := dkwX4_init_16 ++ dktX4_init_17
def dkwX4_init_15 : List UInt8 := [7, 188, 10, 89, 3, 3, 79, 89, 4, 4, 79, 89, 5, 5, 79, 89, 6, 7, 79, 181, 0, 96, 42]
abbrev dktX4_init_15 : List UInt8 := dkwX4_init_15 ++ dktX4_init_16
def dkwX4_init_14 : List UInt8 := [3, 3, 79, 89, 4, 16, 100, 79, 89, 5, 17, 1, 44, 79, 89, 6, 17, 2, 188, 79, 181, 0, 93, 42]
abbrev dktX4_init_14 : List UInt8 := dkwX4_init_14 ++ dktX4_init_15
def dkwX4_init_13 : List UInt8 := [17, 0, 210, 79, 89, 5, 17, 1, 164, 79, 89, 6, 17, 2, 48, 79, 181, 0, 90, 42, 7, 188, 10, 89]
abbrev dktX4_init_13 : List UInt8 := dkwX4_init_13 ++ dktX4_init_14
def dkwX4_init_12 : List UInt8 := [181, 0, 84, 42, 16, 16, 188, 10, 181, 0, 87, 42, 7, 188, 10, 89, 3, 17, 1, 24, 79, 89, 4]
abbrev dktX4_init_12 : List UInt8 := dkwX4_init_12 ++ dktX4_init_13
def dkwX4_init_11 : List UInt8 := [181, 0, 74, 42, 16, 60, 188, 4, 181, 0, 77, 42, 16, 60, 188, 4, 181, 0, 81, 42, 16, 16, 188, 11]
abbrev dktX4_init_11 : List UInt8 := dkwX4_init_11 ++ dktX4_init_12
def dkwX4_init_10 : List UInt8 := [181, 0, 65, 42, 16, 60, 188, 10, 181, 0, 68, 42, 16, 60, 188, 10, 181, 0, 71, 42, 16, 60, 188, 10]
abbrev dktX4_init_10 : List UInt8 := dkwX4_init_10 ++ dktX4_init_11
def dkwX4_init_9 : List UInt8 := [181, 0, 56, 42, 16, 64, 188, 10, 181, 0, 59, 42, 16, 60, 188, 10, 181, 0, 62, 42, 16, 60, 188, 10]
abbrev dktX4_init_9 : List UInt8 := dkwX4_init_9 ++ dktX4_init_10
def dkwX4_init_8 : List UInt8 := [17, 1, 224, 188, 10, 181, 0, 50, 42, 17, 1, 224, 188, 10, 181, 0, 53, 42, 16, 64, 188, 10]
abbrev dktX4_init_8 : List UInt8 := dkwX4_init_8 ++ dktX4_init_9
def dkwX4_init_7 : List UInt8 := [181, 0, 41, 42, 17, 0, 200, 188, 11, 181, 0, 44, 42, 17, 1, 224, 188, 10, 181, 0, 47, 42]
abbrev dktX4_init_7 : List UInt8 := dkwX4_init_7 ++ dktX4_init_8
def dkwX4_init_6 : List UInt8 := [17, 0, 200, 188, 10, 181, 0, 35, 42, 17, 0, 200, 188, 10, 181, 0, 38, 42, 17, 0, 200, 188, 10]
abbrev dktX4_init_6 : List UInt8 := dkwX4_init_6 ++ dktX4_init_7
def dkwX4_init_5 : List UInt8 := [188, 11, 181, 0, 26, 42, 17, 0, 200, 188, 11, 181, 0, 29, 42, 17, 0, 200, 188, 10, 181, 0, 32, 42]
abbrev dktX4_init_5 : List UInt8 := dkwX4_init_5 ++ dktX4_init_6
def dkwX4_init_4 : List UInt8 := [181, 0, 16, 42, 16, 12, 188, 10, 181, 0, 19, 42, 16, 12, 188, 11, 181, 0, 22, 42, 17, 0, 200]
abbrev dktX4_init_4 : List UInt8 := dkwX4_init_4 ++ dktX4_init_5
def dkwX4_init_3 : List UInt8 := [6, 79, 89, 4, 7, 79, 89, 5, 8, 79, 89, 6, 16, 6, 79, 181, 0, 13, 42, 16, 12, 188, 10]
abbrev dktX4_init_3 : List UInt8 := dkwX4_init_3 ++ dktX4_init_4
def dkwX4_init_2 : List UInt8 := [89, 16, 9, 8, 79, 89, 16, 10, 8, 79, 89, 16, 11, 8, 79, 181, 0, 7, 42, 7, 188, 10, 89, 3]
abbrev dktX4_init_2 : List UInt8 := dkwX4_init_2 ++ dktX4_init_3
def dkwX4_init_1 : List UInt8 := [79, 89, 7, 8, 79, 89, 8, 8, 79, 89, 16, 6, 8, 79, 89, 16, 7, 8, 79, 89, 16, 8, 8, 79]
abbrev dktX4_init_1 : List UInt8 := dkwX4_init_1 ++ dktX4_init_2
def dkwX4_init_0 : List UInt8 := [42, 183, 0, 1, 42, 16, 12, 188, 10, 89, 3, 8, 79, 89, 4, 8, 79, 89, 5, 8, 79, 89, 6, 8]
abbrev dktX4_init_0 : List UInt8 := dkwX4_init_0 ++ dktX4_init_1
theorem dksX4_init_0 : cX4_init.data.toList.drop 0 = dktX4_init_0 := by decide +kernel
theorem dksX4_init_1 : cX4_init.data.toList.drop 24 = dktX4_init_1 := dk_seg dksX4_init_0 24 rfl rfl
theorem dksX4_init_2 : cX4_init.data.toList.drop 48 = dktX4_init_2 := dk_seg dksX4_init_1 24 rfl rfl
theorem dksX4_init_3 : cX4_init.data.toList.drop 72 = dktX4_init_3 := dk_seg dksX4_init_2 24 rfl rfl
theorem dksX4_init_4 : cX4_init.data.toList.drop 95 = dktX4_init_4 := dk_seg dksX4_init_3 23 rfl rfl
theorem dksX4_init_5 : cX4_init.data.toList.drop 118 = dktX4_init_5 := dk_seg dksX4_init_4 23 rfl rfl
theorem dksX4_init_6 : cX4_init.data.toList.drop 142 = dktX4_init_6 := dk_seg dksX4_init_5 24 rfl rfl
theorem dksX4_init_7 : cX4_init.data.toList.drop 165 = dktX4_init_7 := dk_seg dksX4_init_6 23 rfl rfl
theorem dksX4_init_8 : cX4_init.data.toList.drop 187 = dktX4_init_8 := dk_seg dksX4_init_7 22 rfl rfl
theorem dksX4_init_9 : cX4_init.data.toList.drop 209 = dktX4_init_9 := dk_seg dksX4_init_8 22 rfl rfl
theorem dksX4_init_10 : cX4_init.data.toList.drop 233 = dktX4_init_10 := dk_seg dksX4_init_9 24 rfl rfl
theorem dksX4_init_11 : cX4_init.data.toList.drop 257 = dktX4_init_11 := dk_seg dksX4_init_10 24 rfl rfl
theorem dksX4_init_12 : cX4_init.data.toList.drop 281 = dktX4_init_12 := dk_seg dksX4_init_11 24 rfl rfl
theorem dksX4_init_13 : cX4_init.data.toList.drop 304 = dktX4_init_13 := dk_seg dksX4_init_12 23 rfl rfl
theorem dksX4_init_14 : cX4_init.data.toList.drop 328 = dktX4_init_14 := dk_seg dksX4_init_13 24 rfl rfl
theorem dksX4_init_15 : cX4_init.data.toList.drop 352 = dktX4_init_15 := dk_seg dksX4_init_14 24 rfl rfl
theorem dksX4_init_16 : cX4_init.data.toList.drop 375 = dktX4_init_16 := dk_seg dksX4_init_15 23 rfl rfl
theorem dksX4_init_17 : cX4_init.data.toList.drop 399 = dktX4_init_17 := dk_seg dksX4_init_16 24 rfl rfl
theorem dksX4_init_18 : cX4_init.data.toList.drop 422 = dktX4_init_18 := dk_seg dksX4_init_17 23 rfl rfl
theorem dksX4_init_19 : cX4_init.data.toList.drop 446 = dktX4_init_19 := dk_seg dksX4_init_18 24 rfl rfl
theorem dksX4_init_20 : cX4_init.data.toList.drop 469 = dktX4_init_20 := dk_seg dksX4_init_19 23 rfl rfl
theorem dksX4_init_21 : cX4_init.data.toList.drop 493 = dktX4_init_21 := dk_seg dksX4_init_20 24 rfl rfl
theorem dX4_init_0 : decode cX4_init 0 = .ok (.aload_n 0, 1) := dk_42 (dk_at dksX4_init_0 0 rfl rfl)
theorem dX4_init_1 : decode cX4_init 1 = .ok (.invokespecial 1, 3) := dk_183 0 1 (dk_at dksX4_init_0 1 rfl rfl)
theorem dX4_init_4 : decode cX4_init 4 = .ok (.aload_n 0, 1) := dk_42 (dk_at dksX4_init_0 4 rfl rfl)
theorem dX4_init_5 : decode cX4_init 5 = .ok (.bipush 12, 2) := dk_16 12 (dk_at dksX4_init_0 5 rfl rfl)
theorem dX4_init_7 : decode cX4_init 7 = .ok (.newarray .int, 2) := dk_188_10 (dk_at dksX4_init_0 7 rfl rfl)
theorem dX4_init_9 : decode cX4_init 9 = .ok (.dup, 1) := dk_89 (dk_at dksX4_init_0 9 rfl rfl)
theorem dX4_init_10 : decode cX4_init 10 = .ok (.iconst 0, 1) := dk_3 (dk_at dksX4_init_0 10 rfl rfl)
theorem dX4_init_11 : decode cX4_init 11 = .ok (.iconst 5, 1) := dk_8 (dk_at dksX4_init_0 11 rfl rfl)
theorem dX4_init_12 : decode cX4_init 12 = .ok (.iastore, 1) := dk_79 (dk_at dksX4_init_0 12 rfl rfl)
theorem dX4_init_13 : decode cX4_init 13 = .ok (.dup, 1) := dk_89 (dk_at dksX4_init_0 13 rfl rfl)
theorem dX4_init_14 : decode cX4_init 14 = .ok (.iconst 1, 1) := dk_4 (dk_at dksX4_init_0 14 rfl rfl)
theorem dX4_init_15 : decode cX4_init 15 = .ok (.iconst 5, 1) := dk_8 (dk_at dksX4_init_0 15 rfl rfl)
theorem dX4_init_16 : decode cX4_init 16 = .ok (.iastore, 1) := dk_79 (dk_at dksX4_init_0 16 rfl rfl)
theorem dX4_init_17 : decode cX4_init 17 = .ok (.dup, 1) := dk_89 (dk_at dksX4_init_0 17 rfl rfl)
theorem dX4_init_18 : decode cX4_init 18 = .ok (.iconst 2, 1) := dk_5 (dk_at dksX4_init_0 18 rfl rfl)
theorem dX4_init_19 : decode cX4_init 19 = .ok (.iconst 5, 1) := dk_8 (dk_at dksX4_init_0 19 rfl rfl)
theorem dX4_init_20 : decode cX4_init 20 = .ok (.iastore, 1) := dk_79 (dk_at dksX4_init_0 20 rfl rfl)
theorem dX4_init_21 : decode cX4_init 21 = .ok (.dup, 1) := dk_89 (dk_at dksX4_init_0 21 rfl rfl)
theorem dX4_init_22 : decode cX4_init 22 = .ok (.iconst 3, 1) := dk_6 (dk_at dksX4_init_0 22 rfl rfl)
theorem dX4_init_23 : decode cX4_init 23 = .ok (.iconst 5, 1) := dk_8 (dk_at dksX4_init_0 23 rfl rfl)
theorem dX4_init_24 : decode cX4_init 24 = .ok (.iastore, 1) := dk_79 (dk_at dksX4_init_1 0 rfl rfl)
theorem dX4_init_25 : decode cX4_init 25 = .ok (.dup, 1) := dk_89 (dk_at dksX4_init_1 1 rfl rfl)
theorem dX4_init_26 : decode cX4_init 26 = .ok (.iconst 4, 1) := dk_7 (dk_at dksX4_init_1 2 rfl rfl)
theorem dX4_init_27 : decode cX4_init 27 = .ok (.iconst 5, 1) := dk_8 (dk_at dksX4_init_1 3 rfl rfl)
theorem dX4_init_28 : decode cX4_init 28 = .ok (.iastore, 1) := dk_79 (dk_at dksX4_init_1 4 rfl rfl)
theorem dX4_init_29 : decode cX4_init 29 = .ok (.dup, 1) := dk_89 (dk_at dksX4_init_1 5 rfl rfl)
theorem dX4_init_30 : decode cX4_init 30 = .ok (.iconst 5, 1) := dk_8 (dk_at dksX4_init_1 6 rfl rfl)
theorem dX4_init_31 : decode cX4_init 31 = .ok (.iconst 5, 1) := dk_8 (dk_at dksX4_init_1 7 rfl rfl)
theorem dX4_init_32 : decode cX4_init 32 = .ok (.iastore, 1) := dk_79 (dk_at dksX4_init_1 8 rfl rfl)
theorem dX4_init_33 : decode cX4_init 33 = .ok (.dup, 1) := dk_89 (dk_at dksX4_init_1 9 rfl rfl)
theorem dX4_init_34 : decode cX4_init 34 = .ok (.bipush 6, 2) := dk_16 6 (dk_at dksX4_init_1 10 rfl rfl)
theorem dX4_init_36 : decode cX4_init 36 = .ok (.iconst 5, 1) := dk_8 (dk_at dksX4_init_1 12 rfl rfl)
theorem dX4_init_37 : decode cX4_init 37 = .ok (.iastore, 1) := dk_79 (dk_at dksX4_init_1 13 rfl rfl)
theorem dX4_init_38 : decode cX4_init 38 = .ok (.dup, 1) := dk_89 (dk_at dksX4_init_1 14 rfl rfl)
theorem dX4_init_39 : decode cX4_init 39 = .ok (.bipush 7, 2) := dk_16 7 (dk_at dksX4_init_1 15 rfl rfl)
theorem dX4_init_41 : decode cX4_init 41 = .ok (.iconst 5, 1) := dk_8 (dk_at dksX4_init_1 17 rfl rfl)
theorem dX4_init_42 : decode cX4_init 42 = .ok (.iastore, 1) := dk_79 (dk_at dksX4_init_1 18 rfl rfl)
theorem dX4_init_43 : decode cX4_init 43 = .ok (.dup, 1) := dk_89 (dk_at dksX4_init_1 19 rfl rfl)
theorem dX4_init_44 : decode cX4_init 44 = .ok (.bipush 8, 2) := dk_16 8 (dk_at dksX4_init_1 20 rfl rfl)
theorem dX4_init_46 : decode cX4_init 46 = .ok (.iconst 5, 1) := dk_8 (dk_at dksX4_init_1 22 rfl rfl)
theorem dX4_init_47 : decode cX4_init 47 = .ok (.iastore, 1) := dk_79 (dk_at dksX4_init_1 23 rfl rfl)
theorem dX4_init_48 : decode cX4_init 48 = .ok (.dup, 1) := dk_89 (dk_at dksX4_init_2 0 rfl rfl)
theorem dX4_init_49 : decode cX4_init 49 = .ok (.bipush 9, 2) := dk_16 9 (dk_at dksX4_init_2 1 rfl rfl)
theorem dX4_init_51 : decode cX4_init 51 = .ok (.iconst 5, 1) := dk_8 (dk_at dksX4_init_2 3 rfl rfl)
theorem dX4_init_52 : decode cX4_init 52 = .ok (.iastore, 1) := dk_79 (dk_at dksX4_init_2 4 rfl rfl)
theorem dX4_init_53 : decode cX4_init 53 = .ok (.dup, 1) := dk_89 (dk_at dksX4_init_2 5 rfl rfl)
theorem dX4_init_54 : decode cX4_init 54 = .ok (.bipush 10, 2) := dk_16 10 (dk_at dksX4_init_2 6 rfl rfl)
theorem dX4_init_56 : decode cX4_init 56 = .ok (.iconst 5, 1) := dk_8 (dk_at dksX4_init_2 8 rfl rfl)
theorem dX4_init_57 : decode cX4_init 57 = .ok (.iastore, 1) := dk_79 (dk_at dksX4_init_2 9 rfl rfl)
theorem dX4_init_58 : decode cX4_init 58 = .ok (.dup, 1) := dk_89 (dk_at dksX4_init_2 10 rfl rfl)
theorem dX4_init_59 : decode cX4_init 59 = .ok (.bipush 11, 2) := dk_16 11 (dk_at dksX4_init_2 11 rfl rfl)
theorem dX4_init_61 : decode cX4_init 61 = .ok (.iconst 5, 1) := dk_8 (dk_at dksX4_init_2 13 rfl rfl)
theorem dX4_init_62 : decode cX4_init 62 = .ok (.iastore, 1) := dk_79 (dk_at dksX4_init_2 14 rfl rfl)
theorem dX4_init_63 : decode cX4_init 63 = .ok (.putfield 7, 3) := dk_181 0 7 (dk_at dksX4_init_2 15 rfl rfl)
theorem dX4_init_66 : decode cX4_init 66 = .ok (.aload_n 0, 1) := dk_42 (dk_at dksX4_init_2 18 rfl rfl)
theorem dX4_init_67 : decode cX4_init 67 = .ok (.iconst 4, 1) := dk_7 (dk_at dksX4_init_2 19 rfl rfl)
theorem dX4_init_68 : decode cX4_init 68 = .ok (.newarray .int, 2) := dk_188_10 (dk_at dksX4_init_2 20 rfl rfl)
theorem dX4_init_70 : decode cX4_init 70 = .ok (.dup, 1) := dk_89 (dk_at dksX4_init_2 22 rfl rfl)
theorem dX4_init_71 : decode cX4_init 71 = .ok (.iconst 0, 1) := dk_3 (dk_at dksX4_init_2 23 rfl rfl)
theorem dX4_init_72 : decode cX4_init 72 = .ok (.iconst 3, 1) := dk_6 (dk_at dksX4_init_3 0 rfl rfl)
theorem dX4_init_73 : decode cX4_init 73 = .ok (.iastore, 1) := dk_79 (dk_at dksX4_init_3 1 rfl rfl)
theorem dX4_init_74 : decode cX4_init 74 = .ok (.dup, 1) := dk_89 (dk_at dksX4_init_3 2 rfl rfl)
theorem dX4_init_75 : decode cX4_init 75 = .ok (.iconst 1, 1) := dk_4 (dk_at dksX4_init_3 3 rfl rfl)
theorem dX4_init_76 : decode cX4_init 76 = .ok (.iconst 4, 1) := dk_7 (dk_at dksX4_init_3 4 rfl rfl)
theorem dX4_init_77 : decode cX4_init 77 = .ok (.iastore, 1) := dk_79 (dk_at dksX4_init_3 5 rfl rfl)
theorem dX4_init_78 : decode cX4_init 78 = .ok (.dup, 1) := dk_89 (dk_at dksX4_init_3 6 rfl rfl)
theorem dX4_init_79 : decode cX4_init 79 = .ok (.iconst 2, 1) := dk_5 (dk_at dksX4_init_3 7 rfl rfl)
theorem dX4_init_80 : decode cX4_init 80 = .ok (.iconst 5, 1) := dk_8 (dk_at dksX4_init_3 8 rfl rfl)
theorem dX4_init_81 : decode cX4_init 81 = .ok (.iastore, 1) := dk_79 (dk_at dksX4_init_3 9 rfl rfl)
theorem dX4_init_82 : decode cX4_init 82 = .ok (.dup, 1) := dk_89 (dk_at dksX4_init_3 10 rfl rfl)
theorem dX4_init_83 : decode cX4_init 83 = .ok (.iconst 3, 1) := dk_6 (dk_at dksX4_init_3 11 rfl rfl)
theorem dX4_init_84 : decode cX4_init 84 = .ok (.bipush 6, 2) := dk_16 6 (dk_at dksX4_init_3 12 rfl rfl)
theorem dX4_init_86 : decode cX4_init 86 = .ok (.iastore, 1) := dk_79 (dk_at dksX4_init_3 14 rfl rfl)
theorem dX4_init_87 : decode cX4_init 87 = .ok (.putfield 13, 3) := dk_181 0 13 (dk_at dksX4_init_3 15 rfl rfl)
theorem dX4_init_90 : decode cX4_init 90 = .ok (.aload_n 0, 1) := dk_42 (dk_at dksX4_init_3 18 rfl rfl)
theorem dX4_init_91 : decode cX4_init 91 = .ok (.bipush 12, 2) := dk_16 12 (dk_at dksX4_init_3 19 rfl rfl)
theorem dX4_init_93 : decode cX4_init 93 = .ok (.newarray .int, 2) := dk_188_10 (dk_at dksX4_init_3 21 rfl rfl)
theorem dX4_init_95 : decode cX4_init 95 = .ok (.putfield 16, 3) := dk_181 0 16 (dk_at dksX4_init_4 0 rfl rfl)
theorem dX4_init_98 : decode cX4_init 98 = .ok (.aload_n 0, 1) := dk_42 (dk_at dksX4_init_4 3 rfl rfl)
theorem dX4_init_99 : decode cX4_init 99 = .ok (.bipush 12, 2) := dk_16 12 (dk_at dksX4_init_4 4 rfl rfl)
theorem dX4_init_101 : decode cX4_init 101 = .ok (.newarray .int, 2) := dk_188_10 (dk_at dksX4_init_4 6 rfl rfl)
theorem dX4_init_103 : decode cX4_init 103 = .ok (.putfield 19, 3) := dk_181 0 19 (dk_at dksX4_init_4 8 rfl rfl)
theorem dX4_init_106 : decode cX4_init 106 = .ok (.aload_n 0, 1) := dk_42 (dk_at dksX4_init_4 11 rfl rfl)
theorem dX4_init_107 : decode cX4_init 107 = .ok (.bipush 12, 2) := dk_16 12 (dk_at dksX4_init_4 12 rfl rfl)
theorem dX4_init_109 : decode cX4_init 109 = .ok (.newarray .long, 2) := dk_188_11 (dk_at dksX4_init_4 14 rfl rfl)
theorem dX4_init_111 : decode cX4_init 111 = .ok (.putfield 22, 3) := dk_181 0 22 (dk_at dksX4_init_4 16 rfl rfl)
theorem dX4_init_114 : decode cX4_init 114 = .ok (.aload_n 0, 1) := dk_42 (dk_at dksX4_init_4 19 rfl rfl)
theorem dX4_init_115 : decode cX4_init 115 = .ok (.sipush 200, 3) := dk_17 0 200 (dk_at dksX4_init_4 20 rfl rfl)
theorem dX4_init_118 : decode cX4_init 118 = .ok (.newarray .long, 2) := dk_188_11 (dk_at dksX4_init_5 0 rfl rfl)
theorem dX4_init_120 : decode cX4_init 120 = .ok (.putfield 26, 3) := dk_181 0 26 (dk_at dksX4_init_5 2 rfl rfl)
theorem dX4_init_123 : decode cX4_init 123 = .ok (.aload_n 0, 1) := dk_42 (dk_at dksX4_init_5 5 rfl rfl)
theorem dX4_init_124 : decode cX4_init 124 = .ok (.sipush 200, 3) := dk_17 0 200 (dk_at dksX4_init_5 6 rfl rfl)
theorem dX4_init_127 : decode cX4_init 127 = .ok (.newarray .long, 2) := dk_188_11 (dk_at dksX4_init_5 9 rfl rfl)
theorem dX4_init_129 : decode cX4_init 129 = .ok (.putfield 29, 3) := dk_181 0 29 (dk_at dksX4_init_5 11 rfl rfl)
theorem dX4_init_132 : decode cX4_init 132 = .ok (.aload_n 0, 1) := dk_42 (dk_at dksX4_init_5 14 rfl rfl)
theorem dX4_init_133 : decode cX4_init 133 = .ok (.sipush 200, 3) := dk_17 0 200 (dk_at dksX4_init_5 15 rfl rfl)
theorem dX4_init_136 : decode cX4_init 136 = .ok (.newarray .int, 2) := dk_188_10 (dk_at dksX4_init_5 18 rfl rfl)
theorem dX4_init_138 : decode cX4_init 138 = .ok (.putfield 32, 3) := dk_181 0 32 (dk_at dksX4_init_5 20 rfl rfl)
theorem dX4_init_141 : decode cX4_init 141 = .ok (.aload_n 0, 1) := dk_42 (dk_at dksX4_init_5 23 rfl rfl)
theorem dX4_init_142 : decode cX4_init 142 = .ok (.sipush 200, 3) := dk_17 0 200 (dk_at dksX4_init_6 0 rfl rfl)
theorem dX4_init_145 : decode cX4_init 145 = .ok (.newarray .int, 2) := dk_188_10 (dk_at dksX4_init_6 3 rfl rfl)
theorem dX4_init_147 : decode cX4_init 147 = .ok (.putfield 35, 3) := dk_181 0 35 (dk_at dksX4_init_6 5 rfl rfl)
theorem dX4_init_150 : decode cX4_init 150 = .ok (.aload_n 0, 1) := dk_42 (dk_at dksX4_init_6 8 rfl rfl)
theorem dX4_init_151 : decode cX4_init 151 = .ok (.sipush 200, 3) := dk_17 0 200 (dk_at dksX4_init_6 9 rfl rfl)
theorem dX4_init_154 : decode cX4_init 154 = .ok (.newarray .int, 2) := dk_188_10 (dk_at dksX4_init_6 12 rfl rfl)
theorem dX4_init_156 : decode cX4_init 156 = .ok (.putfield 38, 3) := dk_181 0 38 (dk_at dksX4_init_6 14 rfl rfl)
theorem dX4_init_159 : decode cX4_init 159 = .ok (.aload_n 0, 1) := dk_42 (dk_at dksX4_init_6 17 rfl rfl)
theorem dX4_init_160 : decode cX4_init 160 = .ok (.sipush 200, 3) := dk_17 0 200 (dk_at dksX4_init_6 18 rfl rfl)
theorem dX4_init_163 : decode cX4_init 163 = .ok (.newarray .int, 2) := dk_188_10 (dk_at dksX4_init_6 21 rfl rfl)
theorem dX4_init_165 : decode cX4_init 165 = .ok (.putfield 41, 3) := dk_181 0 41 (dk_at dksX4_init_7 0 rfl rfl)
theorem dX4_init_168 : decode cX4_init 168 = .ok (.aload_n 0, 1) := dk_42 (dk_at dksX4_init_7 3 rfl rfl)
theorem dX4_init_169 : decode cX4_init 169 = .ok (.sipush 200, 3) := dk_17 0 200 (dk_at dksX4_init_7 4 rfl rfl)
theorem dX4_init_172 : decode cX4_init 172 = .ok (.newarray .long, 2) := dk_188_11 (dk_at dksX4_init_7 7 rfl rfl)
theorem dX4_init_174 : decode cX4_init 174 = .ok (.putfield 44, 3) := dk_181 0 44 (dk_at dksX4_init_7 9 rfl rfl)
theorem dX4_init_177 : decode cX4_init 177 = .ok (.aload_n 0, 1) := dk_42 (dk_at dksX4_init_7 12 rfl rfl)
theorem dX4_init_178 : decode cX4_init 178 = .ok (.sipush 480, 3) := dk_17 1 224 (dk_at dksX4_init_7 13 rfl rfl)
theorem dX4_init_181 : decode cX4_init 181 = .ok (.newarray .int, 2) := dk_188_10 (dk_at dksX4_init_7 16 rfl rfl)
theorem dX4_init_183 : decode cX4_init 183 = .ok (.putfield 47, 3) := dk_181 0 47 (dk_at dksX4_init_7 18 rfl rfl)
theorem dX4_init_186 : decode cX4_init 186 = .ok (.aload_n 0, 1) := dk_42 (dk_at dksX4_init_7 21 rfl rfl)
theorem dX4_init_187 : decode cX4_init 187 = .ok (.sipush 480, 3) := dk_17 1 224 (dk_at dksX4_init_8 0 rfl rfl)
theorem dX4_init_190 : decode cX4_init 190 = .ok (.newarray .int, 2) := dk_188_10 (dk_at dksX4_init_8 3 rfl rfl)
theorem dX4_init_192 : decode cX4_init 192 = .ok (.putfield 50, 3) := dk_181 0 50 (dk_at dksX4_init_8 5 rfl rfl)
theorem dX4_init_195 : decode cX4_init 195 = .ok (.aload_n 0, 1) := dk_42 (dk_at dksX4_init_8 8 rfl rfl)
theorem dX4_init_196 : decode cX4_init 196 = .ok (.sipush 480, 3) := dk_17 1 224 (dk_at dksX4_init_8 9 rfl rfl)
theorem dX4_init_199 : decode cX4_init 199 = .ok (.newarray .int, 2) := dk_188_10 (dk_at dksX4_init_8 12 rfl rfl)
theorem dX4_init_201 : decode cX4_init 201 = .ok (.putfield 53, 3) := dk_181 0 53 (dk_at dksX4_init_8 14 rfl rfl)
theorem dX4_init_204 : decode cX4_init 204 = .ok (.aload_n 0, 1) := dk_42 (dk_at dksX4_init_8 17 rfl rfl)
theorem dX4_init_205 : decode cX4_init 205 = .ok (.bipush 64, 2) := dk_16 64 (dk_at dksX4_init_8 18 rfl rfl)
theorem dX4_init_207 : decode cX4_init 207 = .ok (.newarray .int, 2) := dk_188_10 (dk_at dksX4_init_8 20 rfl rfl)
theorem dX4_init_209 : decode cX4_init 209 = .ok (.putfield 56, 3) := dk_181 0 56 (dk_at dksX4_init_9 0 rfl rfl)
theorem dX4_init_212 : decode cX4_init 212 = .ok (.aload_n 0, 1) := dk_42 (dk_at dksX4_init_9 3 rfl rfl)
theorem dX4_init_213 : decode cX4_init 213 = .ok (.bipush 64, 2) := dk_16 64 (dk_at dksX4_init_9 4 rfl rfl)
theorem dX4_init_215 : decode cX4_init 215 = .ok (.newarray .int, 2) := dk_188_10 (dk_at dksX4_init_9 6 rfl rfl)
theorem dX4_init_217 : decode cX4_init 217 = .ok (.putfield 59, 3) := dk_181 0 59 (dk_at dksX4_init_9 8 rfl rfl)
theorem dX4_init_220 : decode cX4_init 220 = .ok (.aload_n 0, 1) := dk_42 (dk_at dksX4_init_9 11 rfl rfl)
theorem dX4_init_221 : decode cX4_init 221 = .ok (.bipush 60, 2) := dk_16 60 (dk_at dksX4_init_9 12 rfl rfl)
theorem dX4_init_223 : decode cX4_init 223 = .ok (.newarray .int, 2) := dk_188_10 (dk_at dksX4_init_9 14 rfl rfl)
theorem dX4_init_225 : decode cX4_init 225 = .ok (.putfield 62, 3) := dk_181 0 62 (dk_at dksX4_init_9 16 rfl rfl)
theorem dX4_init_228 : decode cX4_init 228 = .ok (.aload_n 0, 1) := dk_42 (dk_at dksX4_init_9 19 rfl rfl)
theorem dX4_init_229 : decode cX4_init 229 = .ok (.bipush 60, 2) := dk_16 60 (dk_at dksX4_init_9 20 rfl rfl)
theorem dX4_init_231 : decode cX4_init 231 = .ok (.newarray .int, 2) := dk_188_10 (dk_at dksX4_init_9 22 rfl rfl)
theorem dX4_init_233 : decode cX4_init 233 = .ok (.putfield 65, 3) := dk_181 0 65 (dk_at dksX4_init_10 0 rfl rfl)
theorem dX4_init_236 : decode cX4_init 236 = .ok (.aload_n 0, 1) := dk_42 (dk_at dksX4_init_10 3 rfl rfl)
theorem dX4_init_237 : decode cX4_init 237 = .ok (.bipush 60, 2) := dk_16 60 (dk_at dksX4_init_10 4 rfl rfl)
theorem dX4_init_239 : decode cX4_init 239 = .ok (.newarray .int, 2) := dk_188_10 (dk_at dksX4_init_10 6 rfl rfl)
theorem dX4_init_241 : decode cX4_init 241 = .ok (.putfield 68, 3) := dk_181 0 68 (dk_at dksX4_init_10 8 rfl rfl)
theorem dX4_init_244 : decode cX4_init 244 = .ok (.aload_n 0, 1) := dk_42 (dk_at dksX4_init_10 11 rfl rfl)
theorem dX4_init_245 : decode cX4_init 245 = .ok (.bipush 60, 2) := dk_16 60 (dk_at dksX4_init_10 12 rfl rfl)
theorem dX4_init_247 : decode cX4_init 247 = .ok (.newarray .int, 2) := dk_188_10 (dk_at dksX4_init_10 14 rfl rfl)
theorem dX4_init_249 : decode cX4_init 249 = .ok (.putfield 71, 3) := dk_181 0 71 (dk_at dksX4_init_10 16 rfl rfl)
theorem dX4_init_252 : decode cX4_init 252 = .ok (.aload_n 0, 1) := dk_42 (dk_at dksX4_init_10 19 rfl rfl)
theorem dX4_init_253 : decode cX4_init 253 = .ok (.bipush 60, 2) := dk_16 60 (dk_at dksX4_init_10 20 rfl rfl)
theorem dX4_init_255 : decode cX4_init 255 = .ok (.newarray .int, 2) := dk_188_10 (dk_at dksX4_init_10 22 rfl rfl)
theorem dX4_init_257 : decode cX4_init 257 = .ok (.putfield 74, 3) := dk_181 0 74 (dk_at dksX4_init_11 0 rfl rfl)
theorem dX4_init_260 : decode cX4_init 260 = .ok (.aload_n 0, 1) := dk_42 (dk_at dksX4_init_11 3 rfl rfl)
theorem dX4_init_261 : decode cX4_init 261 = .ok (.bipush 60, 2) := dk_16 60 (dk_at dksX4_init_11 4 rfl rfl)
theorem dX4_init_263 : decode cX4_init 263 = .ok (.newarray .boolean, 2) := dk_188_4 (dk_at dksX4_init_11 6 rfl rfl)
theorem dX4_init_265 : decode cX4_init 265 = .ok (.putfield 77, 3) := dk_181 0 77 (dk_at dksX4_init_11 8 rfl rfl)
theorem dX4_init_268 : decode cX4_init 268 = .ok (.aload_n 0, 1) := dk_42 (dk_at dksX4_init_11 11 rfl rfl)
theorem dX4_init_269 : decode cX4_init 269 = .ok (.bipush 60, 2) := dk_16 60 (dk_at dksX4_init_11 12 rfl rfl)
theorem dX4_init_271 : decode cX4_init 271 = .ok (.newarray .boolean, 2) := dk_188_4 (dk_at dksX4_init_11 14 rfl rfl)
theorem dX4_init_273 : decode cX4_init 273 = .ok (.putfield 81, 3) := dk_181 0 81 (dk_at dksX4_init_11 16 rfl rfl)
theorem dX4_init_276 : decode cX4_init 276 = .ok (.aload_n 0, 1) := dk_42 (dk_at dksX4_init_11 19 rfl rfl)
theorem dX4_init_277 : decode cX4_init 277 = .ok (.bipush 16, 2) := dk_16 16 (dk_at dksX4_init_11 20 rfl rfl)
theorem dX4_init_279 : decode cX4_init 279 = .ok (.newarray .long, 2) := dk_188_11 (dk_at dksX4_init_11 22 rfl rfl)
theorem dX4_init_281 : decode cX4_init 281 = .ok (.putfield 84, 3) := dk_181 0 84 (dk_at dksX4_init_12 0 rfl rfl)
theorem dX4_init_284 : decode cX4_init 284 = .ok (.aload_n 0, 1) := dk_42 (dk_at dksX4_init_12 3 rfl rfl)
theorem dX4_init_285 : decode cX4_init 285 = .ok (.bipush 16, 2) := dk_16 16 (dk_at dksX4_init_12 4 rfl rfl)
theorem dX4_init_287 : decode cX4_init 287 = .ok (.newarray .int, 2) := dk_188_10 (dk_at dksX4_init_12 6 rfl rfl)
theorem dX4_init_289 : decode cX4_init 289 = .ok (.putfield 87, 3) := dk_181 0 87 (dk_at dksX4_init_12 8 rfl rfl)
theorem dX4_init_292 : decode cX4_init 292 = .ok (.aload_n 0, 1) := dk_42 (dk_at dksX4_init_12 11 rfl rfl)
theorem dX4_init_293 : decode cX4_init 293 = .ok (.iconst 4, 1) := dk_7 (dk_at dksX4_init_12 12 rfl rfl)
theorem dX4_init_294 : decode cX4_init 294 = .ok (.newarray .int, 2) := dk_188_10 (dk_at dksX4_init_12 13 rfl rfl)
theorem dX4_init_296 : decode cX4_init 296 = .ok (.dup, 1) := dk_89 (dk_at dksX4_init_12 15 rfl rfl)
theorem dX4_init_297 : decode cX4_init 297 = .ok (.iconst 0, 1) := dk_3 (dk_at dksX4_init_12 16 rfl rfl)
theorem dX4_init_298 : decode cX4_init 298 = .ok (.sipush 280, 3) := dk_17 1 24 (dk_at dksX4_init_12 17 rfl rfl)
theorem dX4_init_301 : decode cX4_init 301 = .ok (.iastore, 1) := dk_79 (dk_at dksX4_init_12 20 rfl rfl)
theorem dX4_init_302 : decode cX4_init 302 = .ok (.dup, 1) := dk_89 (dk_at dksX4_init_12 21 rfl rfl)
theorem dX4_init_303 : decode cX4_init 303 = .ok (.iconst 1, 1) := dk_4 (dk_at dksX4_init_12 22 rfl rfl)
theorem dX4_init_304 : decode cX4_init 304 = .ok (.sipush 210, 3) := dk_17 0 210 (dk_at dksX4_init_13 0 rfl rfl)
theorem dX4_init_307 : decode cX4_init 307 = .ok (.iastore, 1) := dk_79 (dk_at dksX4_init_13 3 rfl rfl)
theorem dX4_init_308 : decode cX4_init 308 = .ok (.dup, 1) := dk_89 (dk_at dksX4_init_13 4 rfl rfl)
theorem dX4_init_309 : decode cX4_init 309 = .ok (.iconst 2, 1) := dk_5 (dk_at dksX4_init_13 5 rfl rfl)
theorem dX4_init_310 : decode cX4_init 310 = .ok (.sipush 420, 3) := dk_17 1 164 (dk_at dksX4_init_13 6 rfl rfl)
theorem dX4_init_313 : decode cX4_init 313 = .ok (.iastore, 1) := dk_79 (dk_at dksX4_init_13 9 rfl rfl)
theorem dX4_init_314 : decode cX4_init 314 = .ok (.dup, 1) := dk_89 (dk_at dksX4_init_13 10 rfl rfl)
theorem dX4_init_315 : decode cX4_init 315 = .ok (.iconst 3, 1) := dk_6 (dk_at dksX4_init_13 11 rfl rfl)
theorem dX4_init_316 : decode cX4_init 316 = .ok (.sipush 560, 3) := dk_17 2 48 (dk_at dksX4_init_13 12 rfl rfl)
theorem dX4_init_319 : decode cX4_init 319 = .ok (.iastore, 1) := dk_79 (dk_at dksX4_init_13 15 rfl rfl)
theorem dX4_init_320 : decode cX4_init 320 = .ok (.putfield 90, 3) := dk_181 0 90 (dk_at dksX4_init_13 16 rfl rfl)
theorem dX4_init_323 : decode cX4_init 323 = .ok (.aload_n 0, 1) := dk_42 (dk_at dksX4_init_13 19 rfl rfl)
theorem dX4_init_324 : decode cX4_init 324 = .ok (.iconst 4, 1) := dk_7 (dk_at dksX4_init_13 20 rfl rfl)
theorem dX4_init_325 : decode cX4_init 325 = .ok (.newarray .int, 2) := dk_188_10 (dk_at dksX4_init_13 21 rfl rfl)
theorem dX4_init_327 : decode cX4_init 327 = .ok (.dup, 1) := dk_89 (dk_at dksX4_init_13 23 rfl rfl)
theorem dX4_init_328 : decode cX4_init 328 = .ok (.iconst 0, 1) := dk_3 (dk_at dksX4_init_14 0 rfl rfl)
theorem dX4_init_329 : decode cX4_init 329 = .ok (.iconst 0, 1) := dk_3 (dk_at dksX4_init_14 1 rfl rfl)
theorem dX4_init_330 : decode cX4_init 330 = .ok (.iastore, 1) := dk_79 (dk_at dksX4_init_14 2 rfl rfl)
theorem dX4_init_331 : decode cX4_init 331 = .ok (.dup, 1) := dk_89 (dk_at dksX4_init_14 3 rfl rfl)
theorem dX4_init_332 : decode cX4_init 332 = .ok (.iconst 1, 1) := dk_4 (dk_at dksX4_init_14 4 rfl rfl)
theorem dX4_init_333 : decode cX4_init 333 = .ok (.bipush 100, 2) := dk_16 100 (dk_at dksX4_init_14 5 rfl rfl)
theorem dX4_init_335 : decode cX4_init 335 = .ok (.iastore, 1) := dk_79 (dk_at dksX4_init_14 7 rfl rfl)
theorem dX4_init_336 : decode cX4_init 336 = .ok (.dup, 1) := dk_89 (dk_at dksX4_init_14 8 rfl rfl)
theorem dX4_init_337 : decode cX4_init 337 = .ok (.iconst 2, 1) := dk_5 (dk_at dksX4_init_14 9 rfl rfl)
theorem dX4_init_338 : decode cX4_init 338 = .ok (.sipush 300, 3) := dk_17 1 44 (dk_at dksX4_init_14 10 rfl rfl)
theorem dX4_init_341 : decode cX4_init 341 = .ok (.iastore, 1) := dk_79 (dk_at dksX4_init_14 13 rfl rfl)
theorem dX4_init_342 : decode cX4_init 342 = .ok (.dup, 1) := dk_89 (dk_at dksX4_init_14 14 rfl rfl)
theorem dX4_init_343 : decode cX4_init 343 = .ok (.iconst 3, 1) := dk_6 (dk_at dksX4_init_14 15 rfl rfl)
theorem dX4_init_344 : decode cX4_init 344 = .ok (.sipush 700, 3) := dk_17 2 188 (dk_at dksX4_init_14 16 rfl rfl)
theorem dX4_init_347 : decode cX4_init 347 = .ok (.iastore, 1) := dk_79 (dk_at dksX4_init_14 19 rfl rfl)
theorem dX4_init_348 : decode cX4_init 348 = .ok (.putfield 93, 3) := dk_181 0 93 (dk_at dksX4_init_14 20 rfl rfl)
theorem dX4_init_351 : decode cX4_init 351 = .ok (.aload_n 0, 1) := dk_42 (dk_at dksX4_init_14 23 rfl rfl)
theorem dX4_init_352 : decode cX4_init 352 = .ok (.iconst 4, 1) := dk_7 (dk_at dksX4_init_15 0 rfl rfl)
theorem dX4_init_353 : decode cX4_init 353 = .ok (.newarray .int, 2) := dk_188_10 (dk_at dksX4_init_15 1 rfl rfl)
theorem dX4_init_355 : decode cX4_init 355 = .ok (.dup, 1) := dk_89 (dk_at dksX4_init_15 3 rfl rfl)
theorem dX4_init_356 : decode cX4_init 356 = .ok (.iconst 0, 1) := dk_3 (dk_at dksX4_init_15 4 rfl rfl)
theorem dX4_init_357 : decode cX4_init 357 = .ok (.iconst 0, 1) := dk_3 (dk_at dksX4_init_15 5 rfl rfl)
theorem dX4_init_358 : decode cX4_init 358 = .ok (.iastore, 1) := dk_79 (dk_at dksX4_init_15 6 rfl rfl)
theorem dX4_init_359 : decode cX4_init 359 = .ok (.dup, 1) := dk_89 (dk_at dksX4_init_15 7 rfl rfl)
theorem dX4_init_360 : decode cX4_init 360 = .ok (.iconst 1, 1) := dk_4 (dk_at dksX4_init_15 8 rfl rfl)
theorem dX4_init_361 : decode cX4_init 361 = .ok (.iconst 1, 1) := dk_4 (dk_at dksX4_init_15 9 rfl rfl)
theorem dX4_init_362 : decode cX4_init 362 = .ok (.iastore, 1) := dk_79 (dk_at dksX4_init_15 10 rfl rfl)
theorem dX4_init_363 : decode cX4_init 363 = .ok (.dup, 1) := dk_89 (dk_at dksX4_init_15 11 rfl rfl)
theorem dX4_init_364 : decode cX4_init 364 = .ok (.iconst 2, 1) := dk_5 (dk_at dksX4_init_15 12 rfl rfl)
theorem dX4_init_365 : decode cX4_init 365 = .ok (.iconst 2, 1) := dk_5 (dk_at dksX4_init_15 13 rfl rfl)
theorem dX4_init_366 : decode cX4_init 366 = .ok (.iastore, 1) := dk_79 (dk_at dksX4_init_15 14 rfl rfl)
theorem dX4_init_367 : decode cX4_init 367 = .ok (.dup, 1) := dk_89 (dk_at dksX4_init_15 15 rfl rfl)
theorem dX4_init_368 : decode cX4_init 368 = .ok (.iconst 3, 1) := dk_6 (dk_at dksX4_init_15 16 rfl rfl)
theorem dX4_init_369 : decode cX4_init 369 = .ok (.iconst 4, 1) := dk_7 (dk_at dksX4_init_15 17 rfl rfl)
theorem dX4_init_370 : decode cX4_init 370 = .ok (.iastore, 1) := dk_79 (dk_at dksX4_init_15 18 rfl rfl)
theorem dX4_init_371 : decode cX4_init 371 = .ok (.putfield 96, 3) := dk_181 0 96 (dk_at dksX4_init_15 19 rfl rfl)
theorem dX4_init_374 : decode cX4_init 374 = .ok (.aload_n 0, 1) := dk_42 (dk_at dksX4_init_15 22 rfl rfl)
theorem dX4_init_375 : decode cX4_init 375 = .ok (.bipush 16, 2) := dk_16 16 (dk_at dksX4_init_16 0 rfl rfl)
theorem dX4_init_377 : decode cX4_init 377 = .ok (.newarray .byte, 2) := dk_188_8 (dk_at dksX4_init_16 2 rfl rfl)
theorem dX4_init_379 : decode cX4_init 379 = .ok (.dup, 1) := dk_89 (dk_at dksX4_init_16 4 rfl rfl)
theorem dX4_init_380 : decode cX4_init 380 = .ok (.iconst 0, 1) := dk_3 (dk_at dksX4_init_16 5 rfl rfl)
theorem dX4_init_381 : decode cX4_init 381 = .ok (.bipush 102, 2) := dk_16 102 (dk_at dksX4_init_16 6 rfl rfl)
theorem dX4_init_383 : decode cX4_init 383 = .ok (.bastore, 1) := dk_84 (dk_at dksX4_init_16 8 rfl rfl)
theorem dX4_init_384 : decode cX4_init 384 = .ok (.dup, 1) := dk_89 (dk_at dksX4_init_16 9 rfl rfl)
theorem dX4_init_385 : decode cX4_init 385 = .ok (.iconst 1, 1) := dk_4 (dk_at dksX4_init_16 10 rfl rfl)
theorem dX4_init_386 : decode cX4_init 386 = .ok (.bipush 105, 2) := dk_16 105 (dk_at dksX4_init_16 11 rfl rfl)
theorem dX4_init_388 : decode cX4_init 388 = .ok (.bastore, 1) := dk_84 (dk_at dksX4_init_16 13 rfl rfl)
theorem dX4_init_389 : decode cX4_init 389 = .ok (.dup, 1) := dk_89 (dk_at dksX4_init_16 14 rfl rfl)
theorem dX4_init_390 : decode cX4_init 390 = .ok (.iconst 2, 1) := dk_5 (dk_at dksX4_init_16 15 rfl rfl)
theorem dX4_init_391 : decode cX4_init 391 = .ok (.bipush 114, 2) := dk_16 114 (dk_at dksX4_init_16 16 rfl rfl)
theorem dX4_init_393 : decode cX4_init 393 = .ok (.bastore, 1) := dk_84 (dk_at dksX4_init_16 18 rfl rfl)
theorem dX4_init_394 : decode cX4_init 394 = .ok (.dup, 1) := dk_89 (dk_at dksX4_init_16 19 rfl rfl)
theorem dX4_init_395 : decode cX4_init 395 = .ok (.iconst 3, 1) := dk_6 (dk_at dksX4_init_16 20 rfl rfl)
theorem dX4_init_396 : decode cX4_init 396 = .ok (.bipush 109, 2) := dk_16 109 (dk_at dksX4_init_16 21 rfl rfl)
theorem dX4_init_398 : decode cX4_init 398 = .ok (.bastore, 1) := dk_84 (dk_at dksX4_init_16 23 rfl rfl)
theorem dX4_init_399 : decode cX4_init 399 = .ok (.dup, 1) := dk_89 (dk_at dksX4_init_17 0 rfl rfl)
theorem dX4_init_400 : decode cX4_init 400 = .ok (.iconst 4, 1) := dk_7 (dk_at dksX4_init_17 1 rfl rfl)
theorem dX4_init_401 : decode cX4_init 401 = .ok (.bipush 115, 2) := dk_16 115 (dk_at dksX4_init_17 2 rfl rfl)
theorem dX4_init_403 : decode cX4_init 403 = .ok (.bastore, 1) := dk_84 (dk_at dksX4_init_17 4 rfl rfl)
theorem dX4_init_404 : decode cX4_init 404 = .ok (.dup, 1) := dk_89 (dk_at dksX4_init_17 5 rfl rfl)
theorem dX4_init_405 : decode cX4_init 405 = .ok (.iconst 5, 1) := dk_8 (dk_at dksX4_init_17 6 rfl rfl)
theorem dX4_init_406 : decode cX4_init 406 = .ok (.bipush 111, 2) := dk_16 111 (dk_at dksX4_init_17 7 rfl rfl)
theorem dX4_init_408 : decode cX4_init 408 = .ok (.bastore, 1) := dk_84 (dk_at dksX4_init_17 9 rfl rfl)
theorem dX4_init_409 : decode cX4_init 409 = .ok (.dup, 1) := dk_89 (dk_at dksX4_init_17 10 rfl rfl)
theorem dX4_init_410 : decode cX4_init 410 = .ok (.bipush 6, 2) := dk_16 6 (dk_at dksX4_init_17 11 rfl rfl)
theorem dX4_init_412 : decode cX4_init 412 = .ok (.bipush 102, 2) := dk_16 102 (dk_at dksX4_init_17 13 rfl rfl)
theorem dX4_init_414 : decode cX4_init 414 = .ok (.bastore, 1) := dk_84 (dk_at dksX4_init_17 15 rfl rfl)
theorem dX4_init_415 : decode cX4_init 415 = .ok (.dup, 1) := dk_89 (dk_at dksX4_init_17 16 rfl rfl)
theorem dX4_init_416 : decode cX4_init 416 = .ok (.bipush 7, 2) := dk_16 7 (dk_at dksX4_init_17 17 rfl rfl)
theorem dX4_init_418 : decode cX4_init 418 = .ok (.bipush 116, 2) := dk_16 116 (dk_at dksX4_init_17 19 rfl rfl)
theorem dX4_init_420 : decode cX4_init 420 = .ok (.bastore, 1) := dk_84 (dk_at dksX4_init_17 21 rfl rfl)
theorem dX4_init_421 : decode cX4_init 421 = .ok (.dup, 1) := dk_89 (dk_at dksX4_init_17 22 rfl rfl)
theorem dX4_init_422 : decode cX4_init 422 = .ok (.bipush 8, 2) := dk_16 8 (dk_at dksX4_init_18 0 rfl rfl)
theorem dX4_init_424 : decode cX4_init 424 = .ok (.bipush 100, 2) := dk_16 100 (dk_at dksX4_init_18 2 rfl rfl)
theorem dX4_init_426 : decode cX4_init 426 = .ok (.bastore, 1) := dk_84 (dk_at dksX4_init_18 4 rfl rfl)
theorem dX4_init_427 : decode cX4_init 427 = .ok (.dup, 1) := dk_89 (dk_at dksX4_init_18 5 rfl rfl)
theorem dX4_init_428 : decode cX4_init 428 = .ok (.bipush 9, 2) := dk_16 9 (dk_at dksX4_init_18 6 rfl rfl)
theorem dX4_init_430 : decode cX4_init 430 = .ok (.bipush 101, 2) := dk_16 101 (dk_at dksX4_init_18 8 rfl rfl)
theorem dX4_init_432 : decode cX4_init 432 = .ok (.bastore, 1) := dk_84 (dk_at dksX4_init_18 10 rfl rfl)
theorem dX4_init_433 : decode cX4_init 433 = .ok (.dup, 1) := dk_89 (dk_at dksX4_init_18 11 rfl rfl)
theorem dX4_init_434 : decode cX4_init 434 = .ok (.bipush 10, 2) := dk_16 10 (dk_at dksX4_init_18 12 rfl rfl)
theorem dX4_init_436 : decode cX4_init 436 = .ok (.bipush 101, 2) := dk_16 101 (dk_at dksX4_init_18 14 rfl rfl)
theorem dX4_init_438 : decode cX4_init 438 = .ok (.bastore, 1) := dk_84 (dk_at dksX4_init_18 16 rfl rfl)
theorem dX4_init_439 : decode cX4_init 439 = .ok (.dup, 1) := dk_89 (dk_at dksX4_init_18 17 rfl rfl)
theorem dX4_init_440 : decode cX4_init 440 = .ok (.bipush 11, 2) := dk_16 11 (dk_at dksX4_init_18 18 rfl rfl)
theorem dX4_init_442 : decode cX4_init 442 = .ok (.bipush 112, 2) := dk_16 112 (dk_at dksX4_init_18 20 rfl rfl)
theorem dX4_init_444 : decode cX4_init 444 = .ok (.bastore, 1) := dk_84 (dk_at dksX4_init_18 22 rfl rfl)
theorem dX4_init_445 : decode cX4_init 445 = .ok (.dup, 1) := dk_89 (dk_at dksX4_init_18 23 rfl rfl)
theorem dX4_init_446 : decode cX4_init 446 = .ok (.bipush 12, 2) := dk_16 12 (dk_at dksX4_init_19 0 rfl rfl)
theorem dX4_init_448 : decode cX4_init 448 = .ok (.bipush 103, 2) := dk_16 103 (dk_at dksX4_init_19 2 rfl rfl)
theorem dX4_init_450 : decode cX4_init 450 = .ok (.bastore, 1) := dk_84 (dk_at dksX4_init_19 4 rfl rfl)
theorem dX4_init_451 : decode cX4_init 451 = .ok (.dup, 1) := dk_89 (dk_at dksX4_init_19 5 rfl rfl)
theorem dX4_init_452 : decode cX4_init 452 = .ok (.bipush 13, 2) := dk_16 13 (dk_at dksX4_init_19 6 rfl rfl)
theorem dX4_init_454 : decode cX4_init 454 = .ok (.bipush 111, 2) := dk_16 111 (dk_at dksX4_init_19 8 rfl rfl)
theorem dX4_init_456 : decode cX4_init 456 = .ok (.bastore, 1) := dk_84 (dk_at dksX4_init_19 10 rfl rfl)
theorem dX4_init_457 : decode cX4_init 457 = .ok (.dup, 1) := dk_89 (dk_at dksX4_init_19 11 rfl rfl)
theorem dX4_init_458 : decode cX4_init 458 = .ok (.bipush 14, 2) := dk_16 14 (dk_at dksX4_init_19 12 rfl rfl)
theorem dX4_init_460 : decode cX4_init 460 = .ok (.bipush 110, 2) := dk_16 110 (dk_at dksX4_init_19 14 rfl rfl)
theorem dX4_init_462 : decode cX4_init 462 = .ok (.bastore, 1) := dk_84 (dk_at dksX4_init_19 16 rfl rfl)
theorem dX4_init_463 : decode cX4_init 463 = .ok (.dup, 1) := dk_89 (dk_at dksX4_init_19 17 rfl rfl)
theorem dX4_init_464 : decode cX4_init 464 = .ok (.bipush 15, 2) := dk_16 15 (dk_at dksX4_init_19 18 rfl rfl)
theorem dX4_init_466 : decode cX4_init 466 = .ok (.bipush 101, 2) := dk_16 101 (dk_at dksX4_init_19 20 rfl rfl)
theorem dX4_init_468 : decode cX4_init 468 = .ok (.bastore, 1) := dk_84 (dk_at dksX4_init_19 22 rfl rfl)
theorem dX4_init_469 : decode cX4_init 469 = .ok (.putfield 99, 3) := dk_181 0 99 (dk_at dksX4_init_20 0 rfl rfl)
theorem dX4_init_472 : decode cX4_init 472 = .ok (.aload_n 0, 1) := dk_42 (dk_at dksX4_init_20 3 rfl rfl)
theorem dX4_init_473 : decode cX4_init 473 = .ok (.sipush 200, 3) := dk_17 0 200 (dk_at dksX4_init_20 4 rfl rfl)
theorem dX4_init_476 : decode cX4_init 476 = .ok (.putfield 103, 3) := dk_181 0 103 (dk_at dksX4_init_20 7 rfl rfl)
theorem dX4_init_479 : decode cX4_init 479 = .ok (.iconst 0, 1) := dk_3 (dk_at dksX4_init_20 10 rfl rfl)
theorem dX4_init_480 : decode cX4_init 480 = .ok (.istore_n 1, 1) := dk_60 (dk_at dksX4_init_20 11 rfl rfl)
theorem dX4_init_481 : decode cX4_init 481 = .ok (.iload_n 1, 1) := dk_27 (dk_at dksX4_init_20 12 rfl rfl)
theorem dX4_init_482 : decode cX4_init 482 = .ok (.bipush 12, 2) := dk_16 12 (dk_at dksX4_init_20 13 rfl rfl)
theorem dX4_init_484 : decode cX4_init 484 = .ok (.if_icmp .ge 16, 3) := dk_162 0 16 (dk_at dksX4_init_20 15 rfl rfl)
theorem dX4_init_487 : decode cX4_init 487 = .ok (.aload_n 0, 1) := dk_42 (dk_at dksX4_init_20 18 rfl rfl)
theorem dX4_init_488 : decode cX4_init 488 = .ok (.getfield 16, 3) := dk_180 0 16 (dk_at dksX4_init_20 19 rfl rfl)
theorem dX4_init_491 : decode cX4_init 491 = .ok (.iload_n 1, 1) := dk_27 (dk_at dksX4_init_20 22 rfl rfl)
theorem dX4_init_492 : decode cX4_init 492 = .ok (.iconst (-1), 1) := dk_2 (dk_at dksX4_init_20 23 rfl rfl)
theorem dX4_init_493 : decode cX4_init 493 = .ok (.iastore, 1) := dk_79 (dk_at dksX4_init_21 0 rfl rfl)
theorem dX4_init_494 : decode cX4_init 494 = .ok (.iinc 1 1, 3) := dk_132 1 1 (dk_at dksX4_init_21 1 rfl rfl)
theorem dX4_init_497 : decode cX4_init 497 = .ok (.goto (-16), 3) := dk_167 255 240 (dk_at dksX4_init_21 4 rfl rfl)
theorem dX4_init_500 : decode cX4_init 500 = .ok (.return_, 1) := dk_177 (dk_at dksX4_init_21 7 rfl rfl)
abbrev cX4_thrown : ByteArray := prog_14_method_2_code
def yX4_thrown : MethodName := ⟨RX4, "thrown", "()I"⟩
theorem dX4_thrown_0 : decode cX4_thrown 0 = .ok (.aload_n 0, 1) := by decide +kernel
theorem dX4_thrown_1 : decode cX4_thrown 1 = .ok (.getfield 107, 3) := by decide +kernel
theorem dX4_thrown_4 : decode cX4_thrown 4 = .ok (.ireturn, 1) := by decide +kernel
abbrev cX4_pass : ByteArray := prog_14_method_23_code
def yX4_pass : MethodName := ⟨RX4, "pass", "(I)I"⟩
def dkwX4_pass_2 : List UInt8 := [182, 0, 177, 132, 2, 1, 167, 255, 244, 42, 180, 0, 131, 172]
abbrev dktX4_pass_2 : List UInt8 := dkwX4_pass_2 ++ []
def dkwX4_pass_1 : List UInt8 := [157, 0, 7, 4, 167, 0, 4, 3, 182, 0, 173, 154, 0, 5, 3, 172, 3, 61, 28, 27, 162, 0, 13, 42]
abbrev dktX4_pass_1 : List UInt8 := dkwX4_pass_1 ++ dktX4_pass_2
def dkwX4_pass_0 : List UInt8 := [42, 27, 133, 10, 20, 0, 169, 184, 0, 112, 42, 180, 0, 131, 133, 27, 133, 97, 20, 0, 171, 148]
abbrev dktX4_pass_0 : List UInt8 := dkwX4_pass_0 ++ dktX4_pass_1
theorem dksX4_pass_0 : cX4_pass.data.toList.drop 0 = dktX4_pass_0 := by decide +kernel
theorem dksX4_pass_1 : cX4_pass.data.toList.drop 22 = dktX4_pass_1 := dk_seg dksX4_pass_0 22 rfl rfl
theorem dksX4_pass_2 : cX4_pass.data.toList.drop 46 = dktX4_pass_2 := dk_seg dksX4_pass_1 24 rfl rfl
theorem dX4_pass_0 : decode cX4_pass 0 = .ok (.aload_n 0, 1) := dk_42 (dk_at dksX4_pass_0 0 rfl rfl)
theorem dX4_pass_1 : decode cX4_pass 1 = .ok (.iload_n 1, 1) := dk_27 (dk_at dksX4_pass_0 1 rfl rfl)
theorem dX4_pass_2 : decode cX4_pass 2 = .ok (.i2l, 1) := dk_133 (dk_at dksX4_pass_0 2 rfl rfl)
theorem dX4_pass_3 : decode cX4_pass 3 = .ok (.lconst 1, 1) := dk_10 (dk_at dksX4_pass_0 3 rfl rfl)
theorem dX4_pass_4 : decode cX4_pass 4 = .ok (.ldc2_w 169, 3) := dk_20 0 169 (dk_at dksX4_pass_0 4 rfl rfl)
theorem dX4_pass_7 : decode cX4_pass 7 = .ok (.invokestatic 112, 3) := dk_184 0 112 (dk_at dksX4_pass_0 7 rfl rfl)
theorem dX4_pass_10 : decode cX4_pass 10 = .ok (.aload_n 0, 1) := dk_42 (dk_at dksX4_pass_0 10 rfl rfl)
theorem dX4_pass_11 : decode cX4_pass 11 = .ok (.getfield 131, 3) := dk_180 0 131 (dk_at dksX4_pass_0 11 rfl rfl)
theorem dX4_pass_14 : decode cX4_pass 14 = .ok (.i2l, 1) := dk_133 (dk_at dksX4_pass_0 14 rfl rfl)
theorem dX4_pass_15 : decode cX4_pass 15 = .ok (.iload_n 1, 1) := dk_27 (dk_at dksX4_pass_0 15 rfl rfl)
theorem dX4_pass_16 : decode cX4_pass 16 = .ok (.i2l, 1) := dk_133 (dk_at dksX4_pass_0 16 rfl rfl)
theorem dX4_pass_17 : decode cX4_pass 17 = .ok (.ladd, 1) := dk_97 (dk_at dksX4_pass_0 17 rfl rfl)
theorem dX4_pass_18 : decode cX4_pass 18 = .ok (.ldc2_w 171, 3) := dk_20 0 171 (dk_at dksX4_pass_0 18 rfl rfl)
theorem dX4_pass_21 : decode cX4_pass 21 = .ok (.lcmp, 1) := dk_148 (dk_at dksX4_pass_0 21 rfl rfl)
theorem dX4_pass_22 : decode cX4_pass 22 = .ok (.ifCond .gt 7, 3) := dk_157 0 7 (dk_at dksX4_pass_1 0 rfl rfl)
theorem dX4_pass_25 : decode cX4_pass 25 = .ok (.iconst 1, 1) := dk_4 (dk_at dksX4_pass_1 3 rfl rfl)
theorem dX4_pass_26 : decode cX4_pass 26 = .ok (.goto 4, 3) := dk_167 0 4 (dk_at dksX4_pass_1 4 rfl rfl)
theorem dX4_pass_29 : decode cX4_pass 29 = .ok (.iconst 0, 1) := dk_3 (dk_at dksX4_pass_1 7 rfl rfl)
theorem dX4_pass_30 : decode cX4_pass 30 = .ok (.invokevirtual 173, 3) := dk_182 0 173 (dk_at dksX4_pass_1 8 rfl rfl)
theorem dX4_pass_33 : decode cX4_pass 33 = .ok (.ifCond .ne 5, 3) := dk_154 0 5 (dk_at dksX4_pass_1 11 rfl rfl)
theorem dX4_pass_36 : decode cX4_pass 36 = .ok (.iconst 0, 1) := dk_3 (dk_at dksX4_pass_1 14 rfl rfl)
theorem dX4_pass_37 : decode cX4_pass 37 = .ok (.ireturn, 1) := dk_172 (dk_at dksX4_pass_1 15 rfl rfl)
theorem dX4_pass_38 : decode cX4_pass 38 = .ok (.iconst 0, 1) := dk_3 (dk_at dksX4_pass_1 16 rfl rfl)
theorem dX4_pass_39 : decode cX4_pass 39 = .ok (.istore_n 2, 1) := dk_61 (dk_at dksX4_pass_1 17 rfl rfl)
theorem dX4_pass_40 : decode cX4_pass 40 = .ok (.iload_n 2, 1) := dk_28 (dk_at dksX4_pass_1 18 rfl rfl)
theorem dX4_pass_41 : decode cX4_pass 41 = .ok (.iload_n 1, 1) := dk_27 (dk_at dksX4_pass_1 19 rfl rfl)
theorem dX4_pass_42 : decode cX4_pass 42 = .ok (.if_icmp .ge 13, 3) := dk_162 0 13 (dk_at dksX4_pass_1 20 rfl rfl)
theorem dX4_pass_45 : decode cX4_pass 45 = .ok (.aload_n 0, 1) := dk_42 (dk_at dksX4_pass_1 23 rfl rfl)
theorem dX4_pass_46 : decode cX4_pass 46 = .ok (.invokevirtual 177, 3) := dk_182 0 177 (dk_at dksX4_pass_2 0 rfl rfl)
theorem dX4_pass_49 : decode cX4_pass 49 = .ok (.iinc 2 1, 3) := dk_132 2 1 (dk_at dksX4_pass_2 3 rfl rfl)
theorem dX4_pass_52 : decode cX4_pass 52 = .ok (.goto (-12), 3) := dk_167 255 244 (dk_at dksX4_pass_2 6 rfl rfl)
theorem dX4_pass_55 : decode cX4_pass 55 = .ok (.aload_n 0, 1) := dk_42 (dk_at dksX4_pass_2 9 rfl rfl)
theorem dX4_pass_56 : decode cX4_pass 56 = .ok (.getfield 131, 3) := dk_180 0 131 (dk_at dksX4_pass_2 10 rfl rfl)
theorem dX4_pass_59 : decode cX4_pass 59 = .ok (.ireturn, 1) := dk_172 (dk_at dksX4_pass_2 13 rfl rfl)
abbrev cX4_isBetween : ByteArray := prog_14_method_3_code
def yX4_isBetween : MethodName := ⟨RX4, "isBetween", "(JJJ)Z"⟩
def dkwX4_isBetween_0 : List UInt8 := [30, 32, 148, 155, 0, 14, 30, 22, 4, 148, 157, 0, 7, 4, 167, 0, 4, 3, 172]
abbrev dktX4_isBetween_0 : List UInt8 := dkwX4_isBetween_0 ++ []
theorem dksX4_isBetween_0 : cX4_isBetween.data.toList.drop 0 = dktX4_isBetween_0 := by decide +kernel
theorem dX4_isBetween_0 : decode cX4_isBetween 0 = .ok (.lload_n 0, 1) := dk_30 (dk_at dksX4_isBetween_0 0 rfl rfl)
theorem dX4_isBetween_1 : decode cX4_isBetween 1 = .ok (.lload_n 2, 1) := dk_32 (dk_at dksX4_isBetween_0 1 rfl rfl)
theorem dX4_isBetween_2 : decode cX4_isBetween 2 = .ok (.lcmp, 1) := dk_148 (dk_at dksX4_isBetween_0 2 rfl rfl)
theorem dX4_isBetween_3 : decode cX4_isBetween 3 = .ok (.ifCond .lt 14, 3) := dk_155 0 14 (dk_at dksX4_isBetween_0 3 rfl rfl)
theorem dX4_isBetween_6 : decode cX4_isBetween 6 = .ok (.lload_n 0, 1) := dk_30 (dk_at dksX4_isBetween_0 6 rfl rfl)
theorem dX4_isBetween_7 : decode cX4_isBetween 7 = .ok (.lload 4, 2) := dk_22 4 (dk_at dksX4_isBetween_0 7 rfl rfl)
theorem dX4_isBetween_9 : decode cX4_isBetween 9 = .ok (.lcmp, 1) := dk_148 (dk_at dksX4_isBetween_0 9 rfl rfl)
theorem dX4_isBetween_10 : decode cX4_isBetween 10 = .ok (.ifCond .gt 7, 3) := dk_157 0 7 (dk_at dksX4_isBetween_0 10 rfl rfl)
theorem dX4_isBetween_13 : decode cX4_isBetween 13 = .ok (.iconst 1, 1) := dk_4 (dk_at dksX4_isBetween_0 13 rfl rfl)
theorem dX4_isBetween_14 : decode cX4_isBetween 14 = .ok (.goto 4, 3) := dk_167 0 4 (dk_at dksX4_isBetween_0 14 rfl rfl)
theorem dX4_isBetween_17 : decode cX4_isBetween 17 = .ok (.iconst 0, 1) := dk_3 (dk_at dksX4_isBetween_0 17 rfl rfl)
theorem dX4_isBetween_18 : decode cX4_isBetween 18 = .ok (.ireturn, 1) := dk_172 (dk_at dksX4_isBetween_0 18 rfl rfl)
abbrev cX4_goesBoth : ByteArray := prog_14_method_5_code
def yX4_goesBoth : MethodName := ⟨RX4, "goesBoth", "(ZZ)Z"⟩
def dkwX4_goesBoth_1 : List UInt8 := [180, 0, 107, 154, 0, 7, 4, 167, 0, 4, 3, 172]
abbrev dktX4_goesBoth_1 : List UInt8 := dkwX4_goesBoth_1 ++ []
def dkwX4_goesBoth_0 : List UInt8 := [42, 27, 154, 0, 7, 4, 167, 0, 12, 28, 154, 0, 7, 5, 167, 0, 4, 3, 181, 0, 107, 42]
abbrev dktX4_goesBoth_0 : List UInt8 := dkwX4_goesBoth_0 ++ dktX4_goesBoth_1
theorem dksX4_goesBoth_0 : cX4_goesBoth.data.toList.drop 0 = dktX4_goesBoth_0 := by decide +kernel
theorem dksX4_goesBoth_1 : cX4_goesBoth.data.toList.drop 22 = dktX4_goesBoth_1 := dk_seg dksX4_goesBoth_0 22 rfl rfl
theorem dX4_goesBoth_0 : decode cX4_goesBoth 0 = .ok (.aload_n 0, 1) := dk_42 (dk_at dksX4_goesBoth_0 0 rfl rfl)
theorem dX4_goesBoth_1 : decode cX4_goesBoth 1 = .ok (.iload_n 1, 1) := dk_27 (dk_at dksX4_goesBoth_0 1 rfl rfl)
theorem dX4_goesBoth_2 : decode cX4_goesBoth 2 = .ok (.ifCond .ne 7, 3) := dk_154 0 7 (dk_at dksX4_goesBoth_0 2 rfl rfl)
theorem dX4_goesBoth_5 : decode cX4_goesBoth 5 = .ok (.iconst 1, 1) := dk_4 (dk_at dksX4_goesBoth_0 5 rfl rfl)
theorem dX4_goesBoth_6 : decode cX4_goesBoth 6 = .ok (.goto 12, 3) := dk_167 0 12 (dk_at dksX4_goesBoth_0 6 rfl rfl)
theorem dX4_goesBoth_9 : decode cX4_goesBoth 9 = .ok (.iload_n 2, 1) := dk_28 (dk_at dksX4_goesBoth_0 9 rfl rfl)
theorem dX4_goesBoth_10 : decode cX4_goesBoth 10 = .ok (.ifCond .ne 7, 3) := dk_154 0 7 (dk_at dksX4_goesBoth_0 10 rfl rfl)
theorem dX4_goesBoth_13 : decode cX4_goesBoth 13 = .ok (.iconst 2, 1) := dk_5 (dk_at dksX4_goesBoth_0 13 rfl rfl)
theorem dX4_goesBoth_14 : decode cX4_goesBoth 14 = .ok (.goto 4, 3) := dk_167 0 4 (dk_at dksX4_goesBoth_0 14 rfl rfl)
theorem dX4_goesBoth_17 : decode cX4_goesBoth 17 = .ok (.iconst 0, 1) := dk_3 (dk_at dksX4_goesBoth_0 17 rfl rfl)
theorem dX4_goesBoth_18 : decode cX4_goesBoth 18 = .ok (.putfield 107, 3) := dk_181 0 107 (dk_at dksX4_goesBoth_0 18 rfl rfl)
theorem dX4_goesBoth_21 : decode cX4_goesBoth 21 = .ok (.aload_n 0, 1) := dk_42 (dk_at dksX4_goesBoth_0 21 rfl rfl)
theorem dX4_goesBoth_22 : decode cX4_goesBoth 22 = .ok (.getfield 107, 3) := dk_180 0 107 (dk_at dksX4_goesBoth_1 0 rfl rfl)
theorem dX4_goesBoth_25 : decode cX4_goesBoth 25 = .ok (.ifCond .ne 7, 3) := dk_154 0 7 (dk_at dksX4_goesBoth_1 3 rfl rfl)
theorem dX4_goesBoth_28 : decode cX4_goesBoth 28 = .ok (.iconst 1, 1) := dk_4 (dk_at dksX4_goesBoth_1 6 rfl rfl)
theorem dX4_goesBoth_29 : decode cX4_goesBoth 29 = .ok (.goto 4, 3) := dk_167 0 4 (dk_at dksX4_goesBoth_1 7 rfl rfl)
theorem dX4_goesBoth_32 : decode cX4_goesBoth 32 = .ok (.iconst 0, 1) := dk_3 (dk_at dksX4_goesBoth_1 10 rfl rfl)
theorem dX4_goesBoth_33 : decode cX4_goesBoth 33 = .ok (.ireturn, 1) := dk_172 (dk_at dksX4_goesBoth_1 11 rfl rfl)
abbrev cX4_dayGoes : ByteArray := prog_14_method_22_code
def yX4_dayGoes : MethodName := ⟨RX4, "dayGoes", "()V"⟩
def dkwX4_dayGoes_4 : List UInt8 := [180, 0, 131, 16, 7, 112, 154, 0, 7, 42, 182, 0, 166, 177]
abbrev dktX4_dayGoes_4 : List UInt8 := dkwX4_dayGoes_4 ++ []
def dkwX4_dayGoes_3 : List UInt8 := [28, 182, 0, 160, 167, 0, 13, 42, 42, 180, 0, 53, 28, 46, 182, 0, 163, 132, 2, 1, 167, 255, 182, 42]
abbrev dktX4_dayGoes_3 : List UInt8 := dkwX4_dayGoes_3 ++ dktX4_dayGoes_4
def dkwX4_dayGoes_2 : List UInt8 := [42, 42, 180, 0, 53, 28, 46, 182, 0, 156, 167, 0, 31, 42, 180, 0, 50, 28, 46, 4, 160, 0, 11, 42]
abbrev dktX4_dayGoes_2 : List UInt8 := dkwX4_dayGoes_2 ++ dktX4_dayGoes_3
def dkwX4_dayGoes_1 : List UInt8 := [180, 0, 47, 28, 46, 42, 180, 0, 131, 159, 0, 6, 167, 0, 53, 42, 180, 0, 50, 28, 46, 154, 0, 16]
abbrev dktX4_dayGoes_1 : List UInt8 := dkwX4_dayGoes_1 ++ dktX4_dayGoes_2
def dkwX4_dayGoes_0 : List UInt8 := [42, 89, 180, 0, 131, 4, 96, 181, 0, 131, 42, 180, 0, 137, 60, 3, 61, 28, 27, 162, 0, 75, 42]
abbrev dktX4_dayGoes_0 : List UInt8 := dkwX4_dayGoes_0 ++ dktX4_dayGoes_1
theorem dksX4_dayGoes_0 : cX4_dayGoes.data.toList.drop 0 = dktX4_dayGoes_0 := by decide +kernel
theorem dksX4_dayGoes_1 : cX4_dayGoes.data.toList.drop 23 = dktX4_dayGoes_1 := dk_seg dksX4_dayGoes_0 23 rfl rfl
theorem dksX4_dayGoes_2 : cX4_dayGoes.data.toList.drop 47 = dktX4_dayGoes_2 := dk_seg dksX4_dayGoes_1 24 rfl rfl
theorem dksX4_dayGoes_3 : cX4_dayGoes.data.toList.drop 71 = dktX4_dayGoes_3 := dk_seg dksX4_dayGoes_2 24 rfl rfl
theorem dksX4_dayGoes_4 : cX4_dayGoes.data.toList.drop 95 = dktX4_dayGoes_4 := dk_seg dksX4_dayGoes_3 24 rfl rfl
theorem dX4_dayGoes_0 : decode cX4_dayGoes 0 = .ok (.aload_n 0, 1) := dk_42 (dk_at dksX4_dayGoes_0 0 rfl rfl)
theorem dX4_dayGoes_1 : decode cX4_dayGoes 1 = .ok (.dup, 1) := dk_89 (dk_at dksX4_dayGoes_0 1 rfl rfl)
theorem dX4_dayGoes_2 : decode cX4_dayGoes 2 = .ok (.getfield 131, 3) := dk_180 0 131 (dk_at dksX4_dayGoes_0 2 rfl rfl)
theorem dX4_dayGoes_5 : decode cX4_dayGoes 5 = .ok (.iconst 1, 1) := dk_4 (dk_at dksX4_dayGoes_0 5 rfl rfl)
theorem dX4_dayGoes_6 : decode cX4_dayGoes 6 = .ok (.iadd, 1) := dk_96 (dk_at dksX4_dayGoes_0 6 rfl rfl)
theorem dX4_dayGoes_7 : decode cX4_dayGoes 7 = .ok (.putfield 131, 3) := dk_181 0 131 (dk_at dksX4_dayGoes_0 7 rfl rfl)
theorem dX4_dayGoes_10 : decode cX4_dayGoes 10 = .ok (.aload_n 0, 1) := dk_42 (dk_at dksX4_dayGoes_0 10 rfl rfl)
theorem dX4_dayGoes_11 : decode cX4_dayGoes 11 = .ok (.getfield 137, 3) := dk_180 0 137 (dk_at dksX4_dayGoes_0 11 rfl rfl)
theorem dX4_dayGoes_14 : decode cX4_dayGoes 14 = .ok (.istore_n 1, 1) := dk_60 (dk_at dksX4_dayGoes_0 14 rfl rfl)
theorem dX4_dayGoes_15 : decode cX4_dayGoes 15 = .ok (.iconst 0, 1) := dk_3 (dk_at dksX4_dayGoes_0 15 rfl rfl)
theorem dX4_dayGoes_16 : decode cX4_dayGoes 16 = .ok (.istore_n 2, 1) := dk_61 (dk_at dksX4_dayGoes_0 16 rfl rfl)
theorem dX4_dayGoes_17 : decode cX4_dayGoes 17 = .ok (.iload_n 2, 1) := dk_28 (dk_at dksX4_dayGoes_0 17 rfl rfl)
theorem dX4_dayGoes_18 : decode cX4_dayGoes 18 = .ok (.iload_n 1, 1) := dk_27 (dk_at dksX4_dayGoes_0 18 rfl rfl)
theorem dX4_dayGoes_19 : decode cX4_dayGoes 19 = .ok (.if_icmp .ge 75, 3) := dk_162 0 75 (dk_at dksX4_dayGoes_0 19 rfl rfl)
theorem dX4_dayGoes_22 : decode cX4_dayGoes 22 = .ok (.aload_n 0, 1) := dk_42 (dk_at dksX4_dayGoes_0 22 rfl rfl)
theorem dX4_dayGoes_23 : decode cX4_dayGoes 23 = .ok (.getfield 47, 3) := dk_180 0 47 (dk_at dksX4_dayGoes_1 0 rfl rfl)
theorem dX4_dayGoes_26 : decode cX4_dayGoes 26 = .ok (.iload_n 2, 1) := dk_28 (dk_at dksX4_dayGoes_1 3 rfl rfl)
theorem dX4_dayGoes_27 : decode cX4_dayGoes 27 = .ok (.iaload, 1) := dk_46 (dk_at dksX4_dayGoes_1 4 rfl rfl)
theorem dX4_dayGoes_28 : decode cX4_dayGoes 28 = .ok (.aload_n 0, 1) := dk_42 (dk_at dksX4_dayGoes_1 5 rfl rfl)
theorem dX4_dayGoes_29 : decode cX4_dayGoes 29 = .ok (.getfield 131, 3) := dk_180 0 131 (dk_at dksX4_dayGoes_1 6 rfl rfl)
theorem dX4_dayGoes_32 : decode cX4_dayGoes 32 = .ok (.if_icmp .eq 6, 3) := dk_159 0 6 (dk_at dksX4_dayGoes_1 9 rfl rfl)
theorem dX4_dayGoes_35 : decode cX4_dayGoes 35 = .ok (.goto 53, 3) := dk_167 0 53 (dk_at dksX4_dayGoes_1 12 rfl rfl)
theorem dX4_dayGoes_38 : decode cX4_dayGoes 38 = .ok (.aload_n 0, 1) := dk_42 (dk_at dksX4_dayGoes_1 15 rfl rfl)
theorem dX4_dayGoes_39 : decode cX4_dayGoes 39 = .ok (.getfield 50, 3) := dk_180 0 50 (dk_at dksX4_dayGoes_1 16 rfl rfl)
theorem dX4_dayGoes_42 : decode cX4_dayGoes 42 = .ok (.iload_n 2, 1) := dk_28 (dk_at dksX4_dayGoes_1 19 rfl rfl)
theorem dX4_dayGoes_43 : decode cX4_dayGoes 43 = .ok (.iaload, 1) := dk_46 (dk_at dksX4_dayGoes_1 20 rfl rfl)
theorem dX4_dayGoes_44 : decode cX4_dayGoes 44 = .ok (.ifCond .ne 16, 3) := dk_154 0 16 (dk_at dksX4_dayGoes_1 21 rfl rfl)
theorem dX4_dayGoes_47 : decode cX4_dayGoes 47 = .ok (.aload_n 0, 1) := dk_42 (dk_at dksX4_dayGoes_2 0 rfl rfl)
theorem dX4_dayGoes_48 : decode cX4_dayGoes 48 = .ok (.aload_n 0, 1) := dk_42 (dk_at dksX4_dayGoes_2 1 rfl rfl)
theorem dX4_dayGoes_49 : decode cX4_dayGoes 49 = .ok (.getfield 53, 3) := dk_180 0 53 (dk_at dksX4_dayGoes_2 2 rfl rfl)
theorem dX4_dayGoes_52 : decode cX4_dayGoes 52 = .ok (.iload_n 2, 1) := dk_28 (dk_at dksX4_dayGoes_2 5 rfl rfl)
theorem dX4_dayGoes_53 : decode cX4_dayGoes 53 = .ok (.iaload, 1) := dk_46 (dk_at dksX4_dayGoes_2 6 rfl rfl)
theorem dX4_dayGoes_54 : decode cX4_dayGoes 54 = .ok (.invokevirtual 156, 3) := dk_182 0 156 (dk_at dksX4_dayGoes_2 7 rfl rfl)
theorem dX4_dayGoes_57 : decode cX4_dayGoes 57 = .ok (.goto 31, 3) := dk_167 0 31 (dk_at dksX4_dayGoes_2 10 rfl rfl)
theorem dX4_dayGoes_60 : decode cX4_dayGoes 60 = .ok (.aload_n 0, 1) := dk_42 (dk_at dksX4_dayGoes_2 13 rfl rfl)
theorem dX4_dayGoes_61 : decode cX4_dayGoes 61 = .ok (.getfield 50, 3) := dk_180 0 50 (dk_at dksX4_dayGoes_2 14 rfl rfl)
theorem dX4_dayGoes_64 : decode cX4_dayGoes 64 = .ok (.iload_n 2, 1) := dk_28 (dk_at dksX4_dayGoes_2 17 rfl rfl)
theorem dX4_dayGoes_65 : decode cX4_dayGoes 65 = .ok (.iaload, 1) := dk_46 (dk_at dksX4_dayGoes_2 18 rfl rfl)
theorem dX4_dayGoes_66 : decode cX4_dayGoes 66 = .ok (.iconst 1, 1) := dk_4 (dk_at dksX4_dayGoes_2 19 rfl rfl)
theorem dX4_dayGoes_67 : decode cX4_dayGoes 67 = .ok (.if_icmp .ne 11, 3) := dk_160 0 11 (dk_at dksX4_dayGoes_2 20 rfl rfl)
theorem dX4_dayGoes_70 : decode cX4_dayGoes 70 = .ok (.aload_n 0, 1) := dk_42 (dk_at dksX4_dayGoes_2 23 rfl rfl)
theorem dX4_dayGoes_71 : decode cX4_dayGoes 71 = .ok (.iload_n 2, 1) := dk_28 (dk_at dksX4_dayGoes_3 0 rfl rfl)
theorem dX4_dayGoes_72 : decode cX4_dayGoes 72 = .ok (.invokevirtual 160, 3) := dk_182 0 160 (dk_at dksX4_dayGoes_3 1 rfl rfl)
theorem dX4_dayGoes_75 : decode cX4_dayGoes 75 = .ok (.goto 13, 3) := dk_167 0 13 (dk_at dksX4_dayGoes_3 4 rfl rfl)
theorem dX4_dayGoes_78 : decode cX4_dayGoes 78 = .ok (.aload_n 0, 1) := dk_42 (dk_at dksX4_dayGoes_3 7 rfl rfl)
theorem dX4_dayGoes_79 : decode cX4_dayGoes 79 = .ok (.aload_n 0, 1) := dk_42 (dk_at dksX4_dayGoes_3 8 rfl rfl)
theorem dX4_dayGoes_80 : decode cX4_dayGoes 80 = .ok (.getfield 53, 3) := dk_180 0 53 (dk_at dksX4_dayGoes_3 9 rfl rfl)
theorem dX4_dayGoes_83 : decode cX4_dayGoes 83 = .ok (.iload_n 2, 1) := dk_28 (dk_at dksX4_dayGoes_3 12 rfl rfl)
theorem dX4_dayGoes_84 : decode cX4_dayGoes 84 = .ok (.iaload, 1) := dk_46 (dk_at dksX4_dayGoes_3 13 rfl rfl)
theorem dX4_dayGoes_85 : decode cX4_dayGoes 85 = .ok (.invokevirtual 163, 3) := dk_182 0 163 (dk_at dksX4_dayGoes_3 14 rfl rfl)
theorem dX4_dayGoes_88 : decode cX4_dayGoes 88 = .ok (.iinc 2 1, 3) := dk_132 2 1 (dk_at dksX4_dayGoes_3 17 rfl rfl)
theorem dX4_dayGoes_91 : decode cX4_dayGoes 91 = .ok (.goto (-74), 3) := dk_167 255 182 (dk_at dksX4_dayGoes_3 20 rfl rfl)
theorem dX4_dayGoes_94 : decode cX4_dayGoes 94 = .ok (.aload_n 0, 1) := dk_42 (dk_at dksX4_dayGoes_3 23 rfl rfl)
theorem dX4_dayGoes_95 : decode cX4_dayGoes 95 = .ok (.getfield 131, 3) := dk_180 0 131 (dk_at dksX4_dayGoes_4 0 rfl rfl)
theorem dX4_dayGoes_98 : decode cX4_dayGoes 98 = .ok (.bipush 7, 2) := dk_16 7 (dk_at dksX4_dayGoes_4 3 rfl rfl)
theorem dX4_dayGoes_100 : decode cX4_dayGoes 100 = .ok (.irem, 1) := dk_112 (dk_at dksX4_dayGoes_4 5 rfl rfl)
theorem dX4_dayGoes_101 : decode cX4_dayGoes 101 = .ok (.ifCond .ne 7, 3) := dk_154 0 7 (dk_at dksX4_dayGoes_4 6 rfl rfl)
theorem dX4_dayGoes_104 : decode cX4_dayGoes 104 = .ok (.aload_n 0, 1) := dk_42 (dk_at dksX4_dayGoes_4 9 rfl rfl)
theorem dX4_dayGoes_105 : decode cX4_dayGoes 105 = .ok (.invokevirtual 166, 3) := dk_182 0 166 (dk_at dksX4_dayGoes_4 10 rfl rfl)
theorem dX4_dayGoes_108 : decode cX4_dayGoes 108 = .ok (.return_, 1) := dk_177 (dk_at dksX4_dayGoes_4 13 rfl rfl)
abbrev cX4_cutCome : ByteArray := prog_14_method_19_code
def yX4_cutCome : MethodName := ⟨RX4, "cutCome", "(I)V"⟩
def dkwX4_cutCome_2 : List UInt8 := [96, 181, 0, 118, 132, 2, 1, 167, 255, 205, 42, 182, 0, 153, 177]
abbrev dktX4_cutCome_2 : List UInt8 := dkwX4_cutCome_2 ++ []
def dkwX4_cutCome_1 : List UInt8 := [180, 0, 118, 2, 79, 42, 180, 0, 38, 42, 180, 0, 118, 42, 180, 0, 131, 79, 42, 89, 180, 0, 118, 4]
abbrev dktX4_cutCome_1 : List UInt8 := dkwX4_cutCome_1 ++ dktX4_cutCome_2
def dkwX4_cutCome_0 : List UInt8 := [3, 61, 28, 27, 162, 0, 52, 42, 180, 0, 32, 42, 180, 0, 118, 3, 79, 42, 180, 0, 35, 42]
abbrev dktX4_cutCome_0 : List UInt8 := dkwX4_cutCome_0 ++ dktX4_cutCome_1
theorem dksX4_cutCome_0 : cX4_cutCome.data.toList.drop 0 = dktX4_cutCome_0 := by decide +kernel
theorem dksX4_cutCome_1 : cX4_cutCome.data.toList.drop 22 = dktX4_cutCome_1 := dk_seg dksX4_cutCome_0 22 rfl rfl
theorem dksX4_cutCome_2 : cX4_cutCome.data.toList.drop 46 = dktX4_cutCome_2 := dk_seg dksX4_cutCome_1 24 rfl rfl
theorem dX4_cutCome_0 : decode cX4_cutCome 0 = .ok (.iconst 0, 1) := dk_3 (dk_at dksX4_cutCome_0 0 rfl rfl)
theorem dX4_cutCome_1 : decode cX4_cutCome 1 = .ok (.istore_n 2, 1) := dk_61 (dk_at dksX4_cutCome_0 1 rfl rfl)
theorem dX4_cutCome_2 : decode cX4_cutCome 2 = .ok (.iload_n 2, 1) := dk_28 (dk_at dksX4_cutCome_0 2 rfl rfl)
theorem dX4_cutCome_3 : decode cX4_cutCome 3 = .ok (.iload_n 1, 1) := dk_27 (dk_at dksX4_cutCome_0 3 rfl rfl)
theorem dX4_cutCome_4 : decode cX4_cutCome 4 = .ok (.if_icmp .ge 52, 3) := dk_162 0 52 (dk_at dksX4_cutCome_0 4 rfl rfl)
theorem dX4_cutCome_7 : decode cX4_cutCome 7 = .ok (.aload_n 0, 1) := dk_42 (dk_at dksX4_cutCome_0 7 rfl rfl)
theorem dX4_cutCome_8 : decode cX4_cutCome 8 = .ok (.getfield 32, 3) := dk_180 0 32 (dk_at dksX4_cutCome_0 8 rfl rfl)
theorem dX4_cutCome_11 : decode cX4_cutCome 11 = .ok (.aload_n 0, 1) := dk_42 (dk_at dksX4_cutCome_0 11 rfl rfl)
theorem dX4_cutCome_12 : decode cX4_cutCome 12 = .ok (.getfield 118, 3) := dk_180 0 118 (dk_at dksX4_cutCome_0 12 rfl rfl)
theorem dX4_cutCome_15 : decode cX4_cutCome 15 = .ok (.iconst 0, 1) := dk_3 (dk_at dksX4_cutCome_0 15 rfl rfl)
theorem dX4_cutCome_16 : decode cX4_cutCome 16 = .ok (.iastore, 1) := dk_79 (dk_at dksX4_cutCome_0 16 rfl rfl)
theorem dX4_cutCome_17 : decode cX4_cutCome 17 = .ok (.aload_n 0, 1) := dk_42 (dk_at dksX4_cutCome_0 17 rfl rfl)
theorem dX4_cutCome_18 : decode cX4_cutCome 18 = .ok (.getfield 35, 3) := dk_180 0 35 (dk_at dksX4_cutCome_0 18 rfl rfl)
theorem dX4_cutCome_21 : decode cX4_cutCome 21 = .ok (.aload_n 0, 1) := dk_42 (dk_at dksX4_cutCome_0 21 rfl rfl)
theorem dX4_cutCome_22 : decode cX4_cutCome 22 = .ok (.getfield 118, 3) := dk_180 0 118 (dk_at dksX4_cutCome_1 0 rfl rfl)
theorem dX4_cutCome_25 : decode cX4_cutCome 25 = .ok (.iconst (-1), 1) := dk_2 (dk_at dksX4_cutCome_1 3 rfl rfl)
theorem dX4_cutCome_26 : decode cX4_cutCome 26 = .ok (.iastore, 1) := dk_79 (dk_at dksX4_cutCome_1 4 rfl rfl)
theorem dX4_cutCome_27 : decode cX4_cutCome 27 = .ok (.aload_n 0, 1) := dk_42 (dk_at dksX4_cutCome_1 5 rfl rfl)
theorem dX4_cutCome_28 : decode cX4_cutCome 28 = .ok (.getfield 38, 3) := dk_180 0 38 (dk_at dksX4_cutCome_1 6 rfl rfl)
theorem dX4_cutCome_31 : decode cX4_cutCome 31 = .ok (.aload_n 0, 1) := dk_42 (dk_at dksX4_cutCome_1 9 rfl rfl)
theorem dX4_cutCome_32 : decode cX4_cutCome 32 = .ok (.getfield 118, 3) := dk_180 0 118 (dk_at dksX4_cutCome_1 10 rfl rfl)
theorem dX4_cutCome_35 : decode cX4_cutCome 35 = .ok (.aload_n 0, 1) := dk_42 (dk_at dksX4_cutCome_1 13 rfl rfl)
theorem dX4_cutCome_36 : decode cX4_cutCome 36 = .ok (.getfield 131, 3) := dk_180 0 131 (dk_at dksX4_cutCome_1 14 rfl rfl)
theorem dX4_cutCome_39 : decode cX4_cutCome 39 = .ok (.iastore, 1) := dk_79 (dk_at dksX4_cutCome_1 17 rfl rfl)
theorem dX4_cutCome_40 : decode cX4_cutCome 40 = .ok (.aload_n 0, 1) := dk_42 (dk_at dksX4_cutCome_1 18 rfl rfl)
theorem dX4_cutCome_41 : decode cX4_cutCome 41 = .ok (.dup, 1) := dk_89 (dk_at dksX4_cutCome_1 19 rfl rfl)
theorem dX4_cutCome_42 : decode cX4_cutCome 42 = .ok (.getfield 118, 3) := dk_180 0 118 (dk_at dksX4_cutCome_1 20 rfl rfl)
theorem dX4_cutCome_45 : decode cX4_cutCome 45 = .ok (.iconst 1, 1) := dk_4 (dk_at dksX4_cutCome_1 23 rfl rfl)
theorem dX4_cutCome_46 : decode cX4_cutCome 46 = .ok (.iadd, 1) := dk_96 (dk_at dksX4_cutCome_2 0 rfl rfl)
theorem dX4_cutCome_47 : decode cX4_cutCome 47 = .ok (.putfield 118, 3) := dk_181 0 118 (dk_at dksX4_cutCome_2 1 rfl rfl)
theorem dX4_cutCome_50 : decode cX4_cutCome 50 = .ok (.iinc 2 1, 3) := dk_132 2 1 (dk_at dksX4_cutCome_2 4 rfl rfl)
theorem dX4_cutCome_53 : decode cX4_cutCome 53 = .ok (.goto (-51), 3) := dk_167 255 205 (dk_at dksX4_cutCome_2 7 rfl rfl)
theorem dX4_cutCome_56 : decode cX4_cutCome 56 = .ok (.aload_n 0, 1) := dk_42 (dk_at dksX4_cutCome_2 10 rfl rfl)
theorem dX4_cutCome_57 : decode cX4_cutCome 57 = .ok (.invokevirtual 153, 3) := dk_182 0 153 (dk_at dksX4_cutCome_2 11 rfl rfl)
theorem dX4_cutCome_60 : decode cX4_cutCome 60 = .ok (.return_, 1) := dk_177 (dk_at dksX4_cutCome_2 14 rfl rfl)
abbrev cX4_serves : ByteArray := prog_14_method_18_code
def yX4_serves : MethodName := ⟨RX4, "serves", "()V"⟩
def dkwX4_serves_5 : List UInt8 := [89, 180, 0, 144, 4, 100, 181, 0, 144, 42, 28, 27, 182, 0, 150, 62, 167, 255, 125, 177]
abbrev dktX4_serves_5 : List UInt8 := dkwX4_serves_5 ++ []
def dkwX4_serves_4 : List UInt8 := [29, 46, 79, 42, 180, 0, 59, 29, 4, 100, 42, 180, 0, 59, 29, 46, 79, 132, 3, 1, 167, 255, 217, 42]
abbrev dktX4_serves_4 : List UInt8 := dkwX4_serves_4 ++ dktX4_serves_5
def dkwX4_serves_3 : List UInt8 := [154, 0, 57, 4, 62, 29, 42, 180, 0, 144, 162, 0, 37, 42, 180, 0, 56, 29, 4, 100, 42, 180, 0, 56]
abbrev dktX4_serves_3 : List UInt8 := dkwX4_serves_3 ++ dktX4_serves_4
def dkwX4_serves_2 : List UInt8 := [180, 0, 56, 3, 46, 61, 42, 180, 0, 59, 3, 92, 46, 27, 100, 79, 42, 180, 0, 59, 3, 46]
abbrev dktX4_serves_2 : List UInt8 := dkwX4_serves_2 ++ dktX4_serves_3
def dkwX4_serves_1 : List UInt8 := [182, 0, 147, 162, 0, 12, 42, 180, 0, 59, 3, 46, 167, 0, 8, 42, 3, 182, 0, 147, 60, 42]
abbrev dktX4_serves_1 : List UInt8 := dkwX4_serves_1 ++ dktX4_serves_2
def dkwX4_serves_0 : List UInt8 := [42, 180, 0, 144, 158, 0, 130, 42, 3, 182, 0, 147, 158, 0, 122, 42, 180, 0, 59, 3, 46, 42, 3]
abbrev dktX4_serves_0 : List UInt8 := dkwX4_serves_0 ++ dktX4_serves_1
theorem dksX4_serves_0 : cX4_serves.data.toList.drop 0 = dktX4_serves_0 := by decide +kernel
theorem dksX4_serves_1 : cX4_serves.data.toList.drop 23 = dktX4_serves_1 := dk_seg dksX4_serves_0 23 rfl rfl
theorem dksX4_serves_2 : cX4_serves.data.toList.drop 45 = dktX4_serves_2 := dk_seg dksX4_serves_1 22 rfl rfl
theorem dksX4_serves_3 : cX4_serves.data.toList.drop 67 = dktX4_serves_3 := dk_seg dksX4_serves_2 22 rfl rfl
theorem dksX4_serves_4 : cX4_serves.data.toList.drop 91 = dktX4_serves_4 := dk_seg dksX4_serves_3 24 rfl rfl
theorem dksX4_serves_5 : cX4_serves.data.toList.drop 115 = dktX4_serves_5 := dk_seg dksX4_serves_4 24 rfl rfl
theorem dX4_serves_0 : decode cX4_serves 0 = .ok (.aload_n 0, 1) := dk_42 (dk_at dksX4_serves_0 0 rfl rfl)
theorem dX4_serves_1 : decode cX4_serves 1 = .ok (.getfield 144, 3) := dk_180 0 144 (dk_at dksX4_serves_0 1 rfl rfl)
theorem dX4_serves_4 : decode cX4_serves 4 = .ok (.ifCond .le 130, 3) := dk_158 0 130 (dk_at dksX4_serves_0 4 rfl rfl)
theorem dX4_serves_7 : decode cX4_serves 7 = .ok (.aload_n 0, 1) := dk_42 (dk_at dksX4_serves_0 7 rfl rfl)
theorem dX4_serves_8 : decode cX4_serves 8 = .ok (.iconst 0, 1) := dk_3 (dk_at dksX4_serves_0 8 rfl rfl)
theorem dX4_serves_9 : decode cX4_serves 9 = .ok (.invokevirtual 147, 3) := dk_182 0 147 (dk_at dksX4_serves_0 9 rfl rfl)
theorem dX4_serves_12 : decode cX4_serves 12 = .ok (.ifCond .le 122, 3) := dk_158 0 122 (dk_at dksX4_serves_0 12 rfl rfl)
theorem dX4_serves_15 : decode cX4_serves 15 = .ok (.aload_n 0, 1) := dk_42 (dk_at dksX4_serves_0 15 rfl rfl)
theorem dX4_serves_16 : decode cX4_serves 16 = .ok (.getfield 59, 3) := dk_180 0 59 (dk_at dksX4_serves_0 16 rfl rfl)
theorem dX4_serves_19 : decode cX4_serves 19 = .ok (.iconst 0, 1) := dk_3 (dk_at dksX4_serves_0 19 rfl rfl)
theorem dX4_serves_20 : decode cX4_serves 20 = .ok (.iaload, 1) := dk_46 (dk_at dksX4_serves_0 20 rfl rfl)
theorem dX4_serves_21 : decode cX4_serves 21 = .ok (.aload_n 0, 1) := dk_42 (dk_at dksX4_serves_0 21 rfl rfl)
theorem dX4_serves_22 : decode cX4_serves 22 = .ok (.iconst 0, 1) := dk_3 (dk_at dksX4_serves_0 22 rfl rfl)
theorem dX4_serves_23 : decode cX4_serves 23 = .ok (.invokevirtual 147, 3) := dk_182 0 147 (dk_at dksX4_serves_1 0 rfl rfl)
theorem dX4_serves_26 : decode cX4_serves 26 = .ok (.if_icmp .ge 12, 3) := dk_162 0 12 (dk_at dksX4_serves_1 3 rfl rfl)
theorem dX4_serves_29 : decode cX4_serves 29 = .ok (.aload_n 0, 1) := dk_42 (dk_at dksX4_serves_1 6 rfl rfl)
theorem dX4_serves_30 : decode cX4_serves 30 = .ok (.getfield 59, 3) := dk_180 0 59 (dk_at dksX4_serves_1 7 rfl rfl)
theorem dX4_serves_33 : decode cX4_serves 33 = .ok (.iconst 0, 1) := dk_3 (dk_at dksX4_serves_1 10 rfl rfl)
theorem dX4_serves_34 : decode cX4_serves 34 = .ok (.iaload, 1) := dk_46 (dk_at dksX4_serves_1 11 rfl rfl)
theorem dX4_serves_35 : decode cX4_serves 35 = .ok (.goto 8, 3) := dk_167 0 8 (dk_at dksX4_serves_1 12 rfl rfl)
theorem dX4_serves_38 : decode cX4_serves 38 = .ok (.aload_n 0, 1) := dk_42 (dk_at dksX4_serves_1 15 rfl rfl)
theorem dX4_serves_39 : decode cX4_serves 39 = .ok (.iconst 0, 1) := dk_3 (dk_at dksX4_serves_1 16 rfl rfl)
theorem dX4_serves_40 : decode cX4_serves 40 = .ok (.invokevirtual 147, 3) := dk_182 0 147 (dk_at dksX4_serves_1 17 rfl rfl)
theorem dX4_serves_43 : decode cX4_serves 43 = .ok (.istore_n 1, 1) := dk_60 (dk_at dksX4_serves_1 20 rfl rfl)
theorem dX4_serves_44 : decode cX4_serves 44 = .ok (.aload_n 0, 1) := dk_42 (dk_at dksX4_serves_1 21 rfl rfl)
theorem dX4_serves_45 : decode cX4_serves 45 = .ok (.getfield 56, 3) := dk_180 0 56 (dk_at dksX4_serves_2 0 rfl rfl)
theorem dX4_serves_48 : decode cX4_serves 48 = .ok (.iconst 0, 1) := dk_3 (dk_at dksX4_serves_2 3 rfl rfl)
theorem dX4_serves_49 : decode cX4_serves 49 = .ok (.iaload, 1) := dk_46 (dk_at dksX4_serves_2 4 rfl rfl)
theorem dX4_serves_50 : decode cX4_serves 50 = .ok (.istore_n 2, 1) := dk_61 (dk_at dksX4_serves_2 5 rfl rfl)
theorem dX4_serves_51 : decode cX4_serves 51 = .ok (.aload_n 0, 1) := dk_42 (dk_at dksX4_serves_2 6 rfl rfl)
theorem dX4_serves_52 : decode cX4_serves 52 = .ok (.getfield 59, 3) := dk_180 0 59 (dk_at dksX4_serves_2 7 rfl rfl)
theorem dX4_serves_55 : decode cX4_serves 55 = .ok (.iconst 0, 1) := dk_3 (dk_at dksX4_serves_2 10 rfl rfl)
theorem dX4_serves_56 : decode cX4_serves 56 = .ok (.dup2, 1) := dk_92 (dk_at dksX4_serves_2 11 rfl rfl)
theorem dX4_serves_57 : decode cX4_serves 57 = .ok (.iaload, 1) := dk_46 (dk_at dksX4_serves_2 12 rfl rfl)
theorem dX4_serves_58 : decode cX4_serves 58 = .ok (.iload_n 1, 1) := dk_27 (dk_at dksX4_serves_2 13 rfl rfl)
theorem dX4_serves_59 : decode cX4_serves 59 = .ok (.isub, 1) := dk_100 (dk_at dksX4_serves_2 14 rfl rfl)
theorem dX4_serves_60 : decode cX4_serves 60 = .ok (.iastore, 1) := dk_79 (dk_at dksX4_serves_2 15 rfl rfl)
theorem dX4_serves_61 : decode cX4_serves 61 = .ok (.aload_n 0, 1) := dk_42 (dk_at dksX4_serves_2 16 rfl rfl)
theorem dX4_serves_62 : decode cX4_serves 62 = .ok (.getfield 59, 3) := dk_180 0 59 (dk_at dksX4_serves_2 17 rfl rfl)
theorem dX4_serves_65 : decode cX4_serves 65 = .ok (.iconst 0, 1) := dk_3 (dk_at dksX4_serves_2 20 rfl rfl)
theorem dX4_serves_66 : decode cX4_serves 66 = .ok (.iaload, 1) := dk_46 (dk_at dksX4_serves_2 21 rfl rfl)
theorem dX4_serves_67 : decode cX4_serves 67 = .ok (.ifCond .ne 57, 3) := dk_154 0 57 (dk_at dksX4_serves_3 0 rfl rfl)
theorem dX4_serves_70 : decode cX4_serves 70 = .ok (.iconst 1, 1) := dk_4 (dk_at dksX4_serves_3 3 rfl rfl)
theorem dX4_serves_71 : decode cX4_serves 71 = .ok (.istore_n 3, 1) := dk_62 (dk_at dksX4_serves_3 4 rfl rfl)
theorem dX4_serves_72 : decode cX4_serves 72 = .ok (.iload_n 3, 1) := dk_29 (dk_at dksX4_serves_3 5 rfl rfl)
theorem dX4_serves_73 : decode cX4_serves 73 = .ok (.aload_n 0, 1) := dk_42 (dk_at dksX4_serves_3 6 rfl rfl)
theorem dX4_serves_74 : decode cX4_serves 74 = .ok (.getfield 144, 3) := dk_180 0 144 (dk_at dksX4_serves_3 7 rfl rfl)
theorem dX4_serves_77 : decode cX4_serves 77 = .ok (.if_icmp .ge 37, 3) := dk_162 0 37 (dk_at dksX4_serves_3 10 rfl rfl)
theorem dX4_serves_80 : decode cX4_serves 80 = .ok (.aload_n 0, 1) := dk_42 (dk_at dksX4_serves_3 13 rfl rfl)
theorem dX4_serves_81 : decode cX4_serves 81 = .ok (.getfield 56, 3) := dk_180 0 56 (dk_at dksX4_serves_3 14 rfl rfl)
theorem dX4_serves_84 : decode cX4_serves 84 = .ok (.iload_n 3, 1) := dk_29 (dk_at dksX4_serves_3 17 rfl rfl)
theorem dX4_serves_85 : decode cX4_serves 85 = .ok (.iconst 1, 1) := dk_4 (dk_at dksX4_serves_3 18 rfl rfl)
theorem dX4_serves_86 : decode cX4_serves 86 = .ok (.isub, 1) := dk_100 (dk_at dksX4_serves_3 19 rfl rfl)
theorem dX4_serves_87 : decode cX4_serves 87 = .ok (.aload_n 0, 1) := dk_42 (dk_at dksX4_serves_3 20 rfl rfl)
theorem dX4_serves_88 : decode cX4_serves 88 = .ok (.getfield 56, 3) := dk_180 0 56 (dk_at dksX4_serves_3 21 rfl rfl)
theorem dX4_serves_91 : decode cX4_serves 91 = .ok (.iload_n 3, 1) := dk_29 (dk_at dksX4_serves_4 0 rfl rfl)
theorem dX4_serves_92 : decode cX4_serves 92 = .ok (.iaload, 1) := dk_46 (dk_at dksX4_serves_4 1 rfl rfl)
theorem dX4_serves_93 : decode cX4_serves 93 = .ok (.iastore, 1) := dk_79 (dk_at dksX4_serves_4 2 rfl rfl)
theorem dX4_serves_94 : decode cX4_serves 94 = .ok (.aload_n 0, 1) := dk_42 (dk_at dksX4_serves_4 3 rfl rfl)
theorem dX4_serves_95 : decode cX4_serves 95 = .ok (.getfield 59, 3) := dk_180 0 59 (dk_at dksX4_serves_4 4 rfl rfl)
theorem dX4_serves_98 : decode cX4_serves 98 = .ok (.iload_n 3, 1) := dk_29 (dk_at dksX4_serves_4 7 rfl rfl)
theorem dX4_serves_99 : decode cX4_serves 99 = .ok (.iconst 1, 1) := dk_4 (dk_at dksX4_serves_4 8 rfl rfl)
theorem dX4_serves_100 : decode cX4_serves 100 = .ok (.isub, 1) := dk_100 (dk_at dksX4_serves_4 9 rfl rfl)
theorem dX4_serves_101 : decode cX4_serves 101 = .ok (.aload_n 0, 1) := dk_42 (dk_at dksX4_serves_4 10 rfl rfl)
theorem dX4_serves_102 : decode cX4_serves 102 = .ok (.getfield 59, 3) := dk_180 0 59 (dk_at dksX4_serves_4 11 rfl rfl)
theorem dX4_serves_105 : decode cX4_serves 105 = .ok (.iload_n 3, 1) := dk_29 (dk_at dksX4_serves_4 14 rfl rfl)
theorem dX4_serves_106 : decode cX4_serves 106 = .ok (.iaload, 1) := dk_46 (dk_at dksX4_serves_4 15 rfl rfl)
theorem dX4_serves_107 : decode cX4_serves 107 = .ok (.iastore, 1) := dk_79 (dk_at dksX4_serves_4 16 rfl rfl)
theorem dX4_serves_108 : decode cX4_serves 108 = .ok (.iinc 3 1, 3) := dk_132 3 1 (dk_at dksX4_serves_4 17 rfl rfl)
theorem dX4_serves_111 : decode cX4_serves 111 = .ok (.goto (-39), 3) := dk_167 255 217 (dk_at dksX4_serves_4 20 rfl rfl)
theorem dX4_serves_114 : decode cX4_serves 114 = .ok (.aload_n 0, 1) := dk_42 (dk_at dksX4_serves_4 23 rfl rfl)
theorem dX4_serves_115 : decode cX4_serves 115 = .ok (.dup, 1) := dk_89 (dk_at dksX4_serves_5 0 rfl rfl)
theorem dX4_serves_116 : decode cX4_serves 116 = .ok (.getfield 144, 3) := dk_180 0 144 (dk_at dksX4_serves_5 1 rfl rfl)
theorem dX4_serves_119 : decode cX4_serves 119 = .ok (.iconst 1, 1) := dk_4 (dk_at dksX4_serves_5 4 rfl rfl)
theorem dX4_serves_120 : decode cX4_serves 120 = .ok (.isub, 1) := dk_100 (dk_at dksX4_serves_5 5 rfl rfl)
theorem dX4_serves_121 : decode cX4_serves 121 = .ok (.putfield 144, 3) := dk_181 0 144 (dk_at dksX4_serves_5 6 rfl rfl)
theorem dX4_serves_124 : decode cX4_serves 124 = .ok (.aload_n 0, 1) := dk_42 (dk_at dksX4_serves_5 9 rfl rfl)
theorem dX4_serves_125 : decode cX4_serves 125 = .ok (.iload_n 2, 1) := dk_28 (dk_at dksX4_serves_5 10 rfl rfl)
theorem dX4_serves_126 : decode cX4_serves 126 = .ok (.iload_n 1, 1) := dk_27 (dk_at dksX4_serves_5 11 rfl rfl)
theorem dX4_serves_127 : decode cX4_serves 127 = .ok (.invokevirtual 150, 3) := dk_182 0 150 (dk_at dksX4_serves_5 12 rfl rfl)
theorem dX4_serves_130 : decode cX4_serves 130 = .ok (.istore_n 3, 1) := dk_62 (dk_at dksX4_serves_5 15 rfl rfl)
theorem dX4_serves_131 : decode cX4_serves 131 = .ok (.goto (-131), 3) := dk_167 255 125 (dk_at dksX4_serves_5 16 rfl rfl)
theorem dX4_serves_134 : decode cX4_serves 134 = .ok (.return_, 1) := dk_177 (dk_at dksX4_serves_5 19 rfl rfl)
abbrev cX4_count : ByteArray := prog_14_method_12_code
def yX4_count : MethodName := ⟨RX4, "count", "(I)I"⟩
def dkwX4_count_1 : List UInt8 := [167, 0, 4, 3, 96, 61, 132, 3, 1, 167, 255, 227, 28, 172]
abbrev dktX4_count_1 : List UInt8 := dkwX4_count_1 ++ []
def dkwX4_count_0 : List UInt8 := [3, 61, 3, 62, 29, 42, 180, 0, 118, 162, 0, 27, 28, 42, 180, 0, 32, 29, 46, 27, 160, 0, 7, 4]
abbrev dktX4_count_0 : List UInt8 := dkwX4_count_0 ++ dktX4_count_1
theorem dksX4_count_0 : cX4_count.data.toList.drop 0 = dktX4_count_0 := by decide +kernel
theorem dksX4_count_1 : cX4_count.data.toList.drop 24 = dktX4_count_1 := dk_seg dksX4_count_0 24 rfl rfl
theorem dX4_count_0 : decode cX4_count 0 = .ok (.iconst 0, 1) := dk_3 (dk_at dksX4_count_0 0 rfl rfl)
theorem dX4_count_1 : decode cX4_count 1 = .ok (.istore_n 2, 1) := dk_61 (dk_at dksX4_count_0 1 rfl rfl)
theorem dX4_count_2 : decode cX4_count 2 = .ok (.iconst 0, 1) := dk_3 (dk_at dksX4_count_0 2 rfl rfl)
theorem dX4_count_3 : decode cX4_count 3 = .ok (.istore_n 3, 1) := dk_62 (dk_at dksX4_count_0 3 rfl rfl)
theorem dX4_count_4 : decode cX4_count 4 = .ok (.iload_n 3, 1) := dk_29 (dk_at dksX4_count_0 4 rfl rfl)
theorem dX4_count_5 : decode cX4_count 5 = .ok (.aload_n 0, 1) := dk_42 (dk_at dksX4_count_0 5 rfl rfl)
theorem dX4_count_6 : decode cX4_count 6 = .ok (.getfield 118, 3) := dk_180 0 118 (dk_at dksX4_count_0 6 rfl rfl)
theorem dX4_count_9 : decode cX4_count 9 = .ok (.if_icmp .ge 27, 3) := dk_162 0 27 (dk_at dksX4_count_0 9 rfl rfl)
theorem dX4_count_12 : decode cX4_count 12 = .ok (.iload_n 2, 1) := dk_28 (dk_at dksX4_count_0 12 rfl rfl)
theorem dX4_count_13 : decode cX4_count 13 = .ok (.aload_n 0, 1) := dk_42 (dk_at dksX4_count_0 13 rfl rfl)
theorem dX4_count_14 : decode cX4_count 14 = .ok (.getfield 32, 3) := dk_180 0 32 (dk_at dksX4_count_0 14 rfl rfl)
theorem dX4_count_17 : decode cX4_count 17 = .ok (.iload_n 3, 1) := dk_29 (dk_at dksX4_count_0 17 rfl rfl)
theorem dX4_count_18 : decode cX4_count 18 = .ok (.iaload, 1) := dk_46 (dk_at dksX4_count_0 18 rfl rfl)
theorem dX4_count_19 : decode cX4_count 19 = .ok (.iload_n 1, 1) := dk_27 (dk_at dksX4_count_0 19 rfl rfl)
theorem dX4_count_20 : decode cX4_count 20 = .ok (.if_icmp .ne 7, 3) := dk_160 0 7 (dk_at dksX4_count_0 20 rfl rfl)
theorem dX4_count_23 : decode cX4_count 23 = .ok (.iconst 1, 1) := dk_4 (dk_at dksX4_count_0 23 rfl rfl)
theorem dX4_count_24 : decode cX4_count 24 = .ok (.goto 4, 3) := dk_167 0 4 (dk_at dksX4_count_1 0 rfl rfl)
theorem dX4_count_27 : decode cX4_count 27 = .ok (.iconst 0, 1) := dk_3 (dk_at dksX4_count_1 3 rfl rfl)
theorem dX4_count_28 : decode cX4_count 28 = .ok (.iadd, 1) := dk_96 (dk_at dksX4_count_1 4 rfl rfl)
theorem dX4_count_29 : decode cX4_count 29 = .ok (.istore_n 2, 1) := dk_61 (dk_at dksX4_count_1 5 rfl rfl)
theorem dX4_count_30 : decode cX4_count 30 = .ok (.iinc 3 1, 3) := dk_132 3 1 (dk_at dksX4_count_1 6 rfl rfl)
theorem dX4_count_33 : decode cX4_count 33 = .ok (.goto (-29), 3) := dk_167 255 227 (dk_at dksX4_count_1 9 rfl rfl)
theorem dX4_count_36 : decode cX4_count 36 = .ok (.iload_n 2, 1) := dk_28 (dk_at dksX4_count_1 12 rfl rfl)
theorem dX4_count_37 : decode cX4_count 37 = .ok (.ireturn, 1) := dk_172 (dk_at dksX4_count_1 13 rfl rfl)
abbrev cX4_sends : ByteArray := prog_14_method_17_code
def yX4_sends : MethodName := ⟨RX4, "sends", "(II)I"⟩
def dkwX4_sends_3 : List UInt8 := [180, 0, 41, 21, 6, 21, 4, 79, 132, 5, 255, 132, 6, 1, 167, 255, 198, 29, 172]
abbrev dktX4_sends_3 : List UInt8 := dkwX4_sends_3 ++ []
def dkwX4_sends_2 : List UInt8 := [153, 0, 6, 167, 0, 31, 42, 180, 0, 32, 21, 6, 4, 79, 42, 180, 0, 35, 21, 6, 27, 79, 42]
abbrev dktX4_sends_2 : List UInt8 := dkwX4_sends_2 ++ dktX4_sends_3
def dkwX4_sends_1 : List UInt8 := [3, 54, 6, 21, 6, 42, 180, 0, 118, 162, 0, 55, 21, 5, 158, 0, 50, 42, 180, 0, 32, 21, 6, 46]
abbrev dktX4_sends_1 : List UInt8 := dkwX4_sends_1 ++ dktX4_sends_2
def dkwX4_sends_0 : List UInt8 := [42, 180, 0, 131, 4, 96, 27, 16, 6, 112, 96, 62, 42, 29, 4, 27, 182, 0, 140, 54, 4, 28, 54, 5]
abbrev dktX4_sends_0 : List UInt8 := dkwX4_sends_0 ++ dktX4_sends_1
theorem dksX4_sends_0 : cX4_sends.data.toList.drop 0 = dktX4_sends_0 := by decide +kernel
theorem dksX4_sends_1 : cX4_sends.data.toList.drop 24 = dktX4_sends_1 := dk_seg dksX4_sends_0 24 rfl rfl
theorem dksX4_sends_2 : cX4_sends.data.toList.drop 48 = dktX4_sends_2 := dk_seg dksX4_sends_1 24 rfl rfl
theorem dksX4_sends_3 : cX4_sends.data.toList.drop 71 = dktX4_sends_3 := dk_seg dksX4_sends_2 23 rfl rfl
theorem dX4_sends_0 : decode cX4_sends 0 = .ok (.aload_n 0, 1) := dk_42 (dk_at dksX4_sends_0 0 rfl rfl)
theorem dX4_sends_1 : decode cX4_sends 1 = .ok (.getfield 131, 3) := dk_180 0 131 (dk_at dksX4_sends_0 1 rfl rfl)
theorem dX4_sends_4 : decode cX4_sends 4 = .ok (.iconst 1, 1) := dk_4 (dk_at dksX4_sends_0 4 rfl rfl)
theorem dX4_sends_5 : decode cX4_sends 5 = .ok (.iadd, 1) := dk_96 (dk_at dksX4_sends_0 5 rfl rfl)
theorem dX4_sends_6 : decode cX4_sends 6 = .ok (.iload_n 1, 1) := dk_27 (dk_at dksX4_sends_0 6 rfl rfl)
theorem dX4_sends_7 : decode cX4_sends 7 = .ok (.bipush 6, 2) := dk_16 6 (dk_at dksX4_sends_0 7 rfl rfl)
theorem dX4_sends_9 : decode cX4_sends 9 = .ok (.irem, 1) := dk_112 (dk_at dksX4_sends_0 9 rfl rfl)
theorem dX4_sends_10 : decode cX4_sends 10 = .ok (.iadd, 1) := dk_96 (dk_at dksX4_sends_0 10 rfl rfl)
theorem dX4_sends_11 : decode cX4_sends 11 = .ok (.istore_n 3, 1) := dk_62 (dk_at dksX4_sends_0 11 rfl rfl)
theorem dX4_sends_12 : decode cX4_sends 12 = .ok (.aload_n 0, 1) := dk_42 (dk_at dksX4_sends_0 12 rfl rfl)
theorem dX4_sends_13 : decode cX4_sends 13 = .ok (.iload_n 3, 1) := dk_29 (dk_at dksX4_sends_0 13 rfl rfl)
theorem dX4_sends_14 : decode cX4_sends 14 = .ok (.iconst 1, 1) := dk_4 (dk_at dksX4_sends_0 14 rfl rfl)
theorem dX4_sends_15 : decode cX4_sends 15 = .ok (.iload_n 1, 1) := dk_27 (dk_at dksX4_sends_0 15 rfl rfl)
theorem dX4_sends_16 : decode cX4_sends 16 = .ok (.invokevirtual 140, 3) := dk_182 0 140 (dk_at dksX4_sends_0 16 rfl rfl)
theorem dX4_sends_19 : decode cX4_sends 19 = .ok (.istore 4, 2) := dk_54 4 (dk_at dksX4_sends_0 19 rfl rfl)
theorem dX4_sends_21 : decode cX4_sends 21 = .ok (.iload_n 2, 1) := dk_28 (dk_at dksX4_sends_0 21 rfl rfl)
theorem dX4_sends_22 : decode cX4_sends 22 = .ok (.istore 5, 2) := dk_54 5 (dk_at dksX4_sends_0 22 rfl rfl)
theorem dX4_sends_24 : decode cX4_sends 24 = .ok (.iconst 0, 1) := dk_3 (dk_at dksX4_sends_1 0 rfl rfl)
theorem dX4_sends_25 : decode cX4_sends 25 = .ok (.istore 6, 2) := dk_54 6 (dk_at dksX4_sends_1 1 rfl rfl)
theorem dX4_sends_27 : decode cX4_sends 27 = .ok (.iload 6, 2) := dk_21 6 (dk_at dksX4_sends_1 3 rfl rfl)
theorem dX4_sends_29 : decode cX4_sends 29 = .ok (.aload_n 0, 1) := dk_42 (dk_at dksX4_sends_1 5 rfl rfl)
theorem dX4_sends_30 : decode cX4_sends 30 = .ok (.getfield 118, 3) := dk_180 0 118 (dk_at dksX4_sends_1 6 rfl rfl)
theorem dX4_sends_33 : decode cX4_sends 33 = .ok (.if_icmp .ge 55, 3) := dk_162 0 55 (dk_at dksX4_sends_1 9 rfl rfl)
theorem dX4_sends_36 : decode cX4_sends 36 = .ok (.iload 5, 2) := dk_21 5 (dk_at dksX4_sends_1 12 rfl rfl)
theorem dX4_sends_38 : decode cX4_sends 38 = .ok (.ifCond .le 50, 3) := dk_158 0 50 (dk_at dksX4_sends_1 14 rfl rfl)
theorem dX4_sends_41 : decode cX4_sends 41 = .ok (.aload_n 0, 1) := dk_42 (dk_at dksX4_sends_1 17 rfl rfl)
theorem dX4_sends_42 : decode cX4_sends 42 = .ok (.getfield 32, 3) := dk_180 0 32 (dk_at dksX4_sends_1 18 rfl rfl)
theorem dX4_sends_45 : decode cX4_sends 45 = .ok (.iload 6, 2) := dk_21 6 (dk_at dksX4_sends_1 21 rfl rfl)
theorem dX4_sends_47 : decode cX4_sends 47 = .ok (.iaload, 1) := dk_46 (dk_at dksX4_sends_1 23 rfl rfl)
theorem dX4_sends_48 : decode cX4_sends 48 = .ok (.ifCond .eq 6, 3) := dk_153 0 6 (dk_at dksX4_sends_2 0 rfl rfl)
theorem dX4_sends_51 : decode cX4_sends 51 = .ok (.goto 31, 3) := dk_167 0 31 (dk_at dksX4_sends_2 3 rfl rfl)
theorem dX4_sends_54 : decode cX4_sends 54 = .ok (.aload_n 0, 1) := dk_42 (dk_at dksX4_sends_2 6 rfl rfl)
theorem dX4_sends_55 : decode cX4_sends 55 = .ok (.getfield 32, 3) := dk_180 0 32 (dk_at dksX4_sends_2 7 rfl rfl)
theorem dX4_sends_58 : decode cX4_sends 58 = .ok (.iload 6, 2) := dk_21 6 (dk_at dksX4_sends_2 10 rfl rfl)
theorem dX4_sends_60 : decode cX4_sends 60 = .ok (.iconst 1, 1) := dk_4 (dk_at dksX4_sends_2 12 rfl rfl)
theorem dX4_sends_61 : decode cX4_sends 61 = .ok (.iastore, 1) := dk_79 (dk_at dksX4_sends_2 13 rfl rfl)
theorem dX4_sends_62 : decode cX4_sends 62 = .ok (.aload_n 0, 1) := dk_42 (dk_at dksX4_sends_2 14 rfl rfl)
theorem dX4_sends_63 : decode cX4_sends 63 = .ok (.getfield 35, 3) := dk_180 0 35 (dk_at dksX4_sends_2 15 rfl rfl)
theorem dX4_sends_66 : decode cX4_sends 66 = .ok (.iload 6, 2) := dk_21 6 (dk_at dksX4_sends_2 18 rfl rfl)
theorem dX4_sends_68 : decode cX4_sends 68 = .ok (.iload_n 1, 1) := dk_27 (dk_at dksX4_sends_2 20 rfl rfl)
theorem dX4_sends_69 : decode cX4_sends 69 = .ok (.iastore, 1) := dk_79 (dk_at dksX4_sends_2 21 rfl rfl)
theorem dX4_sends_70 : decode cX4_sends 70 = .ok (.aload_n 0, 1) := dk_42 (dk_at dksX4_sends_2 22 rfl rfl)
theorem dX4_sends_71 : decode cX4_sends 71 = .ok (.getfield 41, 3) := dk_180 0 41 (dk_at dksX4_sends_3 0 rfl rfl)
theorem dX4_sends_74 : decode cX4_sends 74 = .ok (.iload 6, 2) := dk_21 6 (dk_at dksX4_sends_3 3 rfl rfl)
theorem dX4_sends_76 : decode cX4_sends 76 = .ok (.iload 4, 2) := dk_21 4 (dk_at dksX4_sends_3 5 rfl rfl)
theorem dX4_sends_78 : decode cX4_sends 78 = .ok (.iastore, 1) := dk_79 (dk_at dksX4_sends_3 7 rfl rfl)
theorem dX4_sends_79 : decode cX4_sends 79 = .ok (.iinc 5 (-1), 3) := dk_132 5 255 (dk_at dksX4_sends_3 8 rfl rfl)
theorem dX4_sends_82 : decode cX4_sends 82 = .ok (.iinc 6 1, 3) := dk_132 6 1 (dk_at dksX4_sends_3 11 rfl rfl)
theorem dX4_sends_85 : decode cX4_sends 85 = .ok (.goto (-58), 3) := dk_167 255 198 (dk_at dksX4_sends_3 14 rfl rfl)
theorem dX4_sends_88 : decode cX4_sends 88 = .ok (.iload_n 3, 1) := dk_29 (dk_at dksX4_sends_3 17 rfl rfl)
theorem dX4_sends_89 : decode cX4_sends 89 = .ok (.ireturn, 1) := dk_172 (dk_at dksX4_sends_3 18 rfl rfl)
abbrev cX4_comes : ByteArray := prog_14_method_16_code
def yX4_comes : MethodName := ⟨RX4, "comes", "(III)I"⟩
def dkwX4_comes_1 : List UInt8 := [42, 180, 0, 137, 29, 79, 42, 89, 180, 0, 137, 4, 96, 181, 0, 137, 42, 180, 0, 137, 4, 100, 172]
abbrev dktX4_comes_1 : List UInt8 := dkwX4_comes_1 ++ []
def dkwX4_comes_0 : List UInt8 := [42, 180, 0, 47, 42, 180, 0, 137, 27, 79, 42, 180, 0, 50, 42, 180, 0, 137, 28, 79, 42, 180, 0, 53]
abbrev dktX4_comes_0 : List UInt8 := dkwX4_comes_0 ++ dktX4_comes_1
theorem dksX4_comes_0 : cX4_comes.data.toList.drop 0 = dktX4_comes_0 := by decide +kernel
theorem dksX4_comes_1 : cX4_comes.data.toList.drop 24 = dktX4_comes_1 := dk_seg dksX4_comes_0 24 rfl rfl
theorem dX4_comes_0 : decode cX4_comes 0 = .ok (.aload_n 0, 1) := dk_42 (dk_at dksX4_comes_0 0 rfl rfl)
theorem dX4_comes_1 : decode cX4_comes 1 = .ok (.getfield 47, 3) := dk_180 0 47 (dk_at dksX4_comes_0 1 rfl rfl)
theorem dX4_comes_4 : decode cX4_comes 4 = .ok (.aload_n 0, 1) := dk_42 (dk_at dksX4_comes_0 4 rfl rfl)
theorem dX4_comes_5 : decode cX4_comes 5 = .ok (.getfield 137, 3) := dk_180 0 137 (dk_at dksX4_comes_0 5 rfl rfl)
theorem dX4_comes_8 : decode cX4_comes 8 = .ok (.iload_n 1, 1) := dk_27 (dk_at dksX4_comes_0 8 rfl rfl)
theorem dX4_comes_9 : decode cX4_comes 9 = .ok (.iastore, 1) := dk_79 (dk_at dksX4_comes_0 9 rfl rfl)
theorem dX4_comes_10 : decode cX4_comes 10 = .ok (.aload_n 0, 1) := dk_42 (dk_at dksX4_comes_0 10 rfl rfl)
theorem dX4_comes_11 : decode cX4_comes 11 = .ok (.getfield 50, 3) := dk_180 0 50 (dk_at dksX4_comes_0 11 rfl rfl)
theorem dX4_comes_14 : decode cX4_comes 14 = .ok (.aload_n 0, 1) := dk_42 (dk_at dksX4_comes_0 14 rfl rfl)
theorem dX4_comes_15 : decode cX4_comes 15 = .ok (.getfield 137, 3) := dk_180 0 137 (dk_at dksX4_comes_0 15 rfl rfl)
theorem dX4_comes_18 : decode cX4_comes 18 = .ok (.iload_n 2, 1) := dk_28 (dk_at dksX4_comes_0 18 rfl rfl)
theorem dX4_comes_19 : decode cX4_comes 19 = .ok (.iastore, 1) := dk_79 (dk_at dksX4_comes_0 19 rfl rfl)
theorem dX4_comes_20 : decode cX4_comes 20 = .ok (.aload_n 0, 1) := dk_42 (dk_at dksX4_comes_0 20 rfl rfl)
theorem dX4_comes_21 : decode cX4_comes 21 = .ok (.getfield 53, 3) := dk_180 0 53 (dk_at dksX4_comes_0 21 rfl rfl)
theorem dX4_comes_24 : decode cX4_comes 24 = .ok (.aload_n 0, 1) := dk_42 (dk_at dksX4_comes_1 0 rfl rfl)
theorem dX4_comes_25 : decode cX4_comes 25 = .ok (.getfield 137, 3) := dk_180 0 137 (dk_at dksX4_comes_1 1 rfl rfl)
theorem dX4_comes_28 : decode cX4_comes 28 = .ok (.iload_n 3, 1) := dk_29 (dk_at dksX4_comes_1 4 rfl rfl)
theorem dX4_comes_29 : decode cX4_comes 29 = .ok (.iastore, 1) := dk_79 (dk_at dksX4_comes_1 5 rfl rfl)
theorem dX4_comes_30 : decode cX4_comes 30 = .ok (.aload_n 0, 1) := dk_42 (dk_at dksX4_comes_1 6 rfl rfl)
theorem dX4_comes_31 : decode cX4_comes 31 = .ok (.dup, 1) := dk_89 (dk_at dksX4_comes_1 7 rfl rfl)
theorem dX4_comes_32 : decode cX4_comes 32 = .ok (.getfield 137, 3) := dk_180 0 137 (dk_at dksX4_comes_1 8 rfl rfl)
theorem dX4_comes_35 : decode cX4_comes 35 = .ok (.iconst 1, 1) := dk_4 (dk_at dksX4_comes_1 11 rfl rfl)
theorem dX4_comes_36 : decode cX4_comes 36 = .ok (.iadd, 1) := dk_96 (dk_at dksX4_comes_1 12 rfl rfl)
theorem dX4_comes_37 : decode cX4_comes 37 = .ok (.putfield 137, 3) := dk_181 0 137 (dk_at dksX4_comes_1 13 rfl rfl)
theorem dX4_comes_40 : decode cX4_comes 40 = .ok (.aload_n 0, 1) := dk_42 (dk_at dksX4_comes_1 16 rfl rfl)
theorem dX4_comes_41 : decode cX4_comes 41 = .ok (.getfield 137, 3) := dk_180 0 137 (dk_at dksX4_comes_1 17 rfl rfl)
theorem dX4_comes_44 : decode cX4_comes 44 = .ok (.iconst 1, 1) := dk_4 (dk_at dksX4_comes_1 20 rfl rfl)
theorem dX4_comes_45 : decode cX4_comes 45 = .ok (.isub, 1) := dk_100 (dk_at dksX4_comes_1 21 rfl rfl)
theorem dX4_comes_46 : decode cX4_comes 46 = .ok (.ireturn, 1) := dk_172 (dk_at dksX4_comes_1 22 rfl rfl)
abbrev cX4_laid : ByteArray := prog_14_method_20_code
def yX4_laid : MethodName := ⟨RX4, "laid", "(I)V"⟩
def dkwX4_laid_3 : List UInt8 := [132, 2, 1, 167, 255, 186, 177]
abbrev dktX4_laid_3 : List UInt8 := dkwX4_laid_3 ++ []
def dkwX4_laid_2 : List UInt8 := [180, 0, 22, 42, 180, 0, 35, 28, 46, 47, 80, 42, 180, 0, 29, 28, 42, 180, 0, 26, 28, 47, 80]
abbrev dktX4_laid_2 : List UInt8 := dkwX4_laid_2 ++ dktX4_laid_3
def dkwX4_laid_1 : List UInt8 := [28, 46, 27, 159, 0, 6, 167, 0, 39, 42, 180, 0, 32, 28, 5, 79, 42, 180, 0, 26, 28, 42]
abbrev dktX4_laid_1 : List UInt8 := dkwX4_laid_1 ++ dktX4_laid_2
def dkwX4_laid_0 : List UInt8 := [3, 61, 28, 42, 180, 0, 118, 162, 0, 68, 42, 180, 0, 32, 28, 46, 4, 160, 0, 52, 42, 180, 0, 41]
abbrev dktX4_laid_0 : List UInt8 := dkwX4_laid_0 ++ dktX4_laid_1
theorem dksX4_laid_0 : cX4_laid.data.toList.drop 0 = dktX4_laid_0 := by decide +kernel
theorem dksX4_laid_1 : cX4_laid.data.toList.drop 24 = dktX4_laid_1 := dk_seg dksX4_laid_0 24 rfl rfl
theorem dksX4_laid_2 : cX4_laid.data.toList.drop 46 = dktX4_laid_2 := dk_seg dksX4_laid_1 22 rfl rfl
theorem dksX4_laid_3 : cX4_laid.data.toList.drop 69 = dktX4_laid_3 := dk_seg dksX4_laid_2 23 rfl rfl
theorem dX4_laid_0 : decode cX4_laid 0 = .ok (.iconst 0, 1) := dk_3 (dk_at dksX4_laid_0 0 rfl rfl)
theorem dX4_laid_1 : decode cX4_laid 1 = .ok (.istore_n 2, 1) := dk_61 (dk_at dksX4_laid_0 1 rfl rfl)
theorem dX4_laid_2 : decode cX4_laid 2 = .ok (.iload_n 2, 1) := dk_28 (dk_at dksX4_laid_0 2 rfl rfl)
theorem dX4_laid_3 : decode cX4_laid 3 = .ok (.aload_n 0, 1) := dk_42 (dk_at dksX4_laid_0 3 rfl rfl)
theorem dX4_laid_4 : decode cX4_laid 4 = .ok (.getfield 118, 3) := dk_180 0 118 (dk_at dksX4_laid_0 4 rfl rfl)
theorem dX4_laid_7 : decode cX4_laid 7 = .ok (.if_icmp .ge 68, 3) := dk_162 0 68 (dk_at dksX4_laid_0 7 rfl rfl)
theorem dX4_laid_10 : decode cX4_laid 10 = .ok (.aload_n 0, 1) := dk_42 (dk_at dksX4_laid_0 10 rfl rfl)
theorem dX4_laid_11 : decode cX4_laid 11 = .ok (.getfield 32, 3) := dk_180 0 32 (dk_at dksX4_laid_0 11 rfl rfl)
theorem dX4_laid_14 : decode cX4_laid 14 = .ok (.iload_n 2, 1) := dk_28 (dk_at dksX4_laid_0 14 rfl rfl)
theorem dX4_laid_15 : decode cX4_laid 15 = .ok (.iaload, 1) := dk_46 (dk_at dksX4_laid_0 15 rfl rfl)
theorem dX4_laid_16 : decode cX4_laid 16 = .ok (.iconst 1, 1) := dk_4 (dk_at dksX4_laid_0 16 rfl rfl)
theorem dX4_laid_17 : decode cX4_laid 17 = .ok (.if_icmp .ne 52, 3) := dk_160 0 52 (dk_at dksX4_laid_0 17 rfl rfl)
theorem dX4_laid_20 : decode cX4_laid 20 = .ok (.aload_n 0, 1) := dk_42 (dk_at dksX4_laid_0 20 rfl rfl)
theorem dX4_laid_21 : decode cX4_laid 21 = .ok (.getfield 41, 3) := dk_180 0 41 (dk_at dksX4_laid_0 21 rfl rfl)
theorem dX4_laid_24 : decode cX4_laid 24 = .ok (.iload_n 2, 1) := dk_28 (dk_at dksX4_laid_1 0 rfl rfl)
theorem dX4_laid_25 : decode cX4_laid 25 = .ok (.iaload, 1) := dk_46 (dk_at dksX4_laid_1 1 rfl rfl)
theorem dX4_laid_26 : decode cX4_laid 26 = .ok (.iload_n 1, 1) := dk_27 (dk_at dksX4_laid_1 2 rfl rfl)
theorem dX4_laid_27 : decode cX4_laid 27 = .ok (.if_icmp .eq 6, 3) := dk_159 0 6 (dk_at dksX4_laid_1 3 rfl rfl)
theorem dX4_laid_30 : decode cX4_laid 30 = .ok (.goto 39, 3) := dk_167 0 39 (dk_at dksX4_laid_1 6 rfl rfl)
theorem dX4_laid_33 : decode cX4_laid 33 = .ok (.aload_n 0, 1) := dk_42 (dk_at dksX4_laid_1 9 rfl rfl)
theorem dX4_laid_34 : decode cX4_laid 34 = .ok (.getfield 32, 3) := dk_180 0 32 (dk_at dksX4_laid_1 10 rfl rfl)
theorem dX4_laid_37 : decode cX4_laid 37 = .ok (.iload_n 2, 1) := dk_28 (dk_at dksX4_laid_1 13 rfl rfl)
theorem dX4_laid_38 : decode cX4_laid 38 = .ok (.iconst 2, 1) := dk_5 (dk_at dksX4_laid_1 14 rfl rfl)
theorem dX4_laid_39 : decode cX4_laid 39 = .ok (.iastore, 1) := dk_79 (dk_at dksX4_laid_1 15 rfl rfl)
theorem dX4_laid_40 : decode cX4_laid 40 = .ok (.aload_n 0, 1) := dk_42 (dk_at dksX4_laid_1 16 rfl rfl)
theorem dX4_laid_41 : decode cX4_laid 41 = .ok (.getfield 26, 3) := dk_180 0 26 (dk_at dksX4_laid_1 17 rfl rfl)
theorem dX4_laid_44 : decode cX4_laid 44 = .ok (.iload_n 2, 1) := dk_28 (dk_at dksX4_laid_1 20 rfl rfl)
theorem dX4_laid_45 : decode cX4_laid 45 = .ok (.aload_n 0, 1) := dk_42 (dk_at dksX4_laid_1 21 rfl rfl)
theorem dX4_laid_46 : decode cX4_laid 46 = .ok (.getfield 22, 3) := dk_180 0 22 (dk_at dksX4_laid_2 0 rfl rfl)
theorem dX4_laid_49 : decode cX4_laid 49 = .ok (.aload_n 0, 1) := dk_42 (dk_at dksX4_laid_2 3 rfl rfl)
theorem dX4_laid_50 : decode cX4_laid 50 = .ok (.getfield 35, 3) := dk_180 0 35 (dk_at dksX4_laid_2 4 rfl rfl)
theorem dX4_laid_53 : decode cX4_laid 53 = .ok (.iload_n 2, 1) := dk_28 (dk_at dksX4_laid_2 7 rfl rfl)
theorem dX4_laid_54 : decode cX4_laid 54 = .ok (.iaload, 1) := dk_46 (dk_at dksX4_laid_2 8 rfl rfl)
theorem dX4_laid_55 : decode cX4_laid 55 = .ok (.laload, 1) := dk_47 (dk_at dksX4_laid_2 9 rfl rfl)
theorem dX4_laid_56 : decode cX4_laid 56 = .ok (.lastore, 1) := dk_80 (dk_at dksX4_laid_2 10 rfl rfl)
theorem dX4_laid_57 : decode cX4_laid 57 = .ok (.aload_n 0, 1) := dk_42 (dk_at dksX4_laid_2 11 rfl rfl)
theorem dX4_laid_58 : decode cX4_laid 58 = .ok (.getfield 29, 3) := dk_180 0 29 (dk_at dksX4_laid_2 12 rfl rfl)
theorem dX4_laid_61 : decode cX4_laid 61 = .ok (.iload_n 2, 1) := dk_28 (dk_at dksX4_laid_2 15 rfl rfl)
theorem dX4_laid_62 : decode cX4_laid 62 = .ok (.aload_n 0, 1) := dk_42 (dk_at dksX4_laid_2 16 rfl rfl)
theorem dX4_laid_63 : decode cX4_laid 63 = .ok (.getfield 26, 3) := dk_180 0 26 (dk_at dksX4_laid_2 17 rfl rfl)
theorem dX4_laid_66 : decode cX4_laid 66 = .ok (.iload_n 2, 1) := dk_28 (dk_at dksX4_laid_2 20 rfl rfl)
theorem dX4_laid_67 : decode cX4_laid 67 = .ok (.laload, 1) := dk_47 (dk_at dksX4_laid_2 21 rfl rfl)
theorem dX4_laid_68 : decode cX4_laid 68 = .ok (.lastore, 1) := dk_80 (dk_at dksX4_laid_2 22 rfl rfl)
theorem dX4_laid_69 : decode cX4_laid 69 = .ok (.iinc 2 1, 3) := dk_132 2 1 (dk_at dksX4_laid_3 0 rfl rfl)
theorem dX4_laid_72 : decode cX4_laid 72 = .ok (.goto (-70), 3) := dk_167 255 186 (dk_at dksX4_laid_3 3 rfl rfl)
theorem dX4_laid_75 : decode cX4_laid 75 = .ok (.return_, 1) := dk_177 (dk_at dksX4_laid_3 6 rfl rfl)
abbrev cX4_messageComes : ByteArray := prog_14_method_21_code
def yX4_messageComes : MethodName := ⟨RX4, "messageComes", "(I)V"⟩
def dkwX4_messageComes_3 : List UInt8 := [42, 180, 0, 144, 28, 79, 42, 89, 180, 0, 144, 4, 96, 181, 0, 144, 42, 182, 0, 153, 177]
abbrev dktX4_messageComes_3 : List UInt8 := dkwX4_messageComes_3 ++ []
def dkwX4_messageComes_2 : List UInt8 := [182, 0, 150, 62, 177, 42, 180, 0, 56, 42, 180, 0, 144, 42, 180, 0, 65, 27, 46, 79, 42, 180, 0, 59]
abbrev dktX4_messageComes_2 : List UInt8 := dkwX4_messageComes_2 ++ dktX4_messageComes_3
def dkwX4_messageComes_1 : List UInt8 := [42, 180, 0, 144, 154, 0, 25, 42, 3, 182, 0, 147, 28, 161, 0, 16, 42, 42, 180, 0, 65, 27, 46, 28]
abbrev dktX4_messageComes_1 : List UInt8 := dkwX4_messageComes_1 ++ dktX4_messageComes_2
def dkwX4_messageComes_0 : List UInt8 := [42, 180, 0, 77, 27, 4, 84, 42, 180, 0, 96, 42, 180, 0, 68, 27, 46, 46, 61, 28, 154, 0, 4, 177]
abbrev dktX4_messageComes_0 : List UInt8 := dkwX4_messageComes_0 ++ dktX4_messageComes_1
theorem dksX4_messageComes_0 : cX4_messageComes.data.toList.drop 0 = dktX4_messageComes_0 := by decide +kernel
theorem dksX4_messageComes_1 : cX4_messageComes.data.toList.drop 24 = dktX4_messageComes_1 := dk_seg dksX4_messageComes_0 24 rfl rfl
theorem dksX4_messageComes_2 : cX4_messageComes.data.toList.drop 48 = dktX4_messageComes_2 := dk_seg dksX4_messageComes_1 24 rfl rfl
theorem dksX4_messageComes_3 : cX4_messageComes.data.toList.drop 72 = dktX4_messageComes_3 := dk_seg dksX4_messageComes_2 24 rfl rfl
theorem dX4_messageComes_0 : decode cX4_messageComes 0 = .ok (.aload_n 0, 1) := dk_42 (dk_at dksX4_messageComes_0 0 rfl rfl)
theorem dX4_messageComes_1 : decode cX4_messageComes 1 = .ok (.getfield 77, 3) := dk_180 0 77 (dk_at dksX4_messageComes_0 1 rfl rfl)
theorem dX4_messageComes_4 : decode cX4_messageComes 4 = .ok (.iload_n 1, 1) := dk_27 (dk_at dksX4_messageComes_0 4 rfl rfl)
theorem dX4_messageComes_5 : decode cX4_messageComes 5 = .ok (.iconst 1, 1) := dk_4 (dk_at dksX4_messageComes_0 5 rfl rfl)
theorem dX4_messageComes_6 : decode cX4_messageComes 6 = .ok (.bastore, 1) := dk_84 (dk_at dksX4_messageComes_0 6 rfl rfl)
theorem dX4_messageComes_7 : decode cX4_messageComes 7 = .ok (.aload_n 0, 1) := dk_42 (dk_at dksX4_messageComes_0 7 rfl rfl)
theorem dX4_messageComes_8 : decode cX4_messageComes 8 = .ok (.getfield 96, 3) := dk_180 0 96 (dk_at dksX4_messageComes_0 8 rfl rfl)
theorem dX4_messageComes_11 : decode cX4_messageComes 11 = .ok (.aload_n 0, 1) := dk_42 (dk_at dksX4_messageComes_0 11 rfl rfl)
theorem dX4_messageComes_12 : decode cX4_messageComes 12 = .ok (.getfield 68, 3) := dk_180 0 68 (dk_at dksX4_messageComes_0 12 rfl rfl)
theorem dX4_messageComes_15 : decode cX4_messageComes 15 = .ok (.iload_n 1, 1) := dk_27 (dk_at dksX4_messageComes_0 15 rfl rfl)
theorem dX4_messageComes_16 : decode cX4_messageComes 16 = .ok (.iaload, 1) := dk_46 (dk_at dksX4_messageComes_0 16 rfl rfl)
theorem dX4_messageComes_17 : decode cX4_messageComes 17 = .ok (.iaload, 1) := dk_46 (dk_at dksX4_messageComes_0 17 rfl rfl)
theorem dX4_messageComes_18 : decode cX4_messageComes 18 = .ok (.istore_n 2, 1) := dk_61 (dk_at dksX4_messageComes_0 18 rfl rfl)
theorem dX4_messageComes_19 : decode cX4_messageComes 19 = .ok (.iload_n 2, 1) := dk_28 (dk_at dksX4_messageComes_0 19 rfl rfl)
theorem dX4_messageComes_20 : decode cX4_messageComes 20 = .ok (.ifCond .ne 4, 3) := dk_154 0 4 (dk_at dksX4_messageComes_0 20 rfl rfl)
theorem dX4_messageComes_23 : decode cX4_messageComes 23 = .ok (.return_, 1) := dk_177 (dk_at dksX4_messageComes_0 23 rfl rfl)
theorem dX4_messageComes_24 : decode cX4_messageComes 24 = .ok (.aload_n 0, 1) := dk_42 (dk_at dksX4_messageComes_1 0 rfl rfl)
theorem dX4_messageComes_25 : decode cX4_messageComes 25 = .ok (.getfield 144, 3) := dk_180 0 144 (dk_at dksX4_messageComes_1 1 rfl rfl)
theorem dX4_messageComes_28 : decode cX4_messageComes 28 = .ok (.ifCond .ne 25, 3) := dk_154 0 25 (dk_at dksX4_messageComes_1 4 rfl rfl)
theorem dX4_messageComes_31 : decode cX4_messageComes 31 = .ok (.aload_n 0, 1) := dk_42 (dk_at dksX4_messageComes_1 7 rfl rfl)
theorem dX4_messageComes_32 : decode cX4_messageComes 32 = .ok (.iconst 0, 1) := dk_3 (dk_at dksX4_messageComes_1 8 rfl rfl)
theorem dX4_messageComes_33 : decode cX4_messageComes 33 = .ok (.invokevirtual 147, 3) := dk_182 0 147 (dk_at dksX4_messageComes_1 9 rfl rfl)
theorem dX4_messageComes_36 : decode cX4_messageComes 36 = .ok (.iload_n 2, 1) := dk_28 (dk_at dksX4_messageComes_1 12 rfl rfl)
theorem dX4_messageComes_37 : decode cX4_messageComes 37 = .ok (.if_icmp .lt 16, 3) := dk_161 0 16 (dk_at dksX4_messageComes_1 13 rfl rfl)
theorem dX4_messageComes_40 : decode cX4_messageComes 40 = .ok (.aload_n 0, 1) := dk_42 (dk_at dksX4_messageComes_1 16 rfl rfl)
theorem dX4_messageComes_41 : decode cX4_messageComes 41 = .ok (.aload_n 0, 1) := dk_42 (dk_at dksX4_messageComes_1 17 rfl rfl)
theorem dX4_messageComes_42 : decode cX4_messageComes 42 = .ok (.getfield 65, 3) := dk_180 0 65 (dk_at dksX4_messageComes_1 18 rfl rfl)
theorem dX4_messageComes_45 : decode cX4_messageComes 45 = .ok (.iload_n 1, 1) := dk_27 (dk_at dksX4_messageComes_1 21 rfl rfl)
theorem dX4_messageComes_46 : decode cX4_messageComes 46 = .ok (.iaload, 1) := dk_46 (dk_at dksX4_messageComes_1 22 rfl rfl)
theorem dX4_messageComes_47 : decode cX4_messageComes 47 = .ok (.iload_n 2, 1) := dk_28 (dk_at dksX4_messageComes_1 23 rfl rfl)
theorem dX4_messageComes_48 : decode cX4_messageComes 48 = .ok (.invokevirtual 150, 3) := dk_182 0 150 (dk_at dksX4_messageComes_2 0 rfl rfl)
theorem dX4_messageComes_51 : decode cX4_messageComes 51 = .ok (.istore_n 3, 1) := dk_62 (dk_at dksX4_messageComes_2 3 rfl rfl)
theorem dX4_messageComes_52 : decode cX4_messageComes 52 = .ok (.return_, 1) := dk_177 (dk_at dksX4_messageComes_2 4 rfl rfl)
theorem dX4_messageComes_53 : decode cX4_messageComes 53 = .ok (.aload_n 0, 1) := dk_42 (dk_at dksX4_messageComes_2 5 rfl rfl)
theorem dX4_messageComes_54 : decode cX4_messageComes 54 = .ok (.getfield 56, 3) := dk_180 0 56 (dk_at dksX4_messageComes_2 6 rfl rfl)
theorem dX4_messageComes_57 : decode cX4_messageComes 57 = .ok (.aload_n 0, 1) := dk_42 (dk_at dksX4_messageComes_2 9 rfl rfl)
theorem dX4_messageComes_58 : decode cX4_messageComes 58 = .ok (.getfield 144, 3) := dk_180 0 144 (dk_at dksX4_messageComes_2 10 rfl rfl)
theorem dX4_messageComes_61 : decode cX4_messageComes 61 = .ok (.aload_n 0, 1) := dk_42 (dk_at dksX4_messageComes_2 13 rfl rfl)
theorem dX4_messageComes_62 : decode cX4_messageComes 62 = .ok (.getfield 65, 3) := dk_180 0 65 (dk_at dksX4_messageComes_2 14 rfl rfl)
theorem dX4_messageComes_65 : decode cX4_messageComes 65 = .ok (.iload_n 1, 1) := dk_27 (dk_at dksX4_messageComes_2 17 rfl rfl)
theorem dX4_messageComes_66 : decode cX4_messageComes 66 = .ok (.iaload, 1) := dk_46 (dk_at dksX4_messageComes_2 18 rfl rfl)
theorem dX4_messageComes_67 : decode cX4_messageComes 67 = .ok (.iastore, 1) := dk_79 (dk_at dksX4_messageComes_2 19 rfl rfl)
theorem dX4_messageComes_68 : decode cX4_messageComes 68 = .ok (.aload_n 0, 1) := dk_42 (dk_at dksX4_messageComes_2 20 rfl rfl)
theorem dX4_messageComes_69 : decode cX4_messageComes 69 = .ok (.getfield 59, 3) := dk_180 0 59 (dk_at dksX4_messageComes_2 21 rfl rfl)
theorem dX4_messageComes_72 : decode cX4_messageComes 72 = .ok (.aload_n 0, 1) := dk_42 (dk_at dksX4_messageComes_3 0 rfl rfl)
theorem dX4_messageComes_73 : decode cX4_messageComes 73 = .ok (.getfield 144, 3) := dk_180 0 144 (dk_at dksX4_messageComes_3 1 rfl rfl)
theorem dX4_messageComes_76 : decode cX4_messageComes 76 = .ok (.iload_n 2, 1) := dk_28 (dk_at dksX4_messageComes_3 4 rfl rfl)
theorem dX4_messageComes_77 : decode cX4_messageComes 77 = .ok (.iastore, 1) := dk_79 (dk_at dksX4_messageComes_3 5 rfl rfl)
theorem dX4_messageComes_78 : decode cX4_messageComes 78 = .ok (.aload_n 0, 1) := dk_42 (dk_at dksX4_messageComes_3 6 rfl rfl)
theorem dX4_messageComes_79 : decode cX4_messageComes 79 = .ok (.dup, 1) := dk_89 (dk_at dksX4_messageComes_3 7 rfl rfl)
theorem dX4_messageComes_80 : decode cX4_messageComes 80 = .ok (.getfield 144, 3) := dk_180 0 144 (dk_at dksX4_messageComes_3 8 rfl rfl)
theorem dX4_messageComes_83 : decode cX4_messageComes 83 = .ok (.iconst 1, 1) := dk_4 (dk_at dksX4_messageComes_3 11 rfl rfl)
theorem dX4_messageComes_84 : decode cX4_messageComes 84 = .ok (.iadd, 1) := dk_96 (dk_at dksX4_messageComes_3 12 rfl rfl)
theorem dX4_messageComes_85 : decode cX4_messageComes 85 = .ok (.putfield 144, 3) := dk_181 0 144 (dk_at dksX4_messageComes_3 13 rfl rfl)
theorem dX4_messageComes_88 : decode cX4_messageComes 88 = .ok (.aload_n 0, 1) := dk_42 (dk_at dksX4_messageComes_3 16 rfl rfl)
theorem dX4_messageComes_89 : decode cX4_messageComes 89 = .ok (.invokevirtual 153, 3) := dk_182 0 153 (dk_at dksX4_messageComes_3 17 rfl rfl)
theorem dX4_messageComes_92 : decode cX4_messageComes 92 = .ok (.return_, 1) := dk_177 (dk_at dksX4_messageComes_3 20 rfl rfl)
abbrev cX4_week : ByteArray := prog_14_method_15_code
def yX4_week : MethodName := ⟨RX4, "week", "()V"⟩
def dkwX4_week_3 : List UInt8 := [161, 0, 10, 42, 180, 0, 32, 27, 7, 79, 132, 1, 1, 167, 255, 200, 177]
abbrev dktX4_week_3 : List UInt8 := dkwX4_week_3 ++ []
def dkwX4_week_2 : List UInt8 := [180, 0, 131, 42, 180, 0, 38, 27, 46, 100, 42, 180, 0, 90, 42, 180, 0, 38, 27, 46, 184, 0, 134, 46]
abbrev dktX4_week_2 : List UInt8 := dkwX4_week_2 ++ dktX4_week_3
def dkwX4_week_1 : List UInt8 := [167, 255, 235, 3, 60, 27, 42, 180, 0, 118, 162, 0, 54, 42, 180, 0, 32, 27, 46, 5, 163, 0, 38, 42]
abbrev dktX4_week_1 : List UInt8 := dkwX4_week_1 ++ dktX4_week_2
def dkwX4_week_0 : List UInt8 := [3, 60, 27, 16, 12, 162, 0, 21, 42, 27, 42, 180, 0, 7, 27, 46, 133, 182, 0, 127, 132, 1, 1]
abbrev dktX4_week_0 : List UInt8 := dkwX4_week_0 ++ dktX4_week_1
theorem dksX4_week_0 : cX4_week.data.toList.drop 0 = dktX4_week_0 := by decide +kernel
theorem dksX4_week_1 : cX4_week.data.toList.drop 23 = dktX4_week_1 := dk_seg dksX4_week_0 23 rfl rfl
theorem dksX4_week_2 : cX4_week.data.toList.drop 47 = dktX4_week_2 := dk_seg dksX4_week_1 24 rfl rfl
theorem dksX4_week_3 : cX4_week.data.toList.drop 71 = dktX4_week_3 := dk_seg dksX4_week_2 24 rfl rfl
theorem dX4_week_0 : decode cX4_week 0 = .ok (.iconst 0, 1) := dk_3 (dk_at dksX4_week_0 0 rfl rfl)
theorem dX4_week_1 : decode cX4_week 1 = .ok (.istore_n 1, 1) := dk_60 (dk_at dksX4_week_0 1 rfl rfl)
theorem dX4_week_2 : decode cX4_week 2 = .ok (.iload_n 1, 1) := dk_27 (dk_at dksX4_week_0 2 rfl rfl)
theorem dX4_week_3 : decode cX4_week 3 = .ok (.bipush 12, 2) := dk_16 12 (dk_at dksX4_week_0 3 rfl rfl)
theorem dX4_week_5 : decode cX4_week 5 = .ok (.if_icmp .ge 21, 3) := dk_162 0 21 (dk_at dksX4_week_0 5 rfl rfl)
theorem dX4_week_8 : decode cX4_week 8 = .ok (.aload_n 0, 1) := dk_42 (dk_at dksX4_week_0 8 rfl rfl)
theorem dX4_week_9 : decode cX4_week 9 = .ok (.iload_n 1, 1) := dk_27 (dk_at dksX4_week_0 9 rfl rfl)
theorem dX4_week_10 : decode cX4_week 10 = .ok (.aload_n 0, 1) := dk_42 (dk_at dksX4_week_0 10 rfl rfl)
theorem dX4_week_11 : decode cX4_week 11 = .ok (.getfield 7, 3) := dk_180 0 7 (dk_at dksX4_week_0 11 rfl rfl)
theorem dX4_week_14 : decode cX4_week 14 = .ok (.iload_n 1, 1) := dk_27 (dk_at dksX4_week_0 14 rfl rfl)
theorem dX4_week_15 : decode cX4_week 15 = .ok (.iaload, 1) := dk_46 (dk_at dksX4_week_0 15 rfl rfl)
theorem dX4_week_16 : decode cX4_week 16 = .ok (.i2l, 1) := dk_133 (dk_at dksX4_week_0 16 rfl rfl)
theorem dX4_week_17 : decode cX4_week 17 = .ok (.invokevirtual 127, 3) := dk_182 0 127 (dk_at dksX4_week_0 17 rfl rfl)
theorem dX4_week_20 : decode cX4_week 20 = .ok (.iinc 1 1, 3) := dk_132 1 1 (dk_at dksX4_week_0 20 rfl rfl)
theorem dX4_week_23 : decode cX4_week 23 = .ok (.goto (-21), 3) := dk_167 255 235 (dk_at dksX4_week_1 0 rfl rfl)
theorem dX4_week_26 : decode cX4_week 26 = .ok (.iconst 0, 1) := dk_3 (dk_at dksX4_week_1 3 rfl rfl)
theorem dX4_week_27 : decode cX4_week 27 = .ok (.istore_n 1, 1) := dk_60 (dk_at dksX4_week_1 4 rfl rfl)
theorem dX4_week_28 : decode cX4_week 28 = .ok (.iload_n 1, 1) := dk_27 (dk_at dksX4_week_1 5 rfl rfl)
theorem dX4_week_29 : decode cX4_week 29 = .ok (.aload_n 0, 1) := dk_42 (dk_at dksX4_week_1 6 rfl rfl)
theorem dX4_week_30 : decode cX4_week 30 = .ok (.getfield 118, 3) := dk_180 0 118 (dk_at dksX4_week_1 7 rfl rfl)
theorem dX4_week_33 : decode cX4_week 33 = .ok (.if_icmp .ge 54, 3) := dk_162 0 54 (dk_at dksX4_week_1 10 rfl rfl)
theorem dX4_week_36 : decode cX4_week 36 = .ok (.aload_n 0, 1) := dk_42 (dk_at dksX4_week_1 13 rfl rfl)
theorem dX4_week_37 : decode cX4_week 37 = .ok (.getfield 32, 3) := dk_180 0 32 (dk_at dksX4_week_1 14 rfl rfl)
theorem dX4_week_40 : decode cX4_week 40 = .ok (.iload_n 1, 1) := dk_27 (dk_at dksX4_week_1 17 rfl rfl)
theorem dX4_week_41 : decode cX4_week 41 = .ok (.iaload, 1) := dk_46 (dk_at dksX4_week_1 18 rfl rfl)
theorem dX4_week_42 : decode cX4_week 42 = .ok (.iconst 2, 1) := dk_5 (dk_at dksX4_week_1 19 rfl rfl)
theorem dX4_week_43 : decode cX4_week 43 = .ok (.if_icmp .gt 38, 3) := dk_163 0 38 (dk_at dksX4_week_1 20 rfl rfl)
theorem dX4_week_46 : decode cX4_week 46 = .ok (.aload_n 0, 1) := dk_42 (dk_at dksX4_week_1 23 rfl rfl)
theorem dX4_week_47 : decode cX4_week 47 = .ok (.getfield 131, 3) := dk_180 0 131 (dk_at dksX4_week_2 0 rfl rfl)
theorem dX4_week_50 : decode cX4_week 50 = .ok (.aload_n 0, 1) := dk_42 (dk_at dksX4_week_2 3 rfl rfl)
theorem dX4_week_51 : decode cX4_week 51 = .ok (.getfield 38, 3) := dk_180 0 38 (dk_at dksX4_week_2 4 rfl rfl)
theorem dX4_week_54 : decode cX4_week 54 = .ok (.iload_n 1, 1) := dk_27 (dk_at dksX4_week_2 7 rfl rfl)
theorem dX4_week_55 : decode cX4_week 55 = .ok (.iaload, 1) := dk_46 (dk_at dksX4_week_2 8 rfl rfl)
theorem dX4_week_56 : decode cX4_week 56 = .ok (.isub, 1) := dk_100 (dk_at dksX4_week_2 9 rfl rfl)
theorem dX4_week_57 : decode cX4_week 57 = .ok (.aload_n 0, 1) := dk_42 (dk_at dksX4_week_2 10 rfl rfl)
theorem dX4_week_58 : decode cX4_week 58 = .ok (.getfield 90, 3) := dk_180 0 90 (dk_at dksX4_week_2 11 rfl rfl)
theorem dX4_week_61 : decode cX4_week 61 = .ok (.aload_n 0, 1) := dk_42 (dk_at dksX4_week_2 14 rfl rfl)
theorem dX4_week_62 : decode cX4_week 62 = .ok (.getfield 38, 3) := dk_180 0 38 (dk_at dksX4_week_2 15 rfl rfl)
theorem dX4_week_65 : decode cX4_week 65 = .ok (.iload_n 1, 1) := dk_27 (dk_at dksX4_week_2 18 rfl rfl)
theorem dX4_week_66 : decode cX4_week 66 = .ok (.iaload, 1) := dk_46 (dk_at dksX4_week_2 19 rfl rfl)
theorem dX4_week_67 : decode cX4_week 67 = .ok (.invokestatic 134, 3) := dk_184 0 134 (dk_at dksX4_week_2 20 rfl rfl)
theorem dX4_week_70 : decode cX4_week 70 = .ok (.iaload, 1) := dk_46 (dk_at dksX4_week_2 23 rfl rfl)
theorem dX4_week_71 : decode cX4_week 71 = .ok (.if_icmp .lt 10, 3) := dk_161 0 10 (dk_at dksX4_week_3 0 rfl rfl)
theorem dX4_week_74 : decode cX4_week 74 = .ok (.aload_n 0, 1) := dk_42 (dk_at dksX4_week_3 3 rfl rfl)
theorem dX4_week_75 : decode cX4_week 75 = .ok (.getfield 32, 3) := dk_180 0 32 (dk_at dksX4_week_3 4 rfl rfl)
theorem dX4_week_78 : decode cX4_week 78 = .ok (.iload_n 1, 1) := dk_27 (dk_at dksX4_week_3 7 rfl rfl)
theorem dX4_week_79 : decode cX4_week 79 = .ok (.iconst 4, 1) := dk_7 (dk_at dksX4_week_3 8 rfl rfl)
theorem dX4_week_80 : decode cX4_week 80 = .ok (.iastore, 1) := dk_79 (dk_at dksX4_week_3 9 rfl rfl)
theorem dX4_week_81 : decode cX4_week 81 = .ok (.iinc 1 1, 3) := dk_132 1 1 (dk_at dksX4_week_3 10 rfl rfl)
theorem dX4_week_84 : decode cX4_week 84 = .ok (.goto (-56), 3) := dk_167 255 200 (dk_at dksX4_week_3 13 rfl rfl)
theorem dX4_week_87 : decode cX4_week 87 = .ok (.return_, 1) := dk_177 (dk_at dksX4_week_3 16 rfl rfl)
abbrev cX4_sinks : ByteArray := prog_14_method_14_code
def yX4_sinks : MethodName := ⟨RX4, "sinks", "(IJ)V"⟩
def dkwX4_sinks_4 : List UInt8 := [132, 4, 1, 167, 255, 173, 177]
abbrev dktX4_sinks_4 : List UInt8 := dkwX4_sinks_4 ++ []
def dkwX4_sinks_3 : List UInt8 := [42, 180, 0, 44, 21, 4, 47, 20, 0, 125, 148, 155, 0, 11, 42, 180, 0, 32, 21, 4, 6, 79]
abbrev dktX4_sinks_3 : List UInt8 := dkwX4_sinks_3 ++ dktX4_sinks_4
def dkwX4_sinks_2 : List UInt8 := [42, 180, 0, 44, 21, 4, 92, 47, 32, 97, 80, 42, 180, 0, 29, 21, 4, 42, 180, 0, 22, 27, 47, 80]
abbrev dktX4_sinks_2 : List UInt8 := dkwX4_sinks_2 ++ dktX4_sinks_3
def dkwX4_sinks_1 : List UInt8 := [180, 0, 32, 21, 4, 46, 5, 160, 0, 63, 42, 180, 0, 35, 21, 4, 46, 27, 159, 0, 6, 167, 0, 49]
abbrev dktX4_sinks_1 : List UInt8 := dkwX4_sinks_1 ++ dktX4_sinks_2
def dkwX4_sinks_0 : List UInt8 := [42, 180, 0, 22, 27, 92, 47, 32, 97, 80, 3, 54, 4, 21, 4, 42, 180, 0, 118, 162, 0, 80, 42]
abbrev dktX4_sinks_0 : List UInt8 := dkwX4_sinks_0 ++ dktX4_sinks_1
theorem dksX4_sinks_0 : cX4_sinks.data.toList.drop 0 = dktX4_sinks_0 := by decide +kernel
theorem dksX4_sinks_1 : cX4_sinks.data.toList.drop 23 = dktX4_sinks_1 := dk_seg dksX4_sinks_0 23 rfl rfl
theorem dksX4_sinks_2 : cX4_sinks.data.toList.drop 47 = dktX4_sinks_2 := dk_seg dksX4_sinks_1 24 rfl rfl
theorem dksX4_sinks_3 : cX4_sinks.data.toList.drop 71 = dktX4_sinks_3 := dk_seg dksX4_sinks_2 24 rfl rfl
theorem dksX4_sinks_4 : cX4_sinks.data.toList.drop 93 = dktX4_sinks_4 := dk_seg dksX4_sinks_3 22 rfl rfl
theorem dX4_sinks_0 : decode cX4_sinks 0 = .ok (.aload_n 0, 1) := dk_42 (dk_at dksX4_sinks_0 0 rfl rfl)
theorem dX4_sinks_1 : decode cX4_sinks 1 = .ok (.getfield 22, 3) := dk_180 0 22 (dk_at dksX4_sinks_0 1 rfl rfl)
theorem dX4_sinks_4 : decode cX4_sinks 4 = .ok (.iload_n 1, 1) := dk_27 (dk_at dksX4_sinks_0 4 rfl rfl)
theorem dX4_sinks_5 : decode cX4_sinks 5 = .ok (.dup2, 1) := dk_92 (dk_at dksX4_sinks_0 5 rfl rfl)
theorem dX4_sinks_6 : decode cX4_sinks 6 = .ok (.laload, 1) := dk_47 (dk_at dksX4_sinks_0 6 rfl rfl)
theorem dX4_sinks_7 : decode cX4_sinks 7 = .ok (.lload_n 2, 1) := dk_32 (dk_at dksX4_sinks_0 7 rfl rfl)
theorem dX4_sinks_8 : decode cX4_sinks 8 = .ok (.ladd, 1) := dk_97 (dk_at dksX4_sinks_0 8 rfl rfl)
theorem dX4_sinks_9 : decode cX4_sinks 9 = .ok (.lastore, 1) := dk_80 (dk_at dksX4_sinks_0 9 rfl rfl)
theorem dX4_sinks_10 : decode cX4_sinks 10 = .ok (.iconst 0, 1) := dk_3 (dk_at dksX4_sinks_0 10 rfl rfl)
theorem dX4_sinks_11 : decode cX4_sinks 11 = .ok (.istore 4, 2) := dk_54 4 (dk_at dksX4_sinks_0 11 rfl rfl)
theorem dX4_sinks_13 : decode cX4_sinks 13 = .ok (.iload 4, 2) := dk_21 4 (dk_at dksX4_sinks_0 13 rfl rfl)
theorem dX4_sinks_15 : decode cX4_sinks 15 = .ok (.aload_n 0, 1) := dk_42 (dk_at dksX4_sinks_0 15 rfl rfl)
theorem dX4_sinks_16 : decode cX4_sinks 16 = .ok (.getfield 118, 3) := dk_180 0 118 (dk_at dksX4_sinks_0 16 rfl rfl)
theorem dX4_sinks_19 : decode cX4_sinks 19 = .ok (.if_icmp .ge 80, 3) := dk_162 0 80 (dk_at dksX4_sinks_0 19 rfl rfl)
theorem dX4_sinks_22 : decode cX4_sinks 22 = .ok (.aload_n 0, 1) := dk_42 (dk_at dksX4_sinks_0 22 rfl rfl)
theorem dX4_sinks_23 : decode cX4_sinks 23 = .ok (.getfield 32, 3) := dk_180 0 32 (dk_at dksX4_sinks_1 0 rfl rfl)
theorem dX4_sinks_26 : decode cX4_sinks 26 = .ok (.iload 4, 2) := dk_21 4 (dk_at dksX4_sinks_1 3 rfl rfl)
theorem dX4_sinks_28 : decode cX4_sinks 28 = .ok (.iaload, 1) := dk_46 (dk_at dksX4_sinks_1 5 rfl rfl)
theorem dX4_sinks_29 : decode cX4_sinks 29 = .ok (.iconst 2, 1) := dk_5 (dk_at dksX4_sinks_1 6 rfl rfl)
theorem dX4_sinks_30 : decode cX4_sinks 30 = .ok (.if_icmp .ne 63, 3) := dk_160 0 63 (dk_at dksX4_sinks_1 7 rfl rfl)
theorem dX4_sinks_33 : decode cX4_sinks 33 = .ok (.aload_n 0, 1) := dk_42 (dk_at dksX4_sinks_1 10 rfl rfl)
theorem dX4_sinks_34 : decode cX4_sinks 34 = .ok (.getfield 35, 3) := dk_180 0 35 (dk_at dksX4_sinks_1 11 rfl rfl)
theorem dX4_sinks_37 : decode cX4_sinks 37 = .ok (.iload 4, 2) := dk_21 4 (dk_at dksX4_sinks_1 14 rfl rfl)
theorem dX4_sinks_39 : decode cX4_sinks 39 = .ok (.iaload, 1) := dk_46 (dk_at dksX4_sinks_1 16 rfl rfl)
theorem dX4_sinks_40 : decode cX4_sinks 40 = .ok (.iload_n 1, 1) := dk_27 (dk_at dksX4_sinks_1 17 rfl rfl)
theorem dX4_sinks_41 : decode cX4_sinks 41 = .ok (.if_icmp .eq 6, 3) := dk_159 0 6 (dk_at dksX4_sinks_1 18 rfl rfl)
theorem dX4_sinks_44 : decode cX4_sinks 44 = .ok (.goto 49, 3) := dk_167 0 49 (dk_at dksX4_sinks_1 21 rfl rfl)
theorem dX4_sinks_47 : decode cX4_sinks 47 = .ok (.aload_n 0, 1) := dk_42 (dk_at dksX4_sinks_2 0 rfl rfl)
theorem dX4_sinks_48 : decode cX4_sinks 48 = .ok (.getfield 44, 3) := dk_180 0 44 (dk_at dksX4_sinks_2 1 rfl rfl)
theorem dX4_sinks_51 : decode cX4_sinks 51 = .ok (.iload 4, 2) := dk_21 4 (dk_at dksX4_sinks_2 4 rfl rfl)
theorem dX4_sinks_53 : decode cX4_sinks 53 = .ok (.dup2, 1) := dk_92 (dk_at dksX4_sinks_2 6 rfl rfl)
theorem dX4_sinks_54 : decode cX4_sinks 54 = .ok (.laload, 1) := dk_47 (dk_at dksX4_sinks_2 7 rfl rfl)
theorem dX4_sinks_55 : decode cX4_sinks 55 = .ok (.lload_n 2, 1) := dk_32 (dk_at dksX4_sinks_2 8 rfl rfl)
theorem dX4_sinks_56 : decode cX4_sinks 56 = .ok (.ladd, 1) := dk_97 (dk_at dksX4_sinks_2 9 rfl rfl)
theorem dX4_sinks_57 : decode cX4_sinks 57 = .ok (.lastore, 1) := dk_80 (dk_at dksX4_sinks_2 10 rfl rfl)
theorem dX4_sinks_58 : decode cX4_sinks 58 = .ok (.aload_n 0, 1) := dk_42 (dk_at dksX4_sinks_2 11 rfl rfl)
theorem dX4_sinks_59 : decode cX4_sinks 59 = .ok (.getfield 29, 3) := dk_180 0 29 (dk_at dksX4_sinks_2 12 rfl rfl)
theorem dX4_sinks_62 : decode cX4_sinks 62 = .ok (.iload 4, 2) := dk_21 4 (dk_at dksX4_sinks_2 15 rfl rfl)
theorem dX4_sinks_64 : decode cX4_sinks 64 = .ok (.aload_n 0, 1) := dk_42 (dk_at dksX4_sinks_2 17 rfl rfl)
theorem dX4_sinks_65 : decode cX4_sinks 65 = .ok (.getfield 22, 3) := dk_180 0 22 (dk_at dksX4_sinks_2 18 rfl rfl)
theorem dX4_sinks_68 : decode cX4_sinks 68 = .ok (.iload_n 1, 1) := dk_27 (dk_at dksX4_sinks_2 21 rfl rfl)
theorem dX4_sinks_69 : decode cX4_sinks 69 = .ok (.laload, 1) := dk_47 (dk_at dksX4_sinks_2 22 rfl rfl)
theorem dX4_sinks_70 : decode cX4_sinks 70 = .ok (.lastore, 1) := dk_80 (dk_at dksX4_sinks_2 23 rfl rfl)
theorem dX4_sinks_71 : decode cX4_sinks 71 = .ok (.aload_n 0, 1) := dk_42 (dk_at dksX4_sinks_3 0 rfl rfl)
theorem dX4_sinks_72 : decode cX4_sinks 72 = .ok (.getfield 44, 3) := dk_180 0 44 (dk_at dksX4_sinks_3 1 rfl rfl)
theorem dX4_sinks_75 : decode cX4_sinks 75 = .ok (.iload 4, 2) := dk_21 4 (dk_at dksX4_sinks_3 4 rfl rfl)
theorem dX4_sinks_77 : decode cX4_sinks 77 = .ok (.laload, 1) := dk_47 (dk_at dksX4_sinks_3 6 rfl rfl)
theorem dX4_sinks_78 : decode cX4_sinks 78 = .ok (.ldc2_w 125, 3) := dk_20 0 125 (dk_at dksX4_sinks_3 7 rfl rfl)
theorem dX4_sinks_81 : decode cX4_sinks 81 = .ok (.lcmp, 1) := dk_148 (dk_at dksX4_sinks_3 10 rfl rfl)
theorem dX4_sinks_82 : decode cX4_sinks 82 = .ok (.ifCond .lt 11, 3) := dk_155 0 11 (dk_at dksX4_sinks_3 11 rfl rfl)
theorem dX4_sinks_85 : decode cX4_sinks 85 = .ok (.aload_n 0, 1) := dk_42 (dk_at dksX4_sinks_3 14 rfl rfl)
theorem dX4_sinks_86 : decode cX4_sinks 86 = .ok (.getfield 32, 3) := dk_180 0 32 (dk_at dksX4_sinks_3 15 rfl rfl)
theorem dX4_sinks_89 : decode cX4_sinks 89 = .ok (.iload 4, 2) := dk_21 4 (dk_at dksX4_sinks_3 18 rfl rfl)
theorem dX4_sinks_91 : decode cX4_sinks 91 = .ok (.iconst 3, 1) := dk_6 (dk_at dksX4_sinks_3 20 rfl rfl)
theorem dX4_sinks_92 : decode cX4_sinks 92 = .ok (.iastore, 1) := dk_79 (dk_at dksX4_sinks_3 21 rfl rfl)
theorem dX4_sinks_93 : decode cX4_sinks 93 = .ok (.iinc 4 1, 3) := dk_132 4 1 (dk_at dksX4_sinks_4 0 rfl rfl)
theorem dX4_sinks_96 : decode cX4_sinks 96 = .ok (.goto (-83), 3) := dk_167 255 173 (dk_at dksX4_sinks_4 3 rfl rfl)
theorem dX4_sinks_99 : decode cX4_sinks 99 = .ok (.return_, 1) := dk_177 (dk_at dksX4_sinks_4 6 rfl rfl)
abbrev cX4_seasonOf : ByteArray := prog_14_method_10_code
def yX4_seasonOf : MethodName := ⟨RX4, "seasonOf", "(I)I"⟩
def dkwX4_seasonOf_0 : List UInt8 := [26, 16, 91, 108, 7, 112, 172]
abbrev dktX4_seasonOf_0 : List UInt8 := dkwX4_seasonOf_0 ++ []
theorem dksX4_seasonOf_0 : cX4_seasonOf.data.toList.drop 0 = dktX4_seasonOf_0 := by decide +kernel
theorem dX4_seasonOf_0 : decode cX4_seasonOf 0 = .ok (.iload_n 0, 1) := dk_26 (dk_at dksX4_seasonOf_0 0 rfl rfl)
theorem dX4_seasonOf_1 : decode cX4_seasonOf 1 = .ok (.bipush 91, 2) := dk_16 91 (dk_at dksX4_seasonOf_0 1 rfl rfl)
theorem dX4_seasonOf_3 : decode cX4_seasonOf 3 = .ok (.idiv, 1) := dk_108 (dk_at dksX4_seasonOf_0 3 rfl rfl)
theorem dX4_seasonOf_4 : decode cX4_seasonOf 4 = .ok (.iconst 4, 1) := dk_7 (dk_at dksX4_seasonOf_0 4 rfl rfl)
theorem dX4_seasonOf_5 : decode cX4_seasonOf 5 = .ok (.irem, 1) := dk_112 (dk_at dksX4_seasonOf_0 5 rfl rfl)
theorem dX4_seasonOf_6 : decode cX4_seasonOf 6 = .ok (.ireturn, 1) := dk_172 (dk_at dksX4_seasonOf_0 6 rfl rfl)
abbrev cX4_season : ByteArray := prog_14_method_24_code
def yX4_season : MethodName := ⟨RX4, "season", "()I"⟩
def dkwX4_season_0 : List UInt8 := [42, 3, 181, 0, 107, 42, 180, 0, 131, 184, 0, 134, 172]
abbrev dktX4_season_0 : List UInt8 := dkwX4_season_0 ++ []
theorem dksX4_season_0 : cX4_season.data.toList.drop 0 = dktX4_season_0 := by decide +kernel
theorem dX4_season_0 : decode cX4_season 0 = .ok (.aload_n 0, 1) := dk_42 (dk_at dksX4_season_0 0 rfl rfl)
theorem dX4_season_1 : decode cX4_season 1 = .ok (.iconst 0, 1) := dk_3 (dk_at dksX4_season_0 1 rfl rfl)
theorem dX4_season_2 : decode cX4_season 2 = .ok (.putfield 107, 3) := dk_181 0 107 (dk_at dksX4_season_0 2 rfl rfl)
theorem dX4_season_5 : decode cX4_season 5 = .ok (.aload_n 0, 1) := dk_42 (dk_at dksX4_season_0 5 rfl rfl)
theorem dX4_season_6 : decode cX4_season 6 = .ok (.getfield 131, 3) := dk_180 0 131 (dk_at dksX4_season_0 6 rfl rfl)
theorem dX4_season_9 : decode cX4_season 9 = .ok (.invokestatic 134, 3) := dk_184 0 134 (dk_at dksX4_season_0 9 rfl rfl)
theorem dX4_season_12 : decode cX4_season 12 = .ok (.ireturn, 1) := dk_172 (dk_at dksX4_season_0 12 rfl rfl)
abbrev cX4_setSoftness : ByteArray := prog_14_method_25_code
def yX4_setSoftness : MethodName := ⟨RX4, "setSoftness", "(II)I"⟩
def dkwX4_setSoftness_1 : List UInt8 := [180, 0, 7, 27, 46, 62, 42, 180, 0, 7, 27, 28, 79, 29, 172]
abbrev dktX4_setSoftness_1 : List UInt8 := dkwX4_setSoftness_1 ++ []
def dkwX4_setSoftness_0 : List UInt8 := [42, 27, 184, 0, 180, 28, 133, 9, 20, 0, 184, 184, 0, 112, 182, 0, 173, 154, 0, 5, 3, 172, 42]
abbrev dktX4_setSoftness_0 : List UInt8 := dkwX4_setSoftness_0 ++ dktX4_setSoftness_1
theorem dksX4_setSoftness_0 : cX4_setSoftness.data.toList.drop 0 = dktX4_setSoftness_0 := by decide +kernel
theorem dksX4_setSoftness_1 : cX4_setSoftness.data.toList.drop 23 = dktX4_setSoftness_1 := dk_seg dksX4_setSoftness_0 23 rfl rfl
theorem dX4_setSoftness_0 : decode cX4_setSoftness 0 = .ok (.aload_n 0, 1) := dk_42 (dk_at dksX4_setSoftness_0 0 rfl rfl)
theorem dX4_setSoftness_1 : decode cX4_setSoftness 1 = .ok (.iload_n 1, 1) := dk_27 (dk_at dksX4_setSoftness_0 1 rfl rfl)
theorem dX4_setSoftness_2 : decode cX4_setSoftness 2 = .ok (.invokestatic 180, 3) := dk_184 0 180 (dk_at dksX4_setSoftness_0 2 rfl rfl)
theorem dX4_setSoftness_5 : decode cX4_setSoftness 5 = .ok (.iload_n 2, 1) := dk_28 (dk_at dksX4_setSoftness_0 5 rfl rfl)
theorem dX4_setSoftness_6 : decode cX4_setSoftness 6 = .ok (.i2l, 1) := dk_133 (dk_at dksX4_setSoftness_0 6 rfl rfl)
theorem dX4_setSoftness_7 : decode cX4_setSoftness 7 = .ok (.lconst 0, 1) := dk_9 (dk_at dksX4_setSoftness_0 7 rfl rfl)
theorem dX4_setSoftness_8 : decode cX4_setSoftness 8 = .ok (.ldc2_w 184, 3) := dk_20 0 184 (dk_at dksX4_setSoftness_0 8 rfl rfl)
theorem dX4_setSoftness_11 : decode cX4_setSoftness 11 = .ok (.invokestatic 112, 3) := dk_184 0 112 (dk_at dksX4_setSoftness_0 11 rfl rfl)
theorem dX4_setSoftness_14 : decode cX4_setSoftness 14 = .ok (.invokevirtual 173, 3) := dk_182 0 173 (dk_at dksX4_setSoftness_0 14 rfl rfl)
theorem dX4_setSoftness_17 : decode cX4_setSoftness 17 = .ok (.ifCond .ne 5, 3) := dk_154 0 5 (dk_at dksX4_setSoftness_0 17 rfl rfl)
theorem dX4_setSoftness_20 : decode cX4_setSoftness 20 = .ok (.iconst 0, 1) := dk_3 (dk_at dksX4_setSoftness_0 20 rfl rfl)
theorem dX4_setSoftness_21 : decode cX4_setSoftness 21 = .ok (.ireturn, 1) := dk_172 (dk_at dksX4_setSoftness_0 21 rfl rfl)
theorem dX4_setSoftness_22 : decode cX4_setSoftness 22 = .ok (.aload_n 0, 1) := dk_42 (dk_at dksX4_setSoftness_0 22 rfl rfl)
theorem dX4_setSoftness_23 : decode cX4_setSoftness 23 = .ok (.getfield 7, 3) := dk_180 0 7 (dk_at dksX4_setSoftness_1 0 rfl rfl)
theorem dX4_setSoftness_26 : decode cX4_setSoftness 26 = .ok (.iload_n 1, 1) := dk_27 (dk_at dksX4_setSoftness_1 3 rfl rfl)
theorem dX4_setSoftness_27 : decode cX4_setSoftness 27 = .ok (.iaload, 1) := dk_46 (dk_at dksX4_setSoftness_1 4 rfl rfl)
theorem dX4_setSoftness_28 : decode cX4_setSoftness 28 = .ok (.istore_n 3, 1) := dk_62 (dk_at dksX4_setSoftness_1 5 rfl rfl)
theorem dX4_setSoftness_29 : decode cX4_setSoftness 29 = .ok (.aload_n 0, 1) := dk_42 (dk_at dksX4_setSoftness_1 6 rfl rfl)
theorem dX4_setSoftness_30 : decode cX4_setSoftness 30 = .ok (.getfield 7, 3) := dk_180 0 7 (dk_at dksX4_setSoftness_1 7 rfl rfl)
theorem dX4_setSoftness_33 : decode cX4_setSoftness 33 = .ok (.iload_n 1, 1) := dk_27 (dk_at dksX4_setSoftness_1 10 rfl rfl)
theorem dX4_setSoftness_34 : decode cX4_setSoftness 34 = .ok (.iload_n 2, 1) := dk_28 (dk_at dksX4_setSoftness_1 11 rfl rfl)
theorem dX4_setSoftness_35 : decode cX4_setSoftness 35 = .ok (.iastore, 1) := dk_79 (dk_at dksX4_setSoftness_1 12 rfl rfl)
theorem dX4_setSoftness_36 : decode cX4_setSoftness 36 = .ok (.iload_n 3, 1) := dk_29 (dk_at dksX4_setSoftness_1 13 rfl rfl)
theorem dX4_setSoftness_37 : decode cX4_setSoftness 37 = .ok (.ireturn, 1) := dk_172 (dk_at dksX4_setSoftness_1 14 rfl rfl)
abbrev cX4_isStretch : ByteArray := prog_14_method_7_code
def yX4_isStretch : MethodName := ⟨RX4, "isStretch", "(I)Z"⟩
def dkwX4_isStretch_0 : List UInt8 := [26, 133, 9, 20, 0, 110, 184, 0, 112, 172]
abbrev dktX4_isStretch_0 : List UInt8 := dkwX4_isStretch_0 ++ []
theorem dksX4_isStretch_0 : cX4_isStretch.data.toList.drop 0 = dktX4_isStretch_0 := by decide +kernel
theorem dX4_isStretch_0 : decode cX4_isStretch 0 = .ok (.iload_n 0, 1) := dk_26 (dk_at dksX4_isStretch_0 0 rfl rfl)
theorem dX4_isStretch_1 : decode cX4_isStretch 1 = .ok (.i2l, 1) := dk_133 (dk_at dksX4_isStretch_0 1 rfl rfl)
theorem dX4_isStretch_2 : decode cX4_isStretch 2 = .ok (.lconst 0, 1) := dk_9 (dk_at dksX4_isStretch_0 2 rfl rfl)
theorem dX4_isStretch_3 : decode cX4_isStretch 3 = .ok (.ldc2_w 110, 3) := dk_20 0 110 (dk_at dksX4_isStretch_0 3 rfl rfl)
theorem dX4_isStretch_6 : decode cX4_isStretch 6 = .ok (.invokestatic 112, 3) := dk_184 0 112 (dk_at dksX4_isStretch_0 6 rfl rfl)
theorem dX4_isStretch_9 : decode cX4_isStretch 9 = .ok (.ireturn, 1) := dk_172 (dk_at dksX4_isStretch_0 9 rfl rfl)
abbrev cX4_setDays : ByteArray := prog_14_method_26_code
def yX4_setDays : MethodName := ⟨RX4, "setDays", "(II)I"⟩
def dkwX4_setDays_1 : List UInt8 := [180, 0, 13, 27, 46, 62, 42, 180, 0, 13, 27, 28, 79, 29, 172]
abbrev dktX4_setDays_1 : List UInt8 := dkwX4_setDays_1 ++ []
def dkwX4_setDays_0 : List UInt8 := [42, 27, 184, 0, 186, 28, 133, 10, 20, 0, 189, 184, 0, 112, 182, 0, 173, 154, 0, 5, 3, 172, 42]
abbrev dktX4_setDays_0 : List UInt8 := dkwX4_setDays_0 ++ dktX4_setDays_1
theorem dksX4_setDays_0 : cX4_setDays.data.toList.drop 0 = dktX4_setDays_0 := by decide +kernel
theorem dksX4_setDays_1 : cX4_setDays.data.toList.drop 23 = dktX4_setDays_1 := dk_seg dksX4_setDays_0 23 rfl rfl
theorem dX4_setDays_0 : decode cX4_setDays 0 = .ok (.aload_n 0, 1) := dk_42 (dk_at dksX4_setDays_0 0 rfl rfl)
theorem dX4_setDays_1 : decode cX4_setDays 1 = .ok (.iload_n 1, 1) := dk_27 (dk_at dksX4_setDays_0 1 rfl rfl)
theorem dX4_setDays_2 : decode cX4_setDays 2 = .ok (.invokestatic 186, 3) := dk_184 0 186 (dk_at dksX4_setDays_0 2 rfl rfl)
theorem dX4_setDays_5 : decode cX4_setDays 5 = .ok (.iload_n 2, 1) := dk_28 (dk_at dksX4_setDays_0 5 rfl rfl)
theorem dX4_setDays_6 : decode cX4_setDays 6 = .ok (.i2l, 1) := dk_133 (dk_at dksX4_setDays_0 6 rfl rfl)
theorem dX4_setDays_7 : decode cX4_setDays 7 = .ok (.lconst 1, 1) := dk_10 (dk_at dksX4_setDays_0 7 rfl rfl)
theorem dX4_setDays_8 : decode cX4_setDays 8 = .ok (.ldc2_w 189, 3) := dk_20 0 189 (dk_at dksX4_setDays_0 8 rfl rfl)
theorem dX4_setDays_11 : decode cX4_setDays 11 = .ok (.invokestatic 112, 3) := dk_184 0 112 (dk_at dksX4_setDays_0 11 rfl rfl)
theorem dX4_setDays_14 : decode cX4_setDays 14 = .ok (.invokevirtual 173, 3) := dk_182 0 173 (dk_at dksX4_setDays_0 14 rfl rfl)
theorem dX4_setDays_17 : decode cX4_setDays 17 = .ok (.ifCond .ne 5, 3) := dk_154 0 5 (dk_at dksX4_setDays_0 17 rfl rfl)
theorem dX4_setDays_20 : decode cX4_setDays 20 = .ok (.iconst 0, 1) := dk_3 (dk_at dksX4_setDays_0 20 rfl rfl)
theorem dX4_setDays_21 : decode cX4_setDays 21 = .ok (.ireturn, 1) := dk_172 (dk_at dksX4_setDays_0 21 rfl rfl)
theorem dX4_setDays_22 : decode cX4_setDays 22 = .ok (.aload_n 0, 1) := dk_42 (dk_at dksX4_setDays_0 22 rfl rfl)
theorem dX4_setDays_23 : decode cX4_setDays 23 = .ok (.getfield 13, 3) := dk_180 0 13 (dk_at dksX4_setDays_1 0 rfl rfl)
theorem dX4_setDays_26 : decode cX4_setDays 26 = .ok (.iload_n 1, 1) := dk_27 (dk_at dksX4_setDays_1 3 rfl rfl)
theorem dX4_setDays_27 : decode cX4_setDays 27 = .ok (.iaload, 1) := dk_46 (dk_at dksX4_setDays_1 4 rfl rfl)
theorem dX4_setDays_28 : decode cX4_setDays 28 = .ok (.istore_n 3, 1) := dk_62 (dk_at dksX4_setDays_1 5 rfl rfl)
theorem dX4_setDays_29 : decode cX4_setDays 29 = .ok (.aload_n 0, 1) := dk_42 (dk_at dksX4_setDays_1 6 rfl rfl)
theorem dX4_setDays_30 : decode cX4_setDays 30 = .ok (.getfield 13, 3) := dk_180 0 13 (dk_at dksX4_setDays_1 7 rfl rfl)
theorem dX4_setDays_33 : decode cX4_setDays 33 = .ok (.iload_n 1, 1) := dk_27 (dk_at dksX4_setDays_1 10 rfl rfl)
theorem dX4_setDays_34 : decode cX4_setDays 34 = .ok (.iload_n 2, 1) := dk_28 (dk_at dksX4_setDays_1 11 rfl rfl)
theorem dX4_setDays_35 : decode cX4_setDays 35 = .ok (.iastore, 1) := dk_79 (dk_at dksX4_setDays_1 12 rfl rfl)
theorem dX4_setDays_36 : decode cX4_setDays 36 = .ok (.iload_n 3, 1) := dk_29 (dk_at dksX4_setDays_1 13 rfl rfl)
theorem dX4_setDays_37 : decode cX4_setDays 37 = .ok (.ireturn, 1) := dk_172 (dk_at dksX4_setDays_1 14 rfl rfl)
abbrev cX4_isRider : ByteArray := prog_14_method_8_code
def yX4_isRider : MethodName := ⟨RX4, "isRider", "(I)Z"⟩
def dkwX4_isRider_0 : List UInt8 := [26, 133, 9, 20, 0, 116, 184, 0, 112, 172]
abbrev dktX4_isRider_0 : List UInt8 := dkwX4_isRider_0 ++ []
theorem dksX4_isRider_0 : cX4_isRider.data.toList.drop 0 = dktX4_isRider_0 := by decide +kernel
theorem dX4_isRider_0 : decode cX4_isRider 0 = .ok (.iload_n 0, 1) := dk_26 (dk_at dksX4_isRider_0 0 rfl rfl)
theorem dX4_isRider_1 : decode cX4_isRider 1 = .ok (.i2l, 1) := dk_133 (dk_at dksX4_isRider_0 1 rfl rfl)
theorem dX4_isRider_2 : decode cX4_isRider 2 = .ok (.lconst 0, 1) := dk_9 (dk_at dksX4_isRider_0 2 rfl rfl)
theorem dX4_isRider_3 : decode cX4_isRider 3 = .ok (.ldc2_w 116, 3) := dk_20 0 116 (dk_at dksX4_isRider_0 3 rfl rfl)
theorem dX4_isRider_6 : decode cX4_isRider 6 = .ok (.invokestatic 112, 3) := dk_184 0 112 (dk_at dksX4_isRider_0 6 rfl rfl)
theorem dX4_isRider_9 : decode cX4_isRider 9 = .ok (.ireturn, 1) := dk_172 (dk_at dksX4_isRider_0 9 rfl rfl)
abbrev cX4_setLimit : ByteArray := prog_14_method_27_code
def yX4_setLimit : MethodName := ⟨RX4, "setLimit", "(I)I"⟩
def dkwX4_setLimit_1 : List UInt8 := [27, 181, 0, 103, 28, 172]
abbrev dktX4_setLimit_1 : List UInt8 := dkwX4_setLimit_1 ++ []
def dkwX4_setLimit_0 : List UInt8 := [42, 27, 133, 9, 20, 0, 125, 184, 0, 112, 182, 0, 191, 154, 0, 5, 3, 172, 42, 180, 0, 103, 61, 42]
abbrev dktX4_setLimit_0 : List UInt8 := dkwX4_setLimit_0 ++ dktX4_setLimit_1
theorem dksX4_setLimit_0 : cX4_setLimit.data.toList.drop 0 = dktX4_setLimit_0 := by decide +kernel
theorem dksX4_setLimit_1 : cX4_setLimit.data.toList.drop 24 = dktX4_setLimit_1 := dk_seg dksX4_setLimit_0 24 rfl rfl
theorem dX4_setLimit_0 : decode cX4_setLimit 0 = .ok (.aload_n 0, 1) := dk_42 (dk_at dksX4_setLimit_0 0 rfl rfl)
theorem dX4_setLimit_1 : decode cX4_setLimit 1 = .ok (.iload_n 1, 1) := dk_27 (dk_at dksX4_setLimit_0 1 rfl rfl)
theorem dX4_setLimit_2 : decode cX4_setLimit 2 = .ok (.i2l, 1) := dk_133 (dk_at dksX4_setLimit_0 2 rfl rfl)
theorem dX4_setLimit_3 : decode cX4_setLimit 3 = .ok (.lconst 0, 1) := dk_9 (dk_at dksX4_setLimit_0 3 rfl rfl)
theorem dX4_setLimit_4 : decode cX4_setLimit 4 = .ok (.ldc2_w 125, 3) := dk_20 0 125 (dk_at dksX4_setLimit_0 4 rfl rfl)
theorem dX4_setLimit_7 : decode cX4_setLimit 7 = .ok (.invokestatic 112, 3) := dk_184 0 112 (dk_at dksX4_setLimit_0 7 rfl rfl)
theorem dX4_setLimit_10 : decode cX4_setLimit 10 = .ok (.invokevirtual 191, 3) := dk_182 0 191 (dk_at dksX4_setLimit_0 10 rfl rfl)
theorem dX4_setLimit_13 : decode cX4_setLimit 13 = .ok (.ifCond .ne 5, 3) := dk_154 0 5 (dk_at dksX4_setLimit_0 13 rfl rfl)
theorem dX4_setLimit_16 : decode cX4_setLimit 16 = .ok (.iconst 0, 1) := dk_3 (dk_at dksX4_setLimit_0 16 rfl rfl)
theorem dX4_setLimit_17 : decode cX4_setLimit 17 = .ok (.ireturn, 1) := dk_172 (dk_at dksX4_setLimit_0 17 rfl rfl)
theorem dX4_setLimit_18 : decode cX4_setLimit 18 = .ok (.aload_n 0, 1) := dk_42 (dk_at dksX4_setLimit_0 18 rfl rfl)
theorem dX4_setLimit_19 : decode cX4_setLimit 19 = .ok (.getfield 103, 3) := dk_180 0 103 (dk_at dksX4_setLimit_0 19 rfl rfl)
theorem dX4_setLimit_22 : decode cX4_setLimit 22 = .ok (.istore_n 2, 1) := dk_61 (dk_at dksX4_setLimit_0 22 rfl rfl)
theorem dX4_setLimit_23 : decode cX4_setLimit 23 = .ok (.aload_n 0, 1) := dk_42 (dk_at dksX4_setLimit_0 23 rfl rfl)
theorem dX4_setLimit_24 : decode cX4_setLimit 24 = .ok (.iload_n 1, 1) := dk_27 (dk_at dksX4_setLimit_1 0 rfl rfl)
theorem dX4_setLimit_25 : decode cX4_setLimit 25 = .ok (.putfield 103, 3) := dk_181 0 103 (dk_at dksX4_setLimit_1 1 rfl rfl)
theorem dX4_setLimit_28 : decode cX4_setLimit 28 = .ok (.iload_n 2, 1) := dk_28 (dk_at dksX4_setLimit_1 4 rfl rfl)
theorem dX4_setLimit_29 : decode cX4_setLimit 29 = .ok (.ireturn, 1) := dk_172 (dk_at dksX4_setLimit_1 5 rfl rfl)
abbrev cX4_goes : ByteArray := prog_14_method_4_code
def yX4_goes : MethodName := ⟨RX4, "goes", "(Z)Z"⟩
def dkwX4_goes_0 : List UInt8 := [42, 27, 153, 0, 7, 3, 167, 0, 4, 4, 181, 0, 107, 27, 172]
abbrev dktX4_goes_0 : List UInt8 := dkwX4_goes_0 ++ []
theorem dksX4_goes_0 : cX4_goes.data.toList.drop 0 = dktX4_goes_0 := by decide +kernel
theorem dX4_goes_0 : decode cX4_goes 0 = .ok (.aload_n 0, 1) := dk_42 (dk_at dksX4_goes_0 0 rfl rfl)
theorem dX4_goes_1 : decode cX4_goes 1 = .ok (.iload_n 1, 1) := dk_27 (dk_at dksX4_goes_0 1 rfl rfl)
theorem dX4_goes_2 : decode cX4_goes 2 = .ok (.ifCond .eq 7, 3) := dk_153 0 7 (dk_at dksX4_goes_0 2 rfl rfl)
theorem dX4_goes_5 : decode cX4_goes 5 = .ok (.iconst 0, 1) := dk_3 (dk_at dksX4_goes_0 5 rfl rfl)
theorem dX4_goes_6 : decode cX4_goes 6 = .ok (.goto 4, 3) := dk_167 0 4 (dk_at dksX4_goes_0 6 rfl rfl)
theorem dX4_goes_9 : decode cX4_goes 9 = .ok (.iconst 1, 1) := dk_4 (dk_at dksX4_goes_0 9 rfl rfl)
theorem dX4_goes_10 : decode cX4_goes 10 = .ok (.putfield 107, 3) := dk_181 0 107 (dk_at dksX4_goes_0 10 rfl rfl)
theorem dX4_goes_13 : decode cX4_goes 13 = .ok (.iload_n 1, 1) := dk_27 (dk_at dksX4_goes_0 13 rfl rfl)
theorem dX4_goes_14 : decode cX4_goes 14 = .ok (.ireturn, 1) := dk_172 (dk_at dksX4_goes_0 14 rfl rfl)
abbrev cX4_cut : ByteArray := prog_14_method_28_code
def yX4_cut : MethodName := ⟨RX4, "cut", "(I)I"⟩
def dkwX4_cut_3 : List UInt8 := [172]
abbrev dktX4_cut_3 : List UInt8 := dkwX4_cut_3 ++ []
def dkwX4_cut_2 : List UInt8 := [181, 0, 195, 42, 42, 180, 0, 131, 16, 14, 96, 3, 27, 182, 0, 140, 61, 42, 180, 0, 131, 16, 14, 96]
abbrev dktX4_cut_2 : List UInt8 := dkwX4_cut_2 ++ dktX4_cut_3
def dkwX4_cut_1 : List UInt8 := [157, 0, 7, 4, 167, 0, 4, 3, 182, 0, 173, 154, 0, 5, 3, 172, 42, 89, 180, 0, 195, 27, 96]
abbrev dktX4_cut_1 : List UInt8 := dkwX4_cut_1 ++ dktX4_cut_2
def dkwX4_cut_0 : List UInt8 := [42, 27, 133, 10, 20, 0, 189, 184, 0, 112, 42, 180, 0, 195, 133, 27, 133, 97, 20, 0, 198, 148]
abbrev dktX4_cut_0 : List UInt8 := dkwX4_cut_0 ++ dktX4_cut_1
theorem dksX4_cut_0 : cX4_cut.data.toList.drop 0 = dktX4_cut_0 := by decide +kernel
theorem dksX4_cut_1 : cX4_cut.data.toList.drop 22 = dktX4_cut_1 := dk_seg dksX4_cut_0 22 rfl rfl
theorem dksX4_cut_2 : cX4_cut.data.toList.drop 45 = dktX4_cut_2 := dk_seg dksX4_cut_1 23 rfl rfl
theorem dksX4_cut_3 : cX4_cut.data.toList.drop 69 = dktX4_cut_3 := dk_seg dksX4_cut_2 24 rfl rfl
theorem dX4_cut_0 : decode cX4_cut 0 = .ok (.aload_n 0, 1) := dk_42 (dk_at dksX4_cut_0 0 rfl rfl)
theorem dX4_cut_1 : decode cX4_cut 1 = .ok (.iload_n 1, 1) := dk_27 (dk_at dksX4_cut_0 1 rfl rfl)
theorem dX4_cut_2 : decode cX4_cut 2 = .ok (.i2l, 1) := dk_133 (dk_at dksX4_cut_0 2 rfl rfl)
theorem dX4_cut_3 : decode cX4_cut 3 = .ok (.lconst 1, 1) := dk_10 (dk_at dksX4_cut_0 3 rfl rfl)
theorem dX4_cut_4 : decode cX4_cut 4 = .ok (.ldc2_w 189, 3) := dk_20 0 189 (dk_at dksX4_cut_0 4 rfl rfl)
theorem dX4_cut_7 : decode cX4_cut 7 = .ok (.invokestatic 112, 3) := dk_184 0 112 (dk_at dksX4_cut_0 7 rfl rfl)
theorem dX4_cut_10 : decode cX4_cut 10 = .ok (.aload_n 0, 1) := dk_42 (dk_at dksX4_cut_0 10 rfl rfl)
theorem dX4_cut_11 : decode cX4_cut 11 = .ok (.getfield 195, 3) := dk_180 0 195 (dk_at dksX4_cut_0 11 rfl rfl)
theorem dX4_cut_14 : decode cX4_cut 14 = .ok (.i2l, 1) := dk_133 (dk_at dksX4_cut_0 14 rfl rfl)
theorem dX4_cut_15 : decode cX4_cut 15 = .ok (.iload_n 1, 1) := dk_27 (dk_at dksX4_cut_0 15 rfl rfl)
theorem dX4_cut_16 : decode cX4_cut 16 = .ok (.i2l, 1) := dk_133 (dk_at dksX4_cut_0 16 rfl rfl)
theorem dX4_cut_17 : decode cX4_cut 17 = .ok (.ladd, 1) := dk_97 (dk_at dksX4_cut_0 17 rfl rfl)
theorem dX4_cut_18 : decode cX4_cut 18 = .ok (.ldc2_w 198, 3) := dk_20 0 198 (dk_at dksX4_cut_0 18 rfl rfl)
theorem dX4_cut_21 : decode cX4_cut 21 = .ok (.lcmp, 1) := dk_148 (dk_at dksX4_cut_0 21 rfl rfl)
theorem dX4_cut_22 : decode cX4_cut 22 = .ok (.ifCond .gt 7, 3) := dk_157 0 7 (dk_at dksX4_cut_1 0 rfl rfl)
theorem dX4_cut_25 : decode cX4_cut 25 = .ok (.iconst 1, 1) := dk_4 (dk_at dksX4_cut_1 3 rfl rfl)
theorem dX4_cut_26 : decode cX4_cut 26 = .ok (.goto 4, 3) := dk_167 0 4 (dk_at dksX4_cut_1 4 rfl rfl)
theorem dX4_cut_29 : decode cX4_cut 29 = .ok (.iconst 0, 1) := dk_3 (dk_at dksX4_cut_1 7 rfl rfl)
theorem dX4_cut_30 : decode cX4_cut 30 = .ok (.invokevirtual 173, 3) := dk_182 0 173 (dk_at dksX4_cut_1 8 rfl rfl)
theorem dX4_cut_33 : decode cX4_cut 33 = .ok (.ifCond .ne 5, 3) := dk_154 0 5 (dk_at dksX4_cut_1 11 rfl rfl)
theorem dX4_cut_36 : decode cX4_cut 36 = .ok (.iconst 0, 1) := dk_3 (dk_at dksX4_cut_1 14 rfl rfl)
theorem dX4_cut_37 : decode cX4_cut 37 = .ok (.ireturn, 1) := dk_172 (dk_at dksX4_cut_1 15 rfl rfl)
theorem dX4_cut_38 : decode cX4_cut 38 = .ok (.aload_n 0, 1) := dk_42 (dk_at dksX4_cut_1 16 rfl rfl)
theorem dX4_cut_39 : decode cX4_cut 39 = .ok (.dup, 1) := dk_89 (dk_at dksX4_cut_1 17 rfl rfl)
theorem dX4_cut_40 : decode cX4_cut 40 = .ok (.getfield 195, 3) := dk_180 0 195 (dk_at dksX4_cut_1 18 rfl rfl)
theorem dX4_cut_43 : decode cX4_cut 43 = .ok (.iload_n 1, 1) := dk_27 (dk_at dksX4_cut_1 21 rfl rfl)
theorem dX4_cut_44 : decode cX4_cut 44 = .ok (.iadd, 1) := dk_96 (dk_at dksX4_cut_1 22 rfl rfl)
theorem dX4_cut_45 : decode cX4_cut 45 = .ok (.putfield 195, 3) := dk_181 0 195 (dk_at dksX4_cut_2 0 rfl rfl)
theorem dX4_cut_48 : decode cX4_cut 48 = .ok (.aload_n 0, 1) := dk_42 (dk_at dksX4_cut_2 3 rfl rfl)
theorem dX4_cut_49 : decode cX4_cut 49 = .ok (.aload_n 0, 1) := dk_42 (dk_at dksX4_cut_2 4 rfl rfl)
theorem dX4_cut_50 : decode cX4_cut 50 = .ok (.getfield 131, 3) := dk_180 0 131 (dk_at dksX4_cut_2 5 rfl rfl)
theorem dX4_cut_53 : decode cX4_cut 53 = .ok (.bipush 14, 2) := dk_16 14 (dk_at dksX4_cut_2 8 rfl rfl)
theorem dX4_cut_55 : decode cX4_cut 55 = .ok (.iadd, 1) := dk_96 (dk_at dksX4_cut_2 10 rfl rfl)
theorem dX4_cut_56 : decode cX4_cut 56 = .ok (.iconst 0, 1) := dk_3 (dk_at dksX4_cut_2 11 rfl rfl)
theorem dX4_cut_57 : decode cX4_cut 57 = .ok (.iload_n 1, 1) := dk_27 (dk_at dksX4_cut_2 12 rfl rfl)
theorem dX4_cut_58 : decode cX4_cut 58 = .ok (.invokevirtual 140, 3) := dk_182 0 140 (dk_at dksX4_cut_2 13 rfl rfl)
theorem dX4_cut_61 : decode cX4_cut 61 = .ok (.istore_n 2, 1) := dk_61 (dk_at dksX4_cut_2 16 rfl rfl)
theorem dX4_cut_62 : decode cX4_cut 62 = .ok (.aload_n 0, 1) := dk_42 (dk_at dksX4_cut_2 17 rfl rfl)
theorem dX4_cut_63 : decode cX4_cut 63 = .ok (.getfield 131, 3) := dk_180 0 131 (dk_at dksX4_cut_2 18 rfl rfl)
theorem dX4_cut_66 : decode cX4_cut 66 = .ok (.bipush 14, 2) := dk_16 14 (dk_at dksX4_cut_2 21 rfl rfl)
theorem dX4_cut_68 : decode cX4_cut 68 = .ok (.iadd, 1) := dk_96 (dk_at dksX4_cut_2 23 rfl rfl)
theorem dX4_cut_69 : decode cX4_cut 69 = .ok (.ireturn, 1) := dk_172 (dk_at dksX4_cut_3 0 rfl rfl)
abbrev cX4_lay : ByteArray := prog_14_method_29_code
def yX4_lay : MethodName := ⟨RX4, "lay", "(II)I"⟩
def dkwX4_lay_1 : List UInt8 := [167, 0, 4, 3, 182, 0, 200, 153, 0, 12, 42, 27, 28, 182, 0, 150, 167, 0, 4, 3, 172]
abbrev dktX4_lay_1 : List UInt8 := dkwX4_lay_1 ++ []
def dkwX4_lay_0 : List UInt8 := [42, 27, 184, 0, 180, 28, 133, 10, 20, 0, 189, 184, 0, 112, 42, 3, 182, 0, 147, 28, 161, 0, 7, 4]
abbrev dktX4_lay_0 : List UInt8 := dkwX4_lay_0 ++ dktX4_lay_1
theorem dksX4_lay_0 : cX4_lay.data.toList.drop 0 = dktX4_lay_0 := by decide +kernel
theorem dksX4_lay_1 : cX4_lay.data.toList.drop 24 = dktX4_lay_1 := dk_seg dksX4_lay_0 24 rfl rfl
theorem dX4_lay_0 : decode cX4_lay 0 = .ok (.aload_n 0, 1) := dk_42 (dk_at dksX4_lay_0 0 rfl rfl)
theorem dX4_lay_1 : decode cX4_lay 1 = .ok (.iload_n 1, 1) := dk_27 (dk_at dksX4_lay_0 1 rfl rfl)
theorem dX4_lay_2 : decode cX4_lay 2 = .ok (.invokestatic 180, 3) := dk_184 0 180 (dk_at dksX4_lay_0 2 rfl rfl)
theorem dX4_lay_5 : decode cX4_lay 5 = .ok (.iload_n 2, 1) := dk_28 (dk_at dksX4_lay_0 5 rfl rfl)
theorem dX4_lay_6 : decode cX4_lay 6 = .ok (.i2l, 1) := dk_133 (dk_at dksX4_lay_0 6 rfl rfl)
theorem dX4_lay_7 : decode cX4_lay 7 = .ok (.lconst 1, 1) := dk_10 (dk_at dksX4_lay_0 7 rfl rfl)
theorem dX4_lay_8 : decode cX4_lay 8 = .ok (.ldc2_w 189, 3) := dk_20 0 189 (dk_at dksX4_lay_0 8 rfl rfl)
theorem dX4_lay_11 : decode cX4_lay 11 = .ok (.invokestatic 112, 3) := dk_184 0 112 (dk_at dksX4_lay_0 11 rfl rfl)
theorem dX4_lay_14 : decode cX4_lay 14 = .ok (.aload_n 0, 1) := dk_42 (dk_at dksX4_lay_0 14 rfl rfl)
theorem dX4_lay_15 : decode cX4_lay 15 = .ok (.iconst 0, 1) := dk_3 (dk_at dksX4_lay_0 15 rfl rfl)
theorem dX4_lay_16 : decode cX4_lay 16 = .ok (.invokevirtual 147, 3) := dk_182 0 147 (dk_at dksX4_lay_0 16 rfl rfl)
theorem dX4_lay_19 : decode cX4_lay 19 = .ok (.iload_n 2, 1) := dk_28 (dk_at dksX4_lay_0 19 rfl rfl)
theorem dX4_lay_20 : decode cX4_lay 20 = .ok (.if_icmp .lt 7, 3) := dk_161 0 7 (dk_at dksX4_lay_0 20 rfl rfl)
theorem dX4_lay_23 : decode cX4_lay 23 = .ok (.iconst 1, 1) := dk_4 (dk_at dksX4_lay_0 23 rfl rfl)
theorem dX4_lay_24 : decode cX4_lay 24 = .ok (.goto 4, 3) := dk_167 0 4 (dk_at dksX4_lay_1 0 rfl rfl)
theorem dX4_lay_27 : decode cX4_lay 27 = .ok (.iconst 0, 1) := dk_3 (dk_at dksX4_lay_1 3 rfl rfl)
theorem dX4_lay_28 : decode cX4_lay 28 = .ok (.invokevirtual 200, 3) := dk_182 0 200 (dk_at dksX4_lay_1 4 rfl rfl)
theorem dX4_lay_31 : decode cX4_lay 31 = .ok (.ifCond .eq 12, 3) := dk_153 0 12 (dk_at dksX4_lay_1 7 rfl rfl)
theorem dX4_lay_34 : decode cX4_lay 34 = .ok (.aload_n 0, 1) := dk_42 (dk_at dksX4_lay_1 10 rfl rfl)
theorem dX4_lay_35 : decode cX4_lay 35 = .ok (.iload_n 1, 1) := dk_27 (dk_at dksX4_lay_1 11 rfl rfl)
theorem dX4_lay_36 : decode cX4_lay 36 = .ok (.iload_n 2, 1) := dk_28 (dk_at dksX4_lay_1 12 rfl rfl)
theorem dX4_lay_37 : decode cX4_lay 37 = .ok (.invokevirtual 150, 3) := dk_182 0 150 (dk_at dksX4_lay_1 13 rfl rfl)
theorem dX4_lay_40 : decode cX4_lay 40 = .ok (.goto 4, 3) := dk_167 0 4 (dk_at dksX4_lay_1 16 rfl rfl)
theorem dX4_lay_43 : decode cX4_lay 43 = .ok (.iconst 0, 1) := dk_3 (dk_at dksX4_lay_1 19 rfl rfl)
theorem dX4_lay_44 : decode cX4_lay 44 = .ok (.ireturn, 1) := dk_172 (dk_at dksX4_lay_1 20 rfl rfl)
abbrev cX4_goesAll : ByteArray := prog_14_method_6_code
def yX4_goesAll : MethodName := ⟨RX4, "goesAll", "(ZZZ)Z"⟩
def dkwX4_goesAll_1 : List UInt8 := [167, 0, 4, 3, 181, 0, 107, 42, 180, 0, 107, 154, 0, 7, 4, 167, 0, 4, 3, 172]
abbrev dktX4_goesAll_1 : List UInt8 := dkwX4_goesAll_1 ++ []
def dkwX4_goesAll_0 : List UInt8 := [42, 27, 154, 0, 7, 4, 167, 0, 20, 28, 154, 0, 7, 5, 167, 0, 12, 29, 154, 0, 7, 6]
abbrev dktX4_goesAll_0 : List UInt8 := dkwX4_goesAll_0 ++ dktX4_goesAll_1
theorem dksX4_goesAll_0 : cX4_goesAll.data.toList.drop 0 = dktX4_goesAll_0 := by decide +kernel
theorem dksX4_goesAll_1 : cX4_goesAll.data.toList.drop 22 = dktX4_goesAll_1 := dk_seg dksX4_goesAll_0 22 rfl rfl
theorem dX4_goesAll_0 : decode cX4_goesAll 0 = .ok (.aload_n 0, 1) := dk_42 (dk_at dksX4_goesAll_0 0 rfl rfl)
theorem dX4_goesAll_1 : decode cX4_goesAll 1 = .ok (.iload_n 1, 1) := dk_27 (dk_at dksX4_goesAll_0 1 rfl rfl)
theorem dX4_goesAll_2 : decode cX4_goesAll 2 = .ok (.ifCond .ne 7, 3) := dk_154 0 7 (dk_at dksX4_goesAll_0 2 rfl rfl)
theorem dX4_goesAll_5 : decode cX4_goesAll 5 = .ok (.iconst 1, 1) := dk_4 (dk_at dksX4_goesAll_0 5 rfl rfl)
theorem dX4_goesAll_6 : decode cX4_goesAll 6 = .ok (.goto 20, 3) := dk_167 0 20 (dk_at dksX4_goesAll_0 6 rfl rfl)
theorem dX4_goesAll_9 : decode cX4_goesAll 9 = .ok (.iload_n 2, 1) := dk_28 (dk_at dksX4_goesAll_0 9 rfl rfl)
theorem dX4_goesAll_10 : decode cX4_goesAll 10 = .ok (.ifCond .ne 7, 3) := dk_154 0 7 (dk_at dksX4_goesAll_0 10 rfl rfl)
theorem dX4_goesAll_13 : decode cX4_goesAll 13 = .ok (.iconst 2, 1) := dk_5 (dk_at dksX4_goesAll_0 13 rfl rfl)
theorem dX4_goesAll_14 : decode cX4_goesAll 14 = .ok (.goto 12, 3) := dk_167 0 12 (dk_at dksX4_goesAll_0 14 rfl rfl)
theorem dX4_goesAll_17 : decode cX4_goesAll 17 = .ok (.iload_n 3, 1) := dk_29 (dk_at dksX4_goesAll_0 17 rfl rfl)
theorem dX4_goesAll_18 : decode cX4_goesAll 18 = .ok (.ifCond .ne 7, 3) := dk_154 0 7 (dk_at dksX4_goesAll_0 18 rfl rfl)
theorem dX4_goesAll_21 : decode cX4_goesAll 21 = .ok (.iconst 3, 1) := dk_6 (dk_at dksX4_goesAll_0 21 rfl rfl)
theorem dX4_goesAll_22 : decode cX4_goesAll 22 = .ok (.goto 4, 3) := dk_167 0 4 (dk_at dksX4_goesAll_1 0 rfl rfl)
theorem dX4_goesAll_25 : decode cX4_goesAll 25 = .ok (.iconst 0, 1) := dk_3 (dk_at dksX4_goesAll_1 3 rfl rfl)
theorem dX4_goesAll_26 : decode cX4_goesAll 26 = .ok (.putfield 107, 3) := dk_181 0 107 (dk_at dksX4_goesAll_1 4 rfl rfl)
theorem dX4_goesAll_29 : decode cX4_goesAll 29 = .ok (.aload_n 0, 1) := dk_42 (dk_at dksX4_goesAll_1 7 rfl rfl)
theorem dX4_goesAll_30 : decode cX4_goesAll 30 = .ok (.getfield 107, 3) := dk_180 0 107 (dk_at dksX4_goesAll_1 8 rfl rfl)
theorem dX4_goesAll_33 : decode cX4_goesAll 33 = .ok (.ifCond .ne 7, 3) := dk_154 0 7 (dk_at dksX4_goesAll_1 11 rfl rfl)
theorem dX4_goesAll_36 : decode cX4_goesAll 36 = .ok (.iconst 1, 1) := dk_4 (dk_at dksX4_goesAll_1 14 rfl rfl)
theorem dX4_goesAll_37 : decode cX4_goesAll 37 = .ok (.goto 4, 3) := dk_167 0 4 (dk_at dksX4_goesAll_1 15 rfl rfl)
theorem dX4_goesAll_40 : decode cX4_goesAll 40 = .ok (.iconst 0, 1) := dk_3 (dk_at dksX4_goesAll_1 18 rfl rfl)
theorem dX4_goesAll_41 : decode cX4_goesAll 41 = .ok (.ireturn, 1) := dk_172 (dk_at dksX4_goesAll_1 19 rfl rfl)
abbrev cX4_stock : ByteArray := prog_14_method_31_code
def yX4_stock : MethodName := ⟨RX4, "stock", "(I)I"⟩
def dkwX4_stock_2 : List UInt8 := [160, 0, 15, 42, 180, 0, 195, 42, 180, 0, 118, 100, 167, 0, 7, 42, 180, 0, 118, 172]
abbrev dktX4_stock_2 : List UInt8 := dkwX4_stock_2 ++ []
def dkwX4_stock_1 : List UInt8 := [27, 182, 0, 147, 167, 0, 37, 27, 8, 160, 0, 10, 42, 182, 0, 206, 167, 0, 25, 27, 16, 6]
abbrev dktX4_stock_1 : List UInt8 := dkwX4_stock_1 ++ dktX4_stock_2
def dkwX4_stock_0 : List UInt8 := [42, 27, 133, 9, 20, 0, 204, 184, 0, 112, 182, 0, 191, 154, 0, 5, 3, 172, 27, 7, 163, 0, 11, 42]
abbrev dktX4_stock_0 : List UInt8 := dkwX4_stock_0 ++ dktX4_stock_1
theorem dksX4_stock_0 : cX4_stock.data.toList.drop 0 = dktX4_stock_0 := by decide +kernel
theorem dksX4_stock_1 : cX4_stock.data.toList.drop 24 = dktX4_stock_1 := dk_seg dksX4_stock_0 24 rfl rfl
theorem dksX4_stock_2 : cX4_stock.data.toList.drop 46 = dktX4_stock_2 := dk_seg dksX4_stock_1 22 rfl rfl
theorem dX4_stock_0 : decode cX4_stock 0 = .ok (.aload_n 0, 1) := dk_42 (dk_at dksX4_stock_0 0 rfl rfl)
theorem dX4_stock_1 : decode cX4_stock 1 = .ok (.iload_n 1, 1) := dk_27 (dk_at dksX4_stock_0 1 rfl rfl)
theorem dX4_stock_2 : decode cX4_stock 2 = .ok (.i2l, 1) := dk_133 (dk_at dksX4_stock_0 2 rfl rfl)
theorem dX4_stock_3 : decode cX4_stock 3 = .ok (.lconst 0, 1) := dk_9 (dk_at dksX4_stock_0 3 rfl rfl)
theorem dX4_stock_4 : decode cX4_stock 4 = .ok (.ldc2_w 204, 3) := dk_20 0 204 (dk_at dksX4_stock_0 4 rfl rfl)
theorem dX4_stock_7 : decode cX4_stock 7 = .ok (.invokestatic 112, 3) := dk_184 0 112 (dk_at dksX4_stock_0 7 rfl rfl)
theorem dX4_stock_10 : decode cX4_stock 10 = .ok (.invokevirtual 191, 3) := dk_182 0 191 (dk_at dksX4_stock_0 10 rfl rfl)
theorem dX4_stock_13 : decode cX4_stock 13 = .ok (.ifCond .ne 5, 3) := dk_154 0 5 (dk_at dksX4_stock_0 13 rfl rfl)
theorem dX4_stock_16 : decode cX4_stock 16 = .ok (.iconst 0, 1) := dk_3 (dk_at dksX4_stock_0 16 rfl rfl)
theorem dX4_stock_17 : decode cX4_stock 17 = .ok (.ireturn, 1) := dk_172 (dk_at dksX4_stock_0 17 rfl rfl)
theorem dX4_stock_18 : decode cX4_stock 18 = .ok (.iload_n 1, 1) := dk_27 (dk_at dksX4_stock_0 18 rfl rfl)
theorem dX4_stock_19 : decode cX4_stock 19 = .ok (.iconst 4, 1) := dk_7 (dk_at dksX4_stock_0 19 rfl rfl)
theorem dX4_stock_20 : decode cX4_stock 20 = .ok (.if_icmp .gt 11, 3) := dk_163 0 11 (dk_at dksX4_stock_0 20 rfl rfl)
theorem dX4_stock_23 : decode cX4_stock 23 = .ok (.aload_n 0, 1) := dk_42 (dk_at dksX4_stock_0 23 rfl rfl)
theorem dX4_stock_24 : decode cX4_stock 24 = .ok (.iload_n 1, 1) := dk_27 (dk_at dksX4_stock_1 0 rfl rfl)
theorem dX4_stock_25 : decode cX4_stock 25 = .ok (.invokevirtual 147, 3) := dk_182 0 147 (dk_at dksX4_stock_1 1 rfl rfl)
theorem dX4_stock_28 : decode cX4_stock 28 = .ok (.goto 37, 3) := dk_167 0 37 (dk_at dksX4_stock_1 4 rfl rfl)
theorem dX4_stock_31 : decode cX4_stock 31 = .ok (.iload_n 1, 1) := dk_27 (dk_at dksX4_stock_1 7 rfl rfl)
theorem dX4_stock_32 : decode cX4_stock 32 = .ok (.iconst 5, 1) := dk_8 (dk_at dksX4_stock_1 8 rfl rfl)
theorem dX4_stock_33 : decode cX4_stock 33 = .ok (.if_icmp .ne 10, 3) := dk_160 0 10 (dk_at dksX4_stock_1 9 rfl rfl)
theorem dX4_stock_36 : decode cX4_stock 36 = .ok (.aload_n 0, 1) := dk_42 (dk_at dksX4_stock_1 12 rfl rfl)
theorem dX4_stock_37 : decode cX4_stock 37 = .ok (.invokevirtual 206, 3) := dk_182 0 206 (dk_at dksX4_stock_1 13 rfl rfl)
theorem dX4_stock_40 : decode cX4_stock 40 = .ok (.goto 25, 3) := dk_167 0 25 (dk_at dksX4_stock_1 16 rfl rfl)
theorem dX4_stock_43 : decode cX4_stock 43 = .ok (.iload_n 1, 1) := dk_27 (dk_at dksX4_stock_1 19 rfl rfl)
theorem dX4_stock_44 : decode cX4_stock 44 = .ok (.bipush 6, 2) := dk_16 6 (dk_at dksX4_stock_1 20 rfl rfl)
theorem dX4_stock_46 : decode cX4_stock 46 = .ok (.if_icmp .ne 15, 3) := dk_160 0 15 (dk_at dksX4_stock_2 0 rfl rfl)
theorem dX4_stock_49 : decode cX4_stock 49 = .ok (.aload_n 0, 1) := dk_42 (dk_at dksX4_stock_2 3 rfl rfl)
theorem dX4_stock_50 : decode cX4_stock 50 = .ok (.getfield 195, 3) := dk_180 0 195 (dk_at dksX4_stock_2 4 rfl rfl)
theorem dX4_stock_53 : decode cX4_stock 53 = .ok (.aload_n 0, 1) := dk_42 (dk_at dksX4_stock_2 7 rfl rfl)
theorem dX4_stock_54 : decode cX4_stock 54 = .ok (.getfield 118, 3) := dk_180 0 118 (dk_at dksX4_stock_2 8 rfl rfl)
theorem dX4_stock_57 : decode cX4_stock 57 = .ok (.isub, 1) := dk_100 (dk_at dksX4_stock_2 11 rfl rfl)
theorem dX4_stock_58 : decode cX4_stock 58 = .ok (.goto 7, 3) := dk_167 0 7 (dk_at dksX4_stock_2 12 rfl rfl)
theorem dX4_stock_61 : decode cX4_stock 61 = .ok (.aload_n 0, 1) := dk_42 (dk_at dksX4_stock_2 15 rfl rfl)
theorem dX4_stock_62 : decode cX4_stock 62 = .ok (.getfield 118, 3) := dk_180 0 118 (dk_at dksX4_stock_2 16 rfl rfl)
theorem dX4_stock_65 : decode cX4_stock 65 = .ok (.ireturn, 1) := dk_172 (dk_at dksX4_stock_2 19 rfl rfl)
abbrev cX4_owedInAll : ByteArray := prog_14_method_30_code
def yX4_owedInAll : MethodName := ⟨RX4, "owedInAll", "()I"⟩
def dkwX4_owedInAll_1 : List UInt8 := [167, 255, 236, 27, 172]
abbrev dktX4_owedInAll_1 : List UInt8 := dkwX4_owedInAll_1 ++ []
def dkwX4_owedInAll_0 : List UInt8 := [3, 60, 3, 61, 28, 42, 180, 0, 144, 162, 0, 18, 27, 42, 180, 0, 59, 28, 46, 96, 60, 132, 2, 1]
abbrev dktX4_owedInAll_0 : List UInt8 := dkwX4_owedInAll_0 ++ dktX4_owedInAll_1
theorem dksX4_owedInAll_0 : cX4_owedInAll.data.toList.drop 0 = dktX4_owedInAll_0 := by decide +kernel
theorem dksX4_owedInAll_1 : cX4_owedInAll.data.toList.drop 24 = dktX4_owedInAll_1 := dk_seg dksX4_owedInAll_0 24 rfl rfl
theorem dX4_owedInAll_0 : decode cX4_owedInAll 0 = .ok (.iconst 0, 1) := dk_3 (dk_at dksX4_owedInAll_0 0 rfl rfl)
theorem dX4_owedInAll_1 : decode cX4_owedInAll 1 = .ok (.istore_n 1, 1) := dk_60 (dk_at dksX4_owedInAll_0 1 rfl rfl)
theorem dX4_owedInAll_2 : decode cX4_owedInAll 2 = .ok (.iconst 0, 1) := dk_3 (dk_at dksX4_owedInAll_0 2 rfl rfl)
theorem dX4_owedInAll_3 : decode cX4_owedInAll 3 = .ok (.istore_n 2, 1) := dk_61 (dk_at dksX4_owedInAll_0 3 rfl rfl)
theorem dX4_owedInAll_4 : decode cX4_owedInAll 4 = .ok (.iload_n 2, 1) := dk_28 (dk_at dksX4_owedInAll_0 4 rfl rfl)
theorem dX4_owedInAll_5 : decode cX4_owedInAll 5 = .ok (.aload_n 0, 1) := dk_42 (dk_at dksX4_owedInAll_0 5 rfl rfl)
theorem dX4_owedInAll_6 : decode cX4_owedInAll 6 = .ok (.getfield 144, 3) := dk_180 0 144 (dk_at dksX4_owedInAll_0 6 rfl rfl)
theorem dX4_owedInAll_9 : decode cX4_owedInAll 9 = .ok (.if_icmp .ge 18, 3) := dk_162 0 18 (dk_at dksX4_owedInAll_0 9 rfl rfl)
theorem dX4_owedInAll_12 : decode cX4_owedInAll 12 = .ok (.iload_n 1, 1) := dk_27 (dk_at dksX4_owedInAll_0 12 rfl rfl)
theorem dX4_owedInAll_13 : decode cX4_owedInAll 13 = .ok (.aload_n 0, 1) := dk_42 (dk_at dksX4_owedInAll_0 13 rfl rfl)
theorem dX4_owedInAll_14 : decode cX4_owedInAll 14 = .ok (.getfield 59, 3) := dk_180 0 59 (dk_at dksX4_owedInAll_0 14 rfl rfl)
theorem dX4_owedInAll_17 : decode cX4_owedInAll 17 = .ok (.iload_n 2, 1) := dk_28 (dk_at dksX4_owedInAll_0 17 rfl rfl)
theorem dX4_owedInAll_18 : decode cX4_owedInAll 18 = .ok (.iaload, 1) := dk_46 (dk_at dksX4_owedInAll_0 18 rfl rfl)
theorem dX4_owedInAll_19 : decode cX4_owedInAll 19 = .ok (.iadd, 1) := dk_96 (dk_at dksX4_owedInAll_0 19 rfl rfl)
theorem dX4_owedInAll_20 : decode cX4_owedInAll 20 = .ok (.istore_n 1, 1) := dk_60 (dk_at dksX4_owedInAll_0 20 rfl rfl)
theorem dX4_owedInAll_21 : decode cX4_owedInAll 21 = .ok (.iinc 2 1, 3) := dk_132 2 1 (dk_at dksX4_owedInAll_0 21 rfl rfl)
theorem dX4_owedInAll_24 : decode cX4_owedInAll 24 = .ok (.goto (-20), 3) := dk_167 255 236 (dk_at dksX4_owedInAll_1 0 rfl rfl)
theorem dX4_owedInAll_27 : decode cX4_owedInAll 27 = .ok (.iload_n 1, 1) := dk_27 (dk_at dksX4_owedInAll_1 3 rfl rfl)
theorem dX4_owedInAll_28 : decode cX4_owedInAll 28 = .ok (.ireturn, 1) := dk_172 (dk_at dksX4_owedInAll_1 4 rfl rfl)
abbrev cX4_board : ByteArray := prog_14_method_32_code
def yX4_board : MethodName := ⟨RX4, "board", "(II)I"⟩
def dkwX4_board_4 : List UInt8 := [180, 0, 38, 27, 46, 184, 0, 134, 172, 42, 180, 0, 38, 27, 46, 172]
abbrev dktX4_board_4 : List UInt8 := dkwX4_board_4 ++ []
def dkwX4_board_3 : List UInt8 := [42, 180, 0, 32, 27, 46, 172, 42, 180, 0, 35, 27, 46, 172, 42, 180, 0, 44, 27, 47, 136, 172, 42]
abbrev dktX4_board_3 : List UInt8 := dkwX4_board_3 ++ dktX4_board_4
def dkwX4_board_2 : List UInt8 := [170, 0, 0, 0, 0, 0, 0, 64, 0, 0, 0, 0, 0, 0, 0, 3, 0, 0, 0, 32, 0, 0, 0, 39, 0, 0, 0, 46, 0, 0, 0, 54]
abbrev dktX4_board_2 : List UInt8 := dkwX4_board_2 ++ dktX4_board_3
def dkwX4_board_1 : List UInt8 := [182, 0, 173, 154, 0, 5, 3, 172, 28]
abbrev dktX4_board_1 : List UInt8 := dkwX4_board_1 ++ dktX4_board_2
def dkwX4_board_0 : List UInt8 := [42, 27, 133, 9, 42, 180, 0, 118, 4, 100, 133, 184, 0, 112, 28, 133, 9, 20, 0, 210, 184, 0, 112]
abbrev dktX4_board_0 : List UInt8 := dkwX4_board_0 ++ dktX4_board_1
theorem dksX4_board_0 : cX4_board.data.toList.drop 0 = dktX4_board_0 := by decide +kernel
theorem dksX4_board_1 : cX4_board.data.toList.drop 23 = dktX4_board_1 := dk_seg dksX4_board_0 23 rfl rfl
theorem dksX4_board_2 : cX4_board.data.toList.drop 32 = dktX4_board_2 := dk_seg dksX4_board_1 9 rfl rfl
theorem dksX4_board_3 : cX4_board.data.toList.drop 64 = dktX4_board_3 := dk_seg dksX4_board_2 32 rfl rfl
theorem dksX4_board_4 : cX4_board.data.toList.drop 87 = dktX4_board_4 := dk_seg dksX4_board_3 23 rfl rfl
theorem dX4_board_0 : decode cX4_board 0 = .ok (.aload_n 0, 1) := dk_42 (dk_at dksX4_board_0 0 rfl rfl)
theorem dX4_board_1 : decode cX4_board 1 = .ok (.iload_n 1, 1) := dk_27 (dk_at dksX4_board_0 1 rfl rfl)
theorem dX4_board_2 : decode cX4_board 2 = .ok (.i2l, 1) := dk_133 (dk_at dksX4_board_0 2 rfl rfl)
theorem dX4_board_3 : decode cX4_board 3 = .ok (.lconst 0, 1) := dk_9 (dk_at dksX4_board_0 3 rfl rfl)
theorem dX4_board_4 : decode cX4_board 4 = .ok (.aload_n 0, 1) := dk_42 (dk_at dksX4_board_0 4 rfl rfl)
theorem dX4_board_5 : decode cX4_board 5 = .ok (.getfield 118, 3) := dk_180 0 118 (dk_at dksX4_board_0 5 rfl rfl)
theorem dX4_board_8 : decode cX4_board 8 = .ok (.iconst 1, 1) := dk_4 (dk_at dksX4_board_0 8 rfl rfl)
theorem dX4_board_9 : decode cX4_board 9 = .ok (.isub, 1) := dk_100 (dk_at dksX4_board_0 9 rfl rfl)
theorem dX4_board_10 : decode cX4_board 10 = .ok (.i2l, 1) := dk_133 (dk_at dksX4_board_0 10 rfl rfl)
theorem dX4_board_11 : decode cX4_board 11 = .ok (.invokestatic 112, 3) := dk_184 0 112 (dk_at dksX4_board_0 11 rfl rfl)
theorem dX4_board_14 : decode cX4_board 14 = .ok (.iload_n 2, 1) := dk_28 (dk_at dksX4_board_0 14 rfl rfl)
theorem dX4_board_15 : decode cX4_board 15 = .ok (.i2l, 1) := dk_133 (dk_at dksX4_board_0 15 rfl rfl)
theorem dX4_board_16 : decode cX4_board 16 = .ok (.lconst 0, 1) := dk_9 (dk_at dksX4_board_0 16 rfl rfl)
theorem dX4_board_17 : decode cX4_board 17 = .ok (.ldc2_w 210, 3) := dk_20 0 210 (dk_at dksX4_board_0 17 rfl rfl)
theorem dX4_board_20 : decode cX4_board 20 = .ok (.invokestatic 112, 3) := dk_184 0 112 (dk_at dksX4_board_0 20 rfl rfl)
theorem dX4_board_23 : decode cX4_board 23 = .ok (.invokevirtual 173, 3) := dk_182 0 173 (dk_at dksX4_board_1 0 rfl rfl)
theorem dX4_board_26 : decode cX4_board 26 = .ok (.ifCond .ne 5, 3) := dk_154 0 5 (dk_at dksX4_board_1 3 rfl rfl)
theorem dX4_board_29 : decode cX4_board 29 = .ok (.iconst 0, 1) := dk_3 (dk_at dksX4_board_1 6 rfl rfl)
theorem dX4_board_30 : decode cX4_board 30 = .ok (.ireturn, 1) := dk_172 (dk_at dksX4_board_1 7 rfl rfl)
theorem dX4_board_31 : decode cX4_board 31 = .ok (.iload_n 2, 1) := dk_28 (dk_at dksX4_board_1 8 rfl rfl)
theorem dX4_board_32 : decode cX4_board 32 = .ok (.tableswitch 64 0 3 #[32, 39, 46, 54], 32) := by decide +kernel
theorem dX4_board_64 : decode cX4_board 64 = .ok (.aload_n 0, 1) := dk_42 (dk_at dksX4_board_3 0 rfl rfl)
theorem dX4_board_65 : decode cX4_board 65 = .ok (.getfield 32, 3) := dk_180 0 32 (dk_at dksX4_board_3 1 rfl rfl)
theorem dX4_board_68 : decode cX4_board 68 = .ok (.iload_n 1, 1) := dk_27 (dk_at dksX4_board_3 4 rfl rfl)
theorem dX4_board_69 : decode cX4_board 69 = .ok (.iaload, 1) := dk_46 (dk_at dksX4_board_3 5 rfl rfl)
theorem dX4_board_70 : decode cX4_board 70 = .ok (.ireturn, 1) := dk_172 (dk_at dksX4_board_3 6 rfl rfl)
theorem dX4_board_71 : decode cX4_board 71 = .ok (.aload_n 0, 1) := dk_42 (dk_at dksX4_board_3 7 rfl rfl)
theorem dX4_board_72 : decode cX4_board 72 = .ok (.getfield 35, 3) := dk_180 0 35 (dk_at dksX4_board_3 8 rfl rfl)
theorem dX4_board_75 : decode cX4_board 75 = .ok (.iload_n 1, 1) := dk_27 (dk_at dksX4_board_3 11 rfl rfl)
theorem dX4_board_76 : decode cX4_board 76 = .ok (.iaload, 1) := dk_46 (dk_at dksX4_board_3 12 rfl rfl)
theorem dX4_board_77 : decode cX4_board 77 = .ok (.ireturn, 1) := dk_172 (dk_at dksX4_board_3 13 rfl rfl)
theorem dX4_board_78 : decode cX4_board 78 = .ok (.aload_n 0, 1) := dk_42 (dk_at dksX4_board_3 14 rfl rfl)
theorem dX4_board_79 : decode cX4_board 79 = .ok (.getfield 44, 3) := dk_180 0 44 (dk_at dksX4_board_3 15 rfl rfl)
theorem dX4_board_82 : decode cX4_board 82 = .ok (.iload_n 1, 1) := dk_27 (dk_at dksX4_board_3 18 rfl rfl)
theorem dX4_board_83 : decode cX4_board 83 = .ok (.laload, 1) := dk_47 (dk_at dksX4_board_3 19 rfl rfl)
theorem dX4_board_84 : decode cX4_board 84 = .ok (.l2i, 1) := dk_136 (dk_at dksX4_board_3 20 rfl rfl)
theorem dX4_board_85 : decode cX4_board 85 = .ok (.ireturn, 1) := dk_172 (dk_at dksX4_board_3 21 rfl rfl)
theorem dX4_board_86 : decode cX4_board 86 = .ok (.aload_n 0, 1) := dk_42 (dk_at dksX4_board_3 22 rfl rfl)
theorem dX4_board_87 : decode cX4_board 87 = .ok (.getfield 38, 3) := dk_180 0 38 (dk_at dksX4_board_4 0 rfl rfl)
theorem dX4_board_90 : decode cX4_board 90 = .ok (.iload_n 1, 1) := dk_27 (dk_at dksX4_board_4 3 rfl rfl)
theorem dX4_board_91 : decode cX4_board 91 = .ok (.iaload, 1) := dk_46 (dk_at dksX4_board_4 4 rfl rfl)
theorem dX4_board_92 : decode cX4_board 92 = .ok (.invokestatic 134, 3) := dk_184 0 134 (dk_at dksX4_board_4 5 rfl rfl)
theorem dX4_board_95 : decode cX4_board 95 = .ok (.ireturn, 1) := dk_172 (dk_at dksX4_board_4 8 rfl rfl)
theorem dX4_board_96 : decode cX4_board 96 = .ok (.aload_n 0, 1) := dk_42 (dk_at dksX4_board_4 9 rfl rfl)
theorem dX4_board_97 : decode cX4_board 97 = .ok (.getfield 38, 3) := dk_180 0 38 (dk_at dksX4_board_4 10 rfl rfl)
theorem dX4_board_100 : decode cX4_board 100 = .ok (.iload_n 1, 1) := dk_27 (dk_at dksX4_board_4 13 rfl rfl)
theorem dX4_board_101 : decode cX4_board 101 = .ok (.iaload, 1) := dk_46 (dk_at dksX4_board_4 14 rfl rfl)
theorem dX4_board_102 : decode cX4_board 102 = .ok (.ireturn, 1) := dk_172 (dk_at dksX4_board_4 15 rfl rfl)
abbrev cX4_owed : ByteArray := prog_14_method_33_code
def yX4_owed : MethodName := ⟨RX4, "owed", "(I)I"⟩
def dkwX4_owed_1 : List UInt8 := [180, 0, 56, 27, 46, 104, 42, 180, 0, 59, 27, 46, 96, 167, 0, 4, 3, 172]
abbrev dktX4_owed_1 : List UInt8 := dkwX4_owed_1 ++ []
def dkwX4_owed_0 : List UInt8 := [42, 27, 133, 9, 42, 180, 0, 144, 4, 100, 133, 184, 0, 112, 182, 0, 191, 153, 0, 22, 16, 100, 42]
abbrev dktX4_owed_0 : List UInt8 := dkwX4_owed_0 ++ dktX4_owed_1
theorem dksX4_owed_0 : cX4_owed.data.toList.drop 0 = dktX4_owed_0 := by decide +kernel
theorem dksX4_owed_1 : cX4_owed.data.toList.drop 23 = dktX4_owed_1 := dk_seg dksX4_owed_0 23 rfl rfl
theorem dX4_owed_0 : decode cX4_owed 0 = .ok (.aload_n 0, 1) := dk_42 (dk_at dksX4_owed_0 0 rfl rfl)
theorem dX4_owed_1 : decode cX4_owed 1 = .ok (.iload_n 1, 1) := dk_27 (dk_at dksX4_owed_0 1 rfl rfl)
theorem dX4_owed_2 : decode cX4_owed 2 = .ok (.i2l, 1) := dk_133 (dk_at dksX4_owed_0 2 rfl rfl)
theorem dX4_owed_3 : decode cX4_owed 3 = .ok (.lconst 0, 1) := dk_9 (dk_at dksX4_owed_0 3 rfl rfl)
theorem dX4_owed_4 : decode cX4_owed 4 = .ok (.aload_n 0, 1) := dk_42 (dk_at dksX4_owed_0 4 rfl rfl)
theorem dX4_owed_5 : decode cX4_owed 5 = .ok (.getfield 144, 3) := dk_180 0 144 (dk_at dksX4_owed_0 5 rfl rfl)
theorem dX4_owed_8 : decode cX4_owed 8 = .ok (.iconst 1, 1) := dk_4 (dk_at dksX4_owed_0 8 rfl rfl)
theorem dX4_owed_9 : decode cX4_owed 9 = .ok (.isub, 1) := dk_100 (dk_at dksX4_owed_0 9 rfl rfl)
theorem dX4_owed_10 : decode cX4_owed 10 = .ok (.i2l, 1) := dk_133 (dk_at dksX4_owed_0 10 rfl rfl)
theorem dX4_owed_11 : decode cX4_owed 11 = .ok (.invokestatic 112, 3) := dk_184 0 112 (dk_at dksX4_owed_0 11 rfl rfl)
theorem dX4_owed_14 : decode cX4_owed 14 = .ok (.invokevirtual 191, 3) := dk_182 0 191 (dk_at dksX4_owed_0 14 rfl rfl)
theorem dX4_owed_17 : decode cX4_owed 17 = .ok (.ifCond .eq 22, 3) := dk_153 0 22 (dk_at dksX4_owed_0 17 rfl rfl)
theorem dX4_owed_20 : decode cX4_owed 20 = .ok (.bipush 100, 2) := dk_16 100 (dk_at dksX4_owed_0 20 rfl rfl)
theorem dX4_owed_22 : decode cX4_owed 22 = .ok (.aload_n 0, 1) := dk_42 (dk_at dksX4_owed_0 22 rfl rfl)
theorem dX4_owed_23 : decode cX4_owed 23 = .ok (.getfield 56, 3) := dk_180 0 56 (dk_at dksX4_owed_1 0 rfl rfl)
theorem dX4_owed_26 : decode cX4_owed 26 = .ok (.iload_n 1, 1) := dk_27 (dk_at dksX4_owed_1 3 rfl rfl)
theorem dX4_owed_27 : decode cX4_owed 27 = .ok (.iaload, 1) := dk_46 (dk_at dksX4_owed_1 4 rfl rfl)
theorem dX4_owed_28 : decode cX4_owed 28 = .ok (.imul, 1) := dk_104 (dk_at dksX4_owed_1 5 rfl rfl)
theorem dX4_owed_29 : decode cX4_owed 29 = .ok (.aload_n 0, 1) := dk_42 (dk_at dksX4_owed_1 6 rfl rfl)
theorem dX4_owed_30 : decode cX4_owed 30 = .ok (.getfield 59, 3) := dk_180 0 59 (dk_at dksX4_owed_1 7 rfl rfl)
theorem dX4_owed_33 : decode cX4_owed 33 = .ok (.iload_n 1, 1) := dk_27 (dk_at dksX4_owed_1 10 rfl rfl)
theorem dX4_owed_34 : decode cX4_owed 34 = .ok (.iaload, 1) := dk_46 (dk_at dksX4_owed_1 11 rfl rfl)
theorem dX4_owed_35 : decode cX4_owed 35 = .ok (.iadd, 1) := dk_96 (dk_at dksX4_owed_1 12 rfl rfl)
theorem dX4_owed_36 : decode cX4_owed 36 = .ok (.goto 4, 3) := dk_167 0 4 (dk_at dksX4_owed_1 13 rfl rfl)
theorem dX4_owed_39 : decode cX4_owed 39 = .ok (.iconst 0, 1) := dk_3 (dk_at dksX4_owed_1 16 rfl rfl)
theorem dX4_owed_40 : decode cX4_owed 40 = .ok (.ireturn, 1) := dk_172 (dk_at dksX4_owed_1 17 rfl rfl)
abbrev cX4_send : ByteArray := prog_14_method_34_code
def yX4_send : MethodName := ⟨RX4, "send", "(III)I"⟩
def dkwX4_send_5 : List UInt8 := [180, 0, 74, 21, 4, 46, 5, 21, 4, 182, 0, 140, 54, 5, 21, 4, 172]
abbrev dktX4_send_5 : List UInt8 := dkwX4_send_5 ++ []
def dkwX4_send_4 : List UInt8 := [180, 0, 131, 79, 42, 180, 0, 74, 21, 4, 42, 180, 0, 131, 42, 180, 0, 13, 27, 46, 96, 79, 42, 42]
abbrev dktX4_send_4 : List UInt8 := dkwX4_send_4 ++ dktX4_send_5
def dkwX4_send_3 : List UInt8 := [180, 0, 65, 21, 4, 28, 79, 42, 180, 0, 68, 21, 4, 29, 79, 42, 180, 0, 71, 21, 4, 42]
abbrev dktX4_send_3 : List UInt8 := dkwX4_send_3 ++ dktX4_send_4
def dkwX4_send_2 : List UInt8 := [180, 0, 215, 54, 4, 42, 89, 180, 0, 215, 4, 96, 181, 0, 215, 42, 180, 0, 62, 21, 4, 27, 79, 42]
abbrev dktX4_send_2 : List UInt8 := dkwX4_send_2 ++ dktX4_send_3
def dkwX4_send_1 : List UInt8 := [42, 180, 0, 215, 16, 60, 162, 0, 7, 4, 167, 0, 4, 3, 182, 0, 200, 154, 0, 5, 3, 172, 42]
abbrev dktX4_send_1 : List UInt8 := dkwX4_send_1 ++ dktX4_send_2
def dkwX4_send_0 : List UInt8 := [42, 27, 184, 0, 186, 153, 0, 14, 28, 184, 0, 180, 153, 0, 7, 4, 167, 0, 4, 3, 29, 184, 0, 212]
abbrev dktX4_send_0 : List UInt8 := dkwX4_send_0 ++ dktX4_send_1
theorem dksX4_send_0 : cX4_send.data.toList.drop 0 = dktX4_send_0 := by decide +kernel
theorem dksX4_send_1 : cX4_send.data.toList.drop 24 = dktX4_send_1 := dk_seg dksX4_send_0 24 rfl rfl
theorem dksX4_send_2 : cX4_send.data.toList.drop 47 = dktX4_send_2 := dk_seg dksX4_send_1 23 rfl rfl
theorem dksX4_send_3 : cX4_send.data.toList.drop 71 = dktX4_send_3 := dk_seg dksX4_send_2 24 rfl rfl
theorem dksX4_send_4 : cX4_send.data.toList.drop 93 = dktX4_send_4 := dk_seg dksX4_send_3 22 rfl rfl
theorem dksX4_send_5 : cX4_send.data.toList.drop 117 = dktX4_send_5 := dk_seg dksX4_send_4 24 rfl rfl
theorem dX4_send_0 : decode cX4_send 0 = .ok (.aload_n 0, 1) := dk_42 (dk_at dksX4_send_0 0 rfl rfl)
theorem dX4_send_1 : decode cX4_send 1 = .ok (.iload_n 1, 1) := dk_27 (dk_at dksX4_send_0 1 rfl rfl)
theorem dX4_send_2 : decode cX4_send 2 = .ok (.invokestatic 186, 3) := dk_184 0 186 (dk_at dksX4_send_0 2 rfl rfl)
theorem dX4_send_5 : decode cX4_send 5 = .ok (.ifCond .eq 14, 3) := dk_153 0 14 (dk_at dksX4_send_0 5 rfl rfl)
theorem dX4_send_8 : decode cX4_send 8 = .ok (.iload_n 2, 1) := dk_28 (dk_at dksX4_send_0 8 rfl rfl)
theorem dX4_send_9 : decode cX4_send 9 = .ok (.invokestatic 180, 3) := dk_184 0 180 (dk_at dksX4_send_0 9 rfl rfl)
theorem dX4_send_12 : decode cX4_send 12 = .ok (.ifCond .eq 7, 3) := dk_153 0 7 (dk_at dksX4_send_0 12 rfl rfl)
theorem dX4_send_15 : decode cX4_send 15 = .ok (.iconst 1, 1) := dk_4 (dk_at dksX4_send_0 15 rfl rfl)
theorem dX4_send_16 : decode cX4_send 16 = .ok (.goto 4, 3) := dk_167 0 4 (dk_at dksX4_send_0 16 rfl rfl)
theorem dX4_send_19 : decode cX4_send 19 = .ok (.iconst 0, 1) := dk_3 (dk_at dksX4_send_0 19 rfl rfl)
theorem dX4_send_20 : decode cX4_send 20 = .ok (.iload_n 3, 1) := dk_29 (dk_at dksX4_send_0 20 rfl rfl)
theorem dX4_send_21 : decode cX4_send 21 = .ok (.invokestatic 212, 3) := dk_184 0 212 (dk_at dksX4_send_0 21 rfl rfl)
theorem dX4_send_24 : decode cX4_send 24 = .ok (.aload_n 0, 1) := dk_42 (dk_at dksX4_send_1 0 rfl rfl)
theorem dX4_send_25 : decode cX4_send 25 = .ok (.getfield 215, 3) := dk_180 0 215 (dk_at dksX4_send_1 1 rfl rfl)
theorem dX4_send_28 : decode cX4_send 28 = .ok (.bipush 60, 2) := dk_16 60 (dk_at dksX4_send_1 4 rfl rfl)
theorem dX4_send_30 : decode cX4_send 30 = .ok (.if_icmp .ge 7, 3) := dk_162 0 7 (dk_at dksX4_send_1 6 rfl rfl)
theorem dX4_send_33 : decode cX4_send 33 = .ok (.iconst 1, 1) := dk_4 (dk_at dksX4_send_1 9 rfl rfl)
theorem dX4_send_34 : decode cX4_send 34 = .ok (.goto 4, 3) := dk_167 0 4 (dk_at dksX4_send_1 10 rfl rfl)
theorem dX4_send_37 : decode cX4_send 37 = .ok (.iconst 0, 1) := dk_3 (dk_at dksX4_send_1 13 rfl rfl)
theorem dX4_send_38 : decode cX4_send 38 = .ok (.invokevirtual 200, 3) := dk_182 0 200 (dk_at dksX4_send_1 14 rfl rfl)
theorem dX4_send_41 : decode cX4_send 41 = .ok (.ifCond .ne 5, 3) := dk_154 0 5 (dk_at dksX4_send_1 17 rfl rfl)
theorem dX4_send_44 : decode cX4_send 44 = .ok (.iconst 0, 1) := dk_3 (dk_at dksX4_send_1 20 rfl rfl)
theorem dX4_send_45 : decode cX4_send 45 = .ok (.ireturn, 1) := dk_172 (dk_at dksX4_send_1 21 rfl rfl)
theorem dX4_send_46 : decode cX4_send 46 = .ok (.aload_n 0, 1) := dk_42 (dk_at dksX4_send_1 22 rfl rfl)
theorem dX4_send_47 : decode cX4_send 47 = .ok (.getfield 215, 3) := dk_180 0 215 (dk_at dksX4_send_2 0 rfl rfl)
theorem dX4_send_50 : decode cX4_send 50 = .ok (.istore 4, 2) := dk_54 4 (dk_at dksX4_send_2 3 rfl rfl)
theorem dX4_send_52 : decode cX4_send 52 = .ok (.aload_n 0, 1) := dk_42 (dk_at dksX4_send_2 5 rfl rfl)
theorem dX4_send_53 : decode cX4_send 53 = .ok (.dup, 1) := dk_89 (dk_at dksX4_send_2 6 rfl rfl)
theorem dX4_send_54 : decode cX4_send 54 = .ok (.getfield 215, 3) := dk_180 0 215 (dk_at dksX4_send_2 7 rfl rfl)
theorem dX4_send_57 : decode cX4_send 57 = .ok (.iconst 1, 1) := dk_4 (dk_at dksX4_send_2 10 rfl rfl)
theorem dX4_send_58 : decode cX4_send 58 = .ok (.iadd, 1) := dk_96 (dk_at dksX4_send_2 11 rfl rfl)
theorem dX4_send_59 : decode cX4_send 59 = .ok (.putfield 215, 3) := dk_181 0 215 (dk_at dksX4_send_2 12 rfl rfl)
theorem dX4_send_62 : decode cX4_send 62 = .ok (.aload_n 0, 1) := dk_42 (dk_at dksX4_send_2 15 rfl rfl)
theorem dX4_send_63 : decode cX4_send 63 = .ok (.getfield 62, 3) := dk_180 0 62 (dk_at dksX4_send_2 16 rfl rfl)
theorem dX4_send_66 : decode cX4_send 66 = .ok (.iload 4, 2) := dk_21 4 (dk_at dksX4_send_2 19 rfl rfl)
theorem dX4_send_68 : decode cX4_send 68 = .ok (.iload_n 1, 1) := dk_27 (dk_at dksX4_send_2 21 rfl rfl)
theorem dX4_send_69 : decode cX4_send 69 = .ok (.iastore, 1) := dk_79 (dk_at dksX4_send_2 22 rfl rfl)
theorem dX4_send_70 : decode cX4_send 70 = .ok (.aload_n 0, 1) := dk_42 (dk_at dksX4_send_2 23 rfl rfl)
theorem dX4_send_71 : decode cX4_send 71 = .ok (.getfield 65, 3) := dk_180 0 65 (dk_at dksX4_send_3 0 rfl rfl)
theorem dX4_send_74 : decode cX4_send 74 = .ok (.iload 4, 2) := dk_21 4 (dk_at dksX4_send_3 3 rfl rfl)
theorem dX4_send_76 : decode cX4_send 76 = .ok (.iload_n 2, 1) := dk_28 (dk_at dksX4_send_3 5 rfl rfl)
theorem dX4_send_77 : decode cX4_send 77 = .ok (.iastore, 1) := dk_79 (dk_at dksX4_send_3 6 rfl rfl)
theorem dX4_send_78 : decode cX4_send 78 = .ok (.aload_n 0, 1) := dk_42 (dk_at dksX4_send_3 7 rfl rfl)
theorem dX4_send_79 : decode cX4_send 79 = .ok (.getfield 68, 3) := dk_180 0 68 (dk_at dksX4_send_3 8 rfl rfl)
theorem dX4_send_82 : decode cX4_send 82 = .ok (.iload 4, 2) := dk_21 4 (dk_at dksX4_send_3 11 rfl rfl)
theorem dX4_send_84 : decode cX4_send 84 = .ok (.iload_n 3, 1) := dk_29 (dk_at dksX4_send_3 13 rfl rfl)
theorem dX4_send_85 : decode cX4_send 85 = .ok (.iastore, 1) := dk_79 (dk_at dksX4_send_3 14 rfl rfl)
theorem dX4_send_86 : decode cX4_send 86 = .ok (.aload_n 0, 1) := dk_42 (dk_at dksX4_send_3 15 rfl rfl)
theorem dX4_send_87 : decode cX4_send 87 = .ok (.getfield 71, 3) := dk_180 0 71 (dk_at dksX4_send_3 16 rfl rfl)
theorem dX4_send_90 : decode cX4_send 90 = .ok (.iload 4, 2) := dk_21 4 (dk_at dksX4_send_3 19 rfl rfl)
theorem dX4_send_92 : decode cX4_send 92 = .ok (.aload_n 0, 1) := dk_42 (dk_at dksX4_send_3 21 rfl rfl)
theorem dX4_send_93 : decode cX4_send 93 = .ok (.getfield 131, 3) := dk_180 0 131 (dk_at dksX4_send_4 0 rfl rfl)
theorem dX4_send_96 : decode cX4_send 96 = .ok (.iastore, 1) := dk_79 (dk_at dksX4_send_4 3 rfl rfl)
theorem dX4_send_97 : decode cX4_send 97 = .ok (.aload_n 0, 1) := dk_42 (dk_at dksX4_send_4 4 rfl rfl)
theorem dX4_send_98 : decode cX4_send 98 = .ok (.getfield 74, 3) := dk_180 0 74 (dk_at dksX4_send_4 5 rfl rfl)
theorem dX4_send_101 : decode cX4_send 101 = .ok (.iload 4, 2) := dk_21 4 (dk_at dksX4_send_4 8 rfl rfl)
theorem dX4_send_103 : decode cX4_send 103 = .ok (.aload_n 0, 1) := dk_42 (dk_at dksX4_send_4 10 rfl rfl)
theorem dX4_send_104 : decode cX4_send 104 = .ok (.getfield 131, 3) := dk_180 0 131 (dk_at dksX4_send_4 11 rfl rfl)
theorem dX4_send_107 : decode cX4_send 107 = .ok (.aload_n 0, 1) := dk_42 (dk_at dksX4_send_4 14 rfl rfl)
theorem dX4_send_108 : decode cX4_send 108 = .ok (.getfield 13, 3) := dk_180 0 13 (dk_at dksX4_send_4 15 rfl rfl)
theorem dX4_send_111 : decode cX4_send 111 = .ok (.iload_n 1, 1) := dk_27 (dk_at dksX4_send_4 18 rfl rfl)
theorem dX4_send_112 : decode cX4_send 112 = .ok (.iaload, 1) := dk_46 (dk_at dksX4_send_4 19 rfl rfl)
theorem dX4_send_113 : decode cX4_send 113 = .ok (.iadd, 1) := dk_96 (dk_at dksX4_send_4 20 rfl rfl)
theorem dX4_send_114 : decode cX4_send 114 = .ok (.iastore, 1) := dk_79 (dk_at dksX4_send_4 21 rfl rfl)
theorem dX4_send_115 : decode cX4_send 115 = .ok (.aload_n 0, 1) := dk_42 (dk_at dksX4_send_4 22 rfl rfl)
theorem dX4_send_116 : decode cX4_send 116 = .ok (.aload_n 0, 1) := dk_42 (dk_at dksX4_send_4 23 rfl rfl)
theorem dX4_send_117 : decode cX4_send 117 = .ok (.getfield 74, 3) := dk_180 0 74 (dk_at dksX4_send_5 0 rfl rfl)
theorem dX4_send_120 : decode cX4_send 120 = .ok (.iload 4, 2) := dk_21 4 (dk_at dksX4_send_5 3 rfl rfl)
theorem dX4_send_122 : decode cX4_send 122 = .ok (.iaload, 1) := dk_46 (dk_at dksX4_send_5 5 rfl rfl)
theorem dX4_send_123 : decode cX4_send 123 = .ok (.iconst 2, 1) := dk_5 (dk_at dksX4_send_5 6 rfl rfl)
theorem dX4_send_124 : decode cX4_send 124 = .ok (.iload 4, 2) := dk_21 4 (dk_at dksX4_send_5 7 rfl rfl)
theorem dX4_send_126 : decode cX4_send 126 = .ok (.invokevirtual 140, 3) := dk_182 0 140 (dk_at dksX4_send_5 9 rfl rfl)
theorem dX4_send_129 : decode cX4_send 129 = .ok (.istore 5, 2) := dk_54 5 (dk_at dksX4_send_5 12 rfl rfl)
theorem dX4_send_131 : decode cX4_send 131 = .ok (.iload 4, 2) := dk_21 4 (dk_at dksX4_send_5 14 rfl rfl)
theorem dX4_send_133 : decode cX4_send 133 = .ok (.ireturn, 1) := dk_172 (dk_at dksX4_send_5 16 rfl rfl)
abbrev cX4_isWord : ByteArray := prog_14_method_9_code
def yX4_isWord : MethodName := ⟨RX4, "isWord", "(I)Z"⟩
def dkwX4_isWord_0 : List UInt8 := [26, 133, 9, 20, 0, 116, 184, 0, 112, 172]
abbrev dktX4_isWord_0 : List UInt8 := dkwX4_isWord_0 ++ []
theorem dksX4_isWord_0 : cX4_isWord.data.toList.drop 0 = dktX4_isWord_0 := by decide +kernel
theorem dX4_isWord_0 : decode cX4_isWord 0 = .ok (.iload_n 0, 1) := dk_26 (dk_at dksX4_isWord_0 0 rfl rfl)
theorem dX4_isWord_1 : decode cX4_isWord 1 = .ok (.i2l, 1) := dk_133 (dk_at dksX4_isWord_0 1 rfl rfl)
theorem dX4_isWord_2 : decode cX4_isWord 2 = .ok (.lconst 0, 1) := dk_9 (dk_at dksX4_isWord_0 2 rfl rfl)
theorem dX4_isWord_3 : decode cX4_isWord 3 = .ok (.ldc2_w 116, 3) := dk_20 0 116 (dk_at dksX4_isWord_0 3 rfl rfl)
theorem dX4_isWord_6 : decode cX4_isWord 6 = .ok (.invokestatic 112, 3) := dk_184 0 112 (dk_at dksX4_isWord_0 6 rfl rfl)
theorem dX4_isWord_9 : decode cX4_isWord 9 = .ok (.ireturn, 1) := dk_172 (dk_at dksX4_isWord_0 9 rfl rfl)
abbrev cX4_message : ByteArray := prog_14_method_36_code
def yX4_message : MethodName := ⟨RX4, "message", "(II)I"⟩
def dkwX4_message_4 : List UInt8 := [167, 0, 4, 3, 172, 42, 180, 0, 81, 27, 51, 153, 0, 7, 4, 167, 0, 4, 3, 172]
abbrev dktX4_message_4 : List UInt8 := dkwX4_message_4 ++ []
def dkwX4_message_3 : List UInt8 := [180, 0, 71, 27, 46, 172, 42, 180, 0, 74, 27, 46, 172, 42, 180, 0, 77, 27, 51, 153, 0, 7, 4]
abbrev dktX4_message_3 : List UInt8 := dkwX4_message_3 ++ dktX4_message_4
def dkwX4_message_2 : List UInt8 := [42, 180, 0, 62, 27, 46, 172, 42, 180, 0, 65, 27, 46, 172, 42, 180, 0, 68, 27, 46, 172, 42]
abbrev dktX4_message_2 : List UInt8 := dkwX4_message_2 ++ dktX4_message_3
def dkwX4_message_1 : List UInt8 := [170, 0, 0, 0, 0, 0, 0, 90, 0, 0, 0, 0, 0, 0, 0, 5, 0, 0, 0, 40, 0, 0, 0, 47, 0, 0, 0, 54, 0, 0, 0, 61, 0, 0, 0, 68, 0, 0, 0, 75]
abbrev dktX4_message_1 : List UInt8 := dkwX4_message_1 ++ dktX4_message_2
def dkwX4_message_0 : List UInt8 := [42, 42, 27, 182, 0, 218, 28, 133, 9, 20, 0, 221, 184, 0, 112, 182, 0, 173, 154, 0, 5, 3, 172, 28]
abbrev dktX4_message_0 : List UInt8 := dkwX4_message_0 ++ dktX4_message_1
theorem dksX4_message_0 : cX4_message.data.toList.drop 0 = dktX4_message_0 := by decide +kernel
theorem dksX4_message_1 : cX4_message.data.toList.drop 24 = dktX4_message_1 := dk_seg dksX4_message_0 24 rfl rfl
theorem dksX4_message_2 : cX4_message.data.toList.drop 64 = dktX4_message_2 := dk_seg dksX4_message_1 40 rfl rfl
theorem dksX4_message_3 : cX4_message.data.toList.drop 86 = dktX4_message_3 := dk_seg dksX4_message_2 22 rfl rfl
theorem dksX4_message_4 : cX4_message.data.toList.drop 109 = dktX4_message_4 := dk_seg dksX4_message_3 23 rfl rfl
theorem dX4_message_0 : decode cX4_message 0 = .ok (.aload_n 0, 1) := dk_42 (dk_at dksX4_message_0 0 rfl rfl)
theorem dX4_message_1 : decode cX4_message 1 = .ok (.aload_n 0, 1) := dk_42 (dk_at dksX4_message_0 1 rfl rfl)
theorem dX4_message_2 : decode cX4_message 2 = .ok (.iload_n 1, 1) := dk_27 (dk_at dksX4_message_0 2 rfl rfl)
theorem dX4_message_3 : decode cX4_message 3 = .ok (.invokevirtual 218, 3) := dk_182 0 218 (dk_at dksX4_message_0 3 rfl rfl)
theorem dX4_message_6 : decode cX4_message 6 = .ok (.iload_n 2, 1) := dk_28 (dk_at dksX4_message_0 6 rfl rfl)
theorem dX4_message_7 : decode cX4_message 7 = .ok (.i2l, 1) := dk_133 (dk_at dksX4_message_0 7 rfl rfl)
theorem dX4_message_8 : decode cX4_message 8 = .ok (.lconst 0, 1) := dk_9 (dk_at dksX4_message_0 8 rfl rfl)
theorem dX4_message_9 : decode cX4_message 9 = .ok (.ldc2_w 221, 3) := dk_20 0 221 (dk_at dksX4_message_0 9 rfl rfl)
theorem dX4_message_12 : decode cX4_message 12 = .ok (.invokestatic 112, 3) := dk_184 0 112 (dk_at dksX4_message_0 12 rfl rfl)
theorem dX4_message_15 : decode cX4_message 15 = .ok (.invokevirtual 173, 3) := dk_182 0 173 (dk_at dksX4_message_0 15 rfl rfl)
theorem dX4_message_18 : decode cX4_message 18 = .ok (.ifCond .ne 5, 3) := dk_154 0 5 (dk_at dksX4_message_0 18 rfl rfl)
theorem dX4_message_21 : decode cX4_message 21 = .ok (.iconst 0, 1) := dk_3 (dk_at dksX4_message_0 21 rfl rfl)
theorem dX4_message_22 : decode cX4_message 22 = .ok (.ireturn, 1) := dk_172 (dk_at dksX4_message_0 22 rfl rfl)
theorem dX4_message_23 : decode cX4_message 23 = .ok (.iload_n 2, 1) := dk_28 (dk_at dksX4_message_0 23 rfl rfl)
theorem dX4_message_24 : decode cX4_message 24 = .ok (.tableswitch 90 0 5 #[40, 47, 54, 61, 68, 75], 40) := by decide +kernel
theorem dX4_message_64 : decode cX4_message 64 = .ok (.aload_n 0, 1) := dk_42 (dk_at dksX4_message_2 0 rfl rfl)
theorem dX4_message_65 : decode cX4_message 65 = .ok (.getfield 62, 3) := dk_180 0 62 (dk_at dksX4_message_2 1 rfl rfl)
theorem dX4_message_68 : decode cX4_message 68 = .ok (.iload_n 1, 1) := dk_27 (dk_at dksX4_message_2 4 rfl rfl)
theorem dX4_message_69 : decode cX4_message 69 = .ok (.iaload, 1) := dk_46 (dk_at dksX4_message_2 5 rfl rfl)
theorem dX4_message_70 : decode cX4_message 70 = .ok (.ireturn, 1) := dk_172 (dk_at dksX4_message_2 6 rfl rfl)
theorem dX4_message_71 : decode cX4_message 71 = .ok (.aload_n 0, 1) := dk_42 (dk_at dksX4_message_2 7 rfl rfl)
theorem dX4_message_72 : decode cX4_message 72 = .ok (.getfield 65, 3) := dk_180 0 65 (dk_at dksX4_message_2 8 rfl rfl)
theorem dX4_message_75 : decode cX4_message 75 = .ok (.iload_n 1, 1) := dk_27 (dk_at dksX4_message_2 11 rfl rfl)
theorem dX4_message_76 : decode cX4_message 76 = .ok (.iaload, 1) := dk_46 (dk_at dksX4_message_2 12 rfl rfl)
theorem dX4_message_77 : decode cX4_message 77 = .ok (.ireturn, 1) := dk_172 (dk_at dksX4_message_2 13 rfl rfl)
theorem dX4_message_78 : decode cX4_message 78 = .ok (.aload_n 0, 1) := dk_42 (dk_at dksX4_message_2 14 rfl rfl)
theorem dX4_message_79 : decode cX4_message 79 = .ok (.getfield 68, 3) := dk_180 0 68 (dk_at dksX4_message_2 15 rfl rfl)
theorem dX4_message_82 : decode cX4_message 82 = .ok (.iload_n 1, 1) := dk_27 (dk_at dksX4_message_2 18 rfl rfl)
theorem dX4_message_83 : decode cX4_message 83 = .ok (.iaload, 1) := dk_46 (dk_at dksX4_message_2 19 rfl rfl)
theorem dX4_message_84 : decode cX4_message 84 = .ok (.ireturn, 1) := dk_172 (dk_at dksX4_message_2 20 rfl rfl)
theorem dX4_message_85 : decode cX4_message 85 = .ok (.aload_n 0, 1) := dk_42 (dk_at dksX4_message_2 21 rfl rfl)
theorem dX4_message_86 : decode cX4_message 86 = .ok (.getfield 71, 3) := dk_180 0 71 (dk_at dksX4_message_3 0 rfl rfl)
theorem dX4_message_89 : decode cX4_message 89 = .ok (.iload_n 1, 1) := dk_27 (dk_at dksX4_message_3 3 rfl rfl)
theorem dX4_message_90 : decode cX4_message 90 = .ok (.iaload, 1) := dk_46 (dk_at dksX4_message_3 4 rfl rfl)
theorem dX4_message_91 : decode cX4_message 91 = .ok (.ireturn, 1) := dk_172 (dk_at dksX4_message_3 5 rfl rfl)
theorem dX4_message_92 : decode cX4_message 92 = .ok (.aload_n 0, 1) := dk_42 (dk_at dksX4_message_3 6 rfl rfl)
theorem dX4_message_93 : decode cX4_message 93 = .ok (.getfield 74, 3) := dk_180 0 74 (dk_at dksX4_message_3 7 rfl rfl)
theorem dX4_message_96 : decode cX4_message 96 = .ok (.iload_n 1, 1) := dk_27 (dk_at dksX4_message_3 10 rfl rfl)
theorem dX4_message_97 : decode cX4_message 97 = .ok (.iaload, 1) := dk_46 (dk_at dksX4_message_3 11 rfl rfl)
theorem dX4_message_98 : decode cX4_message 98 = .ok (.ireturn, 1) := dk_172 (dk_at dksX4_message_3 12 rfl rfl)
theorem dX4_message_99 : decode cX4_message 99 = .ok (.aload_n 0, 1) := dk_42 (dk_at dksX4_message_3 13 rfl rfl)
theorem dX4_message_100 : decode cX4_message 100 = .ok (.getfield 77, 3) := dk_180 0 77 (dk_at dksX4_message_3 14 rfl rfl)
theorem dX4_message_103 : decode cX4_message 103 = .ok (.iload_n 1, 1) := dk_27 (dk_at dksX4_message_3 17 rfl rfl)
theorem dX4_message_104 : decode cX4_message 104 = .ok (.baload, 1) := dk_51 (dk_at dksX4_message_3 18 rfl rfl)
theorem dX4_message_105 : decode cX4_message 105 = .ok (.ifCond .eq 7, 3) := dk_153 0 7 (dk_at dksX4_message_3 19 rfl rfl)
theorem dX4_message_108 : decode cX4_message 108 = .ok (.iconst 1, 1) := dk_4 (dk_at dksX4_message_3 22 rfl rfl)
theorem dX4_message_109 : decode cX4_message 109 = .ok (.goto 4, 3) := dk_167 0 4 (dk_at dksX4_message_4 0 rfl rfl)
theorem dX4_message_112 : decode cX4_message 112 = .ok (.iconst 0, 1) := dk_3 (dk_at dksX4_message_4 3 rfl rfl)
theorem dX4_message_113 : decode cX4_message 113 = .ok (.ireturn, 1) := dk_172 (dk_at dksX4_message_4 4 rfl rfl)
theorem dX4_message_114 : decode cX4_message 114 = .ok (.aload_n 0, 1) := dk_42 (dk_at dksX4_message_4 5 rfl rfl)
theorem dX4_message_115 : decode cX4_message 115 = .ok (.getfield 81, 3) := dk_180 0 81 (dk_at dksX4_message_4 6 rfl rfl)
theorem dX4_message_118 : decode cX4_message 118 = .ok (.iload_n 1, 1) := dk_27 (dk_at dksX4_message_4 9 rfl rfl)
theorem dX4_message_119 : decode cX4_message 119 = .ok (.baload, 1) := dk_51 (dk_at dksX4_message_4 10 rfl rfl)
theorem dX4_message_120 : decode cX4_message 120 = .ok (.ifCond .eq 7, 3) := dk_153 0 7 (dk_at dksX4_message_4 11 rfl rfl)
theorem dX4_message_123 : decode cX4_message 123 = .ok (.iconst 1, 1) := dk_4 (dk_at dksX4_message_4 14 rfl rfl)
theorem dX4_message_124 : decode cX4_message 124 = .ok (.goto 4, 3) := dk_167 0 4 (dk_at dksX4_message_4 15 rfl rfl)
theorem dX4_message_127 : decode cX4_message 127 = .ok (.iconst 0, 1) := dk_3 (dk_at dksX4_message_4 18 rfl rfl)
theorem dX4_message_128 : decode cX4_message 128 = .ok (.ireturn, 1) := dk_172 (dk_at dksX4_message_4 19 rfl rfl)
abbrev cX4_isMessage : ByteArray := prog_14_method_35_code
def yX4_isMessage : MethodName := ⟨RX4, "isMessage", "(I)Z"⟩
def dkwX4_isMessage_0 : List UInt8 := [27, 133, 9, 42, 180, 0, 215, 4, 100, 133, 184, 0, 112, 172]
abbrev dktX4_isMessage_0 : List UInt8 := dkwX4_isMessage_0 ++ []
theorem dksX4_isMessage_0 : cX4_isMessage.data.toList.drop 0 = dktX4_isMessage_0 := by decide +kernel
theorem dX4_isMessage_0 : decode cX4_isMessage 0 = .ok (.iload_n 1, 1) := dk_27 (dk_at dksX4_isMessage_0 0 rfl rfl)
theorem dX4_isMessage_1 : decode cX4_isMessage 1 = .ok (.i2l, 1) := dk_133 (dk_at dksX4_isMessage_0 1 rfl rfl)
theorem dX4_isMessage_2 : decode cX4_isMessage 2 = .ok (.lconst 0, 1) := dk_9 (dk_at dksX4_isMessage_0 2 rfl rfl)
theorem dX4_isMessage_3 : decode cX4_isMessage 3 = .ok (.aload_n 0, 1) := dk_42 (dk_at dksX4_isMessage_0 3 rfl rfl)
theorem dX4_isMessage_4 : decode cX4_isMessage 4 = .ok (.getfield 215, 3) := dk_180 0 215 (dk_at dksX4_isMessage_0 4 rfl rfl)
theorem dX4_isMessage_7 : decode cX4_isMessage 7 = .ok (.iconst 1, 1) := dk_4 (dk_at dksX4_isMessage_0 7 rfl rfl)
theorem dX4_isMessage_8 : decode cX4_isMessage 8 = .ok (.isub, 1) := dk_100 (dk_at dksX4_isMessage_0 8 rfl rfl)
theorem dX4_isMessage_9 : decode cX4_isMessage 9 = .ok (.i2l, 1) := dk_133 (dk_at dksX4_isMessage_0 9 rfl rfl)
theorem dX4_isMessage_10 : decode cX4_isMessage 10 = .ok (.invokestatic 112, 3) := dk_184 0 112 (dk_at dksX4_isMessage_0 10 rfl rfl)
theorem dX4_isMessage_13 : decode cX4_isMessage 13 = .ok (.ireturn, 1) := dk_172 (dk_at dksX4_isMessage_0 13 rfl rfl)
abbrev cX4_sign : ByteArray := prog_14_method_39_code
def yX4_sign : MethodName := ⟨RX4, "sign", "(II)I"⟩
def dkwX4_sign_3 : List UInt8 := [29, 167, 0, 9, 42, 27, 28, 182, 0, 228, 172]
abbrev dktX4_sign_3 : List UInt8 := dkwX4_sign_3 ++ []
def dkwX4_sign_2 : List UInt8 := [184, 0, 112, 153, 0, 7, 4, 167, 0, 4, 3, 182, 0, 191, 154, 0, 5, 3, 172, 28, 2, 160, 0, 7]
abbrev dktX4_sign_2 : List UInt8 := dkwX4_sign_2 ++ dktX4_sign_3
def dkwX4_sign_1 : List UInt8 := [96, 167, 0, 4, 3, 62, 42, 42, 27, 182, 0, 218, 153, 0, 22, 28, 133, 20, 0, 226, 29, 4, 100, 133]
abbrev dktX4_sign_1 : List UInt8 := dkwX4_sign_1 ++ dktX4_sign_2
def dkwX4_sign_0 : List UInt8 := [42, 27, 182, 0, 218, 153, 0, 23, 42, 180, 0, 77, 27, 51, 153, 0, 14, 16, 10, 42, 27, 182, 0, 223]
abbrev dktX4_sign_0 : List UInt8 := dkwX4_sign_0 ++ dktX4_sign_1
theorem dksX4_sign_0 : cX4_sign.data.toList.drop 0 = dktX4_sign_0 := by decide +kernel
theorem dksX4_sign_1 : cX4_sign.data.toList.drop 24 = dktX4_sign_1 := dk_seg dksX4_sign_0 24 rfl rfl
theorem dksX4_sign_2 : cX4_sign.data.toList.drop 48 = dktX4_sign_2 := dk_seg dksX4_sign_1 24 rfl rfl
theorem dksX4_sign_3 : cX4_sign.data.toList.drop 72 = dktX4_sign_3 := dk_seg dksX4_sign_2 24 rfl rfl
theorem dX4_sign_0 : decode cX4_sign 0 = .ok (.aload_n 0, 1) := dk_42 (dk_at dksX4_sign_0 0 rfl rfl)
theorem dX4_sign_1 : decode cX4_sign 1 = .ok (.iload_n 1, 1) := dk_27 (dk_at dksX4_sign_0 1 rfl rfl)
theorem dX4_sign_2 : decode cX4_sign 2 = .ok (.invokevirtual 218, 3) := dk_182 0 218 (dk_at dksX4_sign_0 2 rfl rfl)
theorem dX4_sign_5 : decode cX4_sign 5 = .ok (.ifCond .eq 23, 3) := dk_153 0 23 (dk_at dksX4_sign_0 5 rfl rfl)
theorem dX4_sign_8 : decode cX4_sign 8 = .ok (.aload_n 0, 1) := dk_42 (dk_at dksX4_sign_0 8 rfl rfl)
theorem dX4_sign_9 : decode cX4_sign 9 = .ok (.getfield 77, 3) := dk_180 0 77 (dk_at dksX4_sign_0 9 rfl rfl)
theorem dX4_sign_12 : decode cX4_sign 12 = .ok (.iload_n 1, 1) := dk_27 (dk_at dksX4_sign_0 12 rfl rfl)
theorem dX4_sign_13 : decode cX4_sign 13 = .ok (.baload, 1) := dk_51 (dk_at dksX4_sign_0 13 rfl rfl)
theorem dX4_sign_14 : decode cX4_sign 14 = .ok (.ifCond .eq 14, 3) := dk_153 0 14 (dk_at dksX4_sign_0 14 rfl rfl)
theorem dX4_sign_17 : decode cX4_sign 17 = .ok (.bipush 10, 2) := dk_16 10 (dk_at dksX4_sign_0 17 rfl rfl)
theorem dX4_sign_19 : decode cX4_sign 19 = .ok (.aload_n 0, 1) := dk_42 (dk_at dksX4_sign_0 19 rfl rfl)
theorem dX4_sign_20 : decode cX4_sign 20 = .ok (.iload_n 1, 1) := dk_27 (dk_at dksX4_sign_0 20 rfl rfl)
theorem dX4_sign_21 : decode cX4_sign 21 = .ok (.invokevirtual 223, 3) := dk_182 0 223 (dk_at dksX4_sign_0 21 rfl rfl)
theorem dX4_sign_24 : decode cX4_sign 24 = .ok (.iadd, 1) := dk_96 (dk_at dksX4_sign_1 0 rfl rfl)
theorem dX4_sign_25 : decode cX4_sign 25 = .ok (.goto 4, 3) := dk_167 0 4 (dk_at dksX4_sign_1 1 rfl rfl)
theorem dX4_sign_28 : decode cX4_sign 28 = .ok (.iconst 0, 1) := dk_3 (dk_at dksX4_sign_1 4 rfl rfl)
theorem dX4_sign_29 : decode cX4_sign 29 = .ok (.istore_n 3, 1) := dk_62 (dk_at dksX4_sign_1 5 rfl rfl)
theorem dX4_sign_30 : decode cX4_sign 30 = .ok (.aload_n 0, 1) := dk_42 (dk_at dksX4_sign_1 6 rfl rfl)
theorem dX4_sign_31 : decode cX4_sign 31 = .ok (.aload_n 0, 1) := dk_42 (dk_at dksX4_sign_1 7 rfl rfl)
theorem dX4_sign_32 : decode cX4_sign 32 = .ok (.iload_n 1, 1) := dk_27 (dk_at dksX4_sign_1 8 rfl rfl)
theorem dX4_sign_33 : decode cX4_sign 33 = .ok (.invokevirtual 218, 3) := dk_182 0 218 (dk_at dksX4_sign_1 9 rfl rfl)
theorem dX4_sign_36 : decode cX4_sign 36 = .ok (.ifCond .eq 22, 3) := dk_153 0 22 (dk_at dksX4_sign_1 12 rfl rfl)
theorem dX4_sign_39 : decode cX4_sign 39 = .ok (.iload_n 2, 1) := dk_28 (dk_at dksX4_sign_1 15 rfl rfl)
theorem dX4_sign_40 : decode cX4_sign 40 = .ok (.i2l, 1) := dk_133 (dk_at dksX4_sign_1 16 rfl rfl)
theorem dX4_sign_41 : decode cX4_sign 41 = .ok (.ldc2_w 226, 3) := dk_20 0 226 (dk_at dksX4_sign_1 17 rfl rfl)
theorem dX4_sign_44 : decode cX4_sign 44 = .ok (.iload_n 3, 1) := dk_29 (dk_at dksX4_sign_1 20 rfl rfl)
theorem dX4_sign_45 : decode cX4_sign 45 = .ok (.iconst 1, 1) := dk_4 (dk_at dksX4_sign_1 21 rfl rfl)
theorem dX4_sign_46 : decode cX4_sign 46 = .ok (.isub, 1) := dk_100 (dk_at dksX4_sign_1 22 rfl rfl)
theorem dX4_sign_47 : decode cX4_sign 47 = .ok (.i2l, 1) := dk_133 (dk_at dksX4_sign_1 23 rfl rfl)
theorem dX4_sign_48 : decode cX4_sign 48 = .ok (.invokestatic 112, 3) := dk_184 0 112 (dk_at dksX4_sign_2 0 rfl rfl)
theorem dX4_sign_51 : decode cX4_sign 51 = .ok (.ifCond .eq 7, 3) := dk_153 0 7 (dk_at dksX4_sign_2 3 rfl rfl)
theorem dX4_sign_54 : decode cX4_sign 54 = .ok (.iconst 1, 1) := dk_4 (dk_at dksX4_sign_2 6 rfl rfl)
theorem dX4_sign_55 : decode cX4_sign 55 = .ok (.goto 4, 3) := dk_167 0 4 (dk_at dksX4_sign_2 7 rfl rfl)
theorem dX4_sign_58 : decode cX4_sign 58 = .ok (.iconst 0, 1) := dk_3 (dk_at dksX4_sign_2 10 rfl rfl)
theorem dX4_sign_59 : decode cX4_sign 59 = .ok (.invokevirtual 191, 3) := dk_182 0 191 (dk_at dksX4_sign_2 11 rfl rfl)
theorem dX4_sign_62 : decode cX4_sign 62 = .ok (.ifCond .ne 5, 3) := dk_154 0 5 (dk_at dksX4_sign_2 14 rfl rfl)
theorem dX4_sign_65 : decode cX4_sign 65 = .ok (.iconst 0, 1) := dk_3 (dk_at dksX4_sign_2 17 rfl rfl)
theorem dX4_sign_66 : decode cX4_sign 66 = .ok (.ireturn, 1) := dk_172 (dk_at dksX4_sign_2 18 rfl rfl)
theorem dX4_sign_67 : decode cX4_sign 67 = .ok (.iload_n 2, 1) := dk_28 (dk_at dksX4_sign_2 19 rfl rfl)
theorem dX4_sign_68 : decode cX4_sign 68 = .ok (.iconst (-1), 1) := dk_2 (dk_at dksX4_sign_2 20 rfl rfl)
theorem dX4_sign_69 : decode cX4_sign 69 = .ok (.if_icmp .ne 7, 3) := dk_160 0 7 (dk_at dksX4_sign_2 21 rfl rfl)
theorem dX4_sign_72 : decode cX4_sign 72 = .ok (.iload_n 3, 1) := dk_29 (dk_at dksX4_sign_3 0 rfl rfl)
theorem dX4_sign_73 : decode cX4_sign 73 = .ok (.goto 9, 3) := dk_167 0 9 (dk_at dksX4_sign_3 1 rfl rfl)
theorem dX4_sign_76 : decode cX4_sign 76 = .ok (.aload_n 0, 1) := dk_42 (dk_at dksX4_sign_3 4 rfl rfl)
theorem dX4_sign_77 : decode cX4_sign 77 = .ok (.iload_n 1, 1) := dk_27 (dk_at dksX4_sign_3 5 rfl rfl)
theorem dX4_sign_78 : decode cX4_sign 78 = .ok (.iload_n 2, 1) := dk_28 (dk_at dksX4_sign_3 6 rfl rfl)
theorem dX4_sign_79 : decode cX4_sign 79 = .ok (.invokevirtual 228, 3) := dk_182 0 228 (dk_at dksX4_sign_3 7 rfl rfl)
theorem dX4_sign_82 : decode cX4_sign 82 = .ok (.ireturn, 1) := dk_172 (dk_at dksX4_sign_3 10 rfl rfl)
abbrev cX4_digits : ByteArray := prog_14_method_37_code
def yX4_digits : MethodName := ⟨RX4, "digits", "(I)I"⟩
def dkwX4_digits_0 : List UInt8 := [42, 180, 0, 65, 27, 46, 16, 10, 162, 0, 7, 4, 167, 0, 4, 5, 172]
abbrev dktX4_digits_0 : List UInt8 := dkwX4_digits_0 ++ []
theorem dksX4_digits_0 : cX4_digits.data.toList.drop 0 = dktX4_digits_0 := by decide +kernel
theorem dX4_digits_0 : decode cX4_digits 0 = .ok (.aload_n 0, 1) := dk_42 (dk_at dksX4_digits_0 0 rfl rfl)
theorem dX4_digits_1 : decode cX4_digits 1 = .ok (.getfield 65, 3) := dk_180 0 65 (dk_at dksX4_digits_0 1 rfl rfl)
theorem dX4_digits_4 : decode cX4_digits 4 = .ok (.iload_n 1, 1) := dk_27 (dk_at dksX4_digits_0 4 rfl rfl)
theorem dX4_digits_5 : decode cX4_digits 5 = .ok (.iaload, 1) := dk_46 (dk_at dksX4_digits_0 5 rfl rfl)
theorem dX4_digits_6 : decode cX4_digits 6 = .ok (.bipush 10, 2) := dk_16 10 (dk_at dksX4_digits_0 6 rfl rfl)
theorem dX4_digits_8 : decode cX4_digits 8 = .ok (.if_icmp .ge 7, 3) := dk_162 0 7 (dk_at dksX4_digits_0 8 rfl rfl)
theorem dX4_digits_11 : decode cX4_digits 11 = .ok (.iconst 1, 1) := dk_4 (dk_at dksX4_digits_0 11 rfl rfl)
theorem dX4_digits_12 : decode cX4_digits 12 = .ok (.goto 4, 3) := dk_167 0 4 (dk_at dksX4_digits_0 12 rfl rfl)
theorem dX4_digits_15 : decode cX4_digits 15 = .ok (.iconst 2, 1) := dk_5 (dk_at dksX4_digits_0 15 rfl rfl)
theorem dX4_digits_16 : decode cX4_digits 16 = .ok (.ireturn, 1) := dk_172 (dk_at dksX4_digits_0 16 rfl rfl)
abbrev cX4_signAt : ByteArray := prog_14_method_38_code
def yX4_signAt : MethodName := ⟨RX4, "signAt", "(II)I"⟩
def dkwX4_signAt_5 : List UInt8 := [172]
abbrev dktX4_signAt_5 : List UInt8 := dkwX4_signAt_5 ++ []
def dkwX4_signAt_4 : List UInt8 := [16, 98, 167, 0, 22, 29, 5, 160, 0, 8, 16, 121, 167, 0, 12, 16, 48, 42, 180, 0, 62, 27, 46, 96]
abbrev dktX4_signAt_4 : List UInt8 := dkwX4_signAt_4 ++ dktX4_signAt_5
def dkwX4_signAt_3 : List UInt8 := [27, 46, 16, 10, 108, 167, 0, 12, 42, 180, 0, 65, 27, 46, 16, 10, 112, 96, 172, 29, 4, 160, 0, 8]
abbrev dktX4_signAt_3 : List UInt8 := dkwX4_signAt_3 ++ dktX4_signAt_4
def dkwX4_signAt_2 : List UInt8 := [29, 156, 0, 42, 16, 48, 28, 8, 160, 0, 24, 42, 27, 182, 0, 223, 5, 160, 0, 15, 42, 180, 0, 65]
abbrev dktX4_signAt_2 : List UInt8 := dkwX4_signAt_2 ++ dktX4_signAt_3
def dkwX4_signAt_1 : List UInt8 := [27, 46, 104, 28, 96, 51, 172, 28, 7, 159, 0, 12, 29, 153, 0, 8, 29, 6, 160, 0, 6, 16, 32, 172]
abbrev dktX4_signAt_1 : List UInt8 := dkwX4_signAt_1 ++ dktX4_signAt_2
def dkwX4_signAt_0 : List UInt8 := [28, 8, 100, 42, 27, 182, 0, 223, 100, 62, 28, 7, 162, 0, 19, 42, 180, 0, 99, 7, 42, 180, 0, 68]
abbrev dktX4_signAt_0 : List UInt8 := dkwX4_signAt_0 ++ dktX4_signAt_1
theorem dksX4_signAt_0 : cX4_signAt.data.toList.drop 0 = dktX4_signAt_0 := by decide +kernel
theorem dksX4_signAt_1 : cX4_signAt.data.toList.drop 24 = dktX4_signAt_1 := dk_seg dksX4_signAt_0 24 rfl rfl
theorem dksX4_signAt_2 : cX4_signAt.data.toList.drop 48 = dktX4_signAt_2 := dk_seg dksX4_signAt_1 24 rfl rfl
theorem dksX4_signAt_3 : cX4_signAt.data.toList.drop 72 = dktX4_signAt_3 := dk_seg dksX4_signAt_2 24 rfl rfl
theorem dksX4_signAt_4 : cX4_signAt.data.toList.drop 96 = dktX4_signAt_4 := dk_seg dksX4_signAt_3 24 rfl rfl
theorem dksX4_signAt_5 : cX4_signAt.data.toList.drop 120 = dktX4_signAt_5 := dk_seg dksX4_signAt_4 24 rfl rfl
theorem dX4_signAt_0 : decode cX4_signAt 0 = .ok (.iload_n 2, 1) := dk_28 (dk_at dksX4_signAt_0 0 rfl rfl)
theorem dX4_signAt_1 : decode cX4_signAt 1 = .ok (.iconst 5, 1) := dk_8 (dk_at dksX4_signAt_0 1 rfl rfl)
theorem dX4_signAt_2 : decode cX4_signAt 2 = .ok (.isub, 1) := dk_100 (dk_at dksX4_signAt_0 2 rfl rfl)
theorem dX4_signAt_3 : decode cX4_signAt 3 = .ok (.aload_n 0, 1) := dk_42 (dk_at dksX4_signAt_0 3 rfl rfl)
theorem dX4_signAt_4 : decode cX4_signAt 4 = .ok (.iload_n 1, 1) := dk_27 (dk_at dksX4_signAt_0 4 rfl rfl)
theorem dX4_signAt_5 : decode cX4_signAt 5 = .ok (.invokevirtual 223, 3) := dk_182 0 223 (dk_at dksX4_signAt_0 5 rfl rfl)
theorem dX4_signAt_8 : decode cX4_signAt 8 = .ok (.isub, 1) := dk_100 (dk_at dksX4_signAt_0 8 rfl rfl)
theorem dX4_signAt_9 : decode cX4_signAt 9 = .ok (.istore_n 3, 1) := dk_62 (dk_at dksX4_signAt_0 9 rfl rfl)
theorem dX4_signAt_10 : decode cX4_signAt 10 = .ok (.iload_n 2, 1) := dk_28 (dk_at dksX4_signAt_0 10 rfl rfl)
theorem dX4_signAt_11 : decode cX4_signAt 11 = .ok (.iconst 4, 1) := dk_7 (dk_at dksX4_signAt_0 11 rfl rfl)
theorem dX4_signAt_12 : decode cX4_signAt 12 = .ok (.if_icmp .ge 19, 3) := dk_162 0 19 (dk_at dksX4_signAt_0 12 rfl rfl)
theorem dX4_signAt_15 : decode cX4_signAt 15 = .ok (.aload_n 0, 1) := dk_42 (dk_at dksX4_signAt_0 15 rfl rfl)
theorem dX4_signAt_16 : decode cX4_signAt 16 = .ok (.getfield 99, 3) := dk_180 0 99 (dk_at dksX4_signAt_0 16 rfl rfl)
theorem dX4_signAt_19 : decode cX4_signAt 19 = .ok (.iconst 4, 1) := dk_7 (dk_at dksX4_signAt_0 19 rfl rfl)
theorem dX4_signAt_20 : decode cX4_signAt 20 = .ok (.aload_n 0, 1) := dk_42 (dk_at dksX4_signAt_0 20 rfl rfl)
theorem dX4_signAt_21 : decode cX4_signAt 21 = .ok (.getfield 68, 3) := dk_180 0 68 (dk_at dksX4_signAt_0 21 rfl rfl)
theorem dX4_signAt_24 : decode cX4_signAt 24 = .ok (.iload_n 1, 1) := dk_27 (dk_at dksX4_signAt_1 0 rfl rfl)
theorem dX4_signAt_25 : decode cX4_signAt 25 = .ok (.iaload, 1) := dk_46 (dk_at dksX4_signAt_1 1 rfl rfl)
theorem dX4_signAt_26 : decode cX4_signAt 26 = .ok (.imul, 1) := dk_104 (dk_at dksX4_signAt_1 2 rfl rfl)
theorem dX4_signAt_27 : decode cX4_signAt 27 = .ok (.iload_n 2, 1) := dk_28 (dk_at dksX4_signAt_1 3 rfl rfl)
theorem dX4_signAt_28 : decode cX4_signAt 28 = .ok (.iadd, 1) := dk_96 (dk_at dksX4_signAt_1 4 rfl rfl)
theorem dX4_signAt_29 : decode cX4_signAt 29 = .ok (.baload, 1) := dk_51 (dk_at dksX4_signAt_1 5 rfl rfl)
theorem dX4_signAt_30 : decode cX4_signAt 30 = .ok (.ireturn, 1) := dk_172 (dk_at dksX4_signAt_1 6 rfl rfl)
theorem dX4_signAt_31 : decode cX4_signAt 31 = .ok (.iload_n 2, 1) := dk_28 (dk_at dksX4_signAt_1 7 rfl rfl)
theorem dX4_signAt_32 : decode cX4_signAt 32 = .ok (.iconst 4, 1) := dk_7 (dk_at dksX4_signAt_1 8 rfl rfl)
theorem dX4_signAt_33 : decode cX4_signAt 33 = .ok (.if_icmp .eq 12, 3) := dk_159 0 12 (dk_at dksX4_signAt_1 9 rfl rfl)
theorem dX4_signAt_36 : decode cX4_signAt 36 = .ok (.iload_n 3, 1) := dk_29 (dk_at dksX4_signAt_1 12 rfl rfl)
theorem dX4_signAt_37 : decode cX4_signAt 37 = .ok (.ifCond .eq 8, 3) := dk_153 0 8 (dk_at dksX4_signAt_1 13 rfl rfl)
theorem dX4_signAt_40 : decode cX4_signAt 40 = .ok (.iload_n 3, 1) := dk_29 (dk_at dksX4_signAt_1 16 rfl rfl)
theorem dX4_signAt_41 : decode cX4_signAt 41 = .ok (.iconst 3, 1) := dk_6 (dk_at dksX4_signAt_1 17 rfl rfl)
theorem dX4_signAt_42 : decode cX4_signAt 42 = .ok (.if_icmp .ne 6, 3) := dk_160 0 6 (dk_at dksX4_signAt_1 18 rfl rfl)
theorem dX4_signAt_45 : decode cX4_signAt 45 = .ok (.bipush 32, 2) := dk_16 32 (dk_at dksX4_signAt_1 21 rfl rfl)
theorem dX4_signAt_47 : decode cX4_signAt 47 = .ok (.ireturn, 1) := dk_172 (dk_at dksX4_signAt_1 23 rfl rfl)
theorem dX4_signAt_48 : decode cX4_signAt 48 = .ok (.iload_n 3, 1) := dk_29 (dk_at dksX4_signAt_2 0 rfl rfl)
theorem dX4_signAt_49 : decode cX4_signAt 49 = .ok (.ifCond .ge 42, 3) := dk_156 0 42 (dk_at dksX4_signAt_2 1 rfl rfl)
theorem dX4_signAt_52 : decode cX4_signAt 52 = .ok (.bipush 48, 2) := dk_16 48 (dk_at dksX4_signAt_2 4 rfl rfl)
theorem dX4_signAt_54 : decode cX4_signAt 54 = .ok (.iload_n 2, 1) := dk_28 (dk_at dksX4_signAt_2 6 rfl rfl)
theorem dX4_signAt_55 : decode cX4_signAt 55 = .ok (.iconst 5, 1) := dk_8 (dk_at dksX4_signAt_2 7 rfl rfl)
theorem dX4_signAt_56 : decode cX4_signAt 56 = .ok (.if_icmp .ne 24, 3) := dk_160 0 24 (dk_at dksX4_signAt_2 8 rfl rfl)
theorem dX4_signAt_59 : decode cX4_signAt 59 = .ok (.aload_n 0, 1) := dk_42 (dk_at dksX4_signAt_2 11 rfl rfl)
theorem dX4_signAt_60 : decode cX4_signAt 60 = .ok (.iload_n 1, 1) := dk_27 (dk_at dksX4_signAt_2 12 rfl rfl)
theorem dX4_signAt_61 : decode cX4_signAt 61 = .ok (.invokevirtual 223, 3) := dk_182 0 223 (dk_at dksX4_signAt_2 13 rfl rfl)
theorem dX4_signAt_64 : decode cX4_signAt 64 = .ok (.iconst 2, 1) := dk_5 (dk_at dksX4_signAt_2 16 rfl rfl)
theorem dX4_signAt_65 : decode cX4_signAt 65 = .ok (.if_icmp .ne 15, 3) := dk_160 0 15 (dk_at dksX4_signAt_2 17 rfl rfl)
theorem dX4_signAt_68 : decode cX4_signAt 68 = .ok (.aload_n 0, 1) := dk_42 (dk_at dksX4_signAt_2 20 rfl rfl)
theorem dX4_signAt_69 : decode cX4_signAt 69 = .ok (.getfield 65, 3) := dk_180 0 65 (dk_at dksX4_signAt_2 21 rfl rfl)
theorem dX4_signAt_72 : decode cX4_signAt 72 = .ok (.iload_n 1, 1) := dk_27 (dk_at dksX4_signAt_3 0 rfl rfl)
theorem dX4_signAt_73 : decode cX4_signAt 73 = .ok (.iaload, 1) := dk_46 (dk_at dksX4_signAt_3 1 rfl rfl)
theorem dX4_signAt_74 : decode cX4_signAt 74 = .ok (.bipush 10, 2) := dk_16 10 (dk_at dksX4_signAt_3 2 rfl rfl)
theorem dX4_signAt_76 : decode cX4_signAt 76 = .ok (.idiv, 1) := dk_108 (dk_at dksX4_signAt_3 4 rfl rfl)
theorem dX4_signAt_77 : decode cX4_signAt 77 = .ok (.goto 12, 3) := dk_167 0 12 (dk_at dksX4_signAt_3 5 rfl rfl)
theorem dX4_signAt_80 : decode cX4_signAt 80 = .ok (.aload_n 0, 1) := dk_42 (dk_at dksX4_signAt_3 8 rfl rfl)
theorem dX4_signAt_81 : decode cX4_signAt 81 = .ok (.getfield 65, 3) := dk_180 0 65 (dk_at dksX4_signAt_3 9 rfl rfl)
theorem dX4_signAt_84 : decode cX4_signAt 84 = .ok (.iload_n 1, 1) := dk_27 (dk_at dksX4_signAt_3 12 rfl rfl)
theorem dX4_signAt_85 : decode cX4_signAt 85 = .ok (.iaload, 1) := dk_46 (dk_at dksX4_signAt_3 13 rfl rfl)
theorem dX4_signAt_86 : decode cX4_signAt 86 = .ok (.bipush 10, 2) := dk_16 10 (dk_at dksX4_signAt_3 14 rfl rfl)
theorem dX4_signAt_88 : decode cX4_signAt 88 = .ok (.irem, 1) := dk_112 (dk_at dksX4_signAt_3 16 rfl rfl)
theorem dX4_signAt_89 : decode cX4_signAt 89 = .ok (.iadd, 1) := dk_96 (dk_at dksX4_signAt_3 17 rfl rfl)
theorem dX4_signAt_90 : decode cX4_signAt 90 = .ok (.ireturn, 1) := dk_172 (dk_at dksX4_signAt_3 18 rfl rfl)
theorem dX4_signAt_91 : decode cX4_signAt 91 = .ok (.iload_n 3, 1) := dk_29 (dk_at dksX4_signAt_3 19 rfl rfl)
theorem dX4_signAt_92 : decode cX4_signAt 92 = .ok (.iconst 1, 1) := dk_4 (dk_at dksX4_signAt_3 20 rfl rfl)
theorem dX4_signAt_93 : decode cX4_signAt 93 = .ok (.if_icmp .ne 8, 3) := dk_160 0 8 (dk_at dksX4_signAt_3 21 rfl rfl)
theorem dX4_signAt_96 : decode cX4_signAt 96 = .ok (.bipush 98, 2) := dk_16 98 (dk_at dksX4_signAt_4 0 rfl rfl)
theorem dX4_signAt_98 : decode cX4_signAt 98 = .ok (.goto 22, 3) := dk_167 0 22 (dk_at dksX4_signAt_4 2 rfl rfl)
theorem dX4_signAt_101 : decode cX4_signAt 101 = .ok (.iload_n 3, 1) := dk_29 (dk_at dksX4_signAt_4 5 rfl rfl)
theorem dX4_signAt_102 : decode cX4_signAt 102 = .ok (.iconst 2, 1) := dk_5 (dk_at dksX4_signAt_4 6 rfl rfl)
theorem dX4_signAt_103 : decode cX4_signAt 103 = .ok (.if_icmp .ne 8, 3) := dk_160 0 8 (dk_at dksX4_signAt_4 7 rfl rfl)
theorem dX4_signAt_106 : decode cX4_signAt 106 = .ok (.bipush 121, 2) := dk_16 121 (dk_at dksX4_signAt_4 10 rfl rfl)
theorem dX4_signAt_108 : decode cX4_signAt 108 = .ok (.goto 12, 3) := dk_167 0 12 (dk_at dksX4_signAt_4 12 rfl rfl)
theorem dX4_signAt_111 : decode cX4_signAt 111 = .ok (.bipush 48, 2) := dk_16 48 (dk_at dksX4_signAt_4 15 rfl rfl)
theorem dX4_signAt_113 : decode cX4_signAt 113 = .ok (.aload_n 0, 1) := dk_42 (dk_at dksX4_signAt_4 17 rfl rfl)
theorem dX4_signAt_114 : decode cX4_signAt 114 = .ok (.getfield 62, 3) := dk_180 0 62 (dk_at dksX4_signAt_4 18 rfl rfl)
theorem dX4_signAt_117 : decode cX4_signAt 117 = .ok (.iload_n 1, 1) := dk_27 (dk_at dksX4_signAt_4 21 rfl rfl)
theorem dX4_signAt_118 : decode cX4_signAt 118 = .ok (.iaload, 1) := dk_46 (dk_at dksX4_signAt_4 22 rfl rfl)
theorem dX4_signAt_119 : decode cX4_signAt 119 = .ok (.iadd, 1) := dk_96 (dk_at dksX4_signAt_4 23 rfl rfl)
theorem dX4_signAt_120 : decode cX4_signAt 120 = .ok (.ireturn, 1) := dk_172 (dk_at dksX4_signAt_5 0 rfl rfl)
abbrev cX4_meaning : ByteArray := prog_14_method_41_code
def yX4_meaning : MethodName := ⟨RX4, "meaning", "(II)I"⟩
def dkwX4_meaning_1 : List UInt8 := [3, 172]
abbrev dktX4_meaning_1 : List UInt8 := dkwX4_meaning_1 ++ []
def dkwX4_meaning_0 : List UInt8 := [42, 27, 184, 0, 186, 28, 184, 0, 212, 182, 0, 173, 153, 0, 12, 42, 27, 28, 182, 0, 231, 167, 0, 4]
abbrev dktX4_meaning_0 : List UInt8 := dkwX4_meaning_0 ++ dktX4_meaning_1
theorem dksX4_meaning_0 : cX4_meaning.data.toList.drop 0 = dktX4_meaning_0 := by decide +kernel
theorem dksX4_meaning_1 : cX4_meaning.data.toList.drop 24 = dktX4_meaning_1 := dk_seg dksX4_meaning_0 24 rfl rfl
theorem dX4_meaning_0 : decode cX4_meaning 0 = .ok (.aload_n 0, 1) := dk_42 (dk_at dksX4_meaning_0 0 rfl rfl)
theorem dX4_meaning_1 : decode cX4_meaning 1 = .ok (.iload_n 1, 1) := dk_27 (dk_at dksX4_meaning_0 1 rfl rfl)
theorem dX4_meaning_2 : decode cX4_meaning 2 = .ok (.invokestatic 186, 3) := dk_184 0 186 (dk_at dksX4_meaning_0 2 rfl rfl)
theorem dX4_meaning_5 : decode cX4_meaning 5 = .ok (.iload_n 2, 1) := dk_28 (dk_at dksX4_meaning_0 5 rfl rfl)
theorem dX4_meaning_6 : decode cX4_meaning 6 = .ok (.invokestatic 212, 3) := dk_184 0 212 (dk_at dksX4_meaning_0 6 rfl rfl)
theorem dX4_meaning_9 : decode cX4_meaning 9 = .ok (.invokevirtual 173, 3) := dk_182 0 173 (dk_at dksX4_meaning_0 9 rfl rfl)
theorem dX4_meaning_12 : decode cX4_meaning 12 = .ok (.ifCond .eq 12, 3) := dk_153 0 12 (dk_at dksX4_meaning_0 12 rfl rfl)
theorem dX4_meaning_15 : decode cX4_meaning 15 = .ok (.aload_n 0, 1) := dk_42 (dk_at dksX4_meaning_0 15 rfl rfl)
theorem dX4_meaning_16 : decode cX4_meaning 16 = .ok (.iload_n 1, 1) := dk_27 (dk_at dksX4_meaning_0 16 rfl rfl)
theorem dX4_meaning_17 : decode cX4_meaning 17 = .ok (.iload_n 2, 1) := dk_28 (dk_at dksX4_meaning_0 17 rfl rfl)
theorem dX4_meaning_18 : decode cX4_meaning 18 = .ok (.invokevirtual 231, 3) := dk_182 0 231 (dk_at dksX4_meaning_0 18 rfl rfl)
theorem dX4_meaning_21 : decode cX4_meaning 21 = .ok (.goto 4, 3) := dk_167 0 4 (dk_at dksX4_meaning_0 21 rfl rfl)
theorem dX4_meaning_24 : decode cX4_meaning 24 = .ok (.iconst 0, 1) := dk_3 (dk_at dksX4_meaning_1 0 rfl rfl)
theorem dX4_meaning_25 : decode cX4_meaning 25 = .ok (.ireturn, 1) := dk_172 (dk_at dksX4_meaning_1 1 rfl rfl)
abbrev cX4_meansOf : ByteArray := prog_14_method_40_code
def yX4_meansOf : MethodName := ⟨RX4, "meansOf", "(II)I"⟩
def dkwX4_meansOf_1 : List UInt8 := [180, 0, 84, 7, 27, 104, 28, 96, 47, 42, 180, 0, 87, 7, 27, 104, 28, 96, 46, 133, 109, 136, 172]
abbrev dktX4_meansOf_1 : List UInt8 := dkwX4_meansOf_1 ++ []
def dkwX4_meansOf_0 : List UInt8 := [42, 180, 0, 87, 7, 27, 104, 28, 96, 46, 154, 0, 12, 42, 180, 0, 93, 28, 46, 167, 0, 26, 42]
abbrev dktX4_meansOf_0 : List UInt8 := dkwX4_meansOf_0 ++ dktX4_meansOf_1
theorem dksX4_meansOf_0 : cX4_meansOf.data.toList.drop 0 = dktX4_meansOf_0 := by decide +kernel
theorem dksX4_meansOf_1 : cX4_meansOf.data.toList.drop 23 = dktX4_meansOf_1 := dk_seg dksX4_meansOf_0 23 rfl rfl
theorem dX4_meansOf_0 : decode cX4_meansOf 0 = .ok (.aload_n 0, 1) := dk_42 (dk_at dksX4_meansOf_0 0 rfl rfl)
theorem dX4_meansOf_1 : decode cX4_meansOf 1 = .ok (.getfield 87, 3) := dk_180 0 87 (dk_at dksX4_meansOf_0 1 rfl rfl)
theorem dX4_meansOf_4 : decode cX4_meansOf 4 = .ok (.iconst 4, 1) := dk_7 (dk_at dksX4_meansOf_0 4 rfl rfl)
theorem dX4_meansOf_5 : decode cX4_meansOf 5 = .ok (.iload_n 1, 1) := dk_27 (dk_at dksX4_meansOf_0 5 rfl rfl)
theorem dX4_meansOf_6 : decode cX4_meansOf 6 = .ok (.imul, 1) := dk_104 (dk_at dksX4_meansOf_0 6 rfl rfl)
theorem dX4_meansOf_7 : decode cX4_meansOf 7 = .ok (.iload_n 2, 1) := dk_28 (dk_at dksX4_meansOf_0 7 rfl rfl)
theorem dX4_meansOf_8 : decode cX4_meansOf 8 = .ok (.iadd, 1) := dk_96 (dk_at dksX4_meansOf_0 8 rfl rfl)
theorem dX4_meansOf_9 : decode cX4_meansOf 9 = .ok (.iaload, 1) := dk_46 (dk_at dksX4_meansOf_0 9 rfl rfl)
theorem dX4_meansOf_10 : decode cX4_meansOf 10 = .ok (.ifCond .ne 12, 3) := dk_154 0 12 (dk_at dksX4_meansOf_0 10 rfl rfl)
theorem dX4_meansOf_13 : decode cX4_meansOf 13 = .ok (.aload_n 0, 1) := dk_42 (dk_at dksX4_meansOf_0 13 rfl rfl)
theorem dX4_meansOf_14 : decode cX4_meansOf 14 = .ok (.getfield 93, 3) := dk_180 0 93 (dk_at dksX4_meansOf_0 14 rfl rfl)
theorem dX4_meansOf_17 : decode cX4_meansOf 17 = .ok (.iload_n 2, 1) := dk_28 (dk_at dksX4_meansOf_0 17 rfl rfl)
theorem dX4_meansOf_18 : decode cX4_meansOf 18 = .ok (.iaload, 1) := dk_46 (dk_at dksX4_meansOf_0 18 rfl rfl)
theorem dX4_meansOf_19 : decode cX4_meansOf 19 = .ok (.goto 26, 3) := dk_167 0 26 (dk_at dksX4_meansOf_0 19 rfl rfl)
theorem dX4_meansOf_22 : decode cX4_meansOf 22 = .ok (.aload_n 0, 1) := dk_42 (dk_at dksX4_meansOf_0 22 rfl rfl)
theorem dX4_meansOf_23 : decode cX4_meansOf 23 = .ok (.getfield 84, 3) := dk_180 0 84 (dk_at dksX4_meansOf_1 0 rfl rfl)
theorem dX4_meansOf_26 : decode cX4_meansOf 26 = .ok (.iconst 4, 1) := dk_7 (dk_at dksX4_meansOf_1 3 rfl rfl)
theorem dX4_meansOf_27 : decode cX4_meansOf 27 = .ok (.iload_n 1, 1) := dk_27 (dk_at dksX4_meansOf_1 4 rfl rfl)
theorem dX4_meansOf_28 : decode cX4_meansOf 28 = .ok (.imul, 1) := dk_104 (dk_at dksX4_meansOf_1 5 rfl rfl)
theorem dX4_meansOf_29 : decode cX4_meansOf 29 = .ok (.iload_n 2, 1) := dk_28 (dk_at dksX4_meansOf_1 6 rfl rfl)
theorem dX4_meansOf_30 : decode cX4_meansOf 30 = .ok (.iadd, 1) := dk_96 (dk_at dksX4_meansOf_1 7 rfl rfl)
theorem dX4_meansOf_31 : decode cX4_meansOf 31 = .ok (.laload, 1) := dk_47 (dk_at dksX4_meansOf_1 8 rfl rfl)
theorem dX4_meansOf_32 : decode cX4_meansOf 32 = .ok (.aload_n 0, 1) := dk_42 (dk_at dksX4_meansOf_1 9 rfl rfl)
theorem dX4_meansOf_33 : decode cX4_meansOf 33 = .ok (.getfield 87, 3) := dk_180 0 87 (dk_at dksX4_meansOf_1 10 rfl rfl)
theorem dX4_meansOf_36 : decode cX4_meansOf 36 = .ok (.iconst 4, 1) := dk_7 (dk_at dksX4_meansOf_1 13 rfl rfl)
theorem dX4_meansOf_37 : decode cX4_meansOf 37 = .ok (.iload_n 1, 1) := dk_27 (dk_at dksX4_meansOf_1 14 rfl rfl)
theorem dX4_meansOf_38 : decode cX4_meansOf 38 = .ok (.imul, 1) := dk_104 (dk_at dksX4_meansOf_1 15 rfl rfl)
theorem dX4_meansOf_39 : decode cX4_meansOf 39 = .ok (.iload_n 2, 1) := dk_28 (dk_at dksX4_meansOf_1 16 rfl rfl)
theorem dX4_meansOf_40 : decode cX4_meansOf 40 = .ok (.iadd, 1) := dk_96 (dk_at dksX4_meansOf_1 17 rfl rfl)
theorem dX4_meansOf_41 : decode cX4_meansOf 41 = .ok (.iaload, 1) := dk_46 (dk_at dksX4_meansOf_1 18 rfl rfl)
theorem dX4_meansOf_42 : decode cX4_meansOf 42 = .ok (.i2l, 1) := dk_133 (dk_at dksX4_meansOf_1 19 rfl rfl)
theorem dX4_meansOf_43 : decode cX4_meansOf 43 = .ok (.ldiv, 1) := dk_109 (dk_at dksX4_meansOf_1 20 rfl rfl)
theorem dX4_meansOf_44 : decode cX4_meansOf 44 = .ok (.l2i, 1) := dk_136 (dk_at dksX4_meansOf_1 21 rfl rfl)
theorem dX4_meansOf_45 : decode cX4_meansOf 45 = .ok (.ireturn, 1) := dk_172 (dk_at dksX4_meansOf_1 22 rfl rfl)
abbrev cX4_inspect : ByteArray := prog_14_method_42_code
def yX4_inspect : MethodName := ⟨RX4, "inspect", "(I)I"⟩
def dkwX4_inspect_5 : List UInt8 := [46, 4, 96, 79, 132, 3, 1, 167, 255, 158, 28, 172]
abbrev dktX4_inspect_5 : List UInt8 := dkwX4_inspect_5 ++ []
def dkwX4_inspect_4 : List UInt8 := [28, 133, 97, 80, 42, 180, 0, 87, 7, 42, 180, 0, 62, 29, 46, 104, 42, 180, 0, 68, 29, 46, 96, 92]
abbrev dktX4_inspect_4 : List UInt8 := dkwX4_inspect_4 ++ dktX4_inspect_5
def dkwX4_inspect_3 : List UInt8 := [29, 4, 84, 42, 180, 0, 84, 7, 42, 180, 0, 62, 29, 46, 104, 42, 180, 0, 68, 29, 46, 96, 92, 47]
abbrev dktX4_inspect_3 : List UInt8 := dkwX4_inspect_3 ++ dktX4_inspect_4
def dkwX4_inspect_2 : List UInt8 := [180, 0, 77, 29, 51, 153, 0, 71, 42, 180, 0, 81, 29, 51, 153, 0, 6, 167, 0, 59, 42, 180, 0, 81]
abbrev dktX4_inspect_2 : List UInt8 := dkwX4_inspect_2 ++ dktX4_inspect_3
def dkwX4_inspect_1 : List UInt8 := [28, 79, 3, 62, 29, 42, 180, 0, 215, 162, 0, 96, 42, 180, 0, 65, 29, 46, 27, 160, 0, 80, 42]
abbrev dktX4_inspect_1 : List UInt8 := dkwX4_inspect_1 ++ dktX4_inspect_2
def dkwX4_inspect_0 : List UInt8 := [42, 27, 184, 0, 180, 182, 0, 191, 154, 0, 5, 3, 172, 42, 27, 182, 0, 234, 61, 42, 180, 0, 16, 27]
abbrev dktX4_inspect_0 : List UInt8 := dkwX4_inspect_0 ++ dktX4_inspect_1
theorem dksX4_inspect_0 : cX4_inspect.data.toList.drop 0 = dktX4_inspect_0 := by decide +kernel
theorem dksX4_inspect_1 : cX4_inspect.data.toList.drop 24 = dktX4_inspect_1 := dk_seg dksX4_inspect_0 24 rfl rfl
theorem dksX4_inspect_2 : cX4_inspect.data.toList.drop 47 = dktX4_inspect_2 := dk_seg dksX4_inspect_1 23 rfl rfl
theorem dksX4_inspect_3 : cX4_inspect.data.toList.drop 71 = dktX4_inspect_3 := dk_seg dksX4_inspect_2 24 rfl rfl
theorem dksX4_inspect_4 : cX4_inspect.data.toList.drop 95 = dktX4_inspect_4 := dk_seg dksX4_inspect_3 24 rfl rfl
theorem dksX4_inspect_5 : cX4_inspect.data.toList.drop 119 = dktX4_inspect_5 := dk_seg dksX4_inspect_4 24 rfl rfl
theorem dX4_inspect_0 : decode cX4_inspect 0 = .ok (.aload_n 0, 1) := dk_42 (dk_at dksX4_inspect_0 0 rfl rfl)
theorem dX4_inspect_1 : decode cX4_inspect 1 = .ok (.iload_n 1, 1) := dk_27 (dk_at dksX4_inspect_0 1 rfl rfl)
theorem dX4_inspect_2 : decode cX4_inspect 2 = .ok (.invokestatic 180, 3) := dk_184 0 180 (dk_at dksX4_inspect_0 2 rfl rfl)
theorem dX4_inspect_5 : decode cX4_inspect 5 = .ok (.invokevirtual 191, 3) := dk_182 0 191 (dk_at dksX4_inspect_0 5 rfl rfl)
theorem dX4_inspect_8 : decode cX4_inspect 8 = .ok (.ifCond .ne 5, 3) := dk_154 0 5 (dk_at dksX4_inspect_0 8 rfl rfl)
theorem dX4_inspect_11 : decode cX4_inspect 11 = .ok (.iconst 0, 1) := dk_3 (dk_at dksX4_inspect_0 11 rfl rfl)
theorem dX4_inspect_12 : decode cX4_inspect 12 = .ok (.ireturn, 1) := dk_172 (dk_at dksX4_inspect_0 12 rfl rfl)
theorem dX4_inspect_13 : decode cX4_inspect 13 = .ok (.aload_n 0, 1) := dk_42 (dk_at dksX4_inspect_0 13 rfl rfl)
theorem dX4_inspect_14 : decode cX4_inspect 14 = .ok (.iload_n 1, 1) := dk_27 (dk_at dksX4_inspect_0 14 rfl rfl)
theorem dX4_inspect_15 : decode cX4_inspect 15 = .ok (.invokevirtual 234, 3) := dk_182 0 234 (dk_at dksX4_inspect_0 15 rfl rfl)
theorem dX4_inspect_18 : decode cX4_inspect 18 = .ok (.istore_n 2, 1) := dk_61 (dk_at dksX4_inspect_0 18 rfl rfl)
theorem dX4_inspect_19 : decode cX4_inspect 19 = .ok (.aload_n 0, 1) := dk_42 (dk_at dksX4_inspect_0 19 rfl rfl)
theorem dX4_inspect_20 : decode cX4_inspect 20 = .ok (.getfield 16, 3) := dk_180 0 16 (dk_at dksX4_inspect_0 20 rfl rfl)
theorem dX4_inspect_23 : decode cX4_inspect 23 = .ok (.iload_n 1, 1) := dk_27 (dk_at dksX4_inspect_0 23 rfl rfl)
theorem dX4_inspect_24 : decode cX4_inspect 24 = .ok (.iload_n 2, 1) := dk_28 (dk_at dksX4_inspect_1 0 rfl rfl)
theorem dX4_inspect_25 : decode cX4_inspect 25 = .ok (.iastore, 1) := dk_79 (dk_at dksX4_inspect_1 1 rfl rfl)
theorem dX4_inspect_26 : decode cX4_inspect 26 = .ok (.iconst 0, 1) := dk_3 (dk_at dksX4_inspect_1 2 rfl rfl)
theorem dX4_inspect_27 : decode cX4_inspect 27 = .ok (.istore_n 3, 1) := dk_62 (dk_at dksX4_inspect_1 3 rfl rfl)
theorem dX4_inspect_28 : decode cX4_inspect 28 = .ok (.iload_n 3, 1) := dk_29 (dk_at dksX4_inspect_1 4 rfl rfl)
theorem dX4_inspect_29 : decode cX4_inspect 29 = .ok (.aload_n 0, 1) := dk_42 (dk_at dksX4_inspect_1 5 rfl rfl)
theorem dX4_inspect_30 : decode cX4_inspect 30 = .ok (.getfield 215, 3) := dk_180 0 215 (dk_at dksX4_inspect_1 6 rfl rfl)
theorem dX4_inspect_33 : decode cX4_inspect 33 = .ok (.if_icmp .ge 96, 3) := dk_162 0 96 (dk_at dksX4_inspect_1 9 rfl rfl)
theorem dX4_inspect_36 : decode cX4_inspect 36 = .ok (.aload_n 0, 1) := dk_42 (dk_at dksX4_inspect_1 12 rfl rfl)
theorem dX4_inspect_37 : decode cX4_inspect 37 = .ok (.getfield 65, 3) := dk_180 0 65 (dk_at dksX4_inspect_1 13 rfl rfl)
theorem dX4_inspect_40 : decode cX4_inspect 40 = .ok (.iload_n 3, 1) := dk_29 (dk_at dksX4_inspect_1 16 rfl rfl)
theorem dX4_inspect_41 : decode cX4_inspect 41 = .ok (.iaload, 1) := dk_46 (dk_at dksX4_inspect_1 17 rfl rfl)
theorem dX4_inspect_42 : decode cX4_inspect 42 = .ok (.iload_n 1, 1) := dk_27 (dk_at dksX4_inspect_1 18 rfl rfl)
theorem dX4_inspect_43 : decode cX4_inspect 43 = .ok (.if_icmp .ne 80, 3) := dk_160 0 80 (dk_at dksX4_inspect_1 19 rfl rfl)
theorem dX4_inspect_46 : decode cX4_inspect 46 = .ok (.aload_n 0, 1) := dk_42 (dk_at dksX4_inspect_1 22 rfl rfl)
theorem dX4_inspect_47 : decode cX4_inspect 47 = .ok (.getfield 77, 3) := dk_180 0 77 (dk_at dksX4_inspect_2 0 rfl rfl)
theorem dX4_inspect_50 : decode cX4_inspect 50 = .ok (.iload_n 3, 1) := dk_29 (dk_at dksX4_inspect_2 3 rfl rfl)
theorem dX4_inspect_51 : decode cX4_inspect 51 = .ok (.baload, 1) := dk_51 (dk_at dksX4_inspect_2 4 rfl rfl)
theorem dX4_inspect_52 : decode cX4_inspect 52 = .ok (.ifCond .eq 71, 3) := dk_153 0 71 (dk_at dksX4_inspect_2 5 rfl rfl)
theorem dX4_inspect_55 : decode cX4_inspect 55 = .ok (.aload_n 0, 1) := dk_42 (dk_at dksX4_inspect_2 8 rfl rfl)
theorem dX4_inspect_56 : decode cX4_inspect 56 = .ok (.getfield 81, 3) := dk_180 0 81 (dk_at dksX4_inspect_2 9 rfl rfl)
theorem dX4_inspect_59 : decode cX4_inspect 59 = .ok (.iload_n 3, 1) := dk_29 (dk_at dksX4_inspect_2 12 rfl rfl)
theorem dX4_inspect_60 : decode cX4_inspect 60 = .ok (.baload, 1) := dk_51 (dk_at dksX4_inspect_2 13 rfl rfl)
theorem dX4_inspect_61 : decode cX4_inspect 61 = .ok (.ifCond .eq 6, 3) := dk_153 0 6 (dk_at dksX4_inspect_2 14 rfl rfl)
theorem dX4_inspect_64 : decode cX4_inspect 64 = .ok (.goto 59, 3) := dk_167 0 59 (dk_at dksX4_inspect_2 17 rfl rfl)
theorem dX4_inspect_67 : decode cX4_inspect 67 = .ok (.aload_n 0, 1) := dk_42 (dk_at dksX4_inspect_2 20 rfl rfl)
theorem dX4_inspect_68 : decode cX4_inspect 68 = .ok (.getfield 81, 3) := dk_180 0 81 (dk_at dksX4_inspect_2 21 rfl rfl)
theorem dX4_inspect_71 : decode cX4_inspect 71 = .ok (.iload_n 3, 1) := dk_29 (dk_at dksX4_inspect_3 0 rfl rfl)
theorem dX4_inspect_72 : decode cX4_inspect 72 = .ok (.iconst 1, 1) := dk_4 (dk_at dksX4_inspect_3 1 rfl rfl)
theorem dX4_inspect_73 : decode cX4_inspect 73 = .ok (.bastore, 1) := dk_84 (dk_at dksX4_inspect_3 2 rfl rfl)
theorem dX4_inspect_74 : decode cX4_inspect 74 = .ok (.aload_n 0, 1) := dk_42 (dk_at dksX4_inspect_3 3 rfl rfl)
theorem dX4_inspect_75 : decode cX4_inspect 75 = .ok (.getfield 84, 3) := dk_180 0 84 (dk_at dksX4_inspect_3 4 rfl rfl)
theorem dX4_inspect_78 : decode cX4_inspect 78 = .ok (.iconst 4, 1) := dk_7 (dk_at dksX4_inspect_3 7 rfl rfl)
theorem dX4_inspect_79 : decode cX4_inspect 79 = .ok (.aload_n 0, 1) := dk_42 (dk_at dksX4_inspect_3 8 rfl rfl)
theorem dX4_inspect_80 : decode cX4_inspect 80 = .ok (.getfield 62, 3) := dk_180 0 62 (dk_at dksX4_inspect_3 9 rfl rfl)
theorem dX4_inspect_83 : decode cX4_inspect 83 = .ok (.iload_n 3, 1) := dk_29 (dk_at dksX4_inspect_3 12 rfl rfl)
theorem dX4_inspect_84 : decode cX4_inspect 84 = .ok (.iaload, 1) := dk_46 (dk_at dksX4_inspect_3 13 rfl rfl)
theorem dX4_inspect_85 : decode cX4_inspect 85 = .ok (.imul, 1) := dk_104 (dk_at dksX4_inspect_3 14 rfl rfl)
theorem dX4_inspect_86 : decode cX4_inspect 86 = .ok (.aload_n 0, 1) := dk_42 (dk_at dksX4_inspect_3 15 rfl rfl)
theorem dX4_inspect_87 : decode cX4_inspect 87 = .ok (.getfield 68, 3) := dk_180 0 68 (dk_at dksX4_inspect_3 16 rfl rfl)
theorem dX4_inspect_90 : decode cX4_inspect 90 = .ok (.iload_n 3, 1) := dk_29 (dk_at dksX4_inspect_3 19 rfl rfl)
theorem dX4_inspect_91 : decode cX4_inspect 91 = .ok (.iaload, 1) := dk_46 (dk_at dksX4_inspect_3 20 rfl rfl)
theorem dX4_inspect_92 : decode cX4_inspect 92 = .ok (.iadd, 1) := dk_96 (dk_at dksX4_inspect_3 21 rfl rfl)
theorem dX4_inspect_93 : decode cX4_inspect 93 = .ok (.dup2, 1) := dk_92 (dk_at dksX4_inspect_3 22 rfl rfl)
theorem dX4_inspect_94 : decode cX4_inspect 94 = .ok (.laload, 1) := dk_47 (dk_at dksX4_inspect_3 23 rfl rfl)
theorem dX4_inspect_95 : decode cX4_inspect 95 = .ok (.iload_n 2, 1) := dk_28 (dk_at dksX4_inspect_4 0 rfl rfl)
theorem dX4_inspect_96 : decode cX4_inspect 96 = .ok (.i2l, 1) := dk_133 (dk_at dksX4_inspect_4 1 rfl rfl)
theorem dX4_inspect_97 : decode cX4_inspect 97 = .ok (.ladd, 1) := dk_97 (dk_at dksX4_inspect_4 2 rfl rfl)
theorem dX4_inspect_98 : decode cX4_inspect 98 = .ok (.lastore, 1) := dk_80 (dk_at dksX4_inspect_4 3 rfl rfl)
theorem dX4_inspect_99 : decode cX4_inspect 99 = .ok (.aload_n 0, 1) := dk_42 (dk_at dksX4_inspect_4 4 rfl rfl)
theorem dX4_inspect_100 : decode cX4_inspect 100 = .ok (.getfield 87, 3) := dk_180 0 87 (dk_at dksX4_inspect_4 5 rfl rfl)
theorem dX4_inspect_103 : decode cX4_inspect 103 = .ok (.iconst 4, 1) := dk_7 (dk_at dksX4_inspect_4 8 rfl rfl)
theorem dX4_inspect_104 : decode cX4_inspect 104 = .ok (.aload_n 0, 1) := dk_42 (dk_at dksX4_inspect_4 9 rfl rfl)
theorem dX4_inspect_105 : decode cX4_inspect 105 = .ok (.getfield 62, 3) := dk_180 0 62 (dk_at dksX4_inspect_4 10 rfl rfl)
theorem dX4_inspect_108 : decode cX4_inspect 108 = .ok (.iload_n 3, 1) := dk_29 (dk_at dksX4_inspect_4 13 rfl rfl)
theorem dX4_inspect_109 : decode cX4_inspect 109 = .ok (.iaload, 1) := dk_46 (dk_at dksX4_inspect_4 14 rfl rfl)
theorem dX4_inspect_110 : decode cX4_inspect 110 = .ok (.imul, 1) := dk_104 (dk_at dksX4_inspect_4 15 rfl rfl)
theorem dX4_inspect_111 : decode cX4_inspect 111 = .ok (.aload_n 0, 1) := dk_42 (dk_at dksX4_inspect_4 16 rfl rfl)
theorem dX4_inspect_112 : decode cX4_inspect 112 = .ok (.getfield 68, 3) := dk_180 0 68 (dk_at dksX4_inspect_4 17 rfl rfl)
theorem dX4_inspect_115 : decode cX4_inspect 115 = .ok (.iload_n 3, 1) := dk_29 (dk_at dksX4_inspect_4 20 rfl rfl)
theorem dX4_inspect_116 : decode cX4_inspect 116 = .ok (.iaload, 1) := dk_46 (dk_at dksX4_inspect_4 21 rfl rfl)
theorem dX4_inspect_117 : decode cX4_inspect 117 = .ok (.iadd, 1) := dk_96 (dk_at dksX4_inspect_4 22 rfl rfl)
theorem dX4_inspect_118 : decode cX4_inspect 118 = .ok (.dup2, 1) := dk_92 (dk_at dksX4_inspect_4 23 rfl rfl)
theorem dX4_inspect_119 : decode cX4_inspect 119 = .ok (.iaload, 1) := dk_46 (dk_at dksX4_inspect_5 0 rfl rfl)
theorem dX4_inspect_120 : decode cX4_inspect 120 = .ok (.iconst 1, 1) := dk_4 (dk_at dksX4_inspect_5 1 rfl rfl)
theorem dX4_inspect_121 : decode cX4_inspect 121 = .ok (.iadd, 1) := dk_96 (dk_at dksX4_inspect_5 2 rfl rfl)
theorem dX4_inspect_122 : decode cX4_inspect 122 = .ok (.iastore, 1) := dk_79 (dk_at dksX4_inspect_5 3 rfl rfl)
theorem dX4_inspect_123 : decode cX4_inspect 123 = .ok (.iinc 3 1, 3) := dk_132 3 1 (dk_at dksX4_inspect_5 4 rfl rfl)
theorem dX4_inspect_126 : decode cX4_inspect 126 = .ok (.goto (-98), 3) := dk_167 255 158 (dk_at dksX4_inspect_5 7 rfl rfl)
theorem dX4_inspect_129 : decode cX4_inspect 129 = .ok (.iload_n 2, 1) := dk_28 (dk_at dksX4_inspect_5 10 rfl rfl)
theorem dX4_inspect_130 : decode cX4_inspect 130 = .ok (.ireturn, 1) := dk_172 (dk_at dksX4_inspect_5 11 rfl rfl)
abbrev cX4_depthOf : ByteArray := prog_14_method_13_code
def yX4_depthOf : MethodName := ⟨RX4, "depthOf", "(I)I"⟩
def dkwX4_depthOf_3 : List UInt8 := [167, 0, 9, 32, 21, 4, 133, 109, 136, 172]
abbrev dktX4_depthOf_3 : List UInt8 := dkwX4_depthOf_3 ++ []
def dkwX4_depthOf_2 : List UInt8 := [9, 97, 65, 132, 4, 1, 167, 255, 208, 42, 27, 182, 0, 121, 54, 4, 21, 4, 154, 0, 9, 17, 3, 231]
abbrev dktX4_depthOf_2 : List UInt8 := dkwX4_depthOf_2 ++ dktX4_depthOf_3
def dkwX4_depthOf_1 : List UInt8 := [160, 0, 24, 42, 180, 0, 35, 21, 4, 46, 27, 160, 0, 13, 42, 180, 0, 44, 21, 4, 47, 167, 0, 4]
abbrev dktX4_depthOf_1 : List UInt8 := dkwX4_depthOf_1 ++ dktX4_depthOf_2
def dkwX4_depthOf_0 : List UInt8 := [9, 65, 3, 54, 4, 21, 4, 42, 180, 0, 118, 162, 0, 45, 32, 42, 180, 0, 32, 21, 4, 46, 5]
abbrev dktX4_depthOf_0 : List UInt8 := dkwX4_depthOf_0 ++ dktX4_depthOf_1
theorem dksX4_depthOf_0 : cX4_depthOf.data.toList.drop 0 = dktX4_depthOf_0 := by decide +kernel
theorem dksX4_depthOf_1 : cX4_depthOf.data.toList.drop 23 = dktX4_depthOf_1 := dk_seg dksX4_depthOf_0 23 rfl rfl
theorem dksX4_depthOf_2 : cX4_depthOf.data.toList.drop 47 = dktX4_depthOf_2 := dk_seg dksX4_depthOf_1 24 rfl rfl
theorem dksX4_depthOf_3 : cX4_depthOf.data.toList.drop 71 = dktX4_depthOf_3 := dk_seg dksX4_depthOf_2 24 rfl rfl
theorem dX4_depthOf_0 : decode cX4_depthOf 0 = .ok (.lconst 0, 1) := dk_9 (dk_at dksX4_depthOf_0 0 rfl rfl)
theorem dX4_depthOf_1 : decode cX4_depthOf 1 = .ok (.lstore_n 2, 1) := dk_65 (dk_at dksX4_depthOf_0 1 rfl rfl)
theorem dX4_depthOf_2 : decode cX4_depthOf 2 = .ok (.iconst 0, 1) := dk_3 (dk_at dksX4_depthOf_0 2 rfl rfl)
theorem dX4_depthOf_3 : decode cX4_depthOf 3 = .ok (.istore 4, 2) := dk_54 4 (dk_at dksX4_depthOf_0 3 rfl rfl)
theorem dX4_depthOf_5 : decode cX4_depthOf 5 = .ok (.iload 4, 2) := dk_21 4 (dk_at dksX4_depthOf_0 5 rfl rfl)
theorem dX4_depthOf_7 : decode cX4_depthOf 7 = .ok (.aload_n 0, 1) := dk_42 (dk_at dksX4_depthOf_0 7 rfl rfl)
theorem dX4_depthOf_8 : decode cX4_depthOf 8 = .ok (.getfield 118, 3) := dk_180 0 118 (dk_at dksX4_depthOf_0 8 rfl rfl)
theorem dX4_depthOf_11 : decode cX4_depthOf 11 = .ok (.if_icmp .ge 45, 3) := dk_162 0 45 (dk_at dksX4_depthOf_0 11 rfl rfl)
theorem dX4_depthOf_14 : decode cX4_depthOf 14 = .ok (.lload_n 2, 1) := dk_32 (dk_at dksX4_depthOf_0 14 rfl rfl)
theorem dX4_depthOf_15 : decode cX4_depthOf 15 = .ok (.aload_n 0, 1) := dk_42 (dk_at dksX4_depthOf_0 15 rfl rfl)
theorem dX4_depthOf_16 : decode cX4_depthOf 16 = .ok (.getfield 32, 3) := dk_180 0 32 (dk_at dksX4_depthOf_0 16 rfl rfl)
theorem dX4_depthOf_19 : decode cX4_depthOf 19 = .ok (.iload 4, 2) := dk_21 4 (dk_at dksX4_depthOf_0 19 rfl rfl)
theorem dX4_depthOf_21 : decode cX4_depthOf 21 = .ok (.iaload, 1) := dk_46 (dk_at dksX4_depthOf_0 21 rfl rfl)
theorem dX4_depthOf_22 : decode cX4_depthOf 22 = .ok (.iconst 2, 1) := dk_5 (dk_at dksX4_depthOf_0 22 rfl rfl)
theorem dX4_depthOf_23 : decode cX4_depthOf 23 = .ok (.if_icmp .ne 24, 3) := dk_160 0 24 (dk_at dksX4_depthOf_1 0 rfl rfl)
theorem dX4_depthOf_26 : decode cX4_depthOf 26 = .ok (.aload_n 0, 1) := dk_42 (dk_at dksX4_depthOf_1 3 rfl rfl)
theorem dX4_depthOf_27 : decode cX4_depthOf 27 = .ok (.getfield 35, 3) := dk_180 0 35 (dk_at dksX4_depthOf_1 4 rfl rfl)
theorem dX4_depthOf_30 : decode cX4_depthOf 30 = .ok (.iload 4, 2) := dk_21 4 (dk_at dksX4_depthOf_1 7 rfl rfl)
theorem dX4_depthOf_32 : decode cX4_depthOf 32 = .ok (.iaload, 1) := dk_46 (dk_at dksX4_depthOf_1 9 rfl rfl)
theorem dX4_depthOf_33 : decode cX4_depthOf 33 = .ok (.iload_n 1, 1) := dk_27 (dk_at dksX4_depthOf_1 10 rfl rfl)
theorem dX4_depthOf_34 : decode cX4_depthOf 34 = .ok (.if_icmp .ne 13, 3) := dk_160 0 13 (dk_at dksX4_depthOf_1 11 rfl rfl)
theorem dX4_depthOf_37 : decode cX4_depthOf 37 = .ok (.aload_n 0, 1) := dk_42 (dk_at dksX4_depthOf_1 14 rfl rfl)
theorem dX4_depthOf_38 : decode cX4_depthOf 38 = .ok (.getfield 44, 3) := dk_180 0 44 (dk_at dksX4_depthOf_1 15 rfl rfl)
theorem dX4_depthOf_41 : decode cX4_depthOf 41 = .ok (.iload 4, 2) := dk_21 4 (dk_at dksX4_depthOf_1 18 rfl rfl)
theorem dX4_depthOf_43 : decode cX4_depthOf 43 = .ok (.laload, 1) := dk_47 (dk_at dksX4_depthOf_1 20 rfl rfl)
theorem dX4_depthOf_44 : decode cX4_depthOf 44 = .ok (.goto 4, 3) := dk_167 0 4 (dk_at dksX4_depthOf_1 21 rfl rfl)
theorem dX4_depthOf_47 : decode cX4_depthOf 47 = .ok (.lconst 0, 1) := dk_9 (dk_at dksX4_depthOf_2 0 rfl rfl)
theorem dX4_depthOf_48 : decode cX4_depthOf 48 = .ok (.ladd, 1) := dk_97 (dk_at dksX4_depthOf_2 1 rfl rfl)
theorem dX4_depthOf_49 : decode cX4_depthOf 49 = .ok (.lstore_n 2, 1) := dk_65 (dk_at dksX4_depthOf_2 2 rfl rfl)
theorem dX4_depthOf_50 : decode cX4_depthOf 50 = .ok (.iinc 4 1, 3) := dk_132 4 1 (dk_at dksX4_depthOf_2 3 rfl rfl)
theorem dX4_depthOf_53 : decode cX4_depthOf 53 = .ok (.goto (-48), 3) := dk_167 255 208 (dk_at dksX4_depthOf_2 6 rfl rfl)
theorem dX4_depthOf_56 : decode cX4_depthOf 56 = .ok (.aload_n 0, 1) := dk_42 (dk_at dksX4_depthOf_2 9 rfl rfl)
theorem dX4_depthOf_57 : decode cX4_depthOf 57 = .ok (.iload_n 1, 1) := dk_27 (dk_at dksX4_depthOf_2 10 rfl rfl)
theorem dX4_depthOf_58 : decode cX4_depthOf 58 = .ok (.invokevirtual 121, 3) := dk_182 0 121 (dk_at dksX4_depthOf_2 11 rfl rfl)
theorem dX4_depthOf_61 : decode cX4_depthOf 61 = .ok (.istore 4, 2) := dk_54 4 (dk_at dksX4_depthOf_2 14 rfl rfl)
theorem dX4_depthOf_63 : decode cX4_depthOf 63 = .ok (.iload 4, 2) := dk_21 4 (dk_at dksX4_depthOf_2 16 rfl rfl)
theorem dX4_depthOf_65 : decode cX4_depthOf 65 = .ok (.ifCond .ne 9, 3) := dk_154 0 9 (dk_at dksX4_depthOf_2 18 rfl rfl)
theorem dX4_depthOf_68 : decode cX4_depthOf 68 = .ok (.sipush 999, 3) := dk_17 3 231 (dk_at dksX4_depthOf_2 21 rfl rfl)
theorem dX4_depthOf_71 : decode cX4_depthOf 71 = .ok (.goto 9, 3) := dk_167 0 9 (dk_at dksX4_depthOf_3 0 rfl rfl)
theorem dX4_depthOf_74 : decode cX4_depthOf 74 = .ok (.lload_n 2, 1) := dk_32 (dk_at dksX4_depthOf_3 3 rfl rfl)
theorem dX4_depthOf_75 : decode cX4_depthOf 75 = .ok (.iload 4, 2) := dk_21 4 (dk_at dksX4_depthOf_3 4 rfl rfl)
theorem dX4_depthOf_77 : decode cX4_depthOf 77 = .ok (.i2l, 1) := dk_133 (dk_at dksX4_depthOf_3 6 rfl rfl)
theorem dX4_depthOf_78 : decode cX4_depthOf 78 = .ok (.ldiv, 1) := dk_109 (dk_at dksX4_depthOf_3 7 rfl rfl)
theorem dX4_depthOf_79 : decode cX4_depthOf 79 = .ok (.l2i, 1) := dk_136 (dk_at dksX4_depthOf_3 8 rfl rfl)
theorem dX4_depthOf_80 : decode cX4_depthOf 80 = .ok (.ireturn, 1) := dk_172 (dk_at dksX4_depthOf_3 9 rfl rfl)
abbrev cX4_lying : ByteArray := prog_14_method_11_code
def yX4_lying : MethodName := ⟨RX4, "lying", "(I)I"⟩
def dkwX4_lying_1 : List UInt8 := [180, 0, 35, 29, 46, 27, 160, 0, 7, 4, 167, 0, 4, 3, 96, 61, 132, 3, 1, 167, 255, 217, 28, 172]
abbrev dktX4_lying_1 : List UInt8 := dkwX4_lying_1 ++ []
def dkwX4_lying_0 : List UInt8 := [3, 61, 3, 62, 29, 42, 180, 0, 118, 162, 0, 37, 28, 42, 180, 0, 32, 29, 46, 5, 160, 0, 17, 42]
abbrev dktX4_lying_0 : List UInt8 := dkwX4_lying_0 ++ dktX4_lying_1
theorem dksX4_lying_0 : cX4_lying.data.toList.drop 0 = dktX4_lying_0 := by decide +kernel
theorem dksX4_lying_1 : cX4_lying.data.toList.drop 24 = dktX4_lying_1 := dk_seg dksX4_lying_0 24 rfl rfl
theorem dX4_lying_0 : decode cX4_lying 0 = .ok (.iconst 0, 1) := dk_3 (dk_at dksX4_lying_0 0 rfl rfl)
theorem dX4_lying_1 : decode cX4_lying 1 = .ok (.istore_n 2, 1) := dk_61 (dk_at dksX4_lying_0 1 rfl rfl)
theorem dX4_lying_2 : decode cX4_lying 2 = .ok (.iconst 0, 1) := dk_3 (dk_at dksX4_lying_0 2 rfl rfl)
theorem dX4_lying_3 : decode cX4_lying 3 = .ok (.istore_n 3, 1) := dk_62 (dk_at dksX4_lying_0 3 rfl rfl)
theorem dX4_lying_4 : decode cX4_lying 4 = .ok (.iload_n 3, 1) := dk_29 (dk_at dksX4_lying_0 4 rfl rfl)
theorem dX4_lying_5 : decode cX4_lying 5 = .ok (.aload_n 0, 1) := dk_42 (dk_at dksX4_lying_0 5 rfl rfl)
theorem dX4_lying_6 : decode cX4_lying 6 = .ok (.getfield 118, 3) := dk_180 0 118 (dk_at dksX4_lying_0 6 rfl rfl)
theorem dX4_lying_9 : decode cX4_lying 9 = .ok (.if_icmp .ge 37, 3) := dk_162 0 37 (dk_at dksX4_lying_0 9 rfl rfl)
theorem dX4_lying_12 : decode cX4_lying 12 = .ok (.iload_n 2, 1) := dk_28 (dk_at dksX4_lying_0 12 rfl rfl)
theorem dX4_lying_13 : decode cX4_lying 13 = .ok (.aload_n 0, 1) := dk_42 (dk_at dksX4_lying_0 13 rfl rfl)
theorem dX4_lying_14 : decode cX4_lying 14 = .ok (.getfield 32, 3) := dk_180 0 32 (dk_at dksX4_lying_0 14 rfl rfl)
theorem dX4_lying_17 : decode cX4_lying 17 = .ok (.iload_n 3, 1) := dk_29 (dk_at dksX4_lying_0 17 rfl rfl)
theorem dX4_lying_18 : decode cX4_lying 18 = .ok (.iaload, 1) := dk_46 (dk_at dksX4_lying_0 18 rfl rfl)
theorem dX4_lying_19 : decode cX4_lying 19 = .ok (.iconst 2, 1) := dk_5 (dk_at dksX4_lying_0 19 rfl rfl)
theorem dX4_lying_20 : decode cX4_lying 20 = .ok (.if_icmp .ne 17, 3) := dk_160 0 17 (dk_at dksX4_lying_0 20 rfl rfl)
theorem dX4_lying_23 : decode cX4_lying 23 = .ok (.aload_n 0, 1) := dk_42 (dk_at dksX4_lying_0 23 rfl rfl)
theorem dX4_lying_24 : decode cX4_lying 24 = .ok (.getfield 35, 3) := dk_180 0 35 (dk_at dksX4_lying_1 0 rfl rfl)
theorem dX4_lying_27 : decode cX4_lying 27 = .ok (.iload_n 3, 1) := dk_29 (dk_at dksX4_lying_1 3 rfl rfl)
theorem dX4_lying_28 : decode cX4_lying 28 = .ok (.iaload, 1) := dk_46 (dk_at dksX4_lying_1 4 rfl rfl)
theorem dX4_lying_29 : decode cX4_lying 29 = .ok (.iload_n 1, 1) := dk_27 (dk_at dksX4_lying_1 5 rfl rfl)
theorem dX4_lying_30 : decode cX4_lying 30 = .ok (.if_icmp .ne 7, 3) := dk_160 0 7 (dk_at dksX4_lying_1 6 rfl rfl)
theorem dX4_lying_33 : decode cX4_lying 33 = .ok (.iconst 1, 1) := dk_4 (dk_at dksX4_lying_1 9 rfl rfl)
theorem dX4_lying_34 : decode cX4_lying 34 = .ok (.goto 4, 3) := dk_167 0 4 (dk_at dksX4_lying_1 10 rfl rfl)
theorem dX4_lying_37 : decode cX4_lying 37 = .ok (.iconst 0, 1) := dk_3 (dk_at dksX4_lying_1 13 rfl rfl)
theorem dX4_lying_38 : decode cX4_lying 38 = .ok (.iadd, 1) := dk_96 (dk_at dksX4_lying_1 14 rfl rfl)
theorem dX4_lying_39 : decode cX4_lying 39 = .ok (.istore_n 2, 1) := dk_61 (dk_at dksX4_lying_1 15 rfl rfl)
theorem dX4_lying_40 : decode cX4_lying 40 = .ok (.iinc 3 1, 3) := dk_132 3 1 (dk_at dksX4_lying_1 16 rfl rfl)
theorem dX4_lying_43 : decode cX4_lying 43 = .ok (.goto (-39), 3) := dk_167 255 217 (dk_at dksX4_lying_1 19 rfl rfl)
theorem dX4_lying_46 : decode cX4_lying 46 = .ok (.iload_n 2, 1) := dk_28 (dk_at dksX4_lying_1 22 rfl rfl)
theorem dX4_lying_47 : decode cX4_lying 47 = .ok (.ireturn, 1) := dk_172 (dk_at dksX4_lying_1 23 rfl rfl)
abbrev cX4_stretch : ByteArray := prog_14_method_46_code
def yX4_stretch : MethodName := ⟨RX4, "stretch", "(II)I"⟩
def dkwX4_stretch_4 : List UInt8 := [180, 0, 7, 27, 46, 172]
abbrev dktX4_stretch_4 : List UInt8 := dkwX4_stretch_4 ++ []
def dkwX4_stretch_3 : List UInt8 := [172, 42, 27, 182, 0, 237, 172, 42, 27, 182, 0, 243, 153, 0, 7, 4, 167, 0, 4, 3, 172, 42]
abbrev dktX4_stretch_3 : List UInt8 := dkwX4_stretch_3 ++ dktX4_stretch_4
def dkwX4_stretch_2 : List UInt8 := [42, 27, 182, 0, 121, 172, 42, 27, 182, 0, 234, 172, 42, 27, 182, 0, 240, 172, 42, 180, 0, 19, 27, 46]
abbrev dktX4_stretch_2 : List UInt8 := dkwX4_stretch_2 ++ dktX4_stretch_3
def dkwX4_stretch_1 : List UInt8 := [170, 0, 0, 0, 82, 0, 0, 0, 0, 0, 0, 0, 5, 0, 0, 0, 37, 0, 0, 0, 43, 0, 0, 0, 49, 0, 0, 0, 55, 0, 0, 0, 62, 0, 0, 0, 68]
abbrev dktX4_stretch_1 : List UInt8 := dkwX4_stretch_1 ++ dktX4_stretch_2
def dkwX4_stretch_0 : List UInt8 := [42, 27, 184, 0, 180, 28, 133, 9, 20, 0, 221, 184, 0, 112, 182, 0, 173, 154, 0, 5, 3, 172, 28]
abbrev dktX4_stretch_0 : List UInt8 := dkwX4_stretch_0 ++ dktX4_stretch_1
theorem dksX4_stretch_0 : cX4_stretch.data.toList.drop 0 = dktX4_stretch_0 := by decide +kernel
theorem dksX4_stretch_1 : cX4_stretch.data.toList.drop 23 = dktX4_stretch_1 := dk_seg dksX4_stretch_0 23 rfl rfl
theorem dksX4_stretch_2 : cX4_stretch.data.toList.drop 60 = dktX4_stretch_2 := dk_seg dksX4_stretch_1 37 rfl rfl
theorem dksX4_stretch_3 : cX4_stretch.data.toList.drop 84 = dktX4_stretch_3 := dk_seg dksX4_stretch_2 24 rfl rfl
theorem dksX4_stretch_4 : cX4_stretch.data.toList.drop 106 = dktX4_stretch_4 := dk_seg dksX4_stretch_3 22 rfl rfl
theorem dX4_stretch_0 : decode cX4_stretch 0 = .ok (.aload_n 0, 1) := dk_42 (dk_at dksX4_stretch_0 0 rfl rfl)
theorem dX4_stretch_1 : decode cX4_stretch 1 = .ok (.iload_n 1, 1) := dk_27 (dk_at dksX4_stretch_0 1 rfl rfl)
theorem dX4_stretch_2 : decode cX4_stretch 2 = .ok (.invokestatic 180, 3) := dk_184 0 180 (dk_at dksX4_stretch_0 2 rfl rfl)
theorem dX4_stretch_5 : decode cX4_stretch 5 = .ok (.iload_n 2, 1) := dk_28 (dk_at dksX4_stretch_0 5 rfl rfl)
theorem dX4_stretch_6 : decode cX4_stretch 6 = .ok (.i2l, 1) := dk_133 (dk_at dksX4_stretch_0 6 rfl rfl)
theorem dX4_stretch_7 : decode cX4_stretch 7 = .ok (.lconst 0, 1) := dk_9 (dk_at dksX4_stretch_0 7 rfl rfl)
theorem dX4_stretch_8 : decode cX4_stretch 8 = .ok (.ldc2_w 221, 3) := dk_20 0 221 (dk_at dksX4_stretch_0 8 rfl rfl)
theorem dX4_stretch_11 : decode cX4_stretch 11 = .ok (.invokestatic 112, 3) := dk_184 0 112 (dk_at dksX4_stretch_0 11 rfl rfl)
theorem dX4_stretch_14 : decode cX4_stretch 14 = .ok (.invokevirtual 173, 3) := dk_182 0 173 (dk_at dksX4_stretch_0 14 rfl rfl)
theorem dX4_stretch_17 : decode cX4_stretch 17 = .ok (.ifCond .ne 5, 3) := dk_154 0 5 (dk_at dksX4_stretch_0 17 rfl rfl)
theorem dX4_stretch_20 : decode cX4_stretch 20 = .ok (.iconst 0, 1) := dk_3 (dk_at dksX4_stretch_0 20 rfl rfl)
theorem dX4_stretch_21 : decode cX4_stretch 21 = .ok (.ireturn, 1) := dk_172 (dk_at dksX4_stretch_0 21 rfl rfl)
theorem dX4_stretch_22 : decode cX4_stretch 22 = .ok (.iload_n 2, 1) := dk_28 (dk_at dksX4_stretch_0 22 rfl rfl)
theorem dX4_stretch_23 : decode cX4_stretch 23 = .ok (.tableswitch 82 0 5 #[37, 43, 49, 55, 62, 68], 37) := by decide +kernel
theorem dX4_stretch_60 : decode cX4_stretch 60 = .ok (.aload_n 0, 1) := dk_42 (dk_at dksX4_stretch_2 0 rfl rfl)
theorem dX4_stretch_61 : decode cX4_stretch 61 = .ok (.iload_n 1, 1) := dk_27 (dk_at dksX4_stretch_2 1 rfl rfl)
theorem dX4_stretch_62 : decode cX4_stretch 62 = .ok (.invokevirtual 121, 3) := dk_182 0 121 (dk_at dksX4_stretch_2 2 rfl rfl)
theorem dX4_stretch_65 : decode cX4_stretch 65 = .ok (.ireturn, 1) := dk_172 (dk_at dksX4_stretch_2 5 rfl rfl)
theorem dX4_stretch_66 : decode cX4_stretch 66 = .ok (.aload_n 0, 1) := dk_42 (dk_at dksX4_stretch_2 6 rfl rfl)
theorem dX4_stretch_67 : decode cX4_stretch 67 = .ok (.iload_n 1, 1) := dk_27 (dk_at dksX4_stretch_2 7 rfl rfl)
theorem dX4_stretch_68 : decode cX4_stretch 68 = .ok (.invokevirtual 234, 3) := dk_182 0 234 (dk_at dksX4_stretch_2 8 rfl rfl)
theorem dX4_stretch_71 : decode cX4_stretch 71 = .ok (.ireturn, 1) := dk_172 (dk_at dksX4_stretch_2 11 rfl rfl)
theorem dX4_stretch_72 : decode cX4_stretch 72 = .ok (.aload_n 0, 1) := dk_42 (dk_at dksX4_stretch_2 12 rfl rfl)
theorem dX4_stretch_73 : decode cX4_stretch 73 = .ok (.iload_n 1, 1) := dk_27 (dk_at dksX4_stretch_2 13 rfl rfl)
theorem dX4_stretch_74 : decode cX4_stretch 74 = .ok (.invokevirtual 240, 3) := dk_182 0 240 (dk_at dksX4_stretch_2 14 rfl rfl)
theorem dX4_stretch_77 : decode cX4_stretch 77 = .ok (.ireturn, 1) := dk_172 (dk_at dksX4_stretch_2 17 rfl rfl)
theorem dX4_stretch_78 : decode cX4_stretch 78 = .ok (.aload_n 0, 1) := dk_42 (dk_at dksX4_stretch_2 18 rfl rfl)
theorem dX4_stretch_79 : decode cX4_stretch 79 = .ok (.getfield 19, 3) := dk_180 0 19 (dk_at dksX4_stretch_2 19 rfl rfl)
theorem dX4_stretch_82 : decode cX4_stretch 82 = .ok (.iload_n 1, 1) := dk_27 (dk_at dksX4_stretch_2 22 rfl rfl)
theorem dX4_stretch_83 : decode cX4_stretch 83 = .ok (.iaload, 1) := dk_46 (dk_at dksX4_stretch_2 23 rfl rfl)
theorem dX4_stretch_84 : decode cX4_stretch 84 = .ok (.ireturn, 1) := dk_172 (dk_at dksX4_stretch_3 0 rfl rfl)
theorem dX4_stretch_85 : decode cX4_stretch 85 = .ok (.aload_n 0, 1) := dk_42 (dk_at dksX4_stretch_3 1 rfl rfl)
theorem dX4_stretch_86 : decode cX4_stretch 86 = .ok (.iload_n 1, 1) := dk_27 (dk_at dksX4_stretch_3 2 rfl rfl)
theorem dX4_stretch_87 : decode cX4_stretch 87 = .ok (.invokevirtual 237, 3) := dk_182 0 237 (dk_at dksX4_stretch_3 3 rfl rfl)
theorem dX4_stretch_90 : decode cX4_stretch 90 = .ok (.ireturn, 1) := dk_172 (dk_at dksX4_stretch_3 6 rfl rfl)
theorem dX4_stretch_91 : decode cX4_stretch 91 = .ok (.aload_n 0, 1) := dk_42 (dk_at dksX4_stretch_3 7 rfl rfl)
theorem dX4_stretch_92 : decode cX4_stretch 92 = .ok (.iload_n 1, 1) := dk_27 (dk_at dksX4_stretch_3 8 rfl rfl)
theorem dX4_stretch_93 : decode cX4_stretch 93 = .ok (.invokevirtual 243, 3) := dk_182 0 243 (dk_at dksX4_stretch_3 9 rfl rfl)
theorem dX4_stretch_96 : decode cX4_stretch 96 = .ok (.ifCond .eq 7, 3) := dk_153 0 7 (dk_at dksX4_stretch_3 12 rfl rfl)
theorem dX4_stretch_99 : decode cX4_stretch 99 = .ok (.iconst 1, 1) := dk_4 (dk_at dksX4_stretch_3 15 rfl rfl)
theorem dX4_stretch_100 : decode cX4_stretch 100 = .ok (.goto 4, 3) := dk_167 0 4 (dk_at dksX4_stretch_3 16 rfl rfl)
theorem dX4_stretch_103 : decode cX4_stretch 103 = .ok (.iconst 0, 1) := dk_3 (dk_at dksX4_stretch_3 19 rfl rfl)
theorem dX4_stretch_104 : decode cX4_stretch 104 = .ok (.ireturn, 1) := dk_172 (dk_at dksX4_stretch_3 20 rfl rfl)
theorem dX4_stretch_105 : decode cX4_stretch 105 = .ok (.aload_n 0, 1) := dk_42 (dk_at dksX4_stretch_3 21 rfl rfl)
theorem dX4_stretch_106 : decode cX4_stretch 106 = .ok (.getfield 7, 3) := dk_180 0 7 (dk_at dksX4_stretch_4 0 rfl rfl)
theorem dX4_stretch_109 : decode cX4_stretch 109 = .ok (.iload_n 1, 1) := dk_27 (dk_at dksX4_stretch_4 3 rfl rfl)
theorem dX4_stretch_110 : decode cX4_stretch 110 = .ok (.iaload, 1) := dk_46 (dk_at dksX4_stretch_4 4 rfl rfl)
theorem dX4_stretch_111 : decode cX4_stretch 111 = .ok (.ireturn, 1) := dk_172 (dk_at dksX4_stretch_4 5 rfl rfl)
abbrev cX4_deepest : ByteArray := prog_14_method_45_code
def yX4_deepest : MethodName := ⟨RX4, "deepest", "(I)I"⟩
def dkwX4_deepest_2 : List UInt8 := [158, 0, 11, 42, 180, 0, 44, 21, 4, 47, 65, 132, 4, 1, 167, 255, 202, 32, 136, 172]
abbrev dktX4_deepest_2 : List UInt8 := dkwX4_deepest_2 ++ []
def dkwX4_deepest_1 : List UInt8 := [160, 0, 34, 42, 180, 0, 35, 21, 4, 46, 27, 160, 0, 23, 42, 180, 0, 44, 21, 4, 47, 32, 148]
abbrev dktX4_deepest_1 : List UInt8 := dkwX4_deepest_1 ++ dktX4_deepest_2
def dkwX4_deepest_0 : List UInt8 := [9, 65, 3, 54, 4, 21, 4, 42, 180, 0, 118, 162, 0, 51, 42, 180, 0, 32, 21, 4, 46, 5]
abbrev dktX4_deepest_0 : List UInt8 := dkwX4_deepest_0 ++ dktX4_deepest_1
theorem dksX4_deepest_0 : cX4_deepest.data.toList.drop 0 = dktX4_deepest_0 := by decide +kernel
theorem dksX4_deepest_1 : cX4_deepest.data.toList.drop 22 = dktX4_deepest_1 := dk_seg dksX4_deepest_0 22 rfl rfl
theorem dksX4_deepest_2 : cX4_deepest.data.toList.drop 45 = dktX4_deepest_2 := dk_seg dksX4_deepest_1 23 rfl rfl
theorem dX4_deepest_0 : decode cX4_deepest 0 = .ok (.lconst 0, 1) := dk_9 (dk_at dksX4_deepest_0 0 rfl rfl)
theorem dX4_deepest_1 : decode cX4_deepest 1 = .ok (.lstore_n 2, 1) := dk_65 (dk_at dksX4_deepest_0 1 rfl rfl)
theorem dX4_deepest_2 : decode cX4_deepest 2 = .ok (.iconst 0, 1) := dk_3 (dk_at dksX4_deepest_0 2 rfl rfl)
theorem dX4_deepest_3 : decode cX4_deepest 3 = .ok (.istore 4, 2) := dk_54 4 (dk_at dksX4_deepest_0 3 rfl rfl)
theorem dX4_deepest_5 : decode cX4_deepest 5 = .ok (.iload 4, 2) := dk_21 4 (dk_at dksX4_deepest_0 5 rfl rfl)
theorem dX4_deepest_7 : decode cX4_deepest 7 = .ok (.aload_n 0, 1) := dk_42 (dk_at dksX4_deepest_0 7 rfl rfl)
theorem dX4_deepest_8 : decode cX4_deepest 8 = .ok (.getfield 118, 3) := dk_180 0 118 (dk_at dksX4_deepest_0 8 rfl rfl)
theorem dX4_deepest_11 : decode cX4_deepest 11 = .ok (.if_icmp .ge 51, 3) := dk_162 0 51 (dk_at dksX4_deepest_0 11 rfl rfl)
theorem dX4_deepest_14 : decode cX4_deepest 14 = .ok (.aload_n 0, 1) := dk_42 (dk_at dksX4_deepest_0 14 rfl rfl)
theorem dX4_deepest_15 : decode cX4_deepest 15 = .ok (.getfield 32, 3) := dk_180 0 32 (dk_at dksX4_deepest_0 15 rfl rfl)
theorem dX4_deepest_18 : decode cX4_deepest 18 = .ok (.iload 4, 2) := dk_21 4 (dk_at dksX4_deepest_0 18 rfl rfl)
theorem dX4_deepest_20 : decode cX4_deepest 20 = .ok (.iaload, 1) := dk_46 (dk_at dksX4_deepest_0 20 rfl rfl)
theorem dX4_deepest_21 : decode cX4_deepest 21 = .ok (.iconst 2, 1) := dk_5 (dk_at dksX4_deepest_0 21 rfl rfl)
theorem dX4_deepest_22 : decode cX4_deepest 22 = .ok (.if_icmp .ne 34, 3) := dk_160 0 34 (dk_at dksX4_deepest_1 0 rfl rfl)
theorem dX4_deepest_25 : decode cX4_deepest 25 = .ok (.aload_n 0, 1) := dk_42 (dk_at dksX4_deepest_1 3 rfl rfl)
theorem dX4_deepest_26 : decode cX4_deepest 26 = .ok (.getfield 35, 3) := dk_180 0 35 (dk_at dksX4_deepest_1 4 rfl rfl)
theorem dX4_deepest_29 : decode cX4_deepest 29 = .ok (.iload 4, 2) := dk_21 4 (dk_at dksX4_deepest_1 7 rfl rfl)
theorem dX4_deepest_31 : decode cX4_deepest 31 = .ok (.iaload, 1) := dk_46 (dk_at dksX4_deepest_1 9 rfl rfl)
theorem dX4_deepest_32 : decode cX4_deepest 32 = .ok (.iload_n 1, 1) := dk_27 (dk_at dksX4_deepest_1 10 rfl rfl)
theorem dX4_deepest_33 : decode cX4_deepest 33 = .ok (.if_icmp .ne 23, 3) := dk_160 0 23 (dk_at dksX4_deepest_1 11 rfl rfl)
theorem dX4_deepest_36 : decode cX4_deepest 36 = .ok (.aload_n 0, 1) := dk_42 (dk_at dksX4_deepest_1 14 rfl rfl)
theorem dX4_deepest_37 : decode cX4_deepest 37 = .ok (.getfield 44, 3) := dk_180 0 44 (dk_at dksX4_deepest_1 15 rfl rfl)
theorem dX4_deepest_40 : decode cX4_deepest 40 = .ok (.iload 4, 2) := dk_21 4 (dk_at dksX4_deepest_1 18 rfl rfl)
theorem dX4_deepest_42 : decode cX4_deepest 42 = .ok (.laload, 1) := dk_47 (dk_at dksX4_deepest_1 20 rfl rfl)
theorem dX4_deepest_43 : decode cX4_deepest 43 = .ok (.lload_n 2, 1) := dk_32 (dk_at dksX4_deepest_1 21 rfl rfl)
theorem dX4_deepest_44 : decode cX4_deepest 44 = .ok (.lcmp, 1) := dk_148 (dk_at dksX4_deepest_1 22 rfl rfl)
theorem dX4_deepest_45 : decode cX4_deepest 45 = .ok (.ifCond .le 11, 3) := dk_158 0 11 (dk_at dksX4_deepest_2 0 rfl rfl)
theorem dX4_deepest_48 : decode cX4_deepest 48 = .ok (.aload_n 0, 1) := dk_42 (dk_at dksX4_deepest_2 3 rfl rfl)
theorem dX4_deepest_49 : decode cX4_deepest 49 = .ok (.getfield 44, 3) := dk_180 0 44 (dk_at dksX4_deepest_2 4 rfl rfl)
theorem dX4_deepest_52 : decode cX4_deepest 52 = .ok (.iload 4, 2) := dk_21 4 (dk_at dksX4_deepest_2 7 rfl rfl)
theorem dX4_deepest_54 : decode cX4_deepest 54 = .ok (.laload, 1) := dk_47 (dk_at dksX4_deepest_2 9 rfl rfl)
theorem dX4_deepest_55 : decode cX4_deepest 55 = .ok (.lstore_n 2, 1) := dk_65 (dk_at dksX4_deepest_2 10 rfl rfl)
theorem dX4_deepest_56 : decode cX4_deepest 56 = .ok (.iinc 4 1, 3) := dk_132 4 1 (dk_at dksX4_deepest_2 11 rfl rfl)
theorem dX4_deepest_59 : decode cX4_deepest 59 = .ok (.goto (-54), 3) := dk_167 255 202 (dk_at dksX4_deepest_2 14 rfl rfl)
theorem dX4_deepest_62 : decode cX4_deepest 62 = .ok (.lload_n 2, 1) := dk_32 (dk_at dksX4_deepest_2 17 rfl rfl)
theorem dX4_deepest_63 : decode cX4_deepest 63 = .ok (.l2i, 1) := dk_136 (dk_at dksX4_deepest_2 18 rfl rfl)
theorem dX4_deepest_64 : decode cX4_deepest 64 = .ok (.ireturn, 1) := dk_172 (dk_at dksX4_deepest_2 19 rfl rfl)
abbrev cX4_guess : ByteArray := prog_14_method_43_code
def yX4_guess : MethodName := ⟨RX4, "guess", "(I)I"⟩
def dkwX4_guess_5 : List UInt8 := [160, 0, 7, 3, 167, 0, 9, 42, 180, 0, 16, 27, 46, 172]
abbrev dktX4_guess_5 : List UInt8 := dkwX4_guess_5 ++ []
def dkwX4_guess_4 : List UInt8 := [180, 0, 62, 28, 46, 42, 180, 0, 68, 28, 46, 182, 0, 231, 172, 42, 180, 0, 16, 27, 46, 2]
abbrev dktX4_guess_4 : List UInt8 := dkwX4_guess_4 ++ dktX4_guess_5
def dkwX4_guess_3 : List UInt8 := [42, 180, 0, 74, 28, 46, 161, 0, 6, 21, 4, 61, 132, 4, 1, 167, 255, 176, 29, 153, 0, 20, 42, 42]
abbrev dktX4_guess_3 : List UInt8 := dkwX4_guess_3 ++ dktX4_guess_4
def dkwX4_guess_2 : List UInt8 := [21, 4, 51, 154, 0, 7, 4, 167, 0, 4, 3, 62, 28, 2, 159, 0, 19, 42, 180, 0, 74, 21, 4, 46]
abbrev dktX4_guess_2 : List UInt8 := dkwX4_guess_2 ++ dktX4_guess_3
def dkwX4_guess_1 : List UInt8 := [160, 0, 60, 42, 180, 0, 77, 21, 4, 51, 154, 0, 6, 167, 0, 47, 29, 154, 0, 13, 42, 180, 0, 81]
abbrev dktX4_guess_1 : List UInt8 := dkwX4_guess_1 ++ dktX4_guess_2
def dkwX4_guess_0 : List UInt8 := [2, 61, 3, 62, 3, 54, 4, 21, 4, 42, 180, 0, 215, 162, 0, 77, 42, 180, 0, 65, 21, 4, 46, 27]
abbrev dktX4_guess_0 : List UInt8 := dkwX4_guess_0 ++ dktX4_guess_1
theorem dksX4_guess_0 : cX4_guess.data.toList.drop 0 = dktX4_guess_0 := by decide +kernel
theorem dksX4_guess_1 : cX4_guess.data.toList.drop 24 = dktX4_guess_1 := dk_seg dksX4_guess_0 24 rfl rfl
theorem dksX4_guess_2 : cX4_guess.data.toList.drop 48 = dktX4_guess_2 := dk_seg dksX4_guess_1 24 rfl rfl
theorem dksX4_guess_3 : cX4_guess.data.toList.drop 72 = dktX4_guess_3 := dk_seg dksX4_guess_2 24 rfl rfl
theorem dksX4_guess_4 : cX4_guess.data.toList.drop 96 = dktX4_guess_4 := dk_seg dksX4_guess_3 24 rfl rfl
theorem dksX4_guess_5 : cX4_guess.data.toList.drop 118 = dktX4_guess_5 := dk_seg dksX4_guess_4 22 rfl rfl
theorem dX4_guess_0 : decode cX4_guess 0 = .ok (.iconst (-1), 1) := dk_2 (dk_at dksX4_guess_0 0 rfl rfl)
theorem dX4_guess_1 : decode cX4_guess 1 = .ok (.istore_n 2, 1) := dk_61 (dk_at dksX4_guess_0 1 rfl rfl)
theorem dX4_guess_2 : decode cX4_guess 2 = .ok (.iconst 0, 1) := dk_3 (dk_at dksX4_guess_0 2 rfl rfl)
theorem dX4_guess_3 : decode cX4_guess 3 = .ok (.istore_n 3, 1) := dk_62 (dk_at dksX4_guess_0 3 rfl rfl)
theorem dX4_guess_4 : decode cX4_guess 4 = .ok (.iconst 0, 1) := dk_3 (dk_at dksX4_guess_0 4 rfl rfl)
theorem dX4_guess_5 : decode cX4_guess 5 = .ok (.istore 4, 2) := dk_54 4 (dk_at dksX4_guess_0 5 rfl rfl)
theorem dX4_guess_7 : decode cX4_guess 7 = .ok (.iload 4, 2) := dk_21 4 (dk_at dksX4_guess_0 7 rfl rfl)
theorem dX4_guess_9 : decode cX4_guess 9 = .ok (.aload_n 0, 1) := dk_42 (dk_at dksX4_guess_0 9 rfl rfl)
theorem dX4_guess_10 : decode cX4_guess 10 = .ok (.getfield 215, 3) := dk_180 0 215 (dk_at dksX4_guess_0 10 rfl rfl)
theorem dX4_guess_13 : decode cX4_guess 13 = .ok (.if_icmp .ge 77, 3) := dk_162 0 77 (dk_at dksX4_guess_0 13 rfl rfl)
theorem dX4_guess_16 : decode cX4_guess 16 = .ok (.aload_n 0, 1) := dk_42 (dk_at dksX4_guess_0 16 rfl rfl)
theorem dX4_guess_17 : decode cX4_guess 17 = .ok (.getfield 65, 3) := dk_180 0 65 (dk_at dksX4_guess_0 17 rfl rfl)
theorem dX4_guess_20 : decode cX4_guess 20 = .ok (.iload 4, 2) := dk_21 4 (dk_at dksX4_guess_0 20 rfl rfl)
theorem dX4_guess_22 : decode cX4_guess 22 = .ok (.iaload, 1) := dk_46 (dk_at dksX4_guess_0 22 rfl rfl)
theorem dX4_guess_23 : decode cX4_guess 23 = .ok (.iload_n 1, 1) := dk_27 (dk_at dksX4_guess_0 23 rfl rfl)
theorem dX4_guess_24 : decode cX4_guess 24 = .ok (.if_icmp .ne 60, 3) := dk_160 0 60 (dk_at dksX4_guess_1 0 rfl rfl)
theorem dX4_guess_27 : decode cX4_guess 27 = .ok (.aload_n 0, 1) := dk_42 (dk_at dksX4_guess_1 3 rfl rfl)
theorem dX4_guess_28 : decode cX4_guess 28 = .ok (.getfield 77, 3) := dk_180 0 77 (dk_at dksX4_guess_1 4 rfl rfl)
theorem dX4_guess_31 : decode cX4_guess 31 = .ok (.iload 4, 2) := dk_21 4 (dk_at dksX4_guess_1 7 rfl rfl)
theorem dX4_guess_33 : decode cX4_guess 33 = .ok (.baload, 1) := dk_51 (dk_at dksX4_guess_1 9 rfl rfl)
theorem dX4_guess_34 : decode cX4_guess 34 = .ok (.ifCond .ne 6, 3) := dk_154 0 6 (dk_at dksX4_guess_1 10 rfl rfl)
theorem dX4_guess_37 : decode cX4_guess 37 = .ok (.goto 47, 3) := dk_167 0 47 (dk_at dksX4_guess_1 13 rfl rfl)
theorem dX4_guess_40 : decode cX4_guess 40 = .ok (.iload_n 3, 1) := dk_29 (dk_at dksX4_guess_1 16 rfl rfl)
theorem dX4_guess_41 : decode cX4_guess 41 = .ok (.ifCond .ne 13, 3) := dk_154 0 13 (dk_at dksX4_guess_1 17 rfl rfl)
theorem dX4_guess_44 : decode cX4_guess 44 = .ok (.aload_n 0, 1) := dk_42 (dk_at dksX4_guess_1 20 rfl rfl)
theorem dX4_guess_45 : decode cX4_guess 45 = .ok (.getfield 81, 3) := dk_180 0 81 (dk_at dksX4_guess_1 21 rfl rfl)
theorem dX4_guess_48 : decode cX4_guess 48 = .ok (.iload 4, 2) := dk_21 4 (dk_at dksX4_guess_2 0 rfl rfl)
theorem dX4_guess_50 : decode cX4_guess 50 = .ok (.baload, 1) := dk_51 (dk_at dksX4_guess_2 2 rfl rfl)
theorem dX4_guess_51 : decode cX4_guess 51 = .ok (.ifCond .ne 7, 3) := dk_154 0 7 (dk_at dksX4_guess_2 3 rfl rfl)
theorem dX4_guess_54 : decode cX4_guess 54 = .ok (.iconst 1, 1) := dk_4 (dk_at dksX4_guess_2 6 rfl rfl)
theorem dX4_guess_55 : decode cX4_guess 55 = .ok (.goto 4, 3) := dk_167 0 4 (dk_at dksX4_guess_2 7 rfl rfl)
theorem dX4_guess_58 : decode cX4_guess 58 = .ok (.iconst 0, 1) := dk_3 (dk_at dksX4_guess_2 10 rfl rfl)
theorem dX4_guess_59 : decode cX4_guess 59 = .ok (.istore_n 3, 1) := dk_62 (dk_at dksX4_guess_2 11 rfl rfl)
theorem dX4_guess_60 : decode cX4_guess 60 = .ok (.iload_n 2, 1) := dk_28 (dk_at dksX4_guess_2 12 rfl rfl)
theorem dX4_guess_61 : decode cX4_guess 61 = .ok (.iconst (-1), 1) := dk_2 (dk_at dksX4_guess_2 13 rfl rfl)
theorem dX4_guess_62 : decode cX4_guess 62 = .ok (.if_icmp .eq 19, 3) := dk_159 0 19 (dk_at dksX4_guess_2 14 rfl rfl)
theorem dX4_guess_65 : decode cX4_guess 65 = .ok (.aload_n 0, 1) := dk_42 (dk_at dksX4_guess_2 17 rfl rfl)
theorem dX4_guess_66 : decode cX4_guess 66 = .ok (.getfield 74, 3) := dk_180 0 74 (dk_at dksX4_guess_2 18 rfl rfl)
theorem dX4_guess_69 : decode cX4_guess 69 = .ok (.iload 4, 2) := dk_21 4 (dk_at dksX4_guess_2 21 rfl rfl)
theorem dX4_guess_71 : decode cX4_guess 71 = .ok (.iaload, 1) := dk_46 (dk_at dksX4_guess_2 23 rfl rfl)
theorem dX4_guess_72 : decode cX4_guess 72 = .ok (.aload_n 0, 1) := dk_42 (dk_at dksX4_guess_3 0 rfl rfl)
theorem dX4_guess_73 : decode cX4_guess 73 = .ok (.getfield 74, 3) := dk_180 0 74 (dk_at dksX4_guess_3 1 rfl rfl)
theorem dX4_guess_76 : decode cX4_guess 76 = .ok (.iload_n 2, 1) := dk_28 (dk_at dksX4_guess_3 4 rfl rfl)
theorem dX4_guess_77 : decode cX4_guess 77 = .ok (.iaload, 1) := dk_46 (dk_at dksX4_guess_3 5 rfl rfl)
theorem dX4_guess_78 : decode cX4_guess 78 = .ok (.if_icmp .lt 6, 3) := dk_161 0 6 (dk_at dksX4_guess_3 6 rfl rfl)
theorem dX4_guess_81 : decode cX4_guess 81 = .ok (.iload 4, 2) := dk_21 4 (dk_at dksX4_guess_3 9 rfl rfl)
theorem dX4_guess_83 : decode cX4_guess 83 = .ok (.istore_n 2, 1) := dk_61 (dk_at dksX4_guess_3 11 rfl rfl)
theorem dX4_guess_84 : decode cX4_guess 84 = .ok (.iinc 4 1, 3) := dk_132 4 1 (dk_at dksX4_guess_3 12 rfl rfl)
theorem dX4_guess_87 : decode cX4_guess 87 = .ok (.goto (-80), 3) := dk_167 255 176 (dk_at dksX4_guess_3 15 rfl rfl)
theorem dX4_guess_90 : decode cX4_guess 90 = .ok (.iload_n 3, 1) := dk_29 (dk_at dksX4_guess_3 18 rfl rfl)
theorem dX4_guess_91 : decode cX4_guess 91 = .ok (.ifCond .eq 20, 3) := dk_153 0 20 (dk_at dksX4_guess_3 19 rfl rfl)
theorem dX4_guess_94 : decode cX4_guess 94 = .ok (.aload_n 0, 1) := dk_42 (dk_at dksX4_guess_3 22 rfl rfl)
theorem dX4_guess_95 : decode cX4_guess 95 = .ok (.aload_n 0, 1) := dk_42 (dk_at dksX4_guess_3 23 rfl rfl)
theorem dX4_guess_96 : decode cX4_guess 96 = .ok (.getfield 62, 3) := dk_180 0 62 (dk_at dksX4_guess_4 0 rfl rfl)
theorem dX4_guess_99 : decode cX4_guess 99 = .ok (.iload_n 2, 1) := dk_28 (dk_at dksX4_guess_4 3 rfl rfl)
theorem dX4_guess_100 : decode cX4_guess 100 = .ok (.iaload, 1) := dk_46 (dk_at dksX4_guess_4 4 rfl rfl)
theorem dX4_guess_101 : decode cX4_guess 101 = .ok (.aload_n 0, 1) := dk_42 (dk_at dksX4_guess_4 5 rfl rfl)
theorem dX4_guess_102 : decode cX4_guess 102 = .ok (.getfield 68, 3) := dk_180 0 68 (dk_at dksX4_guess_4 6 rfl rfl)
theorem dX4_guess_105 : decode cX4_guess 105 = .ok (.iload_n 2, 1) := dk_28 (dk_at dksX4_guess_4 9 rfl rfl)
theorem dX4_guess_106 : decode cX4_guess 106 = .ok (.iaload, 1) := dk_46 (dk_at dksX4_guess_4 10 rfl rfl)
theorem dX4_guess_107 : decode cX4_guess 107 = .ok (.invokevirtual 231, 3) := dk_182 0 231 (dk_at dksX4_guess_4 11 rfl rfl)
theorem dX4_guess_110 : decode cX4_guess 110 = .ok (.ireturn, 1) := dk_172 (dk_at dksX4_guess_4 14 rfl rfl)
theorem dX4_guess_111 : decode cX4_guess 111 = .ok (.aload_n 0, 1) := dk_42 (dk_at dksX4_guess_4 15 rfl rfl)
theorem dX4_guess_112 : decode cX4_guess 112 = .ok (.getfield 16, 3) := dk_180 0 16 (dk_at dksX4_guess_4 16 rfl rfl)
theorem dX4_guess_115 : decode cX4_guess 115 = .ok (.iload_n 1, 1) := dk_27 (dk_at dksX4_guess_4 19 rfl rfl)
theorem dX4_guess_116 : decode cX4_guess 116 = .ok (.iaload, 1) := dk_46 (dk_at dksX4_guess_4 20 rfl rfl)
theorem dX4_guess_117 : decode cX4_guess 117 = .ok (.iconst (-1), 1) := dk_2 (dk_at dksX4_guess_4 21 rfl rfl)
theorem dX4_guess_118 : decode cX4_guess 118 = .ok (.if_icmp .ne 7, 3) := dk_160 0 7 (dk_at dksX4_guess_5 0 rfl rfl)
theorem dX4_guess_121 : decode cX4_guess 121 = .ok (.iconst 0, 1) := dk_3 (dk_at dksX4_guess_5 3 rfl rfl)
theorem dX4_guess_122 : decode cX4_guess 122 = .ok (.goto 9, 3) := dk_167 0 9 (dk_at dksX4_guess_5 4 rfl rfl)
theorem dX4_guess_125 : decode cX4_guess 125 = .ok (.aload_n 0, 1) := dk_42 (dk_at dksX4_guess_5 7 rfl rfl)
theorem dX4_guess_126 : decode cX4_guess 126 = .ok (.getfield 16, 3) := dk_180 0 16 (dk_at dksX4_guess_5 8 rfl rfl)
theorem dX4_guess_129 : decode cX4_guess 129 = .ok (.iload_n 1, 1) := dk_27 (dk_at dksX4_guess_5 11 rfl rfl)
theorem dX4_guess_130 : decode cX4_guess 130 = .ok (.iaload, 1) := dk_46 (dk_at dksX4_guess_5 12 rfl rfl)
theorem dX4_guess_131 : decode cX4_guess 131 = .ok (.ireturn, 1) := dk_172 (dk_at dksX4_guess_5 13 rfl rfl)
abbrev cX4_isDoubted : ByteArray := prog_14_method_44_code
def yX4_isDoubted : MethodName := ⟨RX4, "isDoubted", "(I)Z"⟩
def dkwX4_isDoubted_0 : List UInt8 := [42, 27, 182, 0, 237, 42, 180, 0, 103, 161, 0, 7, 4, 167, 0, 4, 3, 172]
abbrev dktX4_isDoubted_0 : List UInt8 := dkwX4_isDoubted_0 ++ []
theorem dksX4_isDoubted_0 : cX4_isDoubted.data.toList.drop 0 = dktX4_isDoubted_0 := by decide +kernel
theorem dX4_isDoubted_0 : decode cX4_isDoubted 0 = .ok (.aload_n 0, 1) := dk_42 (dk_at dksX4_isDoubted_0 0 rfl rfl)
theorem dX4_isDoubted_1 : decode cX4_isDoubted 1 = .ok (.iload_n 1, 1) := dk_27 (dk_at dksX4_isDoubted_0 1 rfl rfl)
theorem dX4_isDoubted_2 : decode cX4_isDoubted 2 = .ok (.invokevirtual 237, 3) := dk_182 0 237 (dk_at dksX4_isDoubted_0 2 rfl rfl)
theorem dX4_isDoubted_5 : decode cX4_isDoubted 5 = .ok (.aload_n 0, 1) := dk_42 (dk_at dksX4_isDoubted_0 5 rfl rfl)
theorem dX4_isDoubted_6 : decode cX4_isDoubted 6 = .ok (.getfield 103, 3) := dk_180 0 103 (dk_at dksX4_isDoubted_0 6 rfl rfl)
theorem dX4_isDoubted_9 : decode cX4_isDoubted 9 = .ok (.if_icmp .lt 7, 3) := dk_161 0 7 (dk_at dksX4_isDoubted_0 9 rfl rfl)
theorem dX4_isDoubted_12 : decode cX4_isDoubted 12 = .ok (.iconst 1, 1) := dk_4 (dk_at dksX4_isDoubted_0 12 rfl rfl)
theorem dX4_isDoubted_13 : decode cX4_isDoubted 13 = .ok (.goto 4, 3) := dk_167 0 4 (dk_at dksX4_isDoubted_0 13 rfl rfl)
theorem dX4_isDoubted_16 : decode cX4_isDoubted 16 = .ok (.iconst 0, 1) := dk_3 (dk_at dksX4_isDoubted_0 16 rfl rfl)
theorem dX4_isDoubted_17 : decode cX4_isDoubted 17 = .ok (.ireturn, 1) := dk_172 (dk_at dksX4_isDoubted_0 17 rfl rfl)
abbrev cX4_cart : ByteArray := prog_14_method_49_code
def yX4_cart : MethodName := ⟨RX4, "cart", "(III)I"⟩
def dkwX4_cart_6 : List UInt8 := [54, 4, 167, 255, 170, 21, 4, 172]
abbrev dktX4_cart_6 : List UInt8 := dkwX4_cart_6 ++ []
def dkwX4_cart_5 : List UInt8 := [42, 21, 5, 182, 0, 121, 133, 109, 182, 0, 127, 21, 4, 27, 28, 162, 0, 7, 4, 167, 0, 4, 2, 96]
abbrev dktX4_cart_5 : List UInt8 := dkwX4_cart_5 ++ dktX4_cart_6
def dkwX4_cart_4 : List UInt8 := [180, 0, 19, 21, 5, 92, 46, 29, 96, 79, 42, 21, 5, 42, 180, 0, 7, 21, 5, 46, 133, 29, 133, 105]
abbrev dktX4_cart_4 : List UInt8 := dkwX4_cart_4 ++ dktX4_cart_5
def dkwX4_cart_3 : List UInt8 := [167, 0, 7, 21, 4, 4, 100, 182, 0, 251, 54, 5, 21, 5, 2, 160, 0, 6, 21, 4, 172, 42]
abbrev dktX4_cart_3 : List UInt8 := dkwX4_cart_3 ++ dktX4_cart_4
def dkwX4_cart_2 : List UInt8 := [154, 0, 5, 3, 172, 27, 54, 4, 21, 4, 28, 159, 0, 86, 42, 27, 28, 162, 0, 8, 21, 4]
abbrev dktX4_cart_2 : List UInt8 := dkwX4_cart_2 ++ dktX4_cart_3
def dkwX4_cart_1 : List UInt8 := [20, 0, 249, 184, 0, 112, 153, 0, 12, 27, 28, 159, 0, 7, 4, 167, 0, 4, 3, 182, 0, 173]
abbrev dktX4_cart_1 : List UInt8 := dkwX4_cart_1 ++ dktX4_cart_2
def dkwX4_cart_0 : List UInt8 := [42, 27, 184, 0, 246, 153, 0, 14, 28, 184, 0, 246, 153, 0, 7, 4, 167, 0, 4, 3, 29, 133, 10]
abbrev dktX4_cart_0 : List UInt8 := dkwX4_cart_0 ++ dktX4_cart_1
theorem dksX4_cart_0 : cX4_cart.data.toList.drop 0 = dktX4_cart_0 := by decide +kernel
theorem dksX4_cart_1 : cX4_cart.data.toList.drop 23 = dktX4_cart_1 := dk_seg dksX4_cart_0 23 rfl rfl
theorem dksX4_cart_2 : cX4_cart.data.toList.drop 45 = dktX4_cart_2 := dk_seg dksX4_cart_1 22 rfl rfl
theorem dksX4_cart_3 : cX4_cart.data.toList.drop 67 = dktX4_cart_3 := dk_seg dksX4_cart_2 22 rfl rfl
theorem dksX4_cart_4 : cX4_cart.data.toList.drop 89 = dktX4_cart_4 := dk_seg dksX4_cart_3 22 rfl rfl
theorem dksX4_cart_5 : cX4_cart.data.toList.drop 113 = dktX4_cart_5 := dk_seg dksX4_cart_4 24 rfl rfl
theorem dksX4_cart_6 : cX4_cart.data.toList.drop 137 = dktX4_cart_6 := dk_seg dksX4_cart_5 24 rfl rfl
theorem dX4_cart_0 : decode cX4_cart 0 = .ok (.aload_n 0, 1) := dk_42 (dk_at dksX4_cart_0 0 rfl rfl)
theorem dX4_cart_1 : decode cX4_cart 1 = .ok (.iload_n 1, 1) := dk_27 (dk_at dksX4_cart_0 1 rfl rfl)
theorem dX4_cart_2 : decode cX4_cart 2 = .ok (.invokestatic 246, 3) := dk_184 0 246 (dk_at dksX4_cart_0 2 rfl rfl)
theorem dX4_cart_5 : decode cX4_cart 5 = .ok (.ifCond .eq 14, 3) := dk_153 0 14 (dk_at dksX4_cart_0 5 rfl rfl)
theorem dX4_cart_8 : decode cX4_cart 8 = .ok (.iload_n 2, 1) := dk_28 (dk_at dksX4_cart_0 8 rfl rfl)
theorem dX4_cart_9 : decode cX4_cart 9 = .ok (.invokestatic 246, 3) := dk_184 0 246 (dk_at dksX4_cart_0 9 rfl rfl)
theorem dX4_cart_12 : decode cX4_cart 12 = .ok (.ifCond .eq 7, 3) := dk_153 0 7 (dk_at dksX4_cart_0 12 rfl rfl)
theorem dX4_cart_15 : decode cX4_cart 15 = .ok (.iconst 1, 1) := dk_4 (dk_at dksX4_cart_0 15 rfl rfl)
theorem dX4_cart_16 : decode cX4_cart 16 = .ok (.goto 4, 3) := dk_167 0 4 (dk_at dksX4_cart_0 16 rfl rfl)
theorem dX4_cart_19 : decode cX4_cart 19 = .ok (.iconst 0, 1) := dk_3 (dk_at dksX4_cart_0 19 rfl rfl)
theorem dX4_cart_20 : decode cX4_cart 20 = .ok (.iload_n 3, 1) := dk_29 (dk_at dksX4_cart_0 20 rfl rfl)
theorem dX4_cart_21 : decode cX4_cart 21 = .ok (.i2l, 1) := dk_133 (dk_at dksX4_cart_0 21 rfl rfl)
theorem dX4_cart_22 : decode cX4_cart 22 = .ok (.lconst 1, 1) := dk_10 (dk_at dksX4_cart_0 22 rfl rfl)
theorem dX4_cart_23 : decode cX4_cart 23 = .ok (.ldc2_w 249, 3) := dk_20 0 249 (dk_at dksX4_cart_1 0 rfl rfl)
theorem dX4_cart_26 : decode cX4_cart 26 = .ok (.invokestatic 112, 3) := dk_184 0 112 (dk_at dksX4_cart_1 3 rfl rfl)
theorem dX4_cart_29 : decode cX4_cart 29 = .ok (.ifCond .eq 12, 3) := dk_153 0 12 (dk_at dksX4_cart_1 6 rfl rfl)
theorem dX4_cart_32 : decode cX4_cart 32 = .ok (.iload_n 1, 1) := dk_27 (dk_at dksX4_cart_1 9 rfl rfl)
theorem dX4_cart_33 : decode cX4_cart 33 = .ok (.iload_n 2, 1) := dk_28 (dk_at dksX4_cart_1 10 rfl rfl)
theorem dX4_cart_34 : decode cX4_cart 34 = .ok (.if_icmp .eq 7, 3) := dk_159 0 7 (dk_at dksX4_cart_1 11 rfl rfl)
theorem dX4_cart_37 : decode cX4_cart 37 = .ok (.iconst 1, 1) := dk_4 (dk_at dksX4_cart_1 14 rfl rfl)
theorem dX4_cart_38 : decode cX4_cart 38 = .ok (.goto 4, 3) := dk_167 0 4 (dk_at dksX4_cart_1 15 rfl rfl)
theorem dX4_cart_41 : decode cX4_cart 41 = .ok (.iconst 0, 1) := dk_3 (dk_at dksX4_cart_1 18 rfl rfl)
theorem dX4_cart_42 : decode cX4_cart 42 = .ok (.invokevirtual 173, 3) := dk_182 0 173 (dk_at dksX4_cart_1 19 rfl rfl)
theorem dX4_cart_45 : decode cX4_cart 45 = .ok (.ifCond .ne 5, 3) := dk_154 0 5 (dk_at dksX4_cart_2 0 rfl rfl)
theorem dX4_cart_48 : decode cX4_cart 48 = .ok (.iconst 0, 1) := dk_3 (dk_at dksX4_cart_2 3 rfl rfl)
theorem dX4_cart_49 : decode cX4_cart 49 = .ok (.ireturn, 1) := dk_172 (dk_at dksX4_cart_2 4 rfl rfl)
theorem dX4_cart_50 : decode cX4_cart 50 = .ok (.iload_n 1, 1) := dk_27 (dk_at dksX4_cart_2 5 rfl rfl)
theorem dX4_cart_51 : decode cX4_cart 51 = .ok (.istore 4, 2) := dk_54 4 (dk_at dksX4_cart_2 6 rfl rfl)
theorem dX4_cart_53 : decode cX4_cart 53 = .ok (.iload 4, 2) := dk_21 4 (dk_at dksX4_cart_2 8 rfl rfl)
theorem dX4_cart_55 : decode cX4_cart 55 = .ok (.iload_n 2, 1) := dk_28 (dk_at dksX4_cart_2 10 rfl rfl)
theorem dX4_cart_56 : decode cX4_cart 56 = .ok (.if_icmp .eq 86, 3) := dk_159 0 86 (dk_at dksX4_cart_2 11 rfl rfl)
theorem dX4_cart_59 : decode cX4_cart 59 = .ok (.aload_n 0, 1) := dk_42 (dk_at dksX4_cart_2 14 rfl rfl)
theorem dX4_cart_60 : decode cX4_cart 60 = .ok (.iload_n 1, 1) := dk_27 (dk_at dksX4_cart_2 15 rfl rfl)
theorem dX4_cart_61 : decode cX4_cart 61 = .ok (.iload_n 2, 1) := dk_28 (dk_at dksX4_cart_2 16 rfl rfl)
theorem dX4_cart_62 : decode cX4_cart 62 = .ok (.if_icmp .ge 8, 3) := dk_162 0 8 (dk_at dksX4_cart_2 17 rfl rfl)
theorem dX4_cart_65 : decode cX4_cart 65 = .ok (.iload 4, 2) := dk_21 4 (dk_at dksX4_cart_2 20 rfl rfl)
theorem dX4_cart_67 : decode cX4_cart 67 = .ok (.goto 7, 3) := dk_167 0 7 (dk_at dksX4_cart_3 0 rfl rfl)
theorem dX4_cart_70 : decode cX4_cart 70 = .ok (.iload 4, 2) := dk_21 4 (dk_at dksX4_cart_3 3 rfl rfl)
theorem dX4_cart_72 : decode cX4_cart 72 = .ok (.iconst 1, 1) := dk_4 (dk_at dksX4_cart_3 5 rfl rfl)
theorem dX4_cart_73 : decode cX4_cart 73 = .ok (.isub, 1) := dk_100 (dk_at dksX4_cart_3 6 rfl rfl)
theorem dX4_cart_74 : decode cX4_cart 74 = .ok (.invokevirtual 251, 3) := dk_182 0 251 (dk_at dksX4_cart_3 7 rfl rfl)
theorem dX4_cart_77 : decode cX4_cart 77 = .ok (.istore 5, 2) := dk_54 5 (dk_at dksX4_cart_3 10 rfl rfl)
theorem dX4_cart_79 : decode cX4_cart 79 = .ok (.iload 5, 2) := dk_21 5 (dk_at dksX4_cart_3 12 rfl rfl)
theorem dX4_cart_81 : decode cX4_cart 81 = .ok (.iconst (-1), 1) := dk_2 (dk_at dksX4_cart_3 14 rfl rfl)
theorem dX4_cart_82 : decode cX4_cart 82 = .ok (.if_icmp .ne 6, 3) := dk_160 0 6 (dk_at dksX4_cart_3 15 rfl rfl)
theorem dX4_cart_85 : decode cX4_cart 85 = .ok (.iload 4, 2) := dk_21 4 (dk_at dksX4_cart_3 18 rfl rfl)
theorem dX4_cart_87 : decode cX4_cart 87 = .ok (.ireturn, 1) := dk_172 (dk_at dksX4_cart_3 20 rfl rfl)
theorem dX4_cart_88 : decode cX4_cart 88 = .ok (.aload_n 0, 1) := dk_42 (dk_at dksX4_cart_3 21 rfl rfl)
theorem dX4_cart_89 : decode cX4_cart 89 = .ok (.getfield 19, 3) := dk_180 0 19 (dk_at dksX4_cart_4 0 rfl rfl)
theorem dX4_cart_92 : decode cX4_cart 92 = .ok (.iload 5, 2) := dk_21 5 (dk_at dksX4_cart_4 3 rfl rfl)
theorem dX4_cart_94 : decode cX4_cart 94 = .ok (.dup2, 1) := dk_92 (dk_at dksX4_cart_4 5 rfl rfl)
theorem dX4_cart_95 : decode cX4_cart 95 = .ok (.iaload, 1) := dk_46 (dk_at dksX4_cart_4 6 rfl rfl)
theorem dX4_cart_96 : decode cX4_cart 96 = .ok (.iload_n 3, 1) := dk_29 (dk_at dksX4_cart_4 7 rfl rfl)
theorem dX4_cart_97 : decode cX4_cart 97 = .ok (.iadd, 1) := dk_96 (dk_at dksX4_cart_4 8 rfl rfl)
theorem dX4_cart_98 : decode cX4_cart 98 = .ok (.iastore, 1) := dk_79 (dk_at dksX4_cart_4 9 rfl rfl)
theorem dX4_cart_99 : decode cX4_cart 99 = .ok (.aload_n 0, 1) := dk_42 (dk_at dksX4_cart_4 10 rfl rfl)
theorem dX4_cart_100 : decode cX4_cart 100 = .ok (.iload 5, 2) := dk_21 5 (dk_at dksX4_cart_4 11 rfl rfl)
theorem dX4_cart_102 : decode cX4_cart 102 = .ok (.aload_n 0, 1) := dk_42 (dk_at dksX4_cart_4 13 rfl rfl)
theorem dX4_cart_103 : decode cX4_cart 103 = .ok (.getfield 7, 3) := dk_180 0 7 (dk_at dksX4_cart_4 14 rfl rfl)
theorem dX4_cart_106 : decode cX4_cart 106 = .ok (.iload 5, 2) := dk_21 5 (dk_at dksX4_cart_4 17 rfl rfl)
theorem dX4_cart_108 : decode cX4_cart 108 = .ok (.iaload, 1) := dk_46 (dk_at dksX4_cart_4 19 rfl rfl)
theorem dX4_cart_109 : decode cX4_cart 109 = .ok (.i2l, 1) := dk_133 (dk_at dksX4_cart_4 20 rfl rfl)
theorem dX4_cart_110 : decode cX4_cart 110 = .ok (.iload_n 3, 1) := dk_29 (dk_at dksX4_cart_4 21 rfl rfl)
theorem dX4_cart_111 : decode cX4_cart 111 = .ok (.i2l, 1) := dk_133 (dk_at dksX4_cart_4 22 rfl rfl)
theorem dX4_cart_112 : decode cX4_cart 112 = .ok (.lmul, 1) := dk_105 (dk_at dksX4_cart_4 23 rfl rfl)
theorem dX4_cart_113 : decode cX4_cart 113 = .ok (.aload_n 0, 1) := dk_42 (dk_at dksX4_cart_5 0 rfl rfl)
theorem dX4_cart_114 : decode cX4_cart 114 = .ok (.iload 5, 2) := dk_21 5 (dk_at dksX4_cart_5 1 rfl rfl)
theorem dX4_cart_116 : decode cX4_cart 116 = .ok (.invokevirtual 121, 3) := dk_182 0 121 (dk_at dksX4_cart_5 3 rfl rfl)
theorem dX4_cart_119 : decode cX4_cart 119 = .ok (.i2l, 1) := dk_133 (dk_at dksX4_cart_5 6 rfl rfl)
theorem dX4_cart_120 : decode cX4_cart 120 = .ok (.ldiv, 1) := dk_109 (dk_at dksX4_cart_5 7 rfl rfl)
theorem dX4_cart_121 : decode cX4_cart 121 = .ok (.invokevirtual 127, 3) := dk_182 0 127 (dk_at dksX4_cart_5 8 rfl rfl)
theorem dX4_cart_124 : decode cX4_cart 124 = .ok (.iload 4, 2) := dk_21 4 (dk_at dksX4_cart_5 11 rfl rfl)
theorem dX4_cart_126 : decode cX4_cart 126 = .ok (.iload_n 1, 1) := dk_27 (dk_at dksX4_cart_5 13 rfl rfl)
theorem dX4_cart_127 : decode cX4_cart 127 = .ok (.iload_n 2, 1) := dk_28 (dk_at dksX4_cart_5 14 rfl rfl)
theorem dX4_cart_128 : decode cX4_cart 128 = .ok (.if_icmp .ge 7, 3) := dk_162 0 7 (dk_at dksX4_cart_5 15 rfl rfl)
theorem dX4_cart_131 : decode cX4_cart 131 = .ok (.iconst 1, 1) := dk_4 (dk_at dksX4_cart_5 18 rfl rfl)
theorem dX4_cart_132 : decode cX4_cart 132 = .ok (.goto 4, 3) := dk_167 0 4 (dk_at dksX4_cart_5 19 rfl rfl)
theorem dX4_cart_135 : decode cX4_cart 135 = .ok (.iconst (-1), 1) := dk_2 (dk_at dksX4_cart_5 22 rfl rfl)
theorem dX4_cart_136 : decode cX4_cart 136 = .ok (.iadd, 1) := dk_96 (dk_at dksX4_cart_5 23 rfl rfl)
theorem dX4_cart_137 : decode cX4_cart 137 = .ok (.istore 4, 2) := dk_54 4 (dk_at dksX4_cart_6 0 rfl rfl)
theorem dX4_cart_139 : decode cX4_cart 139 = .ok (.goto (-86), 3) := dk_167 255 170 (dk_at dksX4_cart_6 2 rfl rfl)
theorem dX4_cart_142 : decode cX4_cart 142 = .ok (.iload 4, 2) := dk_21 4 (dk_at dksX4_cart_6 5 rfl rfl)
theorem dX4_cart_144 : decode cX4_cart 144 = .ok (.ireturn, 1) := dk_172 (dk_at dksX4_cart_6 7 rfl rfl)
abbrev cX4_isMark : ByteArray := prog_14_method_48_code
def yX4_isMark : MethodName := ⟨RX4, "isMark", "(I)Z"⟩
def dkwX4_isMark_0 : List UInt8 := [26, 133, 9, 20, 0, 221, 184, 0, 112, 172]
abbrev dktX4_isMark_0 : List UInt8 := dkwX4_isMark_0 ++ []
theorem dksX4_isMark_0 : cX4_isMark.data.toList.drop 0 = dktX4_isMark_0 := by decide +kernel
theorem dX4_isMark_0 : decode cX4_isMark 0 = .ok (.iload_n 0, 1) := dk_26 (dk_at dksX4_isMark_0 0 rfl rfl)
theorem dX4_isMark_1 : decode cX4_isMark 1 = .ok (.i2l, 1) := dk_133 (dk_at dksX4_isMark_0 1 rfl rfl)
theorem dX4_isMark_2 : decode cX4_isMark 2 = .ok (.lconst 0, 1) := dk_9 (dk_at dksX4_isMark_0 2 rfl rfl)
theorem dX4_isMark_3 : decode cX4_isMark 3 = .ok (.ldc2_w 221, 3) := dk_20 0 221 (dk_at dksX4_isMark_0 3 rfl rfl)
theorem dX4_isMark_6 : decode cX4_isMark 6 = .ok (.invokestatic 112, 3) := dk_184 0 112 (dk_at dksX4_isMark_0 6 rfl rfl)
theorem dX4_isMark_9 : decode cX4_isMark 9 = .ok (.ireturn, 1) := dk_172 (dk_at dksX4_isMark_0 9 rfl rfl)
abbrev cX4_takesBy : ByteArray := prog_14_method_47_code
def yX4_takesBy : MethodName := ⟨RX4, "takesBy", "(I)I"⟩
def dkwX4_takesBy_2 : List UInt8 := [42, 29, 182, 0, 121, 158, 0, 7, 29, 167, 0, 4, 2, 172]
abbrev dktX4_takesBy_2 : List UInt8 := dkwX4_takesBy_2 ++ []
def dkwX4_takesBy_1 : List UInt8 := [153, 0, 7, 27, 167, 0, 7, 27, 16, 6, 96, 62, 42, 28, 182, 0, 121, 158, 0, 7, 28, 167, 0, 16]
abbrev dktX4_takesBy_1 : List UInt8 := dkwX4_takesBy_1 ++ dktX4_takesBy_2
def dkwX4_takesBy_0 : List UInt8 := [42, 27, 182, 0, 243, 153, 0, 10, 27, 16, 6, 96, 167, 0, 4, 27, 61, 42, 27, 182, 0, 243]
abbrev dktX4_takesBy_0 : List UInt8 := dkwX4_takesBy_0 ++ dktX4_takesBy_1
theorem dksX4_takesBy_0 : cX4_takesBy.data.toList.drop 0 = dktX4_takesBy_0 := by decide +kernel
theorem dksX4_takesBy_1 : cX4_takesBy.data.toList.drop 22 = dktX4_takesBy_1 := dk_seg dksX4_takesBy_0 22 rfl rfl
theorem dksX4_takesBy_2 : cX4_takesBy.data.toList.drop 46 = dktX4_takesBy_2 := dk_seg dksX4_takesBy_1 24 rfl rfl
theorem dX4_takesBy_0 : decode cX4_takesBy 0 = .ok (.aload_n 0, 1) := dk_42 (dk_at dksX4_takesBy_0 0 rfl rfl)
theorem dX4_takesBy_1 : decode cX4_takesBy 1 = .ok (.iload_n 1, 1) := dk_27 (dk_at dksX4_takesBy_0 1 rfl rfl)
theorem dX4_takesBy_2 : decode cX4_takesBy 2 = .ok (.invokevirtual 243, 3) := dk_182 0 243 (dk_at dksX4_takesBy_0 2 rfl rfl)
theorem dX4_takesBy_5 : decode cX4_takesBy 5 = .ok (.ifCond .eq 10, 3) := dk_153 0 10 (dk_at dksX4_takesBy_0 5 rfl rfl)
theorem dX4_takesBy_8 : decode cX4_takesBy 8 = .ok (.iload_n 1, 1) := dk_27 (dk_at dksX4_takesBy_0 8 rfl rfl)
theorem dX4_takesBy_9 : decode cX4_takesBy 9 = .ok (.bipush 6, 2) := dk_16 6 (dk_at dksX4_takesBy_0 9 rfl rfl)
theorem dX4_takesBy_11 : decode cX4_takesBy 11 = .ok (.iadd, 1) := dk_96 (dk_at dksX4_takesBy_0 11 rfl rfl)
theorem dX4_takesBy_12 : decode cX4_takesBy 12 = .ok (.goto 4, 3) := dk_167 0 4 (dk_at dksX4_takesBy_0 12 rfl rfl)
theorem dX4_takesBy_15 : decode cX4_takesBy 15 = .ok (.iload_n 1, 1) := dk_27 (dk_at dksX4_takesBy_0 15 rfl rfl)
theorem dX4_takesBy_16 : decode cX4_takesBy 16 = .ok (.istore_n 2, 1) := dk_61 (dk_at dksX4_takesBy_0 16 rfl rfl)
theorem dX4_takesBy_17 : decode cX4_takesBy 17 = .ok (.aload_n 0, 1) := dk_42 (dk_at dksX4_takesBy_0 17 rfl rfl)
theorem dX4_takesBy_18 : decode cX4_takesBy 18 = .ok (.iload_n 1, 1) := dk_27 (dk_at dksX4_takesBy_0 18 rfl rfl)
theorem dX4_takesBy_19 : decode cX4_takesBy 19 = .ok (.invokevirtual 243, 3) := dk_182 0 243 (dk_at dksX4_takesBy_0 19 rfl rfl)
theorem dX4_takesBy_22 : decode cX4_takesBy 22 = .ok (.ifCond .eq 7, 3) := dk_153 0 7 (dk_at dksX4_takesBy_1 0 rfl rfl)
theorem dX4_takesBy_25 : decode cX4_takesBy 25 = .ok (.iload_n 1, 1) := dk_27 (dk_at dksX4_takesBy_1 3 rfl rfl)
theorem dX4_takesBy_26 : decode cX4_takesBy 26 = .ok (.goto 7, 3) := dk_167 0 7 (dk_at dksX4_takesBy_1 4 rfl rfl)
theorem dX4_takesBy_29 : decode cX4_takesBy 29 = .ok (.iload_n 1, 1) := dk_27 (dk_at dksX4_takesBy_1 7 rfl rfl)
theorem dX4_takesBy_30 : decode cX4_takesBy 30 = .ok (.bipush 6, 2) := dk_16 6 (dk_at dksX4_takesBy_1 8 rfl rfl)
theorem dX4_takesBy_32 : decode cX4_takesBy 32 = .ok (.iadd, 1) := dk_96 (dk_at dksX4_takesBy_1 10 rfl rfl)
theorem dX4_takesBy_33 : decode cX4_takesBy 33 = .ok (.istore_n 3, 1) := dk_62 (dk_at dksX4_takesBy_1 11 rfl rfl)
theorem dX4_takesBy_34 : decode cX4_takesBy 34 = .ok (.aload_n 0, 1) := dk_42 (dk_at dksX4_takesBy_1 12 rfl rfl)
theorem dX4_takesBy_35 : decode cX4_takesBy 35 = .ok (.iload_n 2, 1) := dk_28 (dk_at dksX4_takesBy_1 13 rfl rfl)
theorem dX4_takesBy_36 : decode cX4_takesBy 36 = .ok (.invokevirtual 121, 3) := dk_182 0 121 (dk_at dksX4_takesBy_1 14 rfl rfl)
theorem dX4_takesBy_39 : decode cX4_takesBy 39 = .ok (.ifCond .le 7, 3) := dk_158 0 7 (dk_at dksX4_takesBy_1 17 rfl rfl)
theorem dX4_takesBy_42 : decode cX4_takesBy 42 = .ok (.iload_n 2, 1) := dk_28 (dk_at dksX4_takesBy_1 20 rfl rfl)
theorem dX4_takesBy_43 : decode cX4_takesBy 43 = .ok (.goto 16, 3) := dk_167 0 16 (dk_at dksX4_takesBy_1 21 rfl rfl)
theorem dX4_takesBy_46 : decode cX4_takesBy 46 = .ok (.aload_n 0, 1) := dk_42 (dk_at dksX4_takesBy_2 0 rfl rfl)
theorem dX4_takesBy_47 : decode cX4_takesBy 47 = .ok (.iload_n 3, 1) := dk_29 (dk_at dksX4_takesBy_2 1 rfl rfl)
theorem dX4_takesBy_48 : decode cX4_takesBy 48 = .ok (.invokevirtual 121, 3) := dk_182 0 121 (dk_at dksX4_takesBy_2 2 rfl rfl)
theorem dX4_takesBy_51 : decode cX4_takesBy 51 = .ok (.ifCond .le 7, 3) := dk_158 0 7 (dk_at dksX4_takesBy_2 5 rfl rfl)
theorem dX4_takesBy_54 : decode cX4_takesBy 54 = .ok (.iload_n 3, 1) := dk_29 (dk_at dksX4_takesBy_2 8 rfl rfl)
theorem dX4_takesBy_55 : decode cX4_takesBy 55 = .ok (.goto 4, 3) := dk_167 0 4 (dk_at dksX4_takesBy_2 9 rfl rfl)
theorem dX4_takesBy_58 : decode cX4_takesBy 58 = .ok (.iconst (-1), 1) := dk_2 (dk_at dksX4_takesBy_2 12 rfl rfl)
theorem dX4_takesBy_59 : decode cX4_takesBy 59 = .ok (.ireturn, 1) := dk_172 (dk_at dksX4_takesBy_2 13 rfl rfl)
abbrev cX4_round : ByteArray := prog_14_method_50_code
def yX4_round : MethodName := ⟨RX4, "round", "(II)I"⟩
def dkwX4_round_5 : List UInt8 := [172]
abbrev dktX4_round_5 : List UInt8 := dkwX4_round_5 ++ []
def dkwX4_round_4 : List UInt8 := [21, 7, 16, 6, 161, 0, 12, 21, 5, 4, 21, 6, 120, 128, 54, 5, 132, 6, 1, 167, 255, 214, 21, 5]
abbrev dktX4_round_4 : List UInt8 := dkwX4_round_4 ++ dktX4_round_5
def dkwX4_round_3 : List UInt8 := [21, 6, 21, 4, 162, 0, 41, 42, 21, 6, 182, 0, 251, 54, 7, 21, 7, 2, 160, 0, 5, 2, 172]
abbrev dktX4_round_3 : List UInt8 := dkwX4_round_3 ++ dktX4_round_4
def dkwX4_round_2 : List UInt8 := [167, 0, 4, 28, 62, 27, 28, 162, 0, 7, 28, 167, 0, 4, 27, 54, 4, 3, 54, 5, 29, 54, 6]
abbrev dktX4_round_2 : List UInt8 := dkwX4_round_2 ++ dktX4_round_3
def dkwX4_round_1 : List UInt8 := [159, 0, 7, 4, 167, 0, 4, 3, 182, 0, 173, 154, 0, 5, 3, 172, 27, 28, 162, 0, 7, 27]
abbrev dktX4_round_1 : List UInt8 := dkwX4_round_1 ++ dktX4_round_2
def dkwX4_round_0 : List UInt8 := [42, 27, 184, 0, 246, 153, 0, 14, 28, 184, 0, 246, 153, 0, 7, 4, 167, 0, 4, 3, 27, 28]
abbrev dktX4_round_0 : List UInt8 := dkwX4_round_0 ++ dktX4_round_1
theorem dksX4_round_0 : cX4_round.data.toList.drop 0 = dktX4_round_0 := by decide +kernel
theorem dksX4_round_1 : cX4_round.data.toList.drop 22 = dktX4_round_1 := dk_seg dksX4_round_0 22 rfl rfl
theorem dksX4_round_2 : cX4_round.data.toList.drop 44 = dktX4_round_2 := dk_seg dksX4_round_1 22 rfl rfl
theorem dksX4_round_3 : cX4_round.data.toList.drop 67 = dktX4_round_3 := dk_seg dksX4_round_2 23 rfl rfl
theorem dksX4_round_4 : cX4_round.data.toList.drop 90 = dktX4_round_4 := dk_seg dksX4_round_3 23 rfl rfl
theorem dksX4_round_5 : cX4_round.data.toList.drop 114 = dktX4_round_5 := dk_seg dksX4_round_4 24 rfl rfl
theorem dX4_round_0 : decode cX4_round 0 = .ok (.aload_n 0, 1) := dk_42 (dk_at dksX4_round_0 0 rfl rfl)
theorem dX4_round_1 : decode cX4_round 1 = .ok (.iload_n 1, 1) := dk_27 (dk_at dksX4_round_0 1 rfl rfl)
theorem dX4_round_2 : decode cX4_round 2 = .ok (.invokestatic 246, 3) := dk_184 0 246 (dk_at dksX4_round_0 2 rfl rfl)
theorem dX4_round_5 : decode cX4_round 5 = .ok (.ifCond .eq 14, 3) := dk_153 0 14 (dk_at dksX4_round_0 5 rfl rfl)
theorem dX4_round_8 : decode cX4_round 8 = .ok (.iload_n 2, 1) := dk_28 (dk_at dksX4_round_0 8 rfl rfl)
theorem dX4_round_9 : decode cX4_round 9 = .ok (.invokestatic 246, 3) := dk_184 0 246 (dk_at dksX4_round_0 9 rfl rfl)
theorem dX4_round_12 : decode cX4_round 12 = .ok (.ifCond .eq 7, 3) := dk_153 0 7 (dk_at dksX4_round_0 12 rfl rfl)
theorem dX4_round_15 : decode cX4_round 15 = .ok (.iconst 1, 1) := dk_4 (dk_at dksX4_round_0 15 rfl rfl)
theorem dX4_round_16 : decode cX4_round 16 = .ok (.goto 4, 3) := dk_167 0 4 (dk_at dksX4_round_0 16 rfl rfl)
theorem dX4_round_19 : decode cX4_round 19 = .ok (.iconst 0, 1) := dk_3 (dk_at dksX4_round_0 19 rfl rfl)
theorem dX4_round_20 : decode cX4_round 20 = .ok (.iload_n 1, 1) := dk_27 (dk_at dksX4_round_0 20 rfl rfl)
theorem dX4_round_21 : decode cX4_round 21 = .ok (.iload_n 2, 1) := dk_28 (dk_at dksX4_round_0 21 rfl rfl)
theorem dX4_round_22 : decode cX4_round 22 = .ok (.if_icmp .eq 7, 3) := dk_159 0 7 (dk_at dksX4_round_1 0 rfl rfl)
theorem dX4_round_25 : decode cX4_round 25 = .ok (.iconst 1, 1) := dk_4 (dk_at dksX4_round_1 3 rfl rfl)
theorem dX4_round_26 : decode cX4_round 26 = .ok (.goto 4, 3) := dk_167 0 4 (dk_at dksX4_round_1 4 rfl rfl)
theorem dX4_round_29 : decode cX4_round 29 = .ok (.iconst 0, 1) := dk_3 (dk_at dksX4_round_1 7 rfl rfl)
theorem dX4_round_30 : decode cX4_round 30 = .ok (.invokevirtual 173, 3) := dk_182 0 173 (dk_at dksX4_round_1 8 rfl rfl)
theorem dX4_round_33 : decode cX4_round 33 = .ok (.ifCond .ne 5, 3) := dk_154 0 5 (dk_at dksX4_round_1 11 rfl rfl)
theorem dX4_round_36 : decode cX4_round 36 = .ok (.iconst 0, 1) := dk_3 (dk_at dksX4_round_1 14 rfl rfl)
theorem dX4_round_37 : decode cX4_round 37 = .ok (.ireturn, 1) := dk_172 (dk_at dksX4_round_1 15 rfl rfl)
theorem dX4_round_38 : decode cX4_round 38 = .ok (.iload_n 1, 1) := dk_27 (dk_at dksX4_round_1 16 rfl rfl)
theorem dX4_round_39 : decode cX4_round 39 = .ok (.iload_n 2, 1) := dk_28 (dk_at dksX4_round_1 17 rfl rfl)
theorem dX4_round_40 : decode cX4_round 40 = .ok (.if_icmp .ge 7, 3) := dk_162 0 7 (dk_at dksX4_round_1 18 rfl rfl)
theorem dX4_round_43 : decode cX4_round 43 = .ok (.iload_n 1, 1) := dk_27 (dk_at dksX4_round_1 21 rfl rfl)
theorem dX4_round_44 : decode cX4_round 44 = .ok (.goto 4, 3) := dk_167 0 4 (dk_at dksX4_round_2 0 rfl rfl)
theorem dX4_round_47 : decode cX4_round 47 = .ok (.iload_n 2, 1) := dk_28 (dk_at dksX4_round_2 3 rfl rfl)
theorem dX4_round_48 : decode cX4_round 48 = .ok (.istore_n 3, 1) := dk_62 (dk_at dksX4_round_2 4 rfl rfl)
theorem dX4_round_49 : decode cX4_round 49 = .ok (.iload_n 1, 1) := dk_27 (dk_at dksX4_round_2 5 rfl rfl)
theorem dX4_round_50 : decode cX4_round 50 = .ok (.iload_n 2, 1) := dk_28 (dk_at dksX4_round_2 6 rfl rfl)
theorem dX4_round_51 : decode cX4_round 51 = .ok (.if_icmp .ge 7, 3) := dk_162 0 7 (dk_at dksX4_round_2 7 rfl rfl)
theorem dX4_round_54 : decode cX4_round 54 = .ok (.iload_n 2, 1) := dk_28 (dk_at dksX4_round_2 10 rfl rfl)
theorem dX4_round_55 : decode cX4_round 55 = .ok (.goto 4, 3) := dk_167 0 4 (dk_at dksX4_round_2 11 rfl rfl)
theorem dX4_round_58 : decode cX4_round 58 = .ok (.iload_n 1, 1) := dk_27 (dk_at dksX4_round_2 14 rfl rfl)
theorem dX4_round_59 : decode cX4_round 59 = .ok (.istore 4, 2) := dk_54 4 (dk_at dksX4_round_2 15 rfl rfl)
theorem dX4_round_61 : decode cX4_round 61 = .ok (.iconst 0, 1) := dk_3 (dk_at dksX4_round_2 17 rfl rfl)
theorem dX4_round_62 : decode cX4_round 62 = .ok (.istore 5, 2) := dk_54 5 (dk_at dksX4_round_2 18 rfl rfl)
theorem dX4_round_64 : decode cX4_round 64 = .ok (.iload_n 3, 1) := dk_29 (dk_at dksX4_round_2 20 rfl rfl)
theorem dX4_round_65 : decode cX4_round 65 = .ok (.istore 6, 2) := dk_54 6 (dk_at dksX4_round_2 21 rfl rfl)
theorem dX4_round_67 : decode cX4_round 67 = .ok (.iload 6, 2) := dk_21 6 (dk_at dksX4_round_3 0 rfl rfl)
theorem dX4_round_69 : decode cX4_round 69 = .ok (.iload 4, 2) := dk_21 4 (dk_at dksX4_round_3 2 rfl rfl)
theorem dX4_round_71 : decode cX4_round 71 = .ok (.if_icmp .ge 41, 3) := dk_162 0 41 (dk_at dksX4_round_3 4 rfl rfl)
theorem dX4_round_74 : decode cX4_round 74 = .ok (.aload_n 0, 1) := dk_42 (dk_at dksX4_round_3 7 rfl rfl)
theorem dX4_round_75 : decode cX4_round 75 = .ok (.iload 6, 2) := dk_21 6 (dk_at dksX4_round_3 8 rfl rfl)
theorem dX4_round_77 : decode cX4_round 77 = .ok (.invokevirtual 251, 3) := dk_182 0 251 (dk_at dksX4_round_3 10 rfl rfl)
theorem dX4_round_80 : decode cX4_round 80 = .ok (.istore 7, 2) := dk_54 7 (dk_at dksX4_round_3 13 rfl rfl)
theorem dX4_round_82 : decode cX4_round 82 = .ok (.iload 7, 2) := dk_21 7 (dk_at dksX4_round_3 15 rfl rfl)
theorem dX4_round_84 : decode cX4_round 84 = .ok (.iconst (-1), 1) := dk_2 (dk_at dksX4_round_3 17 rfl rfl)
theorem dX4_round_85 : decode cX4_round 85 = .ok (.if_icmp .ne 5, 3) := dk_160 0 5 (dk_at dksX4_round_3 18 rfl rfl)
theorem dX4_round_88 : decode cX4_round 88 = .ok (.iconst (-1), 1) := dk_2 (dk_at dksX4_round_3 21 rfl rfl)
theorem dX4_round_89 : decode cX4_round 89 = .ok (.ireturn, 1) := dk_172 (dk_at dksX4_round_3 22 rfl rfl)
theorem dX4_round_90 : decode cX4_round 90 = .ok (.iload 7, 2) := dk_21 7 (dk_at dksX4_round_4 0 rfl rfl)
theorem dX4_round_92 : decode cX4_round 92 = .ok (.bipush 6, 2) := dk_16 6 (dk_at dksX4_round_4 2 rfl rfl)
theorem dX4_round_94 : decode cX4_round 94 = .ok (.if_icmp .lt 12, 3) := dk_161 0 12 (dk_at dksX4_round_4 4 rfl rfl)
theorem dX4_round_97 : decode cX4_round 97 = .ok (.iload 5, 2) := dk_21 5 (dk_at dksX4_round_4 7 rfl rfl)
theorem dX4_round_99 : decode cX4_round 99 = .ok (.iconst 1, 1) := dk_4 (dk_at dksX4_round_4 9 rfl rfl)
theorem dX4_round_100 : decode cX4_round 100 = .ok (.iload 6, 2) := dk_21 6 (dk_at dksX4_round_4 10 rfl rfl)
theorem dX4_round_102 : decode cX4_round 102 = .ok (.ishl, 1) := dk_120 (dk_at dksX4_round_4 12 rfl rfl)
theorem dX4_round_103 : decode cX4_round 103 = .ok (.ior, 1) := dk_128 (dk_at dksX4_round_4 13 rfl rfl)
theorem dX4_round_104 : decode cX4_round 104 = .ok (.istore 5, 2) := dk_54 5 (dk_at dksX4_round_4 14 rfl rfl)
theorem dX4_round_106 : decode cX4_round 106 = .ok (.iinc 6 1, 3) := dk_132 6 1 (dk_at dksX4_round_4 16 rfl rfl)
theorem dX4_round_109 : decode cX4_round 109 = .ok (.goto (-42), 3) := dk_167 255 214 (dk_at dksX4_round_4 19 rfl rfl)
theorem dX4_round_112 : decode cX4_round 112 = .ok (.iload 5, 2) := dk_21 5 (dk_at dksX4_round_4 22 rfl rfl)
theorem dX4_round_114 : decode cX4_round 114 = .ok (.ireturn, 1) := dk_172 (dk_at dksX4_round_5 0 rfl rfl)
abbrev cX4_boardErrors : ByteArray := prog_14_method_51_code
def yX4_boardErrors : MethodName := ⟨RX4, "boardErrors", "()I"⟩
def dkwX4_boardErrors_5 : List UInt8 := [28, 42, 180, 0, 118, 160, 0, 7, 27, 167, 0, 6, 27, 4, 96, 172]
abbrev dktX4_boardErrors_5 : List UInt8 := dkwX4_boardErrors_5 ++ []
def dkwX4_boardErrors_4 : List UInt8 := [160, 0, 7, 4, 167, 0, 4, 3, 159, 0, 7, 4, 167, 0, 4, 3, 96, 60, 132, 3, 1, 167, 255, 174]
abbrev dktX4_boardErrors_4 : List UInt8 := dkwX4_boardErrors_4 ++ dktX4_boardErrors_5
def dkwX4_boardErrors_3 : List UInt8 := [27, 22, 4, 42, 180, 0, 44, 29, 47, 148, 154, 0, 23, 21, 6, 42, 180, 0, 32, 29, 46, 6]
abbrev dktX4_boardErrors_3 : List UInt8 := dkwX4_boardErrors_3 ++ dktX4_boardErrors_4
def dkwX4_boardErrors_2 : List UInt8 := [180, 0, 26, 29, 47, 101, 55, 4, 22, 4, 20, 0, 125, 148, 155, 0, 7, 4, 167, 0, 4, 3, 54, 6]
abbrev dktX4_boardErrors_2 : List UInt8 := dkwX4_boardErrors_2 ++ dktX4_boardErrors_3
def dkwX4_boardErrors_1 : List UInt8 := [132, 3, 1, 167, 255, 240, 3, 62, 29, 42, 180, 0, 118, 162, 0, 80, 42, 180, 0, 29, 29, 47, 42]
abbrev dktX4_boardErrors_1 : List UInt8 := dkwX4_boardErrors_1 ++ dktX4_boardErrors_2
def dkwX4_boardErrors_0 : List UInt8 := [42, 3, 181, 0, 107, 3, 60, 3, 61, 3, 62, 29, 7, 163, 0, 17, 28, 42, 29, 182, 0, 147, 96, 61]
abbrev dktX4_boardErrors_0 : List UInt8 := dkwX4_boardErrors_0 ++ dktX4_boardErrors_1
theorem dksX4_boardErrors_0 : cX4_boardErrors.data.toList.drop 0 = dktX4_boardErrors_0 := by decide +kernel
theorem dksX4_boardErrors_1 : cX4_boardErrors.data.toList.drop 24 = dktX4_boardErrors_1 := dk_seg dksX4_boardErrors_0 24 rfl rfl
theorem dksX4_boardErrors_2 : cX4_boardErrors.data.toList.drop 47 = dktX4_boardErrors_2 := dk_seg dksX4_boardErrors_1 23 rfl rfl
theorem dksX4_boardErrors_3 : cX4_boardErrors.data.toList.drop 71 = dktX4_boardErrors_3 := dk_seg dksX4_boardErrors_2 24 rfl rfl
theorem dksX4_boardErrors_4 : cX4_boardErrors.data.toList.drop 93 = dktX4_boardErrors_4 := dk_seg dksX4_boardErrors_3 22 rfl rfl
theorem dksX4_boardErrors_5 : cX4_boardErrors.data.toList.drop 117 = dktX4_boardErrors_5 := dk_seg dksX4_boardErrors_4 24 rfl rfl
theorem dX4_boardErrors_0 : decode cX4_boardErrors 0 = .ok (.aload_n 0, 1) := dk_42 (dk_at dksX4_boardErrors_0 0 rfl rfl)
theorem dX4_boardErrors_1 : decode cX4_boardErrors 1 = .ok (.iconst 0, 1) := dk_3 (dk_at dksX4_boardErrors_0 1 rfl rfl)
theorem dX4_boardErrors_2 : decode cX4_boardErrors 2 = .ok (.putfield 107, 3) := dk_181 0 107 (dk_at dksX4_boardErrors_0 2 rfl rfl)
theorem dX4_boardErrors_5 : decode cX4_boardErrors 5 = .ok (.iconst 0, 1) := dk_3 (dk_at dksX4_boardErrors_0 5 rfl rfl)
theorem dX4_boardErrors_6 : decode cX4_boardErrors 6 = .ok (.istore_n 1, 1) := dk_60 (dk_at dksX4_boardErrors_0 6 rfl rfl)
theorem dX4_boardErrors_7 : decode cX4_boardErrors 7 = .ok (.iconst 0, 1) := dk_3 (dk_at dksX4_boardErrors_0 7 rfl rfl)
theorem dX4_boardErrors_8 : decode cX4_boardErrors 8 = .ok (.istore_n 2, 1) := dk_61 (dk_at dksX4_boardErrors_0 8 rfl rfl)
theorem dX4_boardErrors_9 : decode cX4_boardErrors 9 = .ok (.iconst 0, 1) := dk_3 (dk_at dksX4_boardErrors_0 9 rfl rfl)
theorem dX4_boardErrors_10 : decode cX4_boardErrors 10 = .ok (.istore_n 3, 1) := dk_62 (dk_at dksX4_boardErrors_0 10 rfl rfl)
theorem dX4_boardErrors_11 : decode cX4_boardErrors 11 = .ok (.iload_n 3, 1) := dk_29 (dk_at dksX4_boardErrors_0 11 rfl rfl)
theorem dX4_boardErrors_12 : decode cX4_boardErrors 12 = .ok (.iconst 4, 1) := dk_7 (dk_at dksX4_boardErrors_0 12 rfl rfl)
theorem dX4_boardErrors_13 : decode cX4_boardErrors 13 = .ok (.if_icmp .gt 17, 3) := dk_163 0 17 (dk_at dksX4_boardErrors_0 13 rfl rfl)
theorem dX4_boardErrors_16 : decode cX4_boardErrors 16 = .ok (.iload_n 2, 1) := dk_28 (dk_at dksX4_boardErrors_0 16 rfl rfl)
theorem dX4_boardErrors_17 : decode cX4_boardErrors 17 = .ok (.aload_n 0, 1) := dk_42 (dk_at dksX4_boardErrors_0 17 rfl rfl)
theorem dX4_boardErrors_18 : decode cX4_boardErrors 18 = .ok (.iload_n 3, 1) := dk_29 (dk_at dksX4_boardErrors_0 18 rfl rfl)
theorem dX4_boardErrors_19 : decode cX4_boardErrors 19 = .ok (.invokevirtual 147, 3) := dk_182 0 147 (dk_at dksX4_boardErrors_0 19 rfl rfl)
theorem dX4_boardErrors_22 : decode cX4_boardErrors 22 = .ok (.iadd, 1) := dk_96 (dk_at dksX4_boardErrors_0 22 rfl rfl)
theorem dX4_boardErrors_23 : decode cX4_boardErrors 23 = .ok (.istore_n 2, 1) := dk_61 (dk_at dksX4_boardErrors_0 23 rfl rfl)
theorem dX4_boardErrors_24 : decode cX4_boardErrors 24 = .ok (.iinc 3 1, 3) := dk_132 3 1 (dk_at dksX4_boardErrors_1 0 rfl rfl)
theorem dX4_boardErrors_27 : decode cX4_boardErrors 27 = .ok (.goto (-16), 3) := dk_167 255 240 (dk_at dksX4_boardErrors_1 3 rfl rfl)
theorem dX4_boardErrors_30 : decode cX4_boardErrors 30 = .ok (.iconst 0, 1) := dk_3 (dk_at dksX4_boardErrors_1 6 rfl rfl)
theorem dX4_boardErrors_31 : decode cX4_boardErrors 31 = .ok (.istore_n 3, 1) := dk_62 (dk_at dksX4_boardErrors_1 7 rfl rfl)
theorem dX4_boardErrors_32 : decode cX4_boardErrors 32 = .ok (.iload_n 3, 1) := dk_29 (dk_at dksX4_boardErrors_1 8 rfl rfl)
theorem dX4_boardErrors_33 : decode cX4_boardErrors 33 = .ok (.aload_n 0, 1) := dk_42 (dk_at dksX4_boardErrors_1 9 rfl rfl)
theorem dX4_boardErrors_34 : decode cX4_boardErrors 34 = .ok (.getfield 118, 3) := dk_180 0 118 (dk_at dksX4_boardErrors_1 10 rfl rfl)
theorem dX4_boardErrors_37 : decode cX4_boardErrors 37 = .ok (.if_icmp .ge 80, 3) := dk_162 0 80 (dk_at dksX4_boardErrors_1 13 rfl rfl)
theorem dX4_boardErrors_40 : decode cX4_boardErrors 40 = .ok (.aload_n 0, 1) := dk_42 (dk_at dksX4_boardErrors_1 16 rfl rfl)
theorem dX4_boardErrors_41 : decode cX4_boardErrors 41 = .ok (.getfield 29, 3) := dk_180 0 29 (dk_at dksX4_boardErrors_1 17 rfl rfl)
theorem dX4_boardErrors_44 : decode cX4_boardErrors 44 = .ok (.iload_n 3, 1) := dk_29 (dk_at dksX4_boardErrors_1 20 rfl rfl)
theorem dX4_boardErrors_45 : decode cX4_boardErrors 45 = .ok (.laload, 1) := dk_47 (dk_at dksX4_boardErrors_1 21 rfl rfl)
theorem dX4_boardErrors_46 : decode cX4_boardErrors 46 = .ok (.aload_n 0, 1) := dk_42 (dk_at dksX4_boardErrors_1 22 rfl rfl)
theorem dX4_boardErrors_47 : decode cX4_boardErrors 47 = .ok (.getfield 26, 3) := dk_180 0 26 (dk_at dksX4_boardErrors_2 0 rfl rfl)
theorem dX4_boardErrors_50 : decode cX4_boardErrors 50 = .ok (.iload_n 3, 1) := dk_29 (dk_at dksX4_boardErrors_2 3 rfl rfl)
theorem dX4_boardErrors_51 : decode cX4_boardErrors 51 = .ok (.laload, 1) := dk_47 (dk_at dksX4_boardErrors_2 4 rfl rfl)
theorem dX4_boardErrors_52 : decode cX4_boardErrors 52 = .ok (.lsub, 1) := dk_101 (dk_at dksX4_boardErrors_2 5 rfl rfl)
theorem dX4_boardErrors_53 : decode cX4_boardErrors 53 = .ok (.lstore 4, 2) := dk_55 4 (dk_at dksX4_boardErrors_2 6 rfl rfl)
theorem dX4_boardErrors_55 : decode cX4_boardErrors 55 = .ok (.lload 4, 2) := dk_22 4 (dk_at dksX4_boardErrors_2 8 rfl rfl)
theorem dX4_boardErrors_57 : decode cX4_boardErrors 57 = .ok (.ldc2_w 125, 3) := dk_20 0 125 (dk_at dksX4_boardErrors_2 10 rfl rfl)
theorem dX4_boardErrors_60 : decode cX4_boardErrors 60 = .ok (.lcmp, 1) := dk_148 (dk_at dksX4_boardErrors_2 13 rfl rfl)
theorem dX4_boardErrors_61 : decode cX4_boardErrors 61 = .ok (.ifCond .lt 7, 3) := dk_155 0 7 (dk_at dksX4_boardErrors_2 14 rfl rfl)
theorem dX4_boardErrors_64 : decode cX4_boardErrors 64 = .ok (.iconst 1, 1) := dk_4 (dk_at dksX4_boardErrors_2 17 rfl rfl)
theorem dX4_boardErrors_65 : decode cX4_boardErrors 65 = .ok (.goto 4, 3) := dk_167 0 4 (dk_at dksX4_boardErrors_2 18 rfl rfl)
theorem dX4_boardErrors_68 : decode cX4_boardErrors 68 = .ok (.iconst 0, 1) := dk_3 (dk_at dksX4_boardErrors_2 21 rfl rfl)
theorem dX4_boardErrors_69 : decode cX4_boardErrors 69 = .ok (.istore 6, 2) := dk_54 6 (dk_at dksX4_boardErrors_2 22 rfl rfl)
theorem dX4_boardErrors_71 : decode cX4_boardErrors 71 = .ok (.iload_n 1, 1) := dk_27 (dk_at dksX4_boardErrors_3 0 rfl rfl)
theorem dX4_boardErrors_72 : decode cX4_boardErrors 72 = .ok (.lload 4, 2) := dk_22 4 (dk_at dksX4_boardErrors_3 1 rfl rfl)
theorem dX4_boardErrors_74 : decode cX4_boardErrors 74 = .ok (.aload_n 0, 1) := dk_42 (dk_at dksX4_boardErrors_3 3 rfl rfl)
theorem dX4_boardErrors_75 : decode cX4_boardErrors 75 = .ok (.getfield 44, 3) := dk_180 0 44 (dk_at dksX4_boardErrors_3 4 rfl rfl)
theorem dX4_boardErrors_78 : decode cX4_boardErrors 78 = .ok (.iload_n 3, 1) := dk_29 (dk_at dksX4_boardErrors_3 7 rfl rfl)
theorem dX4_boardErrors_79 : decode cX4_boardErrors 79 = .ok (.laload, 1) := dk_47 (dk_at dksX4_boardErrors_3 8 rfl rfl)
theorem dX4_boardErrors_80 : decode cX4_boardErrors 80 = .ok (.lcmp, 1) := dk_148 (dk_at dksX4_boardErrors_3 9 rfl rfl)
theorem dX4_boardErrors_81 : decode cX4_boardErrors 81 = .ok (.ifCond .ne 23, 3) := dk_154 0 23 (dk_at dksX4_boardErrors_3 10 rfl rfl)
theorem dX4_boardErrors_84 : decode cX4_boardErrors 84 = .ok (.iload 6, 2) := dk_21 6 (dk_at dksX4_boardErrors_3 13 rfl rfl)
theorem dX4_boardErrors_86 : decode cX4_boardErrors 86 = .ok (.aload_n 0, 1) := dk_42 (dk_at dksX4_boardErrors_3 15 rfl rfl)
theorem dX4_boardErrors_87 : decode cX4_boardErrors 87 = .ok (.getfield 32, 3) := dk_180 0 32 (dk_at dksX4_boardErrors_3 16 rfl rfl)
theorem dX4_boardErrors_90 : decode cX4_boardErrors 90 = .ok (.iload_n 3, 1) := dk_29 (dk_at dksX4_boardErrors_3 19 rfl rfl)
theorem dX4_boardErrors_91 : decode cX4_boardErrors 91 = .ok (.iaload, 1) := dk_46 (dk_at dksX4_boardErrors_3 20 rfl rfl)
theorem dX4_boardErrors_92 : decode cX4_boardErrors 92 = .ok (.iconst 3, 1) := dk_6 (dk_at dksX4_boardErrors_3 21 rfl rfl)
theorem dX4_boardErrors_93 : decode cX4_boardErrors 93 = .ok (.if_icmp .ne 7, 3) := dk_160 0 7 (dk_at dksX4_boardErrors_4 0 rfl rfl)
theorem dX4_boardErrors_96 : decode cX4_boardErrors 96 = .ok (.iconst 1, 1) := dk_4 (dk_at dksX4_boardErrors_4 3 rfl rfl)
theorem dX4_boardErrors_97 : decode cX4_boardErrors 97 = .ok (.goto 4, 3) := dk_167 0 4 (dk_at dksX4_boardErrors_4 4 rfl rfl)
theorem dX4_boardErrors_100 : decode cX4_boardErrors 100 = .ok (.iconst 0, 1) := dk_3 (dk_at dksX4_boardErrors_4 7 rfl rfl)
theorem dX4_boardErrors_101 : decode cX4_boardErrors 101 = .ok (.if_icmp .eq 7, 3) := dk_159 0 7 (dk_at dksX4_boardErrors_4 8 rfl rfl)
theorem dX4_boardErrors_104 : decode cX4_boardErrors 104 = .ok (.iconst 1, 1) := dk_4 (dk_at dksX4_boardErrors_4 11 rfl rfl)
theorem dX4_boardErrors_105 : decode cX4_boardErrors 105 = .ok (.goto 4, 3) := dk_167 0 4 (dk_at dksX4_boardErrors_4 12 rfl rfl)
theorem dX4_boardErrors_108 : decode cX4_boardErrors 108 = .ok (.iconst 0, 1) := dk_3 (dk_at dksX4_boardErrors_4 15 rfl rfl)
theorem dX4_boardErrors_109 : decode cX4_boardErrors 109 = .ok (.iadd, 1) := dk_96 (dk_at dksX4_boardErrors_4 16 rfl rfl)
theorem dX4_boardErrors_110 : decode cX4_boardErrors 110 = .ok (.istore_n 1, 1) := dk_60 (dk_at dksX4_boardErrors_4 17 rfl rfl)
theorem dX4_boardErrors_111 : decode cX4_boardErrors 111 = .ok (.iinc 3 1, 3) := dk_132 3 1 (dk_at dksX4_boardErrors_4 18 rfl rfl)
theorem dX4_boardErrors_114 : decode cX4_boardErrors 114 = .ok (.goto (-82), 3) := dk_167 255 174 (dk_at dksX4_boardErrors_4 21 rfl rfl)
theorem dX4_boardErrors_117 : decode cX4_boardErrors 117 = .ok (.iload_n 2, 1) := dk_28 (dk_at dksX4_boardErrors_5 0 rfl rfl)
theorem dX4_boardErrors_118 : decode cX4_boardErrors 118 = .ok (.aload_n 0, 1) := dk_42 (dk_at dksX4_boardErrors_5 1 rfl rfl)
theorem dX4_boardErrors_119 : decode cX4_boardErrors 119 = .ok (.getfield 118, 3) := dk_180 0 118 (dk_at dksX4_boardErrors_5 2 rfl rfl)
theorem dX4_boardErrors_122 : decode cX4_boardErrors 122 = .ok (.if_icmp .ne 7, 3) := dk_160 0 7 (dk_at dksX4_boardErrors_5 5 rfl rfl)
theorem dX4_boardErrors_125 : decode cX4_boardErrors 125 = .ok (.iload_n 1, 1) := dk_27 (dk_at dksX4_boardErrors_5 8 rfl rfl)
theorem dX4_boardErrors_126 : decode cX4_boardErrors 126 = .ok (.goto 6, 3) := dk_167 0 6 (dk_at dksX4_boardErrors_5 9 rfl rfl)
theorem dX4_boardErrors_129 : decode cX4_boardErrors 129 = .ok (.iload_n 1, 1) := dk_27 (dk_at dksX4_boardErrors_5 12 rfl rfl)
theorem dX4_boardErrors_130 : decode cX4_boardErrors 130 = .ok (.iconst 1, 1) := dk_4 (dk_at dksX4_boardErrors_5 13 rfl rfl)
theorem dX4_boardErrors_131 : decode cX4_boardErrors 131 = .ok (.iadd, 1) := dk_96 (dk_at dksX4_boardErrors_5 14 rfl rfl)
theorem dX4_boardErrors_132 : decode cX4_boardErrors 132 = .ok (.ireturn, 1) := dk_172 (dk_at dksX4_boardErrors_5 15 rfl rfl)
abbrev cX4_meanDepth : ByteArray := prog_14_method_52_code
def yX4_meanDepth : MethodName := ⟨RX4, "meanDepth", "()D"⟩
def dkwX4_meanDepth_2 : List UInt8 := [182, 0, 147, 154, 0, 7, 14, 167, 0, 12, 31, 138, 42, 5, 182, 0, 147, 135, 111, 175]
abbrev dktX4_meanDepth_2 : List UInt8 := dkwX4_meanDepth_2 ++ []
def dkwX4_meanDepth_1 : List UInt8 := [5, 160, 0, 12, 42, 180, 0, 44, 29, 47, 167, 0, 4, 9, 97, 64, 132, 3, 1, 167, 255, 222, 42, 5]
abbrev dktX4_meanDepth_1 : List UInt8 := dkwX4_meanDepth_1 ++ dktX4_meanDepth_2
def dkwX4_meanDepth_0 : List UInt8 := [42, 3, 181, 0, 107, 9, 64, 3, 62, 29, 42, 180, 0, 118, 162, 0, 32, 31, 42, 180, 0, 32, 29, 46]
abbrev dktX4_meanDepth_0 : List UInt8 := dkwX4_meanDepth_0 ++ dktX4_meanDepth_1
theorem dksX4_meanDepth_0 : cX4_meanDepth.data.toList.drop 0 = dktX4_meanDepth_0 := by decide +kernel
theorem dksX4_meanDepth_1 : cX4_meanDepth.data.toList.drop 24 = dktX4_meanDepth_1 := dk_seg dksX4_meanDepth_0 24 rfl rfl
theorem dksX4_meanDepth_2 : cX4_meanDepth.data.toList.drop 48 = dktX4_meanDepth_2 := dk_seg dksX4_meanDepth_1 24 rfl rfl
theorem dX4_meanDepth_0 : decode cX4_meanDepth 0 = .ok (.aload_n 0, 1) := dk_42 (dk_at dksX4_meanDepth_0 0 rfl rfl)
theorem dX4_meanDepth_1 : decode cX4_meanDepth 1 = .ok (.iconst 0, 1) := dk_3 (dk_at dksX4_meanDepth_0 1 rfl rfl)
theorem dX4_meanDepth_2 : decode cX4_meanDepth 2 = .ok (.putfield 107, 3) := dk_181 0 107 (dk_at dksX4_meanDepth_0 2 rfl rfl)
theorem dX4_meanDepth_5 : decode cX4_meanDepth 5 = .ok (.lconst 0, 1) := dk_9 (dk_at dksX4_meanDepth_0 5 rfl rfl)
theorem dX4_meanDepth_6 : decode cX4_meanDepth 6 = .ok (.lstore_n 1, 1) := dk_64 (dk_at dksX4_meanDepth_0 6 rfl rfl)
theorem dX4_meanDepth_7 : decode cX4_meanDepth 7 = .ok (.iconst 0, 1) := dk_3 (dk_at dksX4_meanDepth_0 7 rfl rfl)
theorem dX4_meanDepth_8 : decode cX4_meanDepth 8 = .ok (.istore_n 3, 1) := dk_62 (dk_at dksX4_meanDepth_0 8 rfl rfl)
theorem dX4_meanDepth_9 : decode cX4_meanDepth 9 = .ok (.iload_n 3, 1) := dk_29 (dk_at dksX4_meanDepth_0 9 rfl rfl)
theorem dX4_meanDepth_10 : decode cX4_meanDepth 10 = .ok (.aload_n 0, 1) := dk_42 (dk_at dksX4_meanDepth_0 10 rfl rfl)
theorem dX4_meanDepth_11 : decode cX4_meanDepth 11 = .ok (.getfield 118, 3) := dk_180 0 118 (dk_at dksX4_meanDepth_0 11 rfl rfl)
theorem dX4_meanDepth_14 : decode cX4_meanDepth 14 = .ok (.if_icmp .ge 32, 3) := dk_162 0 32 (dk_at dksX4_meanDepth_0 14 rfl rfl)
theorem dX4_meanDepth_17 : decode cX4_meanDepth 17 = .ok (.lload_n 1, 1) := dk_31 (dk_at dksX4_meanDepth_0 17 rfl rfl)
theorem dX4_meanDepth_18 : decode cX4_meanDepth 18 = .ok (.aload_n 0, 1) := dk_42 (dk_at dksX4_meanDepth_0 18 rfl rfl)
theorem dX4_meanDepth_19 : decode cX4_meanDepth 19 = .ok (.getfield 32, 3) := dk_180 0 32 (dk_at dksX4_meanDepth_0 19 rfl rfl)
theorem dX4_meanDepth_22 : decode cX4_meanDepth 22 = .ok (.iload_n 3, 1) := dk_29 (dk_at dksX4_meanDepth_0 22 rfl rfl)
theorem dX4_meanDepth_23 : decode cX4_meanDepth 23 = .ok (.iaload, 1) := dk_46 (dk_at dksX4_meanDepth_0 23 rfl rfl)
theorem dX4_meanDepth_24 : decode cX4_meanDepth 24 = .ok (.iconst 2, 1) := dk_5 (dk_at dksX4_meanDepth_1 0 rfl rfl)
theorem dX4_meanDepth_25 : decode cX4_meanDepth 25 = .ok (.if_icmp .ne 12, 3) := dk_160 0 12 (dk_at dksX4_meanDepth_1 1 rfl rfl)
theorem dX4_meanDepth_28 : decode cX4_meanDepth 28 = .ok (.aload_n 0, 1) := dk_42 (dk_at dksX4_meanDepth_1 4 rfl rfl)
theorem dX4_meanDepth_29 : decode cX4_meanDepth 29 = .ok (.getfield 44, 3) := dk_180 0 44 (dk_at dksX4_meanDepth_1 5 rfl rfl)
theorem dX4_meanDepth_32 : decode cX4_meanDepth 32 = .ok (.iload_n 3, 1) := dk_29 (dk_at dksX4_meanDepth_1 8 rfl rfl)
theorem dX4_meanDepth_33 : decode cX4_meanDepth 33 = .ok (.laload, 1) := dk_47 (dk_at dksX4_meanDepth_1 9 rfl rfl)
theorem dX4_meanDepth_34 : decode cX4_meanDepth 34 = .ok (.goto 4, 3) := dk_167 0 4 (dk_at dksX4_meanDepth_1 10 rfl rfl)
theorem dX4_meanDepth_37 : decode cX4_meanDepth 37 = .ok (.lconst 0, 1) := dk_9 (dk_at dksX4_meanDepth_1 13 rfl rfl)
theorem dX4_meanDepth_38 : decode cX4_meanDepth 38 = .ok (.ladd, 1) := dk_97 (dk_at dksX4_meanDepth_1 14 rfl rfl)
theorem dX4_meanDepth_39 : decode cX4_meanDepth 39 = .ok (.lstore_n 1, 1) := dk_64 (dk_at dksX4_meanDepth_1 15 rfl rfl)
theorem dX4_meanDepth_40 : decode cX4_meanDepth 40 = .ok (.iinc 3 1, 3) := dk_132 3 1 (dk_at dksX4_meanDepth_1 16 rfl rfl)
theorem dX4_meanDepth_43 : decode cX4_meanDepth 43 = .ok (.goto (-34), 3) := dk_167 255 222 (dk_at dksX4_meanDepth_1 19 rfl rfl)
theorem dX4_meanDepth_46 : decode cX4_meanDepth 46 = .ok (.aload_n 0, 1) := dk_42 (dk_at dksX4_meanDepth_1 22 rfl rfl)
theorem dX4_meanDepth_47 : decode cX4_meanDepth 47 = .ok (.iconst 2, 1) := dk_5 (dk_at dksX4_meanDepth_1 23 rfl rfl)
theorem dX4_meanDepth_48 : decode cX4_meanDepth 48 = .ok (.invokevirtual 147, 3) := dk_182 0 147 (dk_at dksX4_meanDepth_2 0 rfl rfl)
theorem dX4_meanDepth_51 : decode cX4_meanDepth 51 = .ok (.ifCond .ne 7, 3) := dk_154 0 7 (dk_at dksX4_meanDepth_2 3 rfl rfl)
theorem dX4_meanDepth_54 : decode cX4_meanDepth 54 = .ok (.dconst 0, 1) := dk_14 (dk_at dksX4_meanDepth_2 6 rfl rfl)
theorem dX4_meanDepth_55 : decode cX4_meanDepth 55 = .ok (.goto 12, 3) := dk_167 0 12 (dk_at dksX4_meanDepth_2 7 rfl rfl)
theorem dX4_meanDepth_58 : decode cX4_meanDepth 58 = .ok (.lload_n 1, 1) := dk_31 (dk_at dksX4_meanDepth_2 10 rfl rfl)
theorem dX4_meanDepth_59 : decode cX4_meanDepth 59 = .ok (.l2d, 1) := dk_138 (dk_at dksX4_meanDepth_2 11 rfl rfl)
theorem dX4_meanDepth_60 : decode cX4_meanDepth 60 = .ok (.aload_n 0, 1) := dk_42 (dk_at dksX4_meanDepth_2 12 rfl rfl)
theorem dX4_meanDepth_61 : decode cX4_meanDepth 61 = .ok (.iconst 2, 1) := dk_5 (dk_at dksX4_meanDepth_2 13 rfl rfl)
theorem dX4_meanDepth_62 : decode cX4_meanDepth 62 = .ok (.invokevirtual 147, 3) := dk_182 0 147 (dk_at dksX4_meanDepth_2 14 rfl rfl)
theorem dX4_meanDepth_65 : decode cX4_meanDepth 65 = .ok (.i2d, 1) := dk_135 (dk_at dksX4_meanDepth_2 17 rfl rfl)
theorem dX4_meanDepth_66 : decode cX4_meanDepth 66 = .ok (.ddiv, 1) := dk_111 (dk_at dksX4_meanDepth_2 18 rfl rfl)
theorem dX4_meanDepth_67 : decode cX4_meanDepth 67 = .ok (.dreturn, 1) := dk_175 (dk_at dksX4_meanDepth_2 19 rfl rfl)
abbrev cX4_doubtedShare : ByteArray := prog_14_method_53_code
def yX4_doubtedShare : MethodName := ⟨RX4, "doubtedShare", "()F"⟩
def dkwX4_doubtedShare_1 : List UInt8 := [4, 167, 0, 4, 3, 96, 60, 132, 2, 1, 167, 255, 231, 27, 134, 18, 254, 110, 174]
abbrev dktX4_doubtedShare_1 : List UInt8 := dkwX4_doubtedShare_1 ++ []
def dkwX4_doubtedShare_0 : List UInt8 := [42, 3, 181, 0, 107, 3, 60, 3, 61, 28, 16, 6, 162, 0, 25, 27, 42, 28, 182, 0, 243, 153, 0, 7]
abbrev dktX4_doubtedShare_0 : List UInt8 := dkwX4_doubtedShare_0 ++ dktX4_doubtedShare_1
theorem dksX4_doubtedShare_0 : cX4_doubtedShare.data.toList.drop 0 = dktX4_doubtedShare_0 := by decide +kernel
theorem dksX4_doubtedShare_1 : cX4_doubtedShare.data.toList.drop 24 = dktX4_doubtedShare_1 := dk_seg dksX4_doubtedShare_0 24 rfl rfl
theorem dX4_doubtedShare_0 : decode cX4_doubtedShare 0 = .ok (.aload_n 0, 1) := dk_42 (dk_at dksX4_doubtedShare_0 0 rfl rfl)
theorem dX4_doubtedShare_1 : decode cX4_doubtedShare 1 = .ok (.iconst 0, 1) := dk_3 (dk_at dksX4_doubtedShare_0 1 rfl rfl)
theorem dX4_doubtedShare_2 : decode cX4_doubtedShare 2 = .ok (.putfield 107, 3) := dk_181 0 107 (dk_at dksX4_doubtedShare_0 2 rfl rfl)
theorem dX4_doubtedShare_5 : decode cX4_doubtedShare 5 = .ok (.iconst 0, 1) := dk_3 (dk_at dksX4_doubtedShare_0 5 rfl rfl)
theorem dX4_doubtedShare_6 : decode cX4_doubtedShare 6 = .ok (.istore_n 1, 1) := dk_60 (dk_at dksX4_doubtedShare_0 6 rfl rfl)
theorem dX4_doubtedShare_7 : decode cX4_doubtedShare 7 = .ok (.iconst 0, 1) := dk_3 (dk_at dksX4_doubtedShare_0 7 rfl rfl)
theorem dX4_doubtedShare_8 : decode cX4_doubtedShare 8 = .ok (.istore_n 2, 1) := dk_61 (dk_at dksX4_doubtedShare_0 8 rfl rfl)
theorem dX4_doubtedShare_9 : decode cX4_doubtedShare 9 = .ok (.iload_n 2, 1) := dk_28 (dk_at dksX4_doubtedShare_0 9 rfl rfl)
theorem dX4_doubtedShare_10 : decode cX4_doubtedShare 10 = .ok (.bipush 6, 2) := dk_16 6 (dk_at dksX4_doubtedShare_0 10 rfl rfl)
theorem dX4_doubtedShare_12 : decode cX4_doubtedShare 12 = .ok (.if_icmp .ge 25, 3) := dk_162 0 25 (dk_at dksX4_doubtedShare_0 12 rfl rfl)
theorem dX4_doubtedShare_15 : decode cX4_doubtedShare 15 = .ok (.iload_n 1, 1) := dk_27 (dk_at dksX4_doubtedShare_0 15 rfl rfl)
theorem dX4_doubtedShare_16 : decode cX4_doubtedShare 16 = .ok (.aload_n 0, 1) := dk_42 (dk_at dksX4_doubtedShare_0 16 rfl rfl)
theorem dX4_doubtedShare_17 : decode cX4_doubtedShare 17 = .ok (.iload_n 2, 1) := dk_28 (dk_at dksX4_doubtedShare_0 17 rfl rfl)
theorem dX4_doubtedShare_18 : decode cX4_doubtedShare 18 = .ok (.invokevirtual 243, 3) := dk_182 0 243 (dk_at dksX4_doubtedShare_0 18 rfl rfl)
theorem dX4_doubtedShare_21 : decode cX4_doubtedShare 21 = .ok (.ifCond .eq 7, 3) := dk_153 0 7 (dk_at dksX4_doubtedShare_0 21 rfl rfl)
theorem dX4_doubtedShare_24 : decode cX4_doubtedShare 24 = .ok (.iconst 1, 1) := dk_4 (dk_at dksX4_doubtedShare_1 0 rfl rfl)
theorem dX4_doubtedShare_25 : decode cX4_doubtedShare 25 = .ok (.goto 4, 3) := dk_167 0 4 (dk_at dksX4_doubtedShare_1 1 rfl rfl)
theorem dX4_doubtedShare_28 : decode cX4_doubtedShare 28 = .ok (.iconst 0, 1) := dk_3 (dk_at dksX4_doubtedShare_1 4 rfl rfl)
theorem dX4_doubtedShare_29 : decode cX4_doubtedShare 29 = .ok (.iadd, 1) := dk_96 (dk_at dksX4_doubtedShare_1 5 rfl rfl)
theorem dX4_doubtedShare_30 : decode cX4_doubtedShare 30 = .ok (.istore_n 1, 1) := dk_60 (dk_at dksX4_doubtedShare_1 6 rfl rfl)
theorem dX4_doubtedShare_31 : decode cX4_doubtedShare 31 = .ok (.iinc 2 1, 3) := dk_132 2 1 (dk_at dksX4_doubtedShare_1 7 rfl rfl)
theorem dX4_doubtedShare_34 : decode cX4_doubtedShare 34 = .ok (.goto (-25), 3) := dk_167 255 231 (dk_at dksX4_doubtedShare_1 10 rfl rfl)
theorem dX4_doubtedShare_37 : decode cX4_doubtedShare 37 = .ok (.iload_n 1, 1) := dk_27 (dk_at dksX4_doubtedShare_1 13 rfl rfl)
theorem dX4_doubtedShare_38 : decode cX4_doubtedShare 38 = .ok (.i2f, 1) := dk_134 (dk_at dksX4_doubtedShare_1 14 rfl rfl)
theorem dX4_doubtedShare_39 : decode cX4_doubtedShare 39 = .ok (.ldc 254, 2) := dk_18 254 (dk_at dksX4_doubtedShare_1 15 rfl rfl)
theorem dX4_doubtedShare_41 : decode cX4_doubtedShare 41 = .ok (.fdiv, 1) := dk_110 (dk_at dksX4_doubtedShare_1 17 rfl rfl)
theorem dX4_doubtedShare_42 : decode cX4_doubtedShare 42 = .ok (.freturn, 1) := dk_174 (dk_at dksX4_doubtedShare_1 18 rfl rfl)
theorem q85 : (Jvm.Cond.initialized "BogsignModel") ∈ lw_all := lw_g (lw_at lw_m1 14 rfl) rfl
theorem q945 : (Jvm.Cond.selects "BogsignModel" ({ cls := "java/lang/Object", name := "getClass", desc := "()Ljava/lang/Class;" } : Jvm.MethodName) ({ cls := "java/lang/Object", name := "getClass", desc := "()Ljava/lang/Class;" } : Jvm.MethodName)) ∈ lw_all := lw_g (lw_at lw_m4 154 rfl) rfl
theorem q2026 : (Jvm.Cond.selects "BogsignModel" ({ cls := "java/lang/Object", name := "equals", desc := "(Ljava/lang/Object;)Z" } : Jvm.MethodName) ({ cls := "java/lang/Object", name := "equals", desc := "(Ljava/lang/Object;)Z" } : Jvm.MethodName)) ∈ lw_all := lw_g (lw_at lw_m9 35 rfl) rfl
theorem q2319 : (Jvm.Cond.instantiable "BogsignModel" (38 : Nat)) ∈ lw_all := lw_g (lw_at lw_m10 88 rfl) rfl
theorem q2321 : (Jvm.Cond.instanceMethod ({ cls := "BogsignModel", name := "<init>", desc := "()V" } : Jvm.MethodName)) ∈ lw_all := lw_g (lw_at lw_m10 90 rfl) rfl
theorem q2322 : (Jvm.Cond.code ({ cls := "BogsignModel", name := "<init>", desc := "()V" } : Jvm.MethodName) prog_14_method_1_code (2 : Nat) (Option.none : Option Jvm.ClassFile.FieldType)) ∈ lw_all := lw_g (lw_at lw_m10 91 rfl) rfl
theorem q2323 : (Jvm.Cond.methodLink "BogsignModel" (1 : Nat) ({ cls := "java/lang/Object", name := "<init>", desc := "()V" } : Jvm.MethodName)) ∈ lw_all := lw_g (lw_at lw_m10 92 rfl) rfl
theorem q2324 : (Jvm.Cond.fieldLink "BogsignModel" (7 : Nat) "BogsignModel" "softness" "[I") ∈ lw_all := lw_g (lw_at lw_m10 93 rfl) rfl
theorem q2325 : (Jvm.Cond.fieldLink "BogsignModel" (13 : Nat) "BogsignModel" "takes" "[I") ∈ lw_all := lw_g (lw_at lw_m10 94 rfl) rfl
theorem q2326 : (Jvm.Cond.fieldLink "BogsignModel" (16 : Nat) "BogsignModel" "found" "[I") ∈ lw_all := lw_g (lw_at lw_m10 95 rfl) rfl
theorem q2327 : (Jvm.Cond.fieldLink "BogsignModel" (19 : Nat) "BogsignModel" "weights" "[I") ∈ lw_all := lw_g (lw_at lw_m10 96 rfl) rfl
theorem q2328 : (Jvm.Cond.fieldLink "BogsignModel" (22 : Nat) "BogsignModel" "total" "[J") ∈ lw_all := lw_g (lw_at lw_m10 97 rfl) rfl
theorem q2329 : (Jvm.Cond.fieldLink "BogsignModel" (26 : Nat) "BogsignModel" "begins" "[J") ∈ lw_all := lw_g (lw_at lw_m10 98 rfl) rfl
theorem q2330 : (Jvm.Cond.fieldLink "BogsignModel" (29 : Nat) "BogsignModel" "ends" "[J") ∈ lw_all := lw_g (lw_at lw_m10 99 rfl) rfl
theorem q2331 : (Jvm.Cond.fieldLink "BogsignModel" (32 : Nat) "BogsignModel" "where" "[I") ∈ lw_all := lw_g (lw_at lw_m10 100 rfl) rfl
theorem q2332 : (Jvm.Cond.fieldLink "BogsignModel" (35 : Nat) "BogsignModel" "at" "[I") ∈ lw_all := lw_g (lw_at lw_m10 101 rfl) rfl
theorem q2333 : (Jvm.Cond.fieldLink "BogsignModel" (38 : Nat) "BogsignModel" "came" "[I") ∈ lw_all := lw_g (lw_at lw_m10 102 rfl) rfl
theorem q2334 : (Jvm.Cond.fieldLink "BogsignModel" (41 : Nat) "BogsignModel" "sending" "[I") ∈ lw_all := lw_g (lw_at lw_m10 103 rfl) rfl
theorem q2335 : (Jvm.Cond.fieldLink "BogsignModel" (44 : Nat) "BogsignModel" "depth" "[J") ∈ lw_all := lw_g (lw_at lw_m10 104 rfl) rfl
theorem q2336 : (Jvm.Cond.fieldLink "BogsignModel" (47 : Nat) "BogsignModel" "toCome" "[I") ∈ lw_all := lw_g (lw_at lw_m10 105 rfl) rfl
theorem q2337 : (Jvm.Cond.fieldLink "BogsignModel" (50 : Nat) "BogsignModel" "what" "[I") ∈ lw_all := lw_g (lw_at lw_m10 106 rfl) rfl
theorem q2338 : (Jvm.Cond.fieldLink "BogsignModel" (53 : Nat) "BogsignModel" "which" "[I") ∈ lw_all := lw_g (lw_at lw_m10 107 rfl) rfl
theorem q2339 : (Jvm.Cond.fieldLink "BogsignModel" (56 : Nat) "BogsignModel" "owedTo" "[I") ∈ lw_all := lw_g (lw_at lw_m10 108 rfl) rfl
theorem q2340 : (Jvm.Cond.fieldLink "BogsignModel" (59 : Nat) "BogsignModel" "owes" "[I") ∈ lw_all := lw_g (lw_at lw_m10 109 rfl) rfl
theorem q2341 : (Jvm.Cond.fieldLink "BogsignModel" (62 : Nat) "BogsignModel" "rider" "[I") ∈ lw_all := lw_g (lw_at lw_m10 110 rfl) rfl
theorem q2342 : (Jvm.Cond.fieldLink "BogsignModel" (65 : Nat) "BogsignModel" "stretch" "[I") ∈ lw_all := lw_g (lw_at lw_m10 111 rfl) rfl
theorem q2343 : (Jvm.Cond.fieldLink "BogsignModel" (68 : Nat) "BogsignModel" "word" "[I") ∈ lw_all := lw_g (lw_at lw_m10 112 rfl) rfl
theorem q2344 : (Jvm.Cond.fieldLink "BogsignModel" (71 : Nat) "BogsignModel" "sent" "[I") ∈ lw_all := lw_g (lw_at lw_m10 113 rfl) rfl
theorem q2345 : (Jvm.Cond.fieldLink "BogsignModel" (74 : Nat) "BogsignModel" "arrives" "[I") ∈ lw_all := lw_g (lw_at lw_m10 114 rfl) rfl
theorem q2346 : (Jvm.Cond.fieldLink "BogsignModel" (77 : Nat) "BogsignModel" "isIn" "[Z") ∈ lw_all := lw_g (lw_at lw_m10 115 rfl) rfl
theorem q2347 : (Jvm.Cond.fieldLink "BogsignModel" (81 : Nat) "BogsignModel" "isWeighed" "[Z") ∈ lw_all := lw_g (lw_at lw_m10 116 rfl) rfl
theorem q2348 : (Jvm.Cond.fieldLink "BogsignModel" (84 : Nat) "BogsignModel" "noted" "[J") ∈ lw_all := lw_g (lw_at lw_m10 117 rfl) rfl
theorem q2349 : (Jvm.Cond.fieldLink "BogsignModel" (87 : Nat) "BogsignModel" "many" "[I") ∈ lw_all := lw_g (lw_at lw_m10 118 rfl) rfl
theorem q2350 : (Jvm.Cond.fieldLink "BogsignModel" (90 : Nat) "BogsignModel" "good" "[I") ∈ lw_all := lw_g (lw_at lw_m10 119 rfl) rfl
theorem q2351 : (Jvm.Cond.fieldLink "BogsignModel" (93 : Nat) "BogsignModel" "first" "[I") ∈ lw_all := lw_g (lw_at lw_m10 120 rfl) rfl
theorem q2352 : (Jvm.Cond.fieldLink "BogsignModel" (96 : Nat) "BogsignModel" "sends" "[I") ∈ lw_all := lw_g (lw_at lw_m10 121 rfl) rfl
theorem q2353 : (Jvm.Cond.fieldLink "BogsignModel" (99 : Nat) "BogsignModel" "letters" "[B") ∈ lw_all := lw_g (lw_at lw_m10 122 rfl) rfl
theorem q2354 : (Jvm.Cond.fieldLink "BogsignModel" (131 : Nat) "BogsignModel" "day" "I") ∈ lw_all := lw_g (lw_at lw_m10 123 rfl) rfl
theorem q2355 : (Jvm.Cond.fieldLink "BogsignModel" (103 : Nat) "BogsignModel" "limit" "I") ∈ lw_all := lw_g (lw_at lw_m10 124 rfl) rfl
theorem q2356 : (Jvm.Cond.fieldLink "BogsignModel" (118 : Nat) "BogsignModel" "boards" "I") ∈ lw_all := lw_g (lw_at lw_m10 125 rfl) rfl
theorem q2357 : (Jvm.Cond.fieldLink "BogsignModel" (195 : Nat) "BogsignModel" "ordered" "I") ∈ lw_all := lw_g (lw_at lw_m10 126 rfl) rfl
theorem q2358 : (Jvm.Cond.fieldLink "BogsignModel" (137 : Nat) "BogsignModel" "events" "I") ∈ lw_all := lw_g (lw_at lw_m10 127 rfl) rfl
theorem q2359 : (Jvm.Cond.fieldLink "BogsignModel" (144 : Nat) "BogsignModel" "row" "I") ∈ lw_all := lw_g (lw_at lw_m10 128 rfl) rfl
theorem q2360 : (Jvm.Cond.fieldLink "BogsignModel" (215 : Nat) "BogsignModel" "messages" "I") ∈ lw_all := lw_g (lw_at lw_m10 129 rfl) rfl
theorem q2361 : (Jvm.Cond.fieldLink "BogsignModel" (107 : Nat) "BogsignModel" "code" "I") ∈ lw_all := lw_g (lw_at lw_m10 130 rfl) rfl
theorem q2362 : (Jvm.Cond.laysFinal "BogsignModel" "BogsignModel" "softness" "[I") ∈ lw_all := lw_g (lw_at lw_m10 131 rfl) rfl
theorem q2363 : (Jvm.Cond.soleField "BogsignModel" "softness") ∈ lw_all := lw_g (lw_at lw_m10 132 rfl) rfl
theorem q2364 : (Jvm.Cond.laysFinal "BogsignModel" "BogsignModel" "takes" "[I") ∈ lw_all := lw_g (lw_at lw_m10 133 rfl) rfl
theorem q2365 : (Jvm.Cond.soleField "BogsignModel" "takes") ∈ lw_all := lw_g (lw_at lw_m10 134 rfl) rfl
theorem q2366 : (Jvm.Cond.laysFinal "BogsignModel" "BogsignModel" "found" "[I") ∈ lw_all := lw_g (lw_at lw_m10 135 rfl) rfl
theorem q2367 : (Jvm.Cond.soleField "BogsignModel" "found") ∈ lw_all := lw_g (lw_at lw_m10 136 rfl) rfl
theorem q2368 : (Jvm.Cond.laysFinal "BogsignModel" "BogsignModel" "weights" "[I") ∈ lw_all := lw_g (lw_at lw_m10 137 rfl) rfl
theorem q2369 : (Jvm.Cond.soleField "BogsignModel" "weights") ∈ lw_all := lw_g (lw_at lw_m10 138 rfl) rfl
theorem q2370 : (Jvm.Cond.laysFinal "BogsignModel" "BogsignModel" "total" "[J") ∈ lw_all := lw_g (lw_at lw_m10 139 rfl) rfl
theorem q2371 : (Jvm.Cond.soleField "BogsignModel" "total") ∈ lw_all := lw_g (lw_at lw_m10 140 rfl) rfl
theorem q2372 : (Jvm.Cond.laysFinal "BogsignModel" "BogsignModel" "begins" "[J") ∈ lw_all := lw_g (lw_at lw_m10 141 rfl) rfl
theorem q2373 : (Jvm.Cond.soleField "BogsignModel" "begins") ∈ lw_all := lw_g (lw_at lw_m10 142 rfl) rfl
theorem q2374 : (Jvm.Cond.laysFinal "BogsignModel" "BogsignModel" "ends" "[J") ∈ lw_all := lw_g (lw_at lw_m10 143 rfl) rfl
theorem q2375 : (Jvm.Cond.soleField "BogsignModel" "ends") ∈ lw_all := lw_g (lw_at lw_m10 144 rfl) rfl
theorem q2376 : (Jvm.Cond.laysFinal "BogsignModel" "BogsignModel" "where" "[I") ∈ lw_all := lw_g (lw_at lw_m10 145 rfl) rfl
theorem q2377 : (Jvm.Cond.soleField "BogsignModel" "where") ∈ lw_all := lw_g (lw_at lw_m10 146 rfl) rfl
theorem q2378 : (Jvm.Cond.laysFinal "BogsignModel" "BogsignModel" "at" "[I") ∈ lw_all := lw_g (lw_at lw_m10 147 rfl) rfl
theorem q2379 : (Jvm.Cond.soleField "BogsignModel" "at") ∈ lw_all := lw_g (lw_at lw_m10 148 rfl) rfl
theorem q2380 : (Jvm.Cond.laysFinal "BogsignModel" "BogsignModel" "came" "[I") ∈ lw_all := lw_g (lw_at lw_m10 149 rfl) rfl
theorem q2381 : (Jvm.Cond.soleField "BogsignModel" "came") ∈ lw_all := lw_g (lw_at lw_m10 150 rfl) rfl
theorem q2382 : (Jvm.Cond.laysFinal "BogsignModel" "BogsignModel" "sending" "[I") ∈ lw_all := lw_g (lw_at lw_m10 151 rfl) rfl
theorem q2383 : (Jvm.Cond.soleField "BogsignModel" "sending") ∈ lw_all := lw_g (lw_at lw_m10 152 rfl) rfl
theorem q2384 : (Jvm.Cond.laysFinal "BogsignModel" "BogsignModel" "depth" "[J") ∈ lw_all := lw_g (lw_at lw_m10 153 rfl) rfl
theorem q2385 : (Jvm.Cond.soleField "BogsignModel" "depth") ∈ lw_all := lw_g (lw_at lw_m10 154 rfl) rfl
theorem q2386 : (Jvm.Cond.laysFinal "BogsignModel" "BogsignModel" "toCome" "[I") ∈ lw_all := lw_g (lw_at lw_m10 155 rfl) rfl
theorem q2387 : (Jvm.Cond.soleField "BogsignModel" "toCome") ∈ lw_all := lw_g (lw_at lw_m10 156 rfl) rfl
theorem q2388 : (Jvm.Cond.laysFinal "BogsignModel" "BogsignModel" "what" "[I") ∈ lw_all := lw_g (lw_at lw_m10 157 rfl) rfl
theorem q2389 : (Jvm.Cond.soleField "BogsignModel" "what") ∈ lw_all := lw_g (lw_at lw_m10 158 rfl) rfl
theorem q2390 : (Jvm.Cond.laysFinal "BogsignModel" "BogsignModel" "which" "[I") ∈ lw_all := lw_g (lw_at lw_m10 159 rfl) rfl
theorem q2391 : (Jvm.Cond.soleField "BogsignModel" "which") ∈ lw_all := lw_g (lw_at lw_m10 160 rfl) rfl
theorem q2392 : (Jvm.Cond.laysFinal "BogsignModel" "BogsignModel" "owedTo" "[I") ∈ lw_all := lw_g (lw_at lw_m10 161 rfl) rfl
theorem q2393 : (Jvm.Cond.soleField "BogsignModel" "owedTo") ∈ lw_all := lw_g (lw_at lw_m10 162 rfl) rfl
theorem q2394 : (Jvm.Cond.laysFinal "BogsignModel" "BogsignModel" "owes" "[I") ∈ lw_all := lw_g (lw_at lw_m10 163 rfl) rfl
theorem q2395 : (Jvm.Cond.soleField "BogsignModel" "owes") ∈ lw_all := lw_g (lw_at lw_m10 164 rfl) rfl
theorem q2396 : (Jvm.Cond.laysFinal "BogsignModel" "BogsignModel" "rider" "[I") ∈ lw_all := lw_g (lw_at lw_m10 165 rfl) rfl
theorem q2397 : (Jvm.Cond.soleField "BogsignModel" "rider") ∈ lw_all := lw_g (lw_at lw_m10 166 rfl) rfl
theorem q2398 : (Jvm.Cond.laysFinal "BogsignModel" "BogsignModel" "stretch" "[I") ∈ lw_all := lw_g (lw_at lw_m10 167 rfl) rfl
theorem q2399 : (Jvm.Cond.soleField "BogsignModel" "stretch") ∈ lw_all := lw_g (lw_at lw_m10 168 rfl) rfl
theorem q2400 : (Jvm.Cond.laysFinal "BogsignModel" "BogsignModel" "word" "[I") ∈ lw_all := lw_g (lw_at lw_m10 169 rfl) rfl
theorem q2401 : (Jvm.Cond.soleField "BogsignModel" "word") ∈ lw_all := lw_g (lw_at lw_m10 170 rfl) rfl
theorem q2402 : (Jvm.Cond.laysFinal "BogsignModel" "BogsignModel" "sent" "[I") ∈ lw_all := lw_g (lw_at lw_m10 171 rfl) rfl
theorem q2403 : (Jvm.Cond.soleField "BogsignModel" "sent") ∈ lw_all := lw_g (lw_at lw_m10 172 rfl) rfl
theorem q2404 : (Jvm.Cond.laysFinal "BogsignModel" "BogsignModel" "arrives" "[I") ∈ lw_all := lw_g (lw_at lw_m10 173 rfl) rfl
theorem q2405 : (Jvm.Cond.soleField "BogsignModel" "arrives") ∈ lw_all := lw_g (lw_at lw_m10 174 rfl) rfl
theorem q2406 : (Jvm.Cond.laysFinal "BogsignModel" "BogsignModel" "isIn" "[Z") ∈ lw_all := lw_g (lw_at lw_m10 175 rfl) rfl
theorem q2407 : (Jvm.Cond.soleField "BogsignModel" "isIn") ∈ lw_all := lw_g (lw_at lw_m10 176 rfl) rfl
theorem q2408 : (Jvm.Cond.laysFinal "BogsignModel" "BogsignModel" "isWeighed" "[Z") ∈ lw_all := lw_g (lw_at lw_m10 177 rfl) rfl
theorem q2409 : (Jvm.Cond.soleField "BogsignModel" "isWeighed") ∈ lw_all := lw_g (lw_at lw_m10 178 rfl) rfl
theorem q2410 : (Jvm.Cond.laysFinal "BogsignModel" "BogsignModel" "noted" "[J") ∈ lw_all := lw_g (lw_at lw_m10 179 rfl) rfl
theorem q2411 : (Jvm.Cond.soleField "BogsignModel" "noted") ∈ lw_all := lw_g (lw_at lw_m10 180 rfl) rfl
theorem q2412 : (Jvm.Cond.laysFinal "BogsignModel" "BogsignModel" "many" "[I") ∈ lw_all := lw_g (lw_at lw_m10 181 rfl) rfl
theorem q2413 : (Jvm.Cond.soleField "BogsignModel" "many") ∈ lw_all := lw_g (lw_at lw_m10 182 rfl) rfl
theorem q2414 : (Jvm.Cond.laysFinal "BogsignModel" "BogsignModel" "good" "[I") ∈ lw_all := lw_g (lw_at lw_m10 183 rfl) rfl
theorem q2415 : (Jvm.Cond.soleField "BogsignModel" "good") ∈ lw_all := lw_g (lw_at lw_m10 184 rfl) rfl
theorem q2416 : (Jvm.Cond.laysFinal "BogsignModel" "BogsignModel" "first" "[I") ∈ lw_all := lw_g (lw_at lw_m10 185 rfl) rfl
theorem q2417 : (Jvm.Cond.soleField "BogsignModel" "first") ∈ lw_all := lw_g (lw_at lw_m10 186 rfl) rfl
theorem q2418 : (Jvm.Cond.laysFinal "BogsignModel" "BogsignModel" "sends" "[I") ∈ lw_all := lw_g (lw_at lw_m10 187 rfl) rfl
theorem q2419 : (Jvm.Cond.soleField "BogsignModel" "sends") ∈ lw_all := lw_g (lw_at lw_m10 188 rfl) rfl
theorem q2420 : (Jvm.Cond.laysFinal "BogsignModel" "BogsignModel" "letters" "[B") ∈ lw_all := lw_g (lw_at lw_m10 189 rfl) rfl
theorem q2421 : (Jvm.Cond.soleField "BogsignModel" "letters") ∈ lw_all := lw_g (lw_at lw_m10 190 rfl) rfl
theorem q2422 : (Jvm.Cond.lays "BogsignModel" "BogsignModel" "day" "I") ∈ lw_all := lw_g (lw_at lw_m10 191 rfl) rfl
theorem q2423 : (Jvm.Cond.soleField "BogsignModel" "day") ∈ lw_all := lw_g (lw_at lw_m10 192 rfl) rfl
theorem q2424 : (Jvm.Cond.lays "BogsignModel" "BogsignModel" "limit" "I") ∈ lw_all := lw_g (lw_at lw_m10 193 rfl) rfl
theorem q2425 : (Jvm.Cond.soleField "BogsignModel" "limit") ∈ lw_all := lw_g (lw_at lw_m10 194 rfl) rfl
theorem q2426 : (Jvm.Cond.lays "BogsignModel" "BogsignModel" "boards" "I") ∈ lw_all := lw_g (lw_at lw_m10 195 rfl) rfl
theorem q2427 : (Jvm.Cond.soleField "BogsignModel" "boards") ∈ lw_all := lw_g (lw_at lw_m10 196 rfl) rfl
theorem q2428 : (Jvm.Cond.lays "BogsignModel" "BogsignModel" "ordered" "I") ∈ lw_all := lw_g (lw_at lw_m10 197 rfl) rfl
theorem q2429 : (Jvm.Cond.soleField "BogsignModel" "ordered") ∈ lw_all := lw_g (lw_at lw_m10 198 rfl) rfl
theorem q2430 : (Jvm.Cond.lays "BogsignModel" "BogsignModel" "events" "I") ∈ lw_all := lw_g (lw_at lw_m10 199 rfl) rfl
theorem q2431 : (Jvm.Cond.soleField "BogsignModel" "events") ∈ lw_all := lw_g (lw_at lw_m10 200 rfl) rfl
theorem q2432 : (Jvm.Cond.lays "BogsignModel" "BogsignModel" "row" "I") ∈ lw_all := lw_g (lw_at lw_m10 201 rfl) rfl
theorem q2433 : (Jvm.Cond.soleField "BogsignModel" "row") ∈ lw_all := lw_g (lw_at lw_m10 202 rfl) rfl
theorem q2434 : (Jvm.Cond.lays "BogsignModel" "BogsignModel" "messages" "I") ∈ lw_all := lw_g (lw_at lw_m10 203 rfl) rfl
theorem q2435 : (Jvm.Cond.soleField "BogsignModel" "messages") ∈ lw_all := lw_g (lw_at lw_m10 204 rfl) rfl
theorem q2436 : (Jvm.Cond.lays "BogsignModel" "BogsignModel" "code" "I") ∈ lw_all := lw_g (lw_at lw_m10 205 rfl) rfl
theorem q2437 : (Jvm.Cond.soleField "BogsignModel" "code") ∈ lw_all := lw_g (lw_at lw_m10 206 rfl) rfl
theorem q2438 : (Jvm.Cond.superclass "BogsignModel" "java/lang/Object") ∈ lw_all := lw_g (lw_at lw_m10 207 rfl) rfl
theorem q2441 : (Jvm.Cond.instanceMethod ({ cls := "BogsignModel", name := "thrown", desc := "()I" } : Jvm.MethodName)) ∈ lw_all := lw_g (lw_at lw_m10 210 rfl) rfl
theorem q2442 : (Jvm.Cond.selects "BogsignModel" ({ cls := "BogsignModel", name := "thrown", desc := "()I" } : Jvm.MethodName) ({ cls := "BogsignModel", name := "thrown", desc := "()I" } : Jvm.MethodName)) ∈ lw_all := lw_g (lw_at lw_m10 211 rfl) rfl
theorem q2443 : (Jvm.Cond.code ({ cls := "BogsignModel", name := "thrown", desc := "()I" } : Jvm.MethodName) prog_14_method_2_code (1 : Nat) (Option.some Jvm.ClassFile.FieldType.int)) ∈ lw_all := lw_g (lw_at lw_m10 212 rfl) rfl
theorem q2445 : (Jvm.Cond.instanceMethod ({ cls := "BogsignModel", name := "pass", desc := "(I)I" } : Jvm.MethodName)) ∈ lw_all := lw_g (lw_at lw_m10 214 rfl) rfl
theorem q2446 : (Jvm.Cond.selects "BogsignModel" ({ cls := "BogsignModel", name := "pass", desc := "(I)I" } : Jvm.MethodName) ({ cls := "BogsignModel", name := "pass", desc := "(I)I" } : Jvm.MethodName)) ∈ lw_all := lw_g (lw_at lw_m10 215 rfl) rfl
theorem q2447 : (Jvm.Cond.code ({ cls := "BogsignModel", name := "pass", desc := "(I)I" } : Jvm.MethodName) prog_14_method_23_code (3 : Nat) (Option.some Jvm.ClassFile.FieldType.int)) ∈ lw_all := lw_g (lw_at lw_m10 216 rfl) rfl
theorem q2448 : (Jvm.Cond.constantLong "BogsignModel" (169 : Nat) (100 : Int64)) ∈ lw_all := lw_g (lw_at lw_m10 217 rfl) rfl
theorem q2449 : (Jvm.Cond.methodLink "BogsignModel" (112 : Nat) ({ cls := "BogsignModel", name := "isBetween", desc := "(JJJ)Z" } : Jvm.MethodName)) ∈ lw_all := lw_g (lw_at lw_m10 218 rfl) rfl
theorem q2450 : (Jvm.Cond.static ({ cls := "BogsignModel", name := "isBetween", desc := "(JJJ)Z" } : Jvm.MethodName)) ∈ lw_all := lw_g (lw_at lw_m10 219 rfl) rfl
theorem q2451 : (Jvm.Cond.code ({ cls := "BogsignModel", name := "isBetween", desc := "(JJJ)Z" } : Jvm.MethodName) prog_14_method_3_code (6 : Nat) (Option.some Jvm.ClassFile.FieldType.boolean)) ∈ lw_all := lw_g (lw_at lw_m10 220 rfl) rfl
theorem q2452 : (Jvm.Cond.constantLong "BogsignModel" (171 : Nat) (5000 : Int64)) ∈ lw_all := lw_g (lw_at lw_m10 221 rfl) rfl
theorem q2453 : (Jvm.Cond.methodLink "BogsignModel" (173 : Nat) ({ cls := "BogsignModel", name := "goesBoth", desc := "(ZZ)Z" } : Jvm.MethodName)) ∈ lw_all := lw_g (lw_at lw_m10 222 rfl) rfl
theorem q2454 : (Jvm.Cond.privateMethod ({ cls := "BogsignModel", name := "goesBoth", desc := "(ZZ)Z" } : Jvm.MethodName)) ∈ lw_tbl := lw_at lw_m10 223 rfl
theorem q2455 : (Jvm.Cond.instanceMethod ({ cls := "BogsignModel", name := "goesBoth", desc := "(ZZ)Z" } : Jvm.MethodName)) ∈ lw_all := lw_g (lw_at lw_m10 224 rfl) rfl
theorem q2456 : (Jvm.Cond.code ({ cls := "BogsignModel", name := "goesBoth", desc := "(ZZ)Z" } : Jvm.MethodName) prog_14_method_5_code (3 : Nat) (Option.some Jvm.ClassFile.FieldType.boolean)) ∈ lw_all := lw_g (lw_at lw_m10 225 rfl) rfl
theorem q2457 : (Jvm.Cond.methodLink "BogsignModel" (177 : Nat) ({ cls := "BogsignModel", name := "dayGoes", desc := "()V" } : Jvm.MethodName)) ∈ lw_all := lw_g (lw_at lw_m10 226 rfl) rfl
theorem q2458 : (Jvm.Cond.privateMethod ({ cls := "BogsignModel", name := "dayGoes", desc := "()V" } : Jvm.MethodName)) ∈ lw_tbl := lw_at lw_m10 227 rfl
theorem q2459 : (Jvm.Cond.instanceMethod ({ cls := "BogsignModel", name := "dayGoes", desc := "()V" } : Jvm.MethodName)) ∈ lw_all := lw_g (lw_at lw_m10 228 rfl) rfl
theorem q2460 : (Jvm.Cond.code ({ cls := "BogsignModel", name := "dayGoes", desc := "()V" } : Jvm.MethodName) prog_14_method_22_code (3 : Nat) (Option.none : Option Jvm.ClassFile.FieldType)) ∈ lw_all := lw_g (lw_at lw_m10 229 rfl) rfl
theorem q2461 : (Jvm.Cond.methodLink "BogsignModel" (156 : Nat) ({ cls := "BogsignModel", name := "cutCome", desc := "(I)V" } : Jvm.MethodName)) ∈ lw_all := lw_g (lw_at lw_m10 230 rfl) rfl
theorem q2462 : (Jvm.Cond.privateMethod ({ cls := "BogsignModel", name := "cutCome", desc := "(I)V" } : Jvm.MethodName)) ∈ lw_tbl := lw_at lw_m10 231 rfl
theorem q2463 : (Jvm.Cond.instanceMethod ({ cls := "BogsignModel", name := "cutCome", desc := "(I)V" } : Jvm.MethodName)) ∈ lw_all := lw_g (lw_at lw_m10 232 rfl) rfl
theorem q2464 : (Jvm.Cond.code ({ cls := "BogsignModel", name := "cutCome", desc := "(I)V" } : Jvm.MethodName) prog_14_method_19_code (3 : Nat) (Option.none : Option Jvm.ClassFile.FieldType)) ∈ lw_all := lw_g (lw_at lw_m10 233 rfl) rfl
theorem q2465 : (Jvm.Cond.methodLink "BogsignModel" (153 : Nat) ({ cls := "BogsignModel", name := "serves", desc := "()V" } : Jvm.MethodName)) ∈ lw_all := lw_g (lw_at lw_m10 234 rfl) rfl
theorem q2466 : (Jvm.Cond.privateMethod ({ cls := "BogsignModel", name := "serves", desc := "()V" } : Jvm.MethodName)) ∈ lw_tbl := lw_at lw_m10 235 rfl
theorem q2467 : (Jvm.Cond.instanceMethod ({ cls := "BogsignModel", name := "serves", desc := "()V" } : Jvm.MethodName)) ∈ lw_all := lw_g (lw_at lw_m10 236 rfl) rfl
theorem q2468 : (Jvm.Cond.code ({ cls := "BogsignModel", name := "serves", desc := "()V" } : Jvm.MethodName) prog_14_method_18_code (4 : Nat) (Option.none : Option Jvm.ClassFile.FieldType)) ∈ lw_all := lw_g (lw_at lw_m10 237 rfl) rfl
theorem q2469 : (Jvm.Cond.methodLink "BogsignModel" (147 : Nat) ({ cls := "BogsignModel", name := "count", desc := "(I)I" } : Jvm.MethodName)) ∈ lw_all := lw_g (lw_at lw_m10 238 rfl) rfl
theorem q2470 : (Jvm.Cond.privateMethod ({ cls := "BogsignModel", name := "count", desc := "(I)I" } : Jvm.MethodName)) ∈ lw_tbl := lw_at lw_m10 239 rfl
theorem q2471 : (Jvm.Cond.instanceMethod ({ cls := "BogsignModel", name := "count", desc := "(I)I" } : Jvm.MethodName)) ∈ lw_all := lw_g (lw_at lw_m11 0 rfl) rfl
theorem q2472 : (Jvm.Cond.code ({ cls := "BogsignModel", name := "count", desc := "(I)I" } : Jvm.MethodName) prog_14_method_12_code (4 : Nat) (Option.some Jvm.ClassFile.FieldType.int)) ∈ lw_all := lw_g (lw_at lw_m11 1 rfl) rfl
theorem q2473 : (Jvm.Cond.methodLink "BogsignModel" (150 : Nat) ({ cls := "BogsignModel", name := "sends", desc := "(II)I" } : Jvm.MethodName)) ∈ lw_all := lw_g (lw_at lw_m11 2 rfl) rfl
theorem q2474 : (Jvm.Cond.privateMethod ({ cls := "BogsignModel", name := "sends", desc := "(II)I" } : Jvm.MethodName)) ∈ lw_tbl := lw_at lw_m11 3 rfl
theorem q2475 : (Jvm.Cond.instanceMethod ({ cls := "BogsignModel", name := "sends", desc := "(II)I" } : Jvm.MethodName)) ∈ lw_all := lw_g (lw_at lw_m11 4 rfl) rfl
theorem q2476 : (Jvm.Cond.code ({ cls := "BogsignModel", name := "sends", desc := "(II)I" } : Jvm.MethodName) prog_14_method_17_code (7 : Nat) (Option.some Jvm.ClassFile.FieldType.int)) ∈ lw_all := lw_g (lw_at lw_m11 5 rfl) rfl
theorem q2477 : (Jvm.Cond.methodLink "BogsignModel" (140 : Nat) ({ cls := "BogsignModel", name := "comes", desc := "(III)I" } : Jvm.MethodName)) ∈ lw_all := lw_g (lw_at lw_m11 6 rfl) rfl
theorem q2478 : (Jvm.Cond.privateMethod ({ cls := "BogsignModel", name := "comes", desc := "(III)I" } : Jvm.MethodName)) ∈ lw_tbl := lw_at lw_m11 7 rfl
theorem q2479 : (Jvm.Cond.instanceMethod ({ cls := "BogsignModel", name := "comes", desc := "(III)I" } : Jvm.MethodName)) ∈ lw_all := lw_g (lw_at lw_m11 8 rfl) rfl
theorem q2480 : (Jvm.Cond.code ({ cls := "BogsignModel", name := "comes", desc := "(III)I" } : Jvm.MethodName) prog_14_method_16_code (4 : Nat) (Option.some Jvm.ClassFile.FieldType.int)) ∈ lw_all := lw_g (lw_at lw_m11 9 rfl) rfl
theorem q2481 : (Jvm.Cond.methodLink "BogsignModel" (160 : Nat) ({ cls := "BogsignModel", name := "laid", desc := "(I)V" } : Jvm.MethodName)) ∈ lw_all := lw_g (lw_at lw_m11 10 rfl) rfl
theorem q2482 : (Jvm.Cond.privateMethod ({ cls := "BogsignModel", name := "laid", desc := "(I)V" } : Jvm.MethodName)) ∈ lw_tbl := lw_at lw_m11 11 rfl
theorem q2483 : (Jvm.Cond.instanceMethod ({ cls := "BogsignModel", name := "laid", desc := "(I)V" } : Jvm.MethodName)) ∈ lw_all := lw_g (lw_at lw_m11 12 rfl) rfl
theorem q2484 : (Jvm.Cond.code ({ cls := "BogsignModel", name := "laid", desc := "(I)V" } : Jvm.MethodName) prog_14_method_20_code (3 : Nat) (Option.none : Option Jvm.ClassFile.FieldType)) ∈ lw_all := lw_g (lw_at lw_m11 13 rfl) rfl
theorem q2485 : (Jvm.Cond.methodLink "BogsignModel" (163 : Nat) ({ cls := "BogsignModel", name := "messageComes", desc := "(I)V" } : Jvm.MethodName)) ∈ lw_all := lw_g (lw_at lw_m11 14 rfl) rfl
theorem q2486 : (Jvm.Cond.privateMethod ({ cls := "BogsignModel", name := "messageComes", desc := "(I)V" } : Jvm.MethodName)) ∈ lw_tbl := lw_at lw_m11 15 rfl
theorem q2487 : (Jvm.Cond.instanceMethod ({ cls := "BogsignModel", name := "messageComes", desc := "(I)V" } : Jvm.MethodName)) ∈ lw_all := lw_g (lw_at lw_m11 16 rfl) rfl
theorem q2488 : (Jvm.Cond.code ({ cls := "BogsignModel", name := "messageComes", desc := "(I)V" } : Jvm.MethodName) prog_14_method_21_code (4 : Nat) (Option.none : Option Jvm.ClassFile.FieldType)) ∈ lw_all := lw_g (lw_at lw_m11 17 rfl) rfl
theorem q2489 : (Jvm.Cond.methodLink "BogsignModel" (166 : Nat) ({ cls := "BogsignModel", name := "week", desc := "()V" } : Jvm.MethodName)) ∈ lw_all := lw_g (lw_at lw_m11 18 rfl) rfl
theorem q2490 : (Jvm.Cond.privateMethod ({ cls := "BogsignModel", name := "week", desc := "()V" } : Jvm.MethodName)) ∈ lw_tbl := lw_at lw_m11 19 rfl
theorem q2491 : (Jvm.Cond.instanceMethod ({ cls := "BogsignModel", name := "week", desc := "()V" } : Jvm.MethodName)) ∈ lw_all := lw_g (lw_at lw_m11 20 rfl) rfl
theorem q2492 : (Jvm.Cond.code ({ cls := "BogsignModel", name := "week", desc := "()V" } : Jvm.MethodName) prog_14_method_15_code (2 : Nat) (Option.none : Option Jvm.ClassFile.FieldType)) ∈ lw_all := lw_g (lw_at lw_m11 21 rfl) rfl
theorem q2493 : (Jvm.Cond.methodLink "BogsignModel" (127 : Nat) ({ cls := "BogsignModel", name := "sinks", desc := "(IJ)V" } : Jvm.MethodName)) ∈ lw_all := lw_g (lw_at lw_m11 22 rfl) rfl
theorem q2494 : (Jvm.Cond.privateMethod ({ cls := "BogsignModel", name := "sinks", desc := "(IJ)V" } : Jvm.MethodName)) ∈ lw_tbl := lw_at lw_m11 23 rfl
theorem q2495 : (Jvm.Cond.instanceMethod ({ cls := "BogsignModel", name := "sinks", desc := "(IJ)V" } : Jvm.MethodName)) ∈ lw_all := lw_g (lw_at lw_m11 24 rfl) rfl
theorem q2496 : (Jvm.Cond.code ({ cls := "BogsignModel", name := "sinks", desc := "(IJ)V" } : Jvm.MethodName) prog_14_method_14_code (5 : Nat) (Option.none : Option Jvm.ClassFile.FieldType)) ∈ lw_all := lw_g (lw_at lw_m11 25 rfl) rfl
theorem q2497 : (Jvm.Cond.constantLong "BogsignModel" (125 : Nat) (1000 : Int64)) ∈ lw_all := lw_g (lw_at lw_m11 26 rfl) rfl
theorem q2498 : (Jvm.Cond.methodLink "BogsignModel" (134 : Nat) ({ cls := "BogsignModel", name := "seasonOf", desc := "(I)I" } : Jvm.MethodName)) ∈ lw_all := lw_g (lw_at lw_m11 27 rfl) rfl
theorem q2499 : (Jvm.Cond.static ({ cls := "BogsignModel", name := "seasonOf", desc := "(I)I" } : Jvm.MethodName)) ∈ lw_all := lw_g (lw_at lw_m11 28 rfl) rfl
theorem q2500 : (Jvm.Cond.code ({ cls := "BogsignModel", name := "seasonOf", desc := "(I)I" } : Jvm.MethodName) prog_14_method_10_code (1 : Nat) (Option.some Jvm.ClassFile.FieldType.int)) ∈ lw_all := lw_g (lw_at lw_m11 29 rfl) rfl
theorem q2502 : (Jvm.Cond.instanceMethod ({ cls := "BogsignModel", name := "season", desc := "()I" } : Jvm.MethodName)) ∈ lw_all := lw_g (lw_at lw_m11 31 rfl) rfl
theorem q2503 : (Jvm.Cond.selects "BogsignModel" ({ cls := "BogsignModel", name := "season", desc := "()I" } : Jvm.MethodName) ({ cls := "BogsignModel", name := "season", desc := "()I" } : Jvm.MethodName)) ∈ lw_all := lw_g (lw_at lw_m11 32 rfl) rfl
theorem q2504 : (Jvm.Cond.code ({ cls := "BogsignModel", name := "season", desc := "()I" } : Jvm.MethodName) prog_14_method_24_code (1 : Nat) (Option.some Jvm.ClassFile.FieldType.int)) ∈ lw_all := lw_g (lw_at lw_m11 33 rfl) rfl
theorem q2506 : (Jvm.Cond.instanceMethod ({ cls := "BogsignModel", name := "setSoftness", desc := "(II)I" } : Jvm.MethodName)) ∈ lw_all := lw_g (lw_at lw_m11 35 rfl) rfl
theorem q2507 : (Jvm.Cond.selects "BogsignModel" ({ cls := "BogsignModel", name := "setSoftness", desc := "(II)I" } : Jvm.MethodName) ({ cls := "BogsignModel", name := "setSoftness", desc := "(II)I" } : Jvm.MethodName)) ∈ lw_all := lw_g (lw_at lw_m11 36 rfl) rfl
theorem q2508 : (Jvm.Cond.code ({ cls := "BogsignModel", name := "setSoftness", desc := "(II)I" } : Jvm.MethodName) prog_14_method_25_code (4 : Nat) (Option.some Jvm.ClassFile.FieldType.int)) ∈ lw_all := lw_g (lw_at lw_m11 37 rfl) rfl
theorem q2509 : (Jvm.Cond.methodLink "BogsignModel" (180 : Nat) ({ cls := "BogsignModel", name := "isStretch", desc := "(I)Z" } : Jvm.MethodName)) ∈ lw_all := lw_g (lw_at lw_m11 38 rfl) rfl
theorem q2510 : (Jvm.Cond.static ({ cls := "BogsignModel", name := "isStretch", desc := "(I)Z" } : Jvm.MethodName)) ∈ lw_all := lw_g (lw_at lw_m11 39 rfl) rfl
theorem q2511 : (Jvm.Cond.code ({ cls := "BogsignModel", name := "isStretch", desc := "(I)Z" } : Jvm.MethodName) prog_14_method_7_code (1 : Nat) (Option.some Jvm.ClassFile.FieldType.boolean)) ∈ lw_all := lw_g (lw_at lw_m11 40 rfl) rfl
theorem q2512 : (Jvm.Cond.constantLong "BogsignModel" (110 : Nat) (11 : Int64)) ∈ lw_all := lw_g (lw_at lw_m11 41 rfl) rfl
theorem q2513 : (Jvm.Cond.constantLong "BogsignModel" (184 : Nat) (50 : Int64)) ∈ lw_all := lw_g (lw_at lw_m11 42 rfl) rfl
theorem q2515 : (Jvm.Cond.instanceMethod ({ cls := "BogsignModel", name := "setDays", desc := "(II)I" } : Jvm.MethodName)) ∈ lw_all := lw_g (lw_at lw_m11 44 rfl) rfl
theorem q2516 : (Jvm.Cond.selects "BogsignModel" ({ cls := "BogsignModel", name := "setDays", desc := "(II)I" } : Jvm.MethodName) ({ cls := "BogsignModel", name := "setDays", desc := "(II)I" } : Jvm.MethodName)) ∈ lw_all := lw_g (lw_at lw_m11 45 rfl) rfl
theorem q2517 : (Jvm.Cond.code ({ cls := "BogsignModel", name := "setDays", desc := "(II)I" } : Jvm.MethodName) prog_14_method_26_code (4 : Nat) (Option.some Jvm.ClassFile.FieldType.int)) ∈ lw_all := lw_g (lw_at lw_m11 46 rfl) rfl
theorem q2518 : (Jvm.Cond.methodLink "BogsignModel" (186 : Nat) ({ cls := "BogsignModel", name := "isRider", desc := "(I)Z" } : Jvm.MethodName)) ∈ lw_all := lw_g (lw_at lw_m11 47 rfl) rfl
theorem q2519 : (Jvm.Cond.static ({ cls := "BogsignModel", name := "isRider", desc := "(I)Z" } : Jvm.MethodName)) ∈ lw_all := lw_g (lw_at lw_m11 48 rfl) rfl
theorem q2520 : (Jvm.Cond.code ({ cls := "BogsignModel", name := "isRider", desc := "(I)Z" } : Jvm.MethodName) prog_14_method_8_code (1 : Nat) (Option.some Jvm.ClassFile.FieldType.boolean)) ∈ lw_all := lw_g (lw_at lw_m11 49 rfl) rfl
theorem q2521 : (Jvm.Cond.constantLong "BogsignModel" (116 : Nat) (3 : Int64)) ∈ lw_all := lw_g (lw_at lw_m11 50 rfl) rfl
theorem q2522 : (Jvm.Cond.constantLong "BogsignModel" (189 : Nat) (20 : Int64)) ∈ lw_all := lw_g (lw_at lw_m11 51 rfl) rfl
theorem q2524 : (Jvm.Cond.instanceMethod ({ cls := "BogsignModel", name := "setLimit", desc := "(I)I" } : Jvm.MethodName)) ∈ lw_all := lw_g (lw_at lw_m11 53 rfl) rfl
theorem q2525 : (Jvm.Cond.selects "BogsignModel" ({ cls := "BogsignModel", name := "setLimit", desc := "(I)I" } : Jvm.MethodName) ({ cls := "BogsignModel", name := "setLimit", desc := "(I)I" } : Jvm.MethodName)) ∈ lw_all := lw_g (lw_at lw_m11 54 rfl) rfl
theorem q2526 : (Jvm.Cond.code ({ cls := "BogsignModel", name := "setLimit", desc := "(I)I" } : Jvm.MethodName) prog_14_method_27_code (3 : Nat) (Option.some Jvm.ClassFile.FieldType.int)) ∈ lw_all := lw_g (lw_at lw_m11 55 rfl) rfl
theorem q2527 : (Jvm.Cond.methodLink "BogsignModel" (191 : Nat) ({ cls := "BogsignModel", name := "goes", desc := "(Z)Z" } : Jvm.MethodName)) ∈ lw_all := lw_g (lw_at lw_m11 56 rfl) rfl
theorem q2528 : (Jvm.Cond.privateMethod ({ cls := "BogsignModel", name := "goes", desc := "(Z)Z" } : Jvm.MethodName)) ∈ lw_tbl := lw_at lw_m11 57 rfl
theorem q2529 : (Jvm.Cond.instanceMethod ({ cls := "BogsignModel", name := "goes", desc := "(Z)Z" } : Jvm.MethodName)) ∈ lw_all := lw_g (lw_at lw_m11 58 rfl) rfl
theorem q2530 : (Jvm.Cond.code ({ cls := "BogsignModel", name := "goes", desc := "(Z)Z" } : Jvm.MethodName) prog_14_method_4_code (2 : Nat) (Option.some Jvm.ClassFile.FieldType.boolean)) ∈ lw_all := lw_g (lw_at lw_m11 59 rfl) rfl
theorem q2532 : (Jvm.Cond.instanceMethod ({ cls := "BogsignModel", name := "cut", desc := "(I)I" } : Jvm.MethodName)) ∈ lw_all := lw_g (lw_at lw_m11 61 rfl) rfl
theorem q2533 : (Jvm.Cond.selects "BogsignModel" ({ cls := "BogsignModel", name := "cut", desc := "(I)I" } : Jvm.MethodName) ({ cls := "BogsignModel", name := "cut", desc := "(I)I" } : Jvm.MethodName)) ∈ lw_all := lw_g (lw_at lw_m11 62 rfl) rfl
theorem q2534 : (Jvm.Cond.code ({ cls := "BogsignModel", name := "cut", desc := "(I)I" } : Jvm.MethodName) prog_14_method_28_code (3 : Nat) (Option.some Jvm.ClassFile.FieldType.int)) ∈ lw_all := lw_g (lw_at lw_m11 63 rfl) rfl
theorem q2535 : (Jvm.Cond.constantLong "BogsignModel" (198 : Nat) (200 : Int64)) ∈ lw_all := lw_g (lw_at lw_m11 64 rfl) rfl
theorem q2537 : (Jvm.Cond.instanceMethod ({ cls := "BogsignModel", name := "lay", desc := "(II)I" } : Jvm.MethodName)) ∈ lw_all := lw_g (lw_at lw_m11 66 rfl) rfl
theorem q2538 : (Jvm.Cond.selects "BogsignModel" ({ cls := "BogsignModel", name := "lay", desc := "(II)I" } : Jvm.MethodName) ({ cls := "BogsignModel", name := "lay", desc := "(II)I" } : Jvm.MethodName)) ∈ lw_all := lw_g (lw_at lw_m11 67 rfl) rfl
theorem q2539 : (Jvm.Cond.code ({ cls := "BogsignModel", name := "lay", desc := "(II)I" } : Jvm.MethodName) prog_14_method_29_code (3 : Nat) (Option.some Jvm.ClassFile.FieldType.int)) ∈ lw_all := lw_g (lw_at lw_m11 68 rfl) rfl
theorem q2540 : (Jvm.Cond.methodLink "BogsignModel" (200 : Nat) ({ cls := "BogsignModel", name := "goesAll", desc := "(ZZZ)Z" } : Jvm.MethodName)) ∈ lw_all := lw_g (lw_at lw_m11 69 rfl) rfl
theorem q2541 : (Jvm.Cond.privateMethod ({ cls := "BogsignModel", name := "goesAll", desc := "(ZZZ)Z" } : Jvm.MethodName)) ∈ lw_tbl := lw_at lw_m11 70 rfl
theorem q2542 : (Jvm.Cond.instanceMethod ({ cls := "BogsignModel", name := "goesAll", desc := "(ZZZ)Z" } : Jvm.MethodName)) ∈ lw_all := lw_g (lw_at lw_m11 71 rfl) rfl
theorem q2543 : (Jvm.Cond.code ({ cls := "BogsignModel", name := "goesAll", desc := "(ZZZ)Z" } : Jvm.MethodName) prog_14_method_6_code (4 : Nat) (Option.some Jvm.ClassFile.FieldType.boolean)) ∈ lw_all := lw_g (lw_at lw_m11 72 rfl) rfl
theorem q2545 : (Jvm.Cond.instanceMethod ({ cls := "BogsignModel", name := "stock", desc := "(I)I" } : Jvm.MethodName)) ∈ lw_all := lw_g (lw_at lw_m11 74 rfl) rfl
theorem q2546 : (Jvm.Cond.selects "BogsignModel" ({ cls := "BogsignModel", name := "stock", desc := "(I)I" } : Jvm.MethodName) ({ cls := "BogsignModel", name := "stock", desc := "(I)I" } : Jvm.MethodName)) ∈ lw_all := lw_g (lw_at lw_m11 75 rfl) rfl
theorem q2547 : (Jvm.Cond.code ({ cls := "BogsignModel", name := "stock", desc := "(I)I" } : Jvm.MethodName) prog_14_method_31_code (2 : Nat) (Option.some Jvm.ClassFile.FieldType.int)) ∈ lw_all := lw_g (lw_at lw_m11 76 rfl) rfl
theorem q2548 : (Jvm.Cond.constantLong "BogsignModel" (204 : Nat) (7 : Int64)) ∈ lw_all := lw_g (lw_at lw_m11 77 rfl) rfl
theorem q2549 : (Jvm.Cond.methodLink "BogsignModel" (206 : Nat) ({ cls := "BogsignModel", name := "owedInAll", desc := "()I" } : Jvm.MethodName)) ∈ lw_all := lw_g (lw_at lw_m11 78 rfl) rfl
theorem q2550 : (Jvm.Cond.privateMethod ({ cls := "BogsignModel", name := "owedInAll", desc := "()I" } : Jvm.MethodName)) ∈ lw_tbl := lw_at lw_m11 79 rfl
theorem q2551 : (Jvm.Cond.instanceMethod ({ cls := "BogsignModel", name := "owedInAll", desc := "()I" } : Jvm.MethodName)) ∈ lw_all := lw_g (lw_at lw_m11 80 rfl) rfl
theorem q2552 : (Jvm.Cond.code ({ cls := "BogsignModel", name := "owedInAll", desc := "()I" } : Jvm.MethodName) prog_14_method_30_code (3 : Nat) (Option.some Jvm.ClassFile.FieldType.int)) ∈ lw_all := lw_g (lw_at lw_m11 81 rfl) rfl
theorem q2554 : (Jvm.Cond.instanceMethod ({ cls := "BogsignModel", name := "board", desc := "(II)I" } : Jvm.MethodName)) ∈ lw_all := lw_g (lw_at lw_m11 83 rfl) rfl
theorem q2555 : (Jvm.Cond.selects "BogsignModel" ({ cls := "BogsignModel", name := "board", desc := "(II)I" } : Jvm.MethodName) ({ cls := "BogsignModel", name := "board", desc := "(II)I" } : Jvm.MethodName)) ∈ lw_all := lw_g (lw_at lw_m11 84 rfl) rfl
theorem q2556 : (Jvm.Cond.code ({ cls := "BogsignModel", name := "board", desc := "(II)I" } : Jvm.MethodName) prog_14_method_32_code (3 : Nat) (Option.some Jvm.ClassFile.FieldType.int)) ∈ lw_all := lw_g (lw_at lw_m11 85 rfl) rfl
theorem q2557 : (Jvm.Cond.constantLong "BogsignModel" (210 : Nat) (4 : Int64)) ∈ lw_all := lw_g (lw_at lw_m11 86 rfl) rfl
theorem q2559 : (Jvm.Cond.instanceMethod ({ cls := "BogsignModel", name := "owed", desc := "(I)I" } : Jvm.MethodName)) ∈ lw_all := lw_g (lw_at lw_m11 88 rfl) rfl
theorem q2560 : (Jvm.Cond.selects "BogsignModel" ({ cls := "BogsignModel", name := "owed", desc := "(I)I" } : Jvm.MethodName) ({ cls := "BogsignModel", name := "owed", desc := "(I)I" } : Jvm.MethodName)) ∈ lw_all := lw_g (lw_at lw_m11 89 rfl) rfl
theorem q2561 : (Jvm.Cond.code ({ cls := "BogsignModel", name := "owed", desc := "(I)I" } : Jvm.MethodName) prog_14_method_33_code (2 : Nat) (Option.some Jvm.ClassFile.FieldType.int)) ∈ lw_all := lw_g (lw_at lw_m11 90 rfl) rfl
theorem q2563 : (Jvm.Cond.instanceMethod ({ cls := "BogsignModel", name := "send", desc := "(III)I" } : Jvm.MethodName)) ∈ lw_all := lw_g (lw_at lw_m11 92 rfl) rfl
theorem q2564 : (Jvm.Cond.selects "BogsignModel" ({ cls := "BogsignModel", name := "send", desc := "(III)I" } : Jvm.MethodName) ({ cls := "BogsignModel", name := "send", desc := "(III)I" } : Jvm.MethodName)) ∈ lw_all := lw_g (lw_at lw_m11 93 rfl) rfl
theorem q2565 : (Jvm.Cond.code ({ cls := "BogsignModel", name := "send", desc := "(III)I" } : Jvm.MethodName) prog_14_method_34_code (6 : Nat) (Option.some Jvm.ClassFile.FieldType.int)) ∈ lw_all := lw_g (lw_at lw_m11 94 rfl) rfl
theorem q2566 : (Jvm.Cond.methodLink "BogsignModel" (212 : Nat) ({ cls := "BogsignModel", name := "isWord", desc := "(I)Z" } : Jvm.MethodName)) ∈ lw_all := lw_g (lw_at lw_m11 95 rfl) rfl
theorem q2567 : (Jvm.Cond.static ({ cls := "BogsignModel", name := "isWord", desc := "(I)Z" } : Jvm.MethodName)) ∈ lw_all := lw_g (lw_at lw_m11 96 rfl) rfl
theorem q2568 : (Jvm.Cond.code ({ cls := "BogsignModel", name := "isWord", desc := "(I)Z" } : Jvm.MethodName) prog_14_method_9_code (1 : Nat) (Option.some Jvm.ClassFile.FieldType.boolean)) ∈ lw_all := lw_g (lw_at lw_m11 97 rfl) rfl
theorem q2570 : (Jvm.Cond.instanceMethod ({ cls := "BogsignModel", name := "message", desc := "(II)I" } : Jvm.MethodName)) ∈ lw_all := lw_g (lw_at lw_m11 99 rfl) rfl
theorem q2571 : (Jvm.Cond.selects "BogsignModel" ({ cls := "BogsignModel", name := "message", desc := "(II)I" } : Jvm.MethodName) ({ cls := "BogsignModel", name := "message", desc := "(II)I" } : Jvm.MethodName)) ∈ lw_all := lw_g (lw_at lw_m11 100 rfl) rfl
theorem q2572 : (Jvm.Cond.code ({ cls := "BogsignModel", name := "message", desc := "(II)I" } : Jvm.MethodName) prog_14_method_36_code (3 : Nat) (Option.some Jvm.ClassFile.FieldType.int)) ∈ lw_all := lw_g (lw_at lw_m11 101 rfl) rfl
theorem q2573 : (Jvm.Cond.methodLink "BogsignModel" (218 : Nat) ({ cls := "BogsignModel", name := "isMessage", desc := "(I)Z" } : Jvm.MethodName)) ∈ lw_all := lw_g (lw_at lw_m11 102 rfl) rfl
theorem q2574 : (Jvm.Cond.privateMethod ({ cls := "BogsignModel", name := "isMessage", desc := "(I)Z" } : Jvm.MethodName)) ∈ lw_tbl := lw_at lw_m11 103 rfl
theorem q2575 : (Jvm.Cond.instanceMethod ({ cls := "BogsignModel", name := "isMessage", desc := "(I)Z" } : Jvm.MethodName)) ∈ lw_all := lw_g (lw_at lw_m11 104 rfl) rfl
theorem q2576 : (Jvm.Cond.code ({ cls := "BogsignModel", name := "isMessage", desc := "(I)Z" } : Jvm.MethodName) prog_14_method_35_code (2 : Nat) (Option.some Jvm.ClassFile.FieldType.boolean)) ∈ lw_all := lw_g (lw_at lw_m11 105 rfl) rfl
theorem q2577 : (Jvm.Cond.constantLong "BogsignModel" (221 : Nat) (6 : Int64)) ∈ lw_all := lw_g (lw_at lw_m11 106 rfl) rfl
theorem q2579 : (Jvm.Cond.instanceMethod ({ cls := "BogsignModel", name := "sign", desc := "(II)I" } : Jvm.MethodName)) ∈ lw_all := lw_g (lw_at lw_m11 108 rfl) rfl
theorem q2580 : (Jvm.Cond.selects "BogsignModel" ({ cls := "BogsignModel", name := "sign", desc := "(II)I" } : Jvm.MethodName) ({ cls := "BogsignModel", name := "sign", desc := "(II)I" } : Jvm.MethodName)) ∈ lw_all := lw_g (lw_at lw_m11 109 rfl) rfl
theorem q2581 : (Jvm.Cond.code ({ cls := "BogsignModel", name := "sign", desc := "(II)I" } : Jvm.MethodName) prog_14_method_39_code (4 : Nat) (Option.some Jvm.ClassFile.FieldType.int)) ∈ lw_all := lw_g (lw_at lw_m11 110 rfl) rfl
theorem q2582 : (Jvm.Cond.methodLink "BogsignModel" (223 : Nat) ({ cls := "BogsignModel", name := "digits", desc := "(I)I" } : Jvm.MethodName)) ∈ lw_all := lw_g (lw_at lw_m11 111 rfl) rfl
theorem q2583 : (Jvm.Cond.privateMethod ({ cls := "BogsignModel", name := "digits", desc := "(I)I" } : Jvm.MethodName)) ∈ lw_tbl := lw_at lw_m11 112 rfl
theorem q2584 : (Jvm.Cond.instanceMethod ({ cls := "BogsignModel", name := "digits", desc := "(I)I" } : Jvm.MethodName)) ∈ lw_all := lw_g (lw_at lw_m11 113 rfl) rfl
theorem q2585 : (Jvm.Cond.code ({ cls := "BogsignModel", name := "digits", desc := "(I)I" } : Jvm.MethodName) prog_14_method_37_code (2 : Nat) (Option.some Jvm.ClassFile.FieldType.int)) ∈ lw_all := lw_g (lw_at lw_m11 114 rfl) rfl
theorem q2586 : (Jvm.Cond.constantLong "BogsignModel" (226 : Nat) (-1 : Int64)) ∈ lw_all := lw_g (lw_at lw_m11 115 rfl) rfl
theorem q2587 : (Jvm.Cond.methodLink "BogsignModel" (228 : Nat) ({ cls := "BogsignModel", name := "signAt", desc := "(II)I" } : Jvm.MethodName)) ∈ lw_all := lw_g (lw_at lw_m11 116 rfl) rfl
theorem q2588 : (Jvm.Cond.privateMethod ({ cls := "BogsignModel", name := "signAt", desc := "(II)I" } : Jvm.MethodName)) ∈ lw_tbl := lw_at lw_m11 117 rfl
theorem q2589 : (Jvm.Cond.instanceMethod ({ cls := "BogsignModel", name := "signAt", desc := "(II)I" } : Jvm.MethodName)) ∈ lw_all := lw_g (lw_at lw_m11 118 rfl) rfl
theorem q2590 : (Jvm.Cond.code ({ cls := "BogsignModel", name := "signAt", desc := "(II)I" } : Jvm.MethodName) prog_14_method_38_code (4 : Nat) (Option.some Jvm.ClassFile.FieldType.int)) ∈ lw_all := lw_g (lw_at lw_m11 119 rfl) rfl
theorem q2592 : (Jvm.Cond.instanceMethod ({ cls := "BogsignModel", name := "meaning", desc := "(II)I" } : Jvm.MethodName)) ∈ lw_all := lw_g (lw_at lw_m11 121 rfl) rfl
theorem q2593 : (Jvm.Cond.selects "BogsignModel" ({ cls := "BogsignModel", name := "meaning", desc := "(II)I" } : Jvm.MethodName) ({ cls := "BogsignModel", name := "meaning", desc := "(II)I" } : Jvm.MethodName)) ∈ lw_all := lw_g (lw_at lw_m11 122 rfl) rfl
theorem q2594 : (Jvm.Cond.code ({ cls := "BogsignModel", name := "meaning", desc := "(II)I" } : Jvm.MethodName) prog_14_method_41_code (3 : Nat) (Option.some Jvm.ClassFile.FieldType.int)) ∈ lw_all := lw_g (lw_at lw_m11 123 rfl) rfl
theorem q2595 : (Jvm.Cond.methodLink "BogsignModel" (231 : Nat) ({ cls := "BogsignModel", name := "meansOf", desc := "(II)I" } : Jvm.MethodName)) ∈ lw_all := lw_g (lw_at lw_m11 124 rfl) rfl
theorem q2596 : (Jvm.Cond.privateMethod ({ cls := "BogsignModel", name := "meansOf", desc := "(II)I" } : Jvm.MethodName)) ∈ lw_tbl := lw_at lw_m11 125 rfl
theorem q2597 : (Jvm.Cond.instanceMethod ({ cls := "BogsignModel", name := "meansOf", desc := "(II)I" } : Jvm.MethodName)) ∈ lw_all := lw_g (lw_at lw_m11 126 rfl) rfl
theorem q2598 : (Jvm.Cond.code ({ cls := "BogsignModel", name := "meansOf", desc := "(II)I" } : Jvm.MethodName) prog_14_method_40_code (3 : Nat) (Option.some Jvm.ClassFile.FieldType.int)) ∈ lw_all := lw_g (lw_at lw_m11 127 rfl) rfl
theorem q2600 : (Jvm.Cond.instanceMethod ({ cls := "BogsignModel", name := "inspect", desc := "(I)I" } : Jvm.MethodName)) ∈ lw_all := lw_g (lw_at lw_m11 129 rfl) rfl
theorem q2601 : (Jvm.Cond.selects "BogsignModel" ({ cls := "BogsignModel", name := "inspect", desc := "(I)I" } : Jvm.MethodName) ({ cls := "BogsignModel", name := "inspect", desc := "(I)I" } : Jvm.MethodName)) ∈ lw_all := lw_g (lw_at lw_m11 130 rfl) rfl
theorem q2602 : (Jvm.Cond.code ({ cls := "BogsignModel", name := "inspect", desc := "(I)I" } : Jvm.MethodName) prog_14_method_42_code (4 : Nat) (Option.some Jvm.ClassFile.FieldType.int)) ∈ lw_all := lw_g (lw_at lw_m11 131 rfl) rfl
theorem q2603 : (Jvm.Cond.methodLink "BogsignModel" (234 : Nat) ({ cls := "BogsignModel", name := "depthOf", desc := "(I)I" } : Jvm.MethodName)) ∈ lw_all := lw_g (lw_at lw_m11 132 rfl) rfl
theorem q2604 : (Jvm.Cond.privateMethod ({ cls := "BogsignModel", name := "depthOf", desc := "(I)I" } : Jvm.MethodName)) ∈ lw_tbl := lw_at lw_m11 133 rfl
theorem q2605 : (Jvm.Cond.instanceMethod ({ cls := "BogsignModel", name := "depthOf", desc := "(I)I" } : Jvm.MethodName)) ∈ lw_all := lw_g (lw_at lw_m11 134 rfl) rfl
theorem q2606 : (Jvm.Cond.code ({ cls := "BogsignModel", name := "depthOf", desc := "(I)I" } : Jvm.MethodName) prog_14_method_13_code (5 : Nat) (Option.some Jvm.ClassFile.FieldType.int)) ∈ lw_all := lw_g (lw_at lw_m11 135 rfl) rfl
theorem q2607 : (Jvm.Cond.methodLink "BogsignModel" (121 : Nat) ({ cls := "BogsignModel", name := "lying", desc := "(I)I" } : Jvm.MethodName)) ∈ lw_all := lw_g (lw_at lw_m11 136 rfl) rfl
theorem q2608 : (Jvm.Cond.privateMethod ({ cls := "BogsignModel", name := "lying", desc := "(I)I" } : Jvm.MethodName)) ∈ lw_tbl := lw_at lw_m11 137 rfl
theorem q2609 : (Jvm.Cond.instanceMethod ({ cls := "BogsignModel", name := "lying", desc := "(I)I" } : Jvm.MethodName)) ∈ lw_all := lw_g (lw_at lw_m11 138 rfl) rfl
theorem q2610 : (Jvm.Cond.code ({ cls := "BogsignModel", name := "lying", desc := "(I)I" } : Jvm.MethodName) prog_14_method_11_code (4 : Nat) (Option.some Jvm.ClassFile.FieldType.int)) ∈ lw_all := lw_g (lw_at lw_m11 139 rfl) rfl
theorem q2612 : (Jvm.Cond.instanceMethod ({ cls := "BogsignModel", name := "stretch", desc := "(II)I" } : Jvm.MethodName)) ∈ lw_all := lw_g (lw_at lw_m11 141 rfl) rfl
theorem q2613 : (Jvm.Cond.selects "BogsignModel" ({ cls := "BogsignModel", name := "stretch", desc := "(II)I" } : Jvm.MethodName) ({ cls := "BogsignModel", name := "stretch", desc := "(II)I" } : Jvm.MethodName)) ∈ lw_all := lw_g (lw_at lw_m11 142 rfl) rfl
theorem q2614 : (Jvm.Cond.code ({ cls := "BogsignModel", name := "stretch", desc := "(II)I" } : Jvm.MethodName) prog_14_method_46_code (3 : Nat) (Option.some Jvm.ClassFile.FieldType.int)) ∈ lw_all := lw_g (lw_at lw_m11 143 rfl) rfl
theorem q2615 : (Jvm.Cond.methodLink "BogsignModel" (240 : Nat) ({ cls := "BogsignModel", name := "deepest", desc := "(I)I" } : Jvm.MethodName)) ∈ lw_all := lw_g (lw_at lw_m11 144 rfl) rfl
theorem q2616 : (Jvm.Cond.privateMethod ({ cls := "BogsignModel", name := "deepest", desc := "(I)I" } : Jvm.MethodName)) ∈ lw_tbl := lw_at lw_m11 145 rfl
theorem q2617 : (Jvm.Cond.instanceMethod ({ cls := "BogsignModel", name := "deepest", desc := "(I)I" } : Jvm.MethodName)) ∈ lw_all := lw_g (lw_at lw_m11 146 rfl) rfl
theorem q2618 : (Jvm.Cond.code ({ cls := "BogsignModel", name := "deepest", desc := "(I)I" } : Jvm.MethodName) prog_14_method_45_code (5 : Nat) (Option.some Jvm.ClassFile.FieldType.int)) ∈ lw_all := lw_g (lw_at lw_m11 147 rfl) rfl
theorem q2619 : (Jvm.Cond.methodLink "BogsignModel" (237 : Nat) ({ cls := "BogsignModel", name := "guess", desc := "(I)I" } : Jvm.MethodName)) ∈ lw_all := lw_g (lw_at lw_m11 148 rfl) rfl
theorem q2620 : (Jvm.Cond.privateMethod ({ cls := "BogsignModel", name := "guess", desc := "(I)I" } : Jvm.MethodName)) ∈ lw_tbl := lw_at lw_m11 149 rfl
theorem q2621 : (Jvm.Cond.instanceMethod ({ cls := "BogsignModel", name := "guess", desc := "(I)I" } : Jvm.MethodName)) ∈ lw_all := lw_g (lw_at lw_m11 150 rfl) rfl
theorem q2622 : (Jvm.Cond.code ({ cls := "BogsignModel", name := "guess", desc := "(I)I" } : Jvm.MethodName) prog_14_method_43_code (5 : Nat) (Option.some Jvm.ClassFile.FieldType.int)) ∈ lw_all := lw_g (lw_at lw_m11 151 rfl) rfl
theorem q2623 : (Jvm.Cond.methodLink "BogsignModel" (243 : Nat) ({ cls := "BogsignModel", name := "isDoubted", desc := "(I)Z" } : Jvm.MethodName)) ∈ lw_all := lw_g (lw_at lw_m11 152 rfl) rfl
theorem q2624 : (Jvm.Cond.privateMethod ({ cls := "BogsignModel", name := "isDoubted", desc := "(I)Z" } : Jvm.MethodName)) ∈ lw_tbl := lw_at lw_m11 153 rfl
theorem q2625 : (Jvm.Cond.instanceMethod ({ cls := "BogsignModel", name := "isDoubted", desc := "(I)Z" } : Jvm.MethodName)) ∈ lw_all := lw_g (lw_at lw_m11 154 rfl) rfl
theorem q2626 : (Jvm.Cond.code ({ cls := "BogsignModel", name := "isDoubted", desc := "(I)Z" } : Jvm.MethodName) prog_14_method_44_code (2 : Nat) (Option.some Jvm.ClassFile.FieldType.boolean)) ∈ lw_all := lw_g (lw_at lw_m11 155 rfl) rfl
theorem q2628 : (Jvm.Cond.instanceMethod ({ cls := "BogsignModel", name := "cart", desc := "(III)I" } : Jvm.MethodName)) ∈ lw_all := lw_g (lw_at lw_m11 157 rfl) rfl
theorem q2629 : (Jvm.Cond.selects "BogsignModel" ({ cls := "BogsignModel", name := "cart", desc := "(III)I" } : Jvm.MethodName) ({ cls := "BogsignModel", name := "cart", desc := "(III)I" } : Jvm.MethodName)) ∈ lw_all := lw_g (lw_at lw_m11 158 rfl) rfl
theorem q2630 : (Jvm.Cond.code ({ cls := "BogsignModel", name := "cart", desc := "(III)I" } : Jvm.MethodName) prog_14_method_49_code (6 : Nat) (Option.some Jvm.ClassFile.FieldType.int)) ∈ lw_all := lw_g (lw_at lw_m11 159 rfl) rfl
theorem q2631 : (Jvm.Cond.methodLink "BogsignModel" (246 : Nat) ({ cls := "BogsignModel", name := "isMark", desc := "(I)Z" } : Jvm.MethodName)) ∈ lw_all := lw_g (lw_at lw_m11 160 rfl) rfl
theorem q2632 : (Jvm.Cond.static ({ cls := "BogsignModel", name := "isMark", desc := "(I)Z" } : Jvm.MethodName)) ∈ lw_all := lw_g (lw_at lw_m11 161 rfl) rfl
theorem q2633 : (Jvm.Cond.code ({ cls := "BogsignModel", name := "isMark", desc := "(I)Z" } : Jvm.MethodName) prog_14_method_48_code (1 : Nat) (Option.some Jvm.ClassFile.FieldType.boolean)) ∈ lw_all := lw_g (lw_at lw_m11 162 rfl) rfl
theorem q2634 : (Jvm.Cond.constantLong "BogsignModel" (249 : Nat) (500 : Int64)) ∈ lw_all := lw_g (lw_at lw_m11 163 rfl) rfl
theorem q2635 : (Jvm.Cond.methodLink "BogsignModel" (251 : Nat) ({ cls := "BogsignModel", name := "takesBy", desc := "(I)I" } : Jvm.MethodName)) ∈ lw_all := lw_g (lw_at lw_m11 164 rfl) rfl
theorem q2636 : (Jvm.Cond.privateMethod ({ cls := "BogsignModel", name := "takesBy", desc := "(I)I" } : Jvm.MethodName)) ∈ lw_tbl := lw_at lw_m11 165 rfl
theorem q2637 : (Jvm.Cond.instanceMethod ({ cls := "BogsignModel", name := "takesBy", desc := "(I)I" } : Jvm.MethodName)) ∈ lw_all := lw_g (lw_at lw_m11 166 rfl) rfl
theorem q2638 : (Jvm.Cond.code ({ cls := "BogsignModel", name := "takesBy", desc := "(I)I" } : Jvm.MethodName) prog_14_method_47_code (4 : Nat) (Option.some Jvm.ClassFile.FieldType.int)) ∈ lw_all := lw_g (lw_at lw_m11 167 rfl) rfl
theorem q2640 : (Jvm.Cond.instanceMethod ({ cls := "BogsignModel", name := "round", desc := "(II)I" } : Jvm.MethodName)) ∈ lw_all := lw_g (lw_at lw_m11 169 rfl) rfl
theorem q2641 : (Jvm.Cond.selects "BogsignModel" ({ cls := "BogsignModel", name := "round", desc := "(II)I" } : Jvm.MethodName) ({ cls := "BogsignModel", name := "round", desc := "(II)I" } : Jvm.MethodName)) ∈ lw_all := lw_g (lw_at lw_m11 170 rfl) rfl
theorem q2642 : (Jvm.Cond.code ({ cls := "BogsignModel", name := "round", desc := "(II)I" } : Jvm.MethodName) prog_14_method_50_code (8 : Nat) (Option.some Jvm.ClassFile.FieldType.int)) ∈ lw_all := lw_g (lw_at lw_m11 171 rfl) rfl
theorem q2644 : (Jvm.Cond.instanceMethod ({ cls := "BogsignModel", name := "boardErrors", desc := "()I" } : Jvm.MethodName)) ∈ lw_all := lw_g (lw_at lw_m11 173 rfl) rfl
theorem q2645 : (Jvm.Cond.selects "BogsignModel" ({ cls := "BogsignModel", name := "boardErrors", desc := "()I" } : Jvm.MethodName) ({ cls := "BogsignModel", name := "boardErrors", desc := "()I" } : Jvm.MethodName)) ∈ lw_all := lw_g (lw_at lw_m11 174 rfl) rfl
theorem q2646 : (Jvm.Cond.code ({ cls := "BogsignModel", name := "boardErrors", desc := "()I" } : Jvm.MethodName) prog_14_method_51_code (7 : Nat) (Option.some Jvm.ClassFile.FieldType.int)) ∈ lw_all := lw_g (lw_at lw_m11 175 rfl) rfl
theorem q2648 : (Jvm.Cond.instanceMethod ({ cls := "BogsignModel", name := "meanDepth", desc := "()D" } : Jvm.MethodName)) ∈ lw_all := lw_g (lw_at lw_m11 177 rfl) rfl
theorem q2649 : (Jvm.Cond.selects "BogsignModel" ({ cls := "BogsignModel", name := "meanDepth", desc := "()D" } : Jvm.MethodName) ({ cls := "BogsignModel", name := "meanDepth", desc := "()D" } : Jvm.MethodName)) ∈ lw_all := lw_g (lw_at lw_m11 178 rfl) rfl
theorem q2650 : (Jvm.Cond.code ({ cls := "BogsignModel", name := "meanDepth", desc := "()D" } : Jvm.MethodName) prog_14_method_52_code (4 : Nat) (Option.some Jvm.ClassFile.FieldType.double)) ∈ lw_all := lw_g (lw_at lw_m11 179 rfl) rfl
theorem q2652 : (Jvm.Cond.instanceMethod ({ cls := "BogsignModel", name := "doubtedShare", desc := "()F" } : Jvm.MethodName)) ∈ lw_all := lw_g (lw_at lw_m11 181 rfl) rfl
theorem q2653 : (Jvm.Cond.selects "BogsignModel" ({ cls := "BogsignModel", name := "doubtedShare", desc := "()F" } : Jvm.MethodName) ({ cls := "BogsignModel", name := "doubtedShare", desc := "()F" } : Jvm.MethodName)) ∈ lw_all := lw_g (lw_at lw_m11 182 rfl) rfl
theorem q2654 : (Jvm.Cond.code ({ cls := "BogsignModel", name := "doubtedShare", desc := "()F" } : Jvm.MethodName) prog_14_method_53_code (3 : Nat) (Option.some Jvm.ClassFile.FieldType.float)) ∈ lw_all := lw_g (lw_at lw_m11 183 rfl) rfl
theorem q2655 : (Jvm.Cond.constantFloat "BogsignModel" (254 : Nat) (1086324736 : UInt32)) ∈ lw_all := lw_g (lw_at lw_m11 184 rfl) rfl
theorem q2688 : (Jvm.Cond.castable "BogsignModel" "java/lang/Object") ∈ lw_tbl := lw_at lw_m11 217 rfl
theorem in_X4 : ∀ w ∈ wsX40, w ∈ lw_all := lw_in wsX40 [2362, 2364, 2366, 2368, 2370, 2372, 2374, 2376, 2378, 2380, 2382, 2384, 2386, 2388, 2390, 2392, 2394, 2396, 2398, 2400, 2402, 2404, 2406, 2408, 2410, 2412, 2414, 2416, 2418, 2420, 2422, 2424, 2426, 2428, 2430, 2432, 2434, 2436] (by decide +kernel) (by decide +kernel)
