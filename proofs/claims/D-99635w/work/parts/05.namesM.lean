/-! BlueBagModel -/
set_option maxRecDepth 100000
def RX7 : String := "BlueBagModel"
def TX7 : u_T := fun k => match k with
  | 0 => ("BlueBagModel", "women", "[Ljava/lang/String;", true)
  | 1 => ("BlueBagModel", "ofDyes", "[Ljava/lang/String;", true)
  | 2 => ("BlueBagModel", "ofFades", "[Ljava/lang/String;", true)
  | 3 => ("BlueBagModel", "values", "[Ljava/lang/String;", false)
  | 4 => ("BlueBagModel", "code", "I", false)
  | 5 => ("BlueBagModel", "told", "[I", true)
  | 6 => ("BlueBagModel", "blueTold", "[I", true)
  | 7 => ("BlueBagModel", "aged", "[I", true)
  | 8 => ("BlueBagModel", "skillTold", "[I", true)
  | 9 => ("BlueBagModel", "cellTold", "[I", true)
  | 10 => ("BlueBagModel", "signsDyes", "[I", true)
  | 11 => ("BlueBagModel", "signsFades", "[I", true)
  | 12 => ("BlueBagModel", "status", "[I", true)
  | 13 => ("BlueBagModel", "skills", "[I", true)
  | 14 => ("BlueBagModel", "tape", "[I", true)
  | 15 => ("BlueBagModel", "taped", "I", false)
  | 16 => ("BlueBagModel", "at", "I", false)
  | 17 => ("BlueBagModel", "size", "I", false)
  | 18 => ("BlueBagModel", "token", "I", false)
  | 19 => ("BlueBagModel", "number", "I", false)
  | 20 => ("BlueBagModel", "begins", "I", false)
  | 21 => ("BlueBagModel", "stops", "I", false)
  | 22 => ("BlueBagModel", "bad", "I", false)
  | 23 => ("BlueBagModel", "badPlace", "I", false)
  | 24 => ("BlueBagModel", "faultPlace", "I", false)
  | 25 => ("BlueBagModel", "blued", "I", false)
  | 26 => ("BlueBagModel", "anyCell", "Z", false)
  | 27 => ("BlueBagModel", "ofFading", "Z", false)
  | 28 => ("BlueBagModel", "blue", "[I", true)
  | 29 => ("BlueBagModel", "where", "[I", true)
  | 30 => ("BlueBagModel", "past", "[I", true)
  | 31 => ("BlueBagModel", "day", "I", false)
  | 32 => ("BlueBagModel", "knobs", "I", false)
  | 33 => ("BlueBagModel", "martins", "I", false)
  | 34 => ("BlueBagModel", "pegs", "I", false)
  | 35 => ("BlueBagModel", "resting", "I", false)
  | 36 => ("BlueBagModel", "acts", "I", false)
  | 37 => ("BlueBagModel", "seen", "I", false)
  | 38 => ("BlueBagModel", "asked", "[I", true)
  | 39 => ("BlueBagModel", "stack", "[I", true)
  | 40 => ("BlueBagModel", "fading", "[I", true)
  | 41 => ("BlueBagModel", "over", "I", false)
  | 42 => ("BlueBagModel", "rowThen", "[I", true)
  | 43 => ("BlueBagModel", "blueThen", "[I", true)
  | 44 => ("BlueBagModel", "leastBy", "[I", true)
  | 45 => ("BlueBagModel", "goals", "[I", true)
  | 46 => ("BlueBagModel", "seenCell", "[I", true)
  | 47 => ("BlueBagModel", "seenIn", "[I", true)
  | 48 => ("BlueBagModel", "seenBlue", "[I", true)
  | 49 => ("BlueBagModel", "rowSeen", "[I", true)
  | 50 => ("BlueBagModel", "fits", "[I", true)
  | 51 => ("BlueBagModel", "bluesThen", "[I", true)
  | 52 => ("BlueBagModel", "fitMany", "I", false)
  | 53 => ("BlueBagModel", "gains", "[I", true)
  | 54 => ("BlueBagModel", "seedNow", "I", false)
  | 55 => ("BlueBagModel", "hasImage", "Z", false)
  | 56 => ("BlueBagModel", "actsThen", "I", false)
  | 57 => ("BlueBagModel", "seenThen", "I", false)
  | 58 => ("BlueBagModel", "imageRow", "[I", true)
  | 59 => ("BlueBagModel", "pastThen", "[I", true)
  | 60 => ("BlueBagModel", "seenCellThen", "[I", true)
  | 61 => ("BlueBagModel", "seenInThen", "[I", true)
  | 62 => ("BlueBagModel", "seenBlueThen", "[I", true)
  | _ => ("BlueBagModel", "statusThen", "[I", true)
def tyX7 : Nat → FieldType := fun k => match k with
  | 0 => .array (.object "java/lang/String")
  | 1 => .array (.object "java/lang/String")
  | 2 => .array (.object "java/lang/String")
  | 3 => .array (.object "java/lang/String")
  | 4 => .int
  | 5 => .array .int
  | 6 => .array .int
  | 7 => .array .int
  | 8 => .array .int
  | 9 => .array .int
  | 10 => .array .int
  | 11 => .array .int
  | 12 => .array .int
  | 13 => .array .int
  | 14 => .array .int
  | 15 => .int
  | 16 => .int
  | 17 => .int
  | 18 => .int
  | 19 => .int
  | 20 => .int
  | 21 => .int
  | 22 => .int
  | 23 => .int
  | 24 => .int
  | 25 => .int
  | 26 => .boolean
  | 27 => .boolean
  | 28 => .array .int
  | 29 => .array .int
  | 30 => .array .int
  | 31 => .int
  | 32 => .int
  | 33 => .int
  | 34 => .int
  | 35 => .int
  | 36 => .int
  | 37 => .int
  | 38 => .array .int
  | 39 => .array .int
  | 40 => .array .int
  | 41 => .int
  | 42 => .array .int
  | 43 => .array .int
  | 44 => .array .int
  | 45 => .array .int
  | 46 => .array .int
  | 47 => .array .int
  | 48 => .array .int
  | 49 => .array .int
  | 50 => .array .int
  | 51 => .array .int
  | 52 => .int
  | 53 => .array .int
  | 54 => .int
  | 55 => .boolean
  | 56 => .int
  | 57 => .int
  | 58 => .array .int
  | 59 => .array .int
  | 60 => .array .int
  | 61 => .array .int
  | 62 => .array .int
  | _ => .array .int
abbrev wsX70 : List Cond := u_ws RX7 TX7 64
set_option maxRecDepth 100000 in
theorem nmX7 : ∀ a, a < 64 → ∀ b, b < 64 → a ≠ b → (TX7 a).2.1 ≠ (TX7 b).2.1 := by decide +kernel
set_option maxRecDepth 100000 in
theorem tyX7_ok : ∀ k, k < 64 → parseFieldDescriptor (TX7 k).2.2.1 = some (tyX7 k) := by decide +kernel
abbrev cX7_init : ByteArray := prog_18_method_1_code
def yX7_init : MethodName := ⟨RX7, "<init>", "()V"⟩
def dkwX7_init_16 : List UInt8 := [16, 20, 181, 0, 147, 177]
abbrev dktX7_init_16 : List UInt8 := dkwX7_init_16 ++ []
def dkwX7_init_15 : List UInt8 := [181, 0, 134, 42, 16, 8, 188, 10, 181, 0, 137, 42, 6, 188, 10, 181, 0, 140, 42, 3, 182, 0, 143, 42]
abbrev dktX7_init_15 : List UInt8 := dkwX7_init_15 ++ dktX7_init_16
def dkwX7_init_14 : List UInt8 := [42, 17, 6, 104, 188, 10, 181, 0, 128, 42, 16, 8, 188, 10, 181, 0, 131, 42, 16, 8, 188, 10]
abbrev dktX7_init_14 : List UInt8 := dkwX7_init_14 ++ dktX7_init_15
def dkwX7_init_13 : List UInt8 := [17, 7, 8, 188, 10, 181, 0, 119, 42, 16, 8, 188, 10, 181, 0, 122, 42, 16, 41, 188, 10, 181, 0, 125]
abbrev dktX7_init_13 : List UInt8 := dkwX7_init_13 ++ dktX7_init_14
def dkwX7_init_12 : List UInt8 := [16, 8, 188, 10, 181, 0, 110, 42, 16, 41, 188, 10, 181, 0, 113, 42, 16, 60, 188, 10, 181, 0, 116, 42]
abbrev dktX7_init_12 : List UInt8 := dkwX7_init_12 ++ dktX7_init_13
def dkwX7_init_11 : List UInt8 := [16, 6, 188, 10, 181, 0, 101, 42, 16, 8, 188, 10, 181, 0, 104, 42, 16, 8, 188, 10, 181, 0, 107, 42]
abbrev dktX7_init_11 : List UInt8 := dkwX7_init_11 ++ dktX7_init_12
def dkwX7_init_10 : List UInt8 := [188, 10, 181, 0, 92, 42, 16, 30, 188, 10, 181, 0, 95, 42, 17, 1, 192, 188, 10, 181, 0, 98, 42]
abbrev dktX7_init_10 : List UInt8 := dkwX7_init_10 ++ dktX7_init_11
def dkwX7_init_9 : List UInt8 := [188, 10, 181, 0, 83, 42, 16, 64, 188, 10, 181, 0, 86, 42, 16, 30, 188, 10, 181, 0, 89, 42, 16, 41]
abbrev dktX7_init_9 : List UInt8 := dkwX7_init_9 ++ dktX7_init_10
def dkwX7_init_8 : List UInt8 := [181, 0, 75, 42, 16, 6, 188, 10, 181, 0, 77, 42, 17, 6, 104, 188, 10, 181, 0, 80, 42, 16, 6]
abbrev dktX7_init_8 : List UInt8 := dkwX7_init_8 ++ dktX7_init_9
def dkwX7_init_7 : List UInt8 := [188, 10, 181, 0, 65, 42, 17, 2, 188, 188, 10, 181, 0, 68, 42, 2, 181, 0, 71, 42, 16, 30, 188, 10]
abbrev dktX7_init_7 : List UInt8 := dkwX7_init_7 ++ dktX7_init_8
def dkwX7_init_6 : List UInt8 := [188, 10, 181, 0, 56, 42, 17, 5, 120, 188, 10, 181, 0, 59, 42, 6, 188, 10, 181, 0, 62, 42, 16, 6]
abbrev dktX7_init_6 : List UInt8 := dkwX7_init_6 ++ dktX7_init_7
def dkwX7_init_5 : List UInt8 := [181, 0, 47, 42, 16, 12, 188, 10, 181, 0, 50, 42, 16, 12, 188, 10, 181, 0, 53, 42, 17, 5, 120]
abbrev dktX7_init_5 : List UInt8 := dkwX7_init_5 ++ dktX7_init_6
def dkwX7_init_4 : List UInt8 := [181, 0, 37, 42, 16, 18, 188, 10, 181, 0, 40, 42, 16, 60, 188, 10, 181, 0, 44, 42, 16, 12, 188, 10]
abbrev dktX7_init_4 : List UInt8 := dkwX7_init_4 ++ dktX7_init_5
def dkwX7_init_3 : List UInt8 := [89, 4, 18, 21, 83, 89, 5, 18, 23, 83, 89, 6, 18, 25, 83, 181, 0, 34, 42, 42, 180, 0, 31]
abbrev dktX7_init_3 : List UInt8 := dkwX7_init_3 ++ dktX7_init_4
def dkwX7_init_2 : List UInt8 := [83, 89, 7, 18, 27, 83, 89, 8, 18, 29, 83, 181, 0, 31, 42, 7, 189, 0, 9, 89, 3, 18, 19, 83]
abbrev dktX7_init_2 : List UInt8 := dkwX7_init_2 ++ dktX7_init_3
def dkwX7_init_1 : List UInt8 := [16, 6, 189, 0, 9, 89, 3, 18, 19, 83, 89, 4, 18, 21, 83, 89, 5, 18, 23, 83, 89, 6, 18, 25]
abbrev dktX7_init_1 : List UInt8 := dkwX7_init_1 ++ dktX7_init_2
def dkwX7_init_0 : List UInt8 := [42, 183, 0, 3, 42, 5, 189, 0, 9, 89, 3, 18, 11, 83, 89, 4, 18, 13, 83, 181, 0, 15, 42]
abbrev dktX7_init_0 : List UInt8 := dkwX7_init_0 ++ dktX7_init_1
theorem dksX7_init_0 : cX7_init.data.toList.drop 0 = dktX7_init_0 := by decide +kernel
theorem dksX7_init_1 : cX7_init.data.toList.drop 23 = dktX7_init_1 := dk_seg dksX7_init_0 23 rfl rfl
theorem dksX7_init_2 : cX7_init.data.toList.drop 47 = dktX7_init_2 := dk_seg dksX7_init_1 24 rfl rfl
theorem dksX7_init_3 : cX7_init.data.toList.drop 71 = dktX7_init_3 := dk_seg dksX7_init_2 24 rfl rfl
theorem dksX7_init_4 : cX7_init.data.toList.drop 94 = dktX7_init_4 := dk_seg dksX7_init_3 23 rfl rfl
theorem dksX7_init_5 : cX7_init.data.toList.drop 118 = dktX7_init_5 := dk_seg dksX7_init_4 24 rfl rfl
theorem dksX7_init_6 : cX7_init.data.toList.drop 141 = dktX7_init_6 := dk_seg dksX7_init_5 23 rfl rfl
theorem dksX7_init_7 : cX7_init.data.toList.drop 165 = dktX7_init_7 := dk_seg dksX7_init_6 24 rfl rfl
theorem dksX7_init_8 : cX7_init.data.toList.drop 189 = dktX7_init_8 := dk_seg dksX7_init_7 24 rfl rfl
theorem dksX7_init_9 : cX7_init.data.toList.drop 212 = dktX7_init_9 := dk_seg dksX7_init_8 23 rfl rfl
theorem dksX7_init_10 : cX7_init.data.toList.drop 236 = dktX7_init_10 := dk_seg dksX7_init_9 24 rfl rfl
theorem dksX7_init_11 : cX7_init.data.toList.drop 259 = dktX7_init_11 := dk_seg dksX7_init_10 23 rfl rfl
theorem dksX7_init_12 : cX7_init.data.toList.drop 283 = dktX7_init_12 := dk_seg dksX7_init_11 24 rfl rfl
theorem dksX7_init_13 : cX7_init.data.toList.drop 307 = dktX7_init_13 := dk_seg dksX7_init_12 24 rfl rfl
theorem dksX7_init_14 : cX7_init.data.toList.drop 331 = dktX7_init_14 := dk_seg dksX7_init_13 24 rfl rfl
theorem dksX7_init_15 : cX7_init.data.toList.drop 353 = dktX7_init_15 := dk_seg dksX7_init_14 22 rfl rfl
theorem dksX7_init_16 : cX7_init.data.toList.drop 377 = dktX7_init_16 := dk_seg dksX7_init_15 24 rfl rfl
theorem dX7_init_0 : decode cX7_init 0 = .ok (.aload_n 0, 1) := dk_42 (dk_at dksX7_init_0 0 rfl rfl)
theorem dX7_init_1 : decode cX7_init 1 = .ok (.invokespecial 3, 3) := dk_183 0 3 (dk_at dksX7_init_0 1 rfl rfl)
theorem dX7_init_4 : decode cX7_init 4 = .ok (.aload_n 0, 1) := dk_42 (dk_at dksX7_init_0 4 rfl rfl)
theorem dX7_init_5 : decode cX7_init 5 = .ok (.iconst 2, 1) := dk_5 (dk_at dksX7_init_0 5 rfl rfl)
theorem dX7_init_6 : decode cX7_init 6 = .ok (.anewarray 9, 3) := dk_189 0 9 (dk_at dksX7_init_0 6 rfl rfl)
theorem dX7_init_9 : decode cX7_init 9 = .ok (.dup, 1) := dk_89 (dk_at dksX7_init_0 9 rfl rfl)
theorem dX7_init_10 : decode cX7_init 10 = .ok (.iconst 0, 1) := dk_3 (dk_at dksX7_init_0 10 rfl rfl)
theorem dX7_init_11 : decode cX7_init 11 = .ok (.ldc 11, 2) := dk_18 11 (dk_at dksX7_init_0 11 rfl rfl)
theorem dX7_init_13 : decode cX7_init 13 = .ok (.aastore, 1) := dk_83 (dk_at dksX7_init_0 13 rfl rfl)
theorem dX7_init_14 : decode cX7_init 14 = .ok (.dup, 1) := dk_89 (dk_at dksX7_init_0 14 rfl rfl)
theorem dX7_init_15 : decode cX7_init 15 = .ok (.iconst 1, 1) := dk_4 (dk_at dksX7_init_0 15 rfl rfl)
theorem dX7_init_16 : decode cX7_init 16 = .ok (.ldc 13, 2) := dk_18 13 (dk_at dksX7_init_0 16 rfl rfl)
theorem dX7_init_18 : decode cX7_init 18 = .ok (.aastore, 1) := dk_83 (dk_at dksX7_init_0 18 rfl rfl)
theorem dX7_init_19 : decode cX7_init 19 = .ok (.putfield 15, 3) := dk_181 0 15 (dk_at dksX7_init_0 19 rfl rfl)
theorem dX7_init_22 : decode cX7_init 22 = .ok (.aload_n 0, 1) := dk_42 (dk_at dksX7_init_0 22 rfl rfl)
theorem dX7_init_23 : decode cX7_init 23 = .ok (.bipush 6, 2) := dk_16 6 (dk_at dksX7_init_1 0 rfl rfl)
theorem dX7_init_25 : decode cX7_init 25 = .ok (.anewarray 9, 3) := dk_189 0 9 (dk_at dksX7_init_1 2 rfl rfl)
theorem dX7_init_28 : decode cX7_init 28 = .ok (.dup, 1) := dk_89 (dk_at dksX7_init_1 5 rfl rfl)
theorem dX7_init_29 : decode cX7_init 29 = .ok (.iconst 0, 1) := dk_3 (dk_at dksX7_init_1 6 rfl rfl)
theorem dX7_init_30 : decode cX7_init 30 = .ok (.ldc 19, 2) := dk_18 19 (dk_at dksX7_init_1 7 rfl rfl)
theorem dX7_init_32 : decode cX7_init 32 = .ok (.aastore, 1) := dk_83 (dk_at dksX7_init_1 9 rfl rfl)
theorem dX7_init_33 : decode cX7_init 33 = .ok (.dup, 1) := dk_89 (dk_at dksX7_init_1 10 rfl rfl)
theorem dX7_init_34 : decode cX7_init 34 = .ok (.iconst 1, 1) := dk_4 (dk_at dksX7_init_1 11 rfl rfl)
theorem dX7_init_35 : decode cX7_init 35 = .ok (.ldc 21, 2) := dk_18 21 (dk_at dksX7_init_1 12 rfl rfl)
theorem dX7_init_37 : decode cX7_init 37 = .ok (.aastore, 1) := dk_83 (dk_at dksX7_init_1 14 rfl rfl)
theorem dX7_init_38 : decode cX7_init 38 = .ok (.dup, 1) := dk_89 (dk_at dksX7_init_1 15 rfl rfl)
theorem dX7_init_39 : decode cX7_init 39 = .ok (.iconst 2, 1) := dk_5 (dk_at dksX7_init_1 16 rfl rfl)
theorem dX7_init_40 : decode cX7_init 40 = .ok (.ldc 23, 2) := dk_18 23 (dk_at dksX7_init_1 17 rfl rfl)
theorem dX7_init_42 : decode cX7_init 42 = .ok (.aastore, 1) := dk_83 (dk_at dksX7_init_1 19 rfl rfl)
theorem dX7_init_43 : decode cX7_init 43 = .ok (.dup, 1) := dk_89 (dk_at dksX7_init_1 20 rfl rfl)
theorem dX7_init_44 : decode cX7_init 44 = .ok (.iconst 3, 1) := dk_6 (dk_at dksX7_init_1 21 rfl rfl)
theorem dX7_init_45 : decode cX7_init 45 = .ok (.ldc 25, 2) := dk_18 25 (dk_at dksX7_init_1 22 rfl rfl)
theorem dX7_init_47 : decode cX7_init 47 = .ok (.aastore, 1) := dk_83 (dk_at dksX7_init_2 0 rfl rfl)
theorem dX7_init_48 : decode cX7_init 48 = .ok (.dup, 1) := dk_89 (dk_at dksX7_init_2 1 rfl rfl)
theorem dX7_init_49 : decode cX7_init 49 = .ok (.iconst 4, 1) := dk_7 (dk_at dksX7_init_2 2 rfl rfl)
theorem dX7_init_50 : decode cX7_init 50 = .ok (.ldc 27, 2) := dk_18 27 (dk_at dksX7_init_2 3 rfl rfl)
theorem dX7_init_52 : decode cX7_init 52 = .ok (.aastore, 1) := dk_83 (dk_at dksX7_init_2 5 rfl rfl)
theorem dX7_init_53 : decode cX7_init 53 = .ok (.dup, 1) := dk_89 (dk_at dksX7_init_2 6 rfl rfl)
theorem dX7_init_54 : decode cX7_init 54 = .ok (.iconst 5, 1) := dk_8 (dk_at dksX7_init_2 7 rfl rfl)
theorem dX7_init_55 : decode cX7_init 55 = .ok (.ldc 29, 2) := dk_18 29 (dk_at dksX7_init_2 8 rfl rfl)
theorem dX7_init_57 : decode cX7_init 57 = .ok (.aastore, 1) := dk_83 (dk_at dksX7_init_2 10 rfl rfl)
theorem dX7_init_58 : decode cX7_init 58 = .ok (.putfield 31, 3) := dk_181 0 31 (dk_at dksX7_init_2 11 rfl rfl)
theorem dX7_init_61 : decode cX7_init 61 = .ok (.aload_n 0, 1) := dk_42 (dk_at dksX7_init_2 14 rfl rfl)
theorem dX7_init_62 : decode cX7_init 62 = .ok (.iconst 4, 1) := dk_7 (dk_at dksX7_init_2 15 rfl rfl)
theorem dX7_init_63 : decode cX7_init 63 = .ok (.anewarray 9, 3) := dk_189 0 9 (dk_at dksX7_init_2 16 rfl rfl)
theorem dX7_init_66 : decode cX7_init 66 = .ok (.dup, 1) := dk_89 (dk_at dksX7_init_2 19 rfl rfl)
theorem dX7_init_67 : decode cX7_init 67 = .ok (.iconst 0, 1) := dk_3 (dk_at dksX7_init_2 20 rfl rfl)
theorem dX7_init_68 : decode cX7_init 68 = .ok (.ldc 19, 2) := dk_18 19 (dk_at dksX7_init_2 21 rfl rfl)
theorem dX7_init_70 : decode cX7_init 70 = .ok (.aastore, 1) := dk_83 (dk_at dksX7_init_2 23 rfl rfl)
theorem dX7_init_71 : decode cX7_init 71 = .ok (.dup, 1) := dk_89 (dk_at dksX7_init_3 0 rfl rfl)
theorem dX7_init_72 : decode cX7_init 72 = .ok (.iconst 1, 1) := dk_4 (dk_at dksX7_init_3 1 rfl rfl)
theorem dX7_init_73 : decode cX7_init 73 = .ok (.ldc 21, 2) := dk_18 21 (dk_at dksX7_init_3 2 rfl rfl)
theorem dX7_init_75 : decode cX7_init 75 = .ok (.aastore, 1) := dk_83 (dk_at dksX7_init_3 4 rfl rfl)
theorem dX7_init_76 : decode cX7_init 76 = .ok (.dup, 1) := dk_89 (dk_at dksX7_init_3 5 rfl rfl)
theorem dX7_init_77 : decode cX7_init 77 = .ok (.iconst 2, 1) := dk_5 (dk_at dksX7_init_3 6 rfl rfl)
theorem dX7_init_78 : decode cX7_init 78 = .ok (.ldc 23, 2) := dk_18 23 (dk_at dksX7_init_3 7 rfl rfl)
theorem dX7_init_80 : decode cX7_init 80 = .ok (.aastore, 1) := dk_83 (dk_at dksX7_init_3 9 rfl rfl)
theorem dX7_init_81 : decode cX7_init 81 = .ok (.dup, 1) := dk_89 (dk_at dksX7_init_3 10 rfl rfl)
theorem dX7_init_82 : decode cX7_init 82 = .ok (.iconst 3, 1) := dk_6 (dk_at dksX7_init_3 11 rfl rfl)
theorem dX7_init_83 : decode cX7_init 83 = .ok (.ldc 25, 2) := dk_18 25 (dk_at dksX7_init_3 12 rfl rfl)
theorem dX7_init_85 : decode cX7_init 85 = .ok (.aastore, 1) := dk_83 (dk_at dksX7_init_3 14 rfl rfl)
theorem dX7_init_86 : decode cX7_init 86 = .ok (.putfield 34, 3) := dk_181 0 34 (dk_at dksX7_init_3 15 rfl rfl)
theorem dX7_init_89 : decode cX7_init 89 = .ok (.aload_n 0, 1) := dk_42 (dk_at dksX7_init_3 18 rfl rfl)
theorem dX7_init_90 : decode cX7_init 90 = .ok (.aload_n 0, 1) := dk_42 (dk_at dksX7_init_3 19 rfl rfl)
theorem dX7_init_91 : decode cX7_init 91 = .ok (.getfield 31, 3) := dk_180 0 31 (dk_at dksX7_init_3 20 rfl rfl)
theorem dX7_init_94 : decode cX7_init 94 = .ok (.putfield 37, 3) := dk_181 0 37 (dk_at dksX7_init_4 0 rfl rfl)
theorem dX7_init_97 : decode cX7_init 97 = .ok (.aload_n 0, 1) := dk_42 (dk_at dksX7_init_4 3 rfl rfl)
theorem dX7_init_98 : decode cX7_init 98 = .ok (.bipush 18, 2) := dk_16 18 (dk_at dksX7_init_4 4 rfl rfl)
theorem dX7_init_100 : decode cX7_init 100 = .ok (.newarray .int, 2) := dk_188_10 (dk_at dksX7_init_4 6 rfl rfl)
theorem dX7_init_102 : decode cX7_init 102 = .ok (.putfield 40, 3) := dk_181 0 40 (dk_at dksX7_init_4 8 rfl rfl)
theorem dX7_init_105 : decode cX7_init 105 = .ok (.aload_n 0, 1) := dk_42 (dk_at dksX7_init_4 11 rfl rfl)
theorem dX7_init_106 : decode cX7_init 106 = .ok (.bipush 60, 2) := dk_16 60 (dk_at dksX7_init_4 12 rfl rfl)
theorem dX7_init_108 : decode cX7_init 108 = .ok (.newarray .int, 2) := dk_188_10 (dk_at dksX7_init_4 14 rfl rfl)
theorem dX7_init_110 : decode cX7_init 110 = .ok (.putfield 44, 3) := dk_181 0 44 (dk_at dksX7_init_4 16 rfl rfl)
theorem dX7_init_113 : decode cX7_init 113 = .ok (.aload_n 0, 1) := dk_42 (dk_at dksX7_init_4 19 rfl rfl)
theorem dX7_init_114 : decode cX7_init 114 = .ok (.bipush 12, 2) := dk_16 12 (dk_at dksX7_init_4 20 rfl rfl)
theorem dX7_init_116 : decode cX7_init 116 = .ok (.newarray .int, 2) := dk_188_10 (dk_at dksX7_init_4 22 rfl rfl)
theorem dX7_init_118 : decode cX7_init 118 = .ok (.putfield 47, 3) := dk_181 0 47 (dk_at dksX7_init_5 0 rfl rfl)
theorem dX7_init_121 : decode cX7_init 121 = .ok (.aload_n 0, 1) := dk_42 (dk_at dksX7_init_5 3 rfl rfl)
theorem dX7_init_122 : decode cX7_init 122 = .ok (.bipush 12, 2) := dk_16 12 (dk_at dksX7_init_5 4 rfl rfl)
theorem dX7_init_124 : decode cX7_init 124 = .ok (.newarray .int, 2) := dk_188_10 (dk_at dksX7_init_5 6 rfl rfl)
theorem dX7_init_126 : decode cX7_init 126 = .ok (.putfield 50, 3) := dk_181 0 50 (dk_at dksX7_init_5 8 rfl rfl)
theorem dX7_init_129 : decode cX7_init 129 = .ok (.aload_n 0, 1) := dk_42 (dk_at dksX7_init_5 11 rfl rfl)
theorem dX7_init_130 : decode cX7_init 130 = .ok (.bipush 12, 2) := dk_16 12 (dk_at dksX7_init_5 12 rfl rfl)
theorem dX7_init_132 : decode cX7_init 132 = .ok (.newarray .int, 2) := dk_188_10 (dk_at dksX7_init_5 14 rfl rfl)
theorem dX7_init_134 : decode cX7_init 134 = .ok (.putfield 53, 3) := dk_181 0 53 (dk_at dksX7_init_5 16 rfl rfl)
theorem dX7_init_137 : decode cX7_init 137 = .ok (.aload_n 0, 1) := dk_42 (dk_at dksX7_init_5 19 rfl rfl)
theorem dX7_init_138 : decode cX7_init 138 = .ok (.sipush 1400, 3) := dk_17 5 120 (dk_at dksX7_init_5 20 rfl rfl)
theorem dX7_init_141 : decode cX7_init 141 = .ok (.newarray .int, 2) := dk_188_10 (dk_at dksX7_init_6 0 rfl rfl)
theorem dX7_init_143 : decode cX7_init 143 = .ok (.putfield 56, 3) := dk_181 0 56 (dk_at dksX7_init_6 2 rfl rfl)
theorem dX7_init_146 : decode cX7_init 146 = .ok (.aload_n 0, 1) := dk_42 (dk_at dksX7_init_6 5 rfl rfl)
theorem dX7_init_147 : decode cX7_init 147 = .ok (.sipush 1400, 3) := dk_17 5 120 (dk_at dksX7_init_6 6 rfl rfl)
theorem dX7_init_150 : decode cX7_init 150 = .ok (.newarray .int, 2) := dk_188_10 (dk_at dksX7_init_6 9 rfl rfl)
theorem dX7_init_152 : decode cX7_init 152 = .ok (.putfield 59, 3) := dk_181 0 59 (dk_at dksX7_init_6 11 rfl rfl)
theorem dX7_init_155 : decode cX7_init 155 = .ok (.aload_n 0, 1) := dk_42 (dk_at dksX7_init_6 14 rfl rfl)
theorem dX7_init_156 : decode cX7_init 156 = .ok (.iconst 3, 1) := dk_6 (dk_at dksX7_init_6 15 rfl rfl)
theorem dX7_init_157 : decode cX7_init 157 = .ok (.newarray .int, 2) := dk_188_10 (dk_at dksX7_init_6 16 rfl rfl)
theorem dX7_init_159 : decode cX7_init 159 = .ok (.putfield 62, 3) := dk_181 0 62 (dk_at dksX7_init_6 18 rfl rfl)
theorem dX7_init_162 : decode cX7_init 162 = .ok (.aload_n 0, 1) := dk_42 (dk_at dksX7_init_6 21 rfl rfl)
theorem dX7_init_163 : decode cX7_init 163 = .ok (.bipush 6, 2) := dk_16 6 (dk_at dksX7_init_6 22 rfl rfl)
theorem dX7_init_165 : decode cX7_init 165 = .ok (.newarray .int, 2) := dk_188_10 (dk_at dksX7_init_7 0 rfl rfl)
theorem dX7_init_167 : decode cX7_init 167 = .ok (.putfield 65, 3) := dk_181 0 65 (dk_at dksX7_init_7 2 rfl rfl)
theorem dX7_init_170 : decode cX7_init 170 = .ok (.aload_n 0, 1) := dk_42 (dk_at dksX7_init_7 5 rfl rfl)
theorem dX7_init_171 : decode cX7_init 171 = .ok (.sipush 700, 3) := dk_17 2 188 (dk_at dksX7_init_7 6 rfl rfl)
theorem dX7_init_174 : decode cX7_init 174 = .ok (.newarray .int, 2) := dk_188_10 (dk_at dksX7_init_7 9 rfl rfl)
theorem dX7_init_176 : decode cX7_init 176 = .ok (.putfield 68, 3) := dk_181 0 68 (dk_at dksX7_init_7 11 rfl rfl)
theorem dX7_init_179 : decode cX7_init 179 = .ok (.aload_n 0, 1) := dk_42 (dk_at dksX7_init_7 14 rfl rfl)
theorem dX7_init_180 : decode cX7_init 180 = .ok (.iconst (-1), 1) := dk_2 (dk_at dksX7_init_7 15 rfl rfl)
theorem dX7_init_181 : decode cX7_init 181 = .ok (.putfield 71, 3) := dk_181 0 71 (dk_at dksX7_init_7 16 rfl rfl)
theorem dX7_init_184 : decode cX7_init 184 = .ok (.aload_n 0, 1) := dk_42 (dk_at dksX7_init_7 19 rfl rfl)
theorem dX7_init_185 : decode cX7_init 185 = .ok (.bipush 30, 2) := dk_16 30 (dk_at dksX7_init_7 20 rfl rfl)
theorem dX7_init_187 : decode cX7_init 187 = .ok (.newarray .int, 2) := dk_188_10 (dk_at dksX7_init_7 22 rfl rfl)
theorem dX7_init_189 : decode cX7_init 189 = .ok (.putfield 75, 3) := dk_181 0 75 (dk_at dksX7_init_8 0 rfl rfl)
theorem dX7_init_192 : decode cX7_init 192 = .ok (.aload_n 0, 1) := dk_42 (dk_at dksX7_init_8 3 rfl rfl)
theorem dX7_init_193 : decode cX7_init 193 = .ok (.bipush 6, 2) := dk_16 6 (dk_at dksX7_init_8 4 rfl rfl)
theorem dX7_init_195 : decode cX7_init 195 = .ok (.newarray .int, 2) := dk_188_10 (dk_at dksX7_init_8 6 rfl rfl)
theorem dX7_init_197 : decode cX7_init 197 = .ok (.putfield 77, 3) := dk_181 0 77 (dk_at dksX7_init_8 8 rfl rfl)
theorem dX7_init_200 : decode cX7_init 200 = .ok (.aload_n 0, 1) := dk_42 (dk_at dksX7_init_8 11 rfl rfl)
theorem dX7_init_201 : decode cX7_init 201 = .ok (.sipush 1640, 3) := dk_17 6 104 (dk_at dksX7_init_8 12 rfl rfl)
theorem dX7_init_204 : decode cX7_init 204 = .ok (.newarray .int, 2) := dk_188_10 (dk_at dksX7_init_8 15 rfl rfl)
theorem dX7_init_206 : decode cX7_init 206 = .ok (.putfield 80, 3) := dk_181 0 80 (dk_at dksX7_init_8 17 rfl rfl)
theorem dX7_init_209 : decode cX7_init 209 = .ok (.aload_n 0, 1) := dk_42 (dk_at dksX7_init_8 20 rfl rfl)
theorem dX7_init_210 : decode cX7_init 210 = .ok (.bipush 6, 2) := dk_16 6 (dk_at dksX7_init_8 21 rfl rfl)
theorem dX7_init_212 : decode cX7_init 212 = .ok (.newarray .int, 2) := dk_188_10 (dk_at dksX7_init_9 0 rfl rfl)
theorem dX7_init_214 : decode cX7_init 214 = .ok (.putfield 83, 3) := dk_181 0 83 (dk_at dksX7_init_9 2 rfl rfl)
theorem dX7_init_217 : decode cX7_init 217 = .ok (.aload_n 0, 1) := dk_42 (dk_at dksX7_init_9 5 rfl rfl)
theorem dX7_init_218 : decode cX7_init 218 = .ok (.bipush 64, 2) := dk_16 64 (dk_at dksX7_init_9 6 rfl rfl)
theorem dX7_init_220 : decode cX7_init 220 = .ok (.newarray .int, 2) := dk_188_10 (dk_at dksX7_init_9 8 rfl rfl)
theorem dX7_init_222 : decode cX7_init 222 = .ok (.putfield 86, 3) := dk_181 0 86 (dk_at dksX7_init_9 10 rfl rfl)
theorem dX7_init_225 : decode cX7_init 225 = .ok (.aload_n 0, 1) := dk_42 (dk_at dksX7_init_9 13 rfl rfl)
theorem dX7_init_226 : decode cX7_init 226 = .ok (.bipush 30, 2) := dk_16 30 (dk_at dksX7_init_9 14 rfl rfl)
theorem dX7_init_228 : decode cX7_init 228 = .ok (.newarray .int, 2) := dk_188_10 (dk_at dksX7_init_9 16 rfl rfl)
theorem dX7_init_230 : decode cX7_init 230 = .ok (.putfield 89, 3) := dk_181 0 89 (dk_at dksX7_init_9 18 rfl rfl)
theorem dX7_init_233 : decode cX7_init 233 = .ok (.aload_n 0, 1) := dk_42 (dk_at dksX7_init_9 21 rfl rfl)
theorem dX7_init_234 : decode cX7_init 234 = .ok (.bipush 41, 2) := dk_16 41 (dk_at dksX7_init_9 22 rfl rfl)
theorem dX7_init_236 : decode cX7_init 236 = .ok (.newarray .int, 2) := dk_188_10 (dk_at dksX7_init_10 0 rfl rfl)
theorem dX7_init_238 : decode cX7_init 238 = .ok (.putfield 92, 3) := dk_181 0 92 (dk_at dksX7_init_10 2 rfl rfl)
theorem dX7_init_241 : decode cX7_init 241 = .ok (.aload_n 0, 1) := dk_42 (dk_at dksX7_init_10 5 rfl rfl)
theorem dX7_init_242 : decode cX7_init 242 = .ok (.bipush 30, 2) := dk_16 30 (dk_at dksX7_init_10 6 rfl rfl)
theorem dX7_init_244 : decode cX7_init 244 = .ok (.newarray .int, 2) := dk_188_10 (dk_at dksX7_init_10 8 rfl rfl)
theorem dX7_init_246 : decode cX7_init 246 = .ok (.putfield 95, 3) := dk_181 0 95 (dk_at dksX7_init_10 10 rfl rfl)
theorem dX7_init_249 : decode cX7_init 249 = .ok (.aload_n 0, 1) := dk_42 (dk_at dksX7_init_10 13 rfl rfl)
theorem dX7_init_250 : decode cX7_init 250 = .ok (.sipush 448, 3) := dk_17 1 192 (dk_at dksX7_init_10 14 rfl rfl)
theorem dX7_init_253 : decode cX7_init 253 = .ok (.newarray .int, 2) := dk_188_10 (dk_at dksX7_init_10 17 rfl rfl)
theorem dX7_init_255 : decode cX7_init 255 = .ok (.putfield 98, 3) := dk_181 0 98 (dk_at dksX7_init_10 19 rfl rfl)
theorem dX7_init_258 : decode cX7_init 258 = .ok (.aload_n 0, 1) := dk_42 (dk_at dksX7_init_10 22 rfl rfl)
theorem dX7_init_259 : decode cX7_init 259 = .ok (.bipush 6, 2) := dk_16 6 (dk_at dksX7_init_11 0 rfl rfl)
theorem dX7_init_261 : decode cX7_init 261 = .ok (.newarray .int, 2) := dk_188_10 (dk_at dksX7_init_11 2 rfl rfl)
theorem dX7_init_263 : decode cX7_init 263 = .ok (.putfield 101, 3) := dk_181 0 101 (dk_at dksX7_init_11 4 rfl rfl)
theorem dX7_init_266 : decode cX7_init 266 = .ok (.aload_n 0, 1) := dk_42 (dk_at dksX7_init_11 7 rfl rfl)
theorem dX7_init_267 : decode cX7_init 267 = .ok (.bipush 8, 2) := dk_16 8 (dk_at dksX7_init_11 8 rfl rfl)
theorem dX7_init_269 : decode cX7_init 269 = .ok (.newarray .int, 2) := dk_188_10 (dk_at dksX7_init_11 10 rfl rfl)
theorem dX7_init_271 : decode cX7_init 271 = .ok (.putfield 104, 3) := dk_181 0 104 (dk_at dksX7_init_11 12 rfl rfl)
theorem dX7_init_274 : decode cX7_init 274 = .ok (.aload_n 0, 1) := dk_42 (dk_at dksX7_init_11 15 rfl rfl)
theorem dX7_init_275 : decode cX7_init 275 = .ok (.bipush 8, 2) := dk_16 8 (dk_at dksX7_init_11 16 rfl rfl)
theorem dX7_init_277 : decode cX7_init 277 = .ok (.newarray .int, 2) := dk_188_10 (dk_at dksX7_init_11 18 rfl rfl)
theorem dX7_init_279 : decode cX7_init 279 = .ok (.putfield 107, 3) := dk_181 0 107 (dk_at dksX7_init_11 20 rfl rfl)
theorem dX7_init_282 : decode cX7_init 282 = .ok (.aload_n 0, 1) := dk_42 (dk_at dksX7_init_11 23 rfl rfl)
theorem dX7_init_283 : decode cX7_init 283 = .ok (.bipush 8, 2) := dk_16 8 (dk_at dksX7_init_12 0 rfl rfl)
theorem dX7_init_285 : decode cX7_init 285 = .ok (.newarray .int, 2) := dk_188_10 (dk_at dksX7_init_12 2 rfl rfl)
theorem dX7_init_287 : decode cX7_init 287 = .ok (.putfield 110, 3) := dk_181 0 110 (dk_at dksX7_init_12 4 rfl rfl)
theorem dX7_init_290 : decode cX7_init 290 = .ok (.aload_n 0, 1) := dk_42 (dk_at dksX7_init_12 7 rfl rfl)
theorem dX7_init_291 : decode cX7_init 291 = .ok (.bipush 41, 2) := dk_16 41 (dk_at dksX7_init_12 8 rfl rfl)
theorem dX7_init_293 : decode cX7_init 293 = .ok (.newarray .int, 2) := dk_188_10 (dk_at dksX7_init_12 10 rfl rfl)
theorem dX7_init_295 : decode cX7_init 295 = .ok (.putfield 113, 3) := dk_181 0 113 (dk_at dksX7_init_12 12 rfl rfl)
theorem dX7_init_298 : decode cX7_init 298 = .ok (.aload_n 0, 1) := dk_42 (dk_at dksX7_init_12 15 rfl rfl)
theorem dX7_init_299 : decode cX7_init 299 = .ok (.bipush 60, 2) := dk_16 60 (dk_at dksX7_init_12 16 rfl rfl)
theorem dX7_init_301 : decode cX7_init 301 = .ok (.newarray .int, 2) := dk_188_10 (dk_at dksX7_init_12 18 rfl rfl)
theorem dX7_init_303 : decode cX7_init 303 = .ok (.putfield 116, 3) := dk_181 0 116 (dk_at dksX7_init_12 20 rfl rfl)
theorem dX7_init_306 : decode cX7_init 306 = .ok (.aload_n 0, 1) := dk_42 (dk_at dksX7_init_12 23 rfl rfl)
theorem dX7_init_307 : decode cX7_init 307 = .ok (.sipush 1800, 3) := dk_17 7 8 (dk_at dksX7_init_13 0 rfl rfl)
theorem dX7_init_310 : decode cX7_init 310 = .ok (.newarray .int, 2) := dk_188_10 (dk_at dksX7_init_13 3 rfl rfl)
theorem dX7_init_312 : decode cX7_init 312 = .ok (.putfield 119, 3) := dk_181 0 119 (dk_at dksX7_init_13 5 rfl rfl)
theorem dX7_init_315 : decode cX7_init 315 = .ok (.aload_n 0, 1) := dk_42 (dk_at dksX7_init_13 8 rfl rfl)
theorem dX7_init_316 : decode cX7_init 316 = .ok (.bipush 8, 2) := dk_16 8 (dk_at dksX7_init_13 9 rfl rfl)
theorem dX7_init_318 : decode cX7_init 318 = .ok (.newarray .int, 2) := dk_188_10 (dk_at dksX7_init_13 11 rfl rfl)
theorem dX7_init_320 : decode cX7_init 320 = .ok (.putfield 122, 3) := dk_181 0 122 (dk_at dksX7_init_13 13 rfl rfl)
theorem dX7_init_323 : decode cX7_init 323 = .ok (.aload_n 0, 1) := dk_42 (dk_at dksX7_init_13 16 rfl rfl)
theorem dX7_init_324 : decode cX7_init 324 = .ok (.bipush 41, 2) := dk_16 41 (dk_at dksX7_init_13 17 rfl rfl)
theorem dX7_init_326 : decode cX7_init 326 = .ok (.newarray .int, 2) := dk_188_10 (dk_at dksX7_init_13 19 rfl rfl)
theorem dX7_init_328 : decode cX7_init 328 = .ok (.putfield 125, 3) := dk_181 0 125 (dk_at dksX7_init_13 21 rfl rfl)
theorem dX7_init_331 : decode cX7_init 331 = .ok (.aload_n 0, 1) := dk_42 (dk_at dksX7_init_14 0 rfl rfl)
theorem dX7_init_332 : decode cX7_init 332 = .ok (.sipush 1640, 3) := dk_17 6 104 (dk_at dksX7_init_14 1 rfl rfl)
theorem dX7_init_335 : decode cX7_init 335 = .ok (.newarray .int, 2) := dk_188_10 (dk_at dksX7_init_14 4 rfl rfl)
theorem dX7_init_337 : decode cX7_init 337 = .ok (.putfield 128, 3) := dk_181 0 128 (dk_at dksX7_init_14 6 rfl rfl)
theorem dX7_init_340 : decode cX7_init 340 = .ok (.aload_n 0, 1) := dk_42 (dk_at dksX7_init_14 9 rfl rfl)
theorem dX7_init_341 : decode cX7_init 341 = .ok (.bipush 8, 2) := dk_16 8 (dk_at dksX7_init_14 10 rfl rfl)
theorem dX7_init_343 : decode cX7_init 343 = .ok (.newarray .int, 2) := dk_188_10 (dk_at dksX7_init_14 12 rfl rfl)
theorem dX7_init_345 : decode cX7_init 345 = .ok (.putfield 131, 3) := dk_181 0 131 (dk_at dksX7_init_14 14 rfl rfl)
theorem dX7_init_348 : decode cX7_init 348 = .ok (.aload_n 0, 1) := dk_42 (dk_at dksX7_init_14 17 rfl rfl)
theorem dX7_init_349 : decode cX7_init 349 = .ok (.bipush 8, 2) := dk_16 8 (dk_at dksX7_init_14 18 rfl rfl)
theorem dX7_init_351 : decode cX7_init 351 = .ok (.newarray .int, 2) := dk_188_10 (dk_at dksX7_init_14 20 rfl rfl)
theorem dX7_init_353 : decode cX7_init 353 = .ok (.putfield 134, 3) := dk_181 0 134 (dk_at dksX7_init_15 0 rfl rfl)
theorem dX7_init_356 : decode cX7_init 356 = .ok (.aload_n 0, 1) := dk_42 (dk_at dksX7_init_15 3 rfl rfl)
theorem dX7_init_357 : decode cX7_init 357 = .ok (.bipush 8, 2) := dk_16 8 (dk_at dksX7_init_15 4 rfl rfl)
theorem dX7_init_359 : decode cX7_init 359 = .ok (.newarray .int, 2) := dk_188_10 (dk_at dksX7_init_15 6 rfl rfl)
theorem dX7_init_361 : decode cX7_init 361 = .ok (.putfield 137, 3) := dk_181 0 137 (dk_at dksX7_init_15 8 rfl rfl)
theorem dX7_init_364 : decode cX7_init 364 = .ok (.aload_n 0, 1) := dk_42 (dk_at dksX7_init_15 11 rfl rfl)
theorem dX7_init_365 : decode cX7_init 365 = .ok (.iconst 3, 1) := dk_6 (dk_at dksX7_init_15 12 rfl rfl)
theorem dX7_init_366 : decode cX7_init 366 = .ok (.newarray .int, 2) := dk_188_10 (dk_at dksX7_init_15 13 rfl rfl)
theorem dX7_init_368 : decode cX7_init 368 = .ok (.putfield 140, 3) := dk_181 0 140 (dk_at dksX7_init_15 15 rfl rfl)
theorem dX7_init_371 : decode cX7_init 371 = .ok (.aload_n 0, 1) := dk_42 (dk_at dksX7_init_15 18 rfl rfl)
theorem dX7_init_372 : decode cX7_init 372 = .ok (.iconst 0, 1) := dk_3 (dk_at dksX7_init_15 19 rfl rfl)
theorem dX7_init_373 : decode cX7_init 373 = .ok (.invokevirtual 143, 3) := dk_182 0 143 (dk_at dksX7_init_15 20 rfl rfl)
theorem dX7_init_376 : decode cX7_init 376 = .ok (.aload_n 0, 1) := dk_42 (dk_at dksX7_init_15 23 rfl rfl)
theorem dX7_init_377 : decode cX7_init 377 = .ok (.bipush 20, 2) := dk_16 20 (dk_at dksX7_init_16 0 rfl rfl)
theorem dX7_init_379 : decode cX7_init 379 = .ok (.putfield 147, 3) := dk_181 0 147 (dk_at dksX7_init_16 2 rfl rfl)
theorem dX7_init_382 : decode cX7_init 382 = .ok (.return_, 1) := dk_177 (dk_at dksX7_init_16 5 rfl rfl)
abbrev cX7_begin : ByteArray := prog_18_method_2_code
def yX7_begin : MethodName := ⟨RX7, "begin", "(I)V"⟩
def dkwX7_begin_3 : List UInt8 := [132, 2, 1, 167, 255, 238, 177]
abbrev dktX7_begin_3 : List UInt8 := dkwX7_begin_3 ++ []
def dkwX7_begin_2 : List UInt8 := [27, 8, 96, 16, 60, 79, 16, 6, 61, 28, 16, 9, 162, 0, 18, 42, 180, 0, 40, 27, 28, 96, 3, 79]
abbrev dktX7_begin_2 : List UInt8 := dkwX7_begin_2 ++ dktX7_begin_3
def dkwX7_begin_1 : List UInt8 := [79, 42, 180, 0, 40, 27, 6, 96, 16, 20, 79, 42, 180, 0, 40, 27, 7, 96, 5, 79, 42, 180, 0, 40]
abbrev dktX7_begin_1 : List UInt8 := dkwX7_begin_1 ++ dktX7_begin_2
def dkwX7_begin_0 : List UInt8 := [42, 180, 0, 40, 27, 6, 79, 42, 180, 0, 40, 27, 4, 96, 6, 79, 42, 180, 0, 40, 27, 5, 96, 3]
abbrev dktX7_begin_0 : List UInt8 := dkwX7_begin_0 ++ dktX7_begin_1
theorem dksX7_begin_0 : cX7_begin.data.toList.drop 0 = dktX7_begin_0 := by decide +kernel
theorem dksX7_begin_1 : cX7_begin.data.toList.drop 24 = dktX7_begin_1 := dk_seg dksX7_begin_0 24 rfl rfl
theorem dksX7_begin_2 : cX7_begin.data.toList.drop 48 = dktX7_begin_2 := dk_seg dksX7_begin_1 24 rfl rfl
theorem dksX7_begin_3 : cX7_begin.data.toList.drop 72 = dktX7_begin_3 := dk_seg dksX7_begin_2 24 rfl rfl
theorem dX7_begin_0 : decode cX7_begin 0 = .ok (.aload_n 0, 1) := dk_42 (dk_at dksX7_begin_0 0 rfl rfl)
theorem dX7_begin_1 : decode cX7_begin 1 = .ok (.getfield 40, 3) := dk_180 0 40 (dk_at dksX7_begin_0 1 rfl rfl)
theorem dX7_begin_4 : decode cX7_begin 4 = .ok (.iload_n 1, 1) := dk_27 (dk_at dksX7_begin_0 4 rfl rfl)
theorem dX7_begin_5 : decode cX7_begin 5 = .ok (.iconst 3, 1) := dk_6 (dk_at dksX7_begin_0 5 rfl rfl)
theorem dX7_begin_6 : decode cX7_begin 6 = .ok (.iastore, 1) := dk_79 (dk_at dksX7_begin_0 6 rfl rfl)
theorem dX7_begin_7 : decode cX7_begin 7 = .ok (.aload_n 0, 1) := dk_42 (dk_at dksX7_begin_0 7 rfl rfl)
theorem dX7_begin_8 : decode cX7_begin 8 = .ok (.getfield 40, 3) := dk_180 0 40 (dk_at dksX7_begin_0 8 rfl rfl)
theorem dX7_begin_11 : decode cX7_begin 11 = .ok (.iload_n 1, 1) := dk_27 (dk_at dksX7_begin_0 11 rfl rfl)
theorem dX7_begin_12 : decode cX7_begin 12 = .ok (.iconst 1, 1) := dk_4 (dk_at dksX7_begin_0 12 rfl rfl)
theorem dX7_begin_13 : decode cX7_begin 13 = .ok (.iadd, 1) := dk_96 (dk_at dksX7_begin_0 13 rfl rfl)
theorem dX7_begin_14 : decode cX7_begin 14 = .ok (.iconst 3, 1) := dk_6 (dk_at dksX7_begin_0 14 rfl rfl)
theorem dX7_begin_15 : decode cX7_begin 15 = .ok (.iastore, 1) := dk_79 (dk_at dksX7_begin_0 15 rfl rfl)
theorem dX7_begin_16 : decode cX7_begin 16 = .ok (.aload_n 0, 1) := dk_42 (dk_at dksX7_begin_0 16 rfl rfl)
theorem dX7_begin_17 : decode cX7_begin 17 = .ok (.getfield 40, 3) := dk_180 0 40 (dk_at dksX7_begin_0 17 rfl rfl)
theorem dX7_begin_20 : decode cX7_begin 20 = .ok (.iload_n 1, 1) := dk_27 (dk_at dksX7_begin_0 20 rfl rfl)
theorem dX7_begin_21 : decode cX7_begin 21 = .ok (.iconst 2, 1) := dk_5 (dk_at dksX7_begin_0 21 rfl rfl)
theorem dX7_begin_22 : decode cX7_begin 22 = .ok (.iadd, 1) := dk_96 (dk_at dksX7_begin_0 22 rfl rfl)
theorem dX7_begin_23 : decode cX7_begin 23 = .ok (.iconst 0, 1) := dk_3 (dk_at dksX7_begin_0 23 rfl rfl)
theorem dX7_begin_24 : decode cX7_begin 24 = .ok (.iastore, 1) := dk_79 (dk_at dksX7_begin_1 0 rfl rfl)
theorem dX7_begin_25 : decode cX7_begin 25 = .ok (.aload_n 0, 1) := dk_42 (dk_at dksX7_begin_1 1 rfl rfl)
theorem dX7_begin_26 : decode cX7_begin 26 = .ok (.getfield 40, 3) := dk_180 0 40 (dk_at dksX7_begin_1 2 rfl rfl)
theorem dX7_begin_29 : decode cX7_begin 29 = .ok (.iload_n 1, 1) := dk_27 (dk_at dksX7_begin_1 5 rfl rfl)
theorem dX7_begin_30 : decode cX7_begin 30 = .ok (.iconst 3, 1) := dk_6 (dk_at dksX7_begin_1 6 rfl rfl)
theorem dX7_begin_31 : decode cX7_begin 31 = .ok (.iadd, 1) := dk_96 (dk_at dksX7_begin_1 7 rfl rfl)
theorem dX7_begin_32 : decode cX7_begin 32 = .ok (.bipush 20, 2) := dk_16 20 (dk_at dksX7_begin_1 8 rfl rfl)
theorem dX7_begin_34 : decode cX7_begin 34 = .ok (.iastore, 1) := dk_79 (dk_at dksX7_begin_1 10 rfl rfl)
theorem dX7_begin_35 : decode cX7_begin 35 = .ok (.aload_n 0, 1) := dk_42 (dk_at dksX7_begin_1 11 rfl rfl)
theorem dX7_begin_36 : decode cX7_begin 36 = .ok (.getfield 40, 3) := dk_180 0 40 (dk_at dksX7_begin_1 12 rfl rfl)
theorem dX7_begin_39 : decode cX7_begin 39 = .ok (.iload_n 1, 1) := dk_27 (dk_at dksX7_begin_1 15 rfl rfl)
theorem dX7_begin_40 : decode cX7_begin 40 = .ok (.iconst 4, 1) := dk_7 (dk_at dksX7_begin_1 16 rfl rfl)
theorem dX7_begin_41 : decode cX7_begin 41 = .ok (.iadd, 1) := dk_96 (dk_at dksX7_begin_1 17 rfl rfl)
theorem dX7_begin_42 : decode cX7_begin 42 = .ok (.iconst 2, 1) := dk_5 (dk_at dksX7_begin_1 18 rfl rfl)
theorem dX7_begin_43 : decode cX7_begin 43 = .ok (.iastore, 1) := dk_79 (dk_at dksX7_begin_1 19 rfl rfl)
theorem dX7_begin_44 : decode cX7_begin 44 = .ok (.aload_n 0, 1) := dk_42 (dk_at dksX7_begin_1 20 rfl rfl)
theorem dX7_begin_45 : decode cX7_begin 45 = .ok (.getfield 40, 3) := dk_180 0 40 (dk_at dksX7_begin_1 21 rfl rfl)
theorem dX7_begin_48 : decode cX7_begin 48 = .ok (.iload_n 1, 1) := dk_27 (dk_at dksX7_begin_2 0 rfl rfl)
theorem dX7_begin_49 : decode cX7_begin 49 = .ok (.iconst 5, 1) := dk_8 (dk_at dksX7_begin_2 1 rfl rfl)
theorem dX7_begin_50 : decode cX7_begin 50 = .ok (.iadd, 1) := dk_96 (dk_at dksX7_begin_2 2 rfl rfl)
theorem dX7_begin_51 : decode cX7_begin 51 = .ok (.bipush 60, 2) := dk_16 60 (dk_at dksX7_begin_2 3 rfl rfl)
theorem dX7_begin_53 : decode cX7_begin 53 = .ok (.iastore, 1) := dk_79 (dk_at dksX7_begin_2 5 rfl rfl)
theorem dX7_begin_54 : decode cX7_begin 54 = .ok (.bipush 6, 2) := dk_16 6 (dk_at dksX7_begin_2 6 rfl rfl)
theorem dX7_begin_56 : decode cX7_begin 56 = .ok (.istore_n 2, 1) := dk_61 (dk_at dksX7_begin_2 8 rfl rfl)
theorem dX7_begin_57 : decode cX7_begin 57 = .ok (.iload_n 2, 1) := dk_28 (dk_at dksX7_begin_2 9 rfl rfl)
theorem dX7_begin_58 : decode cX7_begin 58 = .ok (.bipush 9, 2) := dk_16 9 (dk_at dksX7_begin_2 10 rfl rfl)
theorem dX7_begin_60 : decode cX7_begin 60 = .ok (.if_icmp .ge 18, 3) := dk_162 0 18 (dk_at dksX7_begin_2 12 rfl rfl)
theorem dX7_begin_63 : decode cX7_begin 63 = .ok (.aload_n 0, 1) := dk_42 (dk_at dksX7_begin_2 15 rfl rfl)
theorem dX7_begin_64 : decode cX7_begin 64 = .ok (.getfield 40, 3) := dk_180 0 40 (dk_at dksX7_begin_2 16 rfl rfl)
theorem dX7_begin_67 : decode cX7_begin 67 = .ok (.iload_n 1, 1) := dk_27 (dk_at dksX7_begin_2 19 rfl rfl)
theorem dX7_begin_68 : decode cX7_begin 68 = .ok (.iload_n 2, 1) := dk_28 (dk_at dksX7_begin_2 20 rfl rfl)
theorem dX7_begin_69 : decode cX7_begin 69 = .ok (.iadd, 1) := dk_96 (dk_at dksX7_begin_2 21 rfl rfl)
theorem dX7_begin_70 : decode cX7_begin 70 = .ok (.iconst 0, 1) := dk_3 (dk_at dksX7_begin_2 22 rfl rfl)
theorem dX7_begin_71 : decode cX7_begin 71 = .ok (.iastore, 1) := dk_79 (dk_at dksX7_begin_2 23 rfl rfl)
theorem dX7_begin_72 : decode cX7_begin 72 = .ok (.iinc 2 1, 3) := dk_132 2 1 (dk_at dksX7_begin_3 0 rfl rfl)
theorem dX7_begin_75 : decode cX7_begin 75 = .ok (.goto (-18), 3) := dk_167 255 238 (dk_at dksX7_begin_3 3 rfl rfl)
theorem dX7_begin_78 : decode cX7_begin 78 = .ok (.return_, 1) := dk_177 (dk_at dksX7_begin_3 6 rfl rfl)
abbrev cX7_thrown : ByteArray := prog_18_method_3_code
def yX7_thrown : MethodName := ⟨RX7, "thrown", "()I"⟩
theorem dX7_thrown_0 : decode cX7_thrown 0 = .ok (.aload_n 0, 1) := by decide +kernel
theorem dX7_thrown_1 : decode cX7_thrown 1 = .ok (.getfield 150, 3) := by decide +kernel
theorem dX7_thrown_4 : decode cX7_thrown 4 = .ok (.ireturn, 1) := by decide +kernel
abbrev cX7_feed : ByteArray := prog_18_method_12_code
def yX7_feed : MethodName := ⟨RX7, "feed", "(IIIII)I"⟩
def dkwX7_feed_5 : List UInt8 := [167, 255, 162, 42, 180, 0, 161, 172]
abbrev dktX7_feed_5 : List UInt8 := dkwX7_feed_5 ++ []
def dkwX7_feed_4 : List UInt8 := [112, 104, 100, 122, 17, 0, 255, 126, 79, 42, 89, 180, 0, 161, 4, 96, 181, 0, 161, 132, 6, 1]
abbrev dktX7_feed_4 : List UInt8 := dkwX7_feed_4 ++ dktX7_feed_5
def dkwX7_feed_3 : List UInt8 := [167, 0, 5, 21, 5, 54, 7, 42, 180, 0, 68, 42, 180, 0, 161, 21, 7, 16, 24, 16, 8, 21, 6, 7]
abbrev dktX7_feed_3 : List UInt8 := dkwX7_feed_3 ++ dktX7_feed_4
def dkwX7_feed_2 : List UInt8 := [28, 167, 0, 28, 21, 6, 16, 12, 162, 0, 7, 29, 167, 0, 17, 21, 6, 16, 16, 162, 0, 8, 21, 4]
abbrev dktX7_feed_2 : List UInt8 := dkwX7_feed_2 ++ dktX7_feed_3
def dkwX7_feed_1 : List UInt8 := [21, 6, 16, 20, 162, 0, 93, 21, 6, 7, 162, 0, 7, 27, 167, 0, 39, 21, 6, 16, 8, 162, 0, 7]
abbrev dktX7_feed_1 : List UInt8 := dkwX7_feed_1 ++ dktX7_feed_2
def dkwX7_feed_0 : List UInt8 := [42, 3, 181, 0, 150, 42, 180, 0, 161, 16, 20, 96, 17, 2, 188, 164, 0, 5, 2, 172, 3, 54, 6]
abbrev dktX7_feed_0 : List UInt8 := dkwX7_feed_0 ++ dktX7_feed_1
theorem dksX7_feed_0 : cX7_feed.data.toList.drop 0 = dktX7_feed_0 := by decide +kernel
theorem dksX7_feed_1 : cX7_feed.data.toList.drop 23 = dktX7_feed_1 := dk_seg dksX7_feed_0 23 rfl rfl
theorem dksX7_feed_2 : cX7_feed.data.toList.drop 47 = dktX7_feed_2 := dk_seg dksX7_feed_1 24 rfl rfl
theorem dksX7_feed_3 : cX7_feed.data.toList.drop 71 = dktX7_feed_3 := dk_seg dksX7_feed_2 24 rfl rfl
theorem dksX7_feed_4 : cX7_feed.data.toList.drop 95 = dktX7_feed_4 := dk_seg dksX7_feed_3 24 rfl rfl
theorem dksX7_feed_5 : cX7_feed.data.toList.drop 117 = dktX7_feed_5 := dk_seg dksX7_feed_4 22 rfl rfl
theorem dX7_feed_0 : decode cX7_feed 0 = .ok (.aload_n 0, 1) := dk_42 (dk_at dksX7_feed_0 0 rfl rfl)
theorem dX7_feed_1 : decode cX7_feed 1 = .ok (.iconst 0, 1) := dk_3 (dk_at dksX7_feed_0 1 rfl rfl)
theorem dX7_feed_2 : decode cX7_feed 2 = .ok (.putfield 150, 3) := dk_181 0 150 (dk_at dksX7_feed_0 2 rfl rfl)
theorem dX7_feed_5 : decode cX7_feed 5 = .ok (.aload_n 0, 1) := dk_42 (dk_at dksX7_feed_0 5 rfl rfl)
theorem dX7_feed_6 : decode cX7_feed 6 = .ok (.getfield 161, 3) := dk_180 0 161 (dk_at dksX7_feed_0 6 rfl rfl)
theorem dX7_feed_9 : decode cX7_feed 9 = .ok (.bipush 20, 2) := dk_16 20 (dk_at dksX7_feed_0 9 rfl rfl)
theorem dX7_feed_11 : decode cX7_feed 11 = .ok (.iadd, 1) := dk_96 (dk_at dksX7_feed_0 11 rfl rfl)
theorem dX7_feed_12 : decode cX7_feed 12 = .ok (.sipush 700, 3) := dk_17 2 188 (dk_at dksX7_feed_0 12 rfl rfl)
theorem dX7_feed_15 : decode cX7_feed 15 = .ok (.if_icmp .le 5, 3) := dk_164 0 5 (dk_at dksX7_feed_0 15 rfl rfl)
theorem dX7_feed_18 : decode cX7_feed 18 = .ok (.iconst (-1), 1) := dk_2 (dk_at dksX7_feed_0 18 rfl rfl)
theorem dX7_feed_19 : decode cX7_feed 19 = .ok (.ireturn, 1) := dk_172 (dk_at dksX7_feed_0 19 rfl rfl)
theorem dX7_feed_20 : decode cX7_feed 20 = .ok (.iconst 0, 1) := dk_3 (dk_at dksX7_feed_0 20 rfl rfl)
theorem dX7_feed_21 : decode cX7_feed 21 = .ok (.istore 6, 2) := dk_54 6 (dk_at dksX7_feed_0 21 rfl rfl)
theorem dX7_feed_23 : decode cX7_feed 23 = .ok (.iload 6, 2) := dk_21 6 (dk_at dksX7_feed_1 0 rfl rfl)
theorem dX7_feed_25 : decode cX7_feed 25 = .ok (.bipush 20, 2) := dk_16 20 (dk_at dksX7_feed_1 2 rfl rfl)
theorem dX7_feed_27 : decode cX7_feed 27 = .ok (.if_icmp .ge 93, 3) := dk_162 0 93 (dk_at dksX7_feed_1 4 rfl rfl)
theorem dX7_feed_30 : decode cX7_feed 30 = .ok (.iload 6, 2) := dk_21 6 (dk_at dksX7_feed_1 7 rfl rfl)
theorem dX7_feed_32 : decode cX7_feed 32 = .ok (.iconst 4, 1) := dk_7 (dk_at dksX7_feed_1 9 rfl rfl)
theorem dX7_feed_33 : decode cX7_feed 33 = .ok (.if_icmp .ge 7, 3) := dk_162 0 7 (dk_at dksX7_feed_1 10 rfl rfl)
theorem dX7_feed_36 : decode cX7_feed 36 = .ok (.iload_n 1, 1) := dk_27 (dk_at dksX7_feed_1 13 rfl rfl)
theorem dX7_feed_37 : decode cX7_feed 37 = .ok (.goto 39, 3) := dk_167 0 39 (dk_at dksX7_feed_1 14 rfl rfl)
theorem dX7_feed_40 : decode cX7_feed 40 = .ok (.iload 6, 2) := dk_21 6 (dk_at dksX7_feed_1 17 rfl rfl)
theorem dX7_feed_42 : decode cX7_feed 42 = .ok (.bipush 8, 2) := dk_16 8 (dk_at dksX7_feed_1 19 rfl rfl)
theorem dX7_feed_44 : decode cX7_feed 44 = .ok (.if_icmp .ge 7, 3) := dk_162 0 7 (dk_at dksX7_feed_1 21 rfl rfl)
theorem dX7_feed_47 : decode cX7_feed 47 = .ok (.iload_n 2, 1) := dk_28 (dk_at dksX7_feed_2 0 rfl rfl)
theorem dX7_feed_48 : decode cX7_feed 48 = .ok (.goto 28, 3) := dk_167 0 28 (dk_at dksX7_feed_2 1 rfl rfl)
theorem dX7_feed_51 : decode cX7_feed 51 = .ok (.iload 6, 2) := dk_21 6 (dk_at dksX7_feed_2 4 rfl rfl)
theorem dX7_feed_53 : decode cX7_feed 53 = .ok (.bipush 12, 2) := dk_16 12 (dk_at dksX7_feed_2 6 rfl rfl)
theorem dX7_feed_55 : decode cX7_feed 55 = .ok (.if_icmp .ge 7, 3) := dk_162 0 7 (dk_at dksX7_feed_2 8 rfl rfl)
theorem dX7_feed_58 : decode cX7_feed 58 = .ok (.iload_n 3, 1) := dk_29 (dk_at dksX7_feed_2 11 rfl rfl)
theorem dX7_feed_59 : decode cX7_feed 59 = .ok (.goto 17, 3) := dk_167 0 17 (dk_at dksX7_feed_2 12 rfl rfl)
theorem dX7_feed_62 : decode cX7_feed 62 = .ok (.iload 6, 2) := dk_21 6 (dk_at dksX7_feed_2 15 rfl rfl)
theorem dX7_feed_64 : decode cX7_feed 64 = .ok (.bipush 16, 2) := dk_16 16 (dk_at dksX7_feed_2 17 rfl rfl)
theorem dX7_feed_66 : decode cX7_feed 66 = .ok (.if_icmp .ge 8, 3) := dk_162 0 8 (dk_at dksX7_feed_2 19 rfl rfl)
theorem dX7_feed_69 : decode cX7_feed 69 = .ok (.iload 4, 2) := dk_21 4 (dk_at dksX7_feed_2 22 rfl rfl)
theorem dX7_feed_71 : decode cX7_feed 71 = .ok (.goto 5, 3) := dk_167 0 5 (dk_at dksX7_feed_3 0 rfl rfl)
theorem dX7_feed_74 : decode cX7_feed 74 = .ok (.iload 5, 2) := dk_21 5 (dk_at dksX7_feed_3 3 rfl rfl)
theorem dX7_feed_76 : decode cX7_feed 76 = .ok (.istore 7, 2) := dk_54 7 (dk_at dksX7_feed_3 5 rfl rfl)
theorem dX7_feed_78 : decode cX7_feed 78 = .ok (.aload_n 0, 1) := dk_42 (dk_at dksX7_feed_3 7 rfl rfl)
theorem dX7_feed_79 : decode cX7_feed 79 = .ok (.getfield 68, 3) := dk_180 0 68 (dk_at dksX7_feed_3 8 rfl rfl)
theorem dX7_feed_82 : decode cX7_feed 82 = .ok (.aload_n 0, 1) := dk_42 (dk_at dksX7_feed_3 11 rfl rfl)
theorem dX7_feed_83 : decode cX7_feed 83 = .ok (.getfield 161, 3) := dk_180 0 161 (dk_at dksX7_feed_3 12 rfl rfl)
theorem dX7_feed_86 : decode cX7_feed 86 = .ok (.iload 7, 2) := dk_21 7 (dk_at dksX7_feed_3 15 rfl rfl)
theorem dX7_feed_88 : decode cX7_feed 88 = .ok (.bipush 24, 2) := dk_16 24 (dk_at dksX7_feed_3 17 rfl rfl)
theorem dX7_feed_90 : decode cX7_feed 90 = .ok (.bipush 8, 2) := dk_16 8 (dk_at dksX7_feed_3 19 rfl rfl)
theorem dX7_feed_92 : decode cX7_feed 92 = .ok (.iload 6, 2) := dk_21 6 (dk_at dksX7_feed_3 21 rfl rfl)
theorem dX7_feed_94 : decode cX7_feed 94 = .ok (.iconst 4, 1) := dk_7 (dk_at dksX7_feed_3 23 rfl rfl)
theorem dX7_feed_95 : decode cX7_feed 95 = .ok (.irem, 1) := dk_112 (dk_at dksX7_feed_4 0 rfl rfl)
theorem dX7_feed_96 : decode cX7_feed 96 = .ok (.imul, 1) := dk_104 (dk_at dksX7_feed_4 1 rfl rfl)
theorem dX7_feed_97 : decode cX7_feed 97 = .ok (.isub, 1) := dk_100 (dk_at dksX7_feed_4 2 rfl rfl)
theorem dX7_feed_98 : decode cX7_feed 98 = .ok (.ishr, 1) := dk_122 (dk_at dksX7_feed_4 3 rfl rfl)
theorem dX7_feed_99 : decode cX7_feed 99 = .ok (.sipush 255, 3) := dk_17 0 255 (dk_at dksX7_feed_4 4 rfl rfl)
theorem dX7_feed_102 : decode cX7_feed 102 = .ok (.iand, 1) := dk_126 (dk_at dksX7_feed_4 7 rfl rfl)
theorem dX7_feed_103 : decode cX7_feed 103 = .ok (.iastore, 1) := dk_79 (dk_at dksX7_feed_4 8 rfl rfl)
theorem dX7_feed_104 : decode cX7_feed 104 = .ok (.aload_n 0, 1) := dk_42 (dk_at dksX7_feed_4 9 rfl rfl)
theorem dX7_feed_105 : decode cX7_feed 105 = .ok (.dup, 1) := dk_89 (dk_at dksX7_feed_4 10 rfl rfl)
theorem dX7_feed_106 : decode cX7_feed 106 = .ok (.getfield 161, 3) := dk_180 0 161 (dk_at dksX7_feed_4 11 rfl rfl)
theorem dX7_feed_109 : decode cX7_feed 109 = .ok (.iconst 1, 1) := dk_4 (dk_at dksX7_feed_4 14 rfl rfl)
theorem dX7_feed_110 : decode cX7_feed 110 = .ok (.iadd, 1) := dk_96 (dk_at dksX7_feed_4 15 rfl rfl)
theorem dX7_feed_111 : decode cX7_feed 111 = .ok (.putfield 161, 3) := dk_181 0 161 (dk_at dksX7_feed_4 16 rfl rfl)
theorem dX7_feed_114 : decode cX7_feed 114 = .ok (.iinc 6 1, 3) := dk_132 6 1 (dk_at dksX7_feed_4 19 rfl rfl)
theorem dX7_feed_117 : decode cX7_feed 117 = .ok (.goto (-94), 3) := dk_167 255 162 (dk_at dksX7_feed_5 0 rfl rfl)
theorem dX7_feed_120 : decode cX7_feed 120 = .ok (.aload_n 0, 1) := dk_42 (dk_at dksX7_feed_5 3 rfl rfl)
theorem dX7_feed_121 : decode cX7_feed 121 = .ok (.getfield 161, 3) := dk_180 0 161 (dk_at dksX7_feed_5 4 rfl rfl)
theorem dX7_feed_124 : decode cX7_feed 124 = .ok (.ireturn, 1) := dk_172 (dk_at dksX7_feed_5 7 rfl rfl)
abbrev cX7_coast : ByteArray := prog_18_method_40_code
def yX7_coast : MethodName := ⟨RX7, "coast", "(I)I"⟩
def dkwX7_coast_6 : List UInt8 := [42, 180, 0, 203, 172, 42, 182, 1, 68, 3, 172]
abbrev dktX7_coast_6 : List UInt8 := dkwX7_coast_6 ++ []
def dkwX7_coast_5 : List UInt8 := [180, 0, 203, 153, 0, 26, 42, 42, 180, 0, 206, 181, 0, 71, 42, 180, 0, 62, 3, 92, 46, 4, 96, 79]
abbrev dktX7_coast_5 : List UInt8 := dkwX7_coast_5 ++ dktX7_coast_6
def dkwX7_coast_4 : List UInt8 := [180, 0, 203, 154, 0, 19, 42, 180, 0, 177, 153, 0, 12, 42, 28, 182, 1, 65, 61, 167, 255, 236, 42]
abbrev dktX7_coast_4 : List UInt8 := dkwX7_coast_4 ++ dktX7_coast_5
def dkwX7_coast_3 : List UInt8 := [42, 180, 0, 44, 16, 30, 28, 96, 3, 79, 132, 2, 1, 167, 255, 237, 42, 182, 0, 226, 3, 61, 42]
abbrev dktX7_coast_3 : List UInt8 := dkwX7_coast_3 ++ dktX7_coast_4
def dkwX7_coast_2 : List UInt8 := [42, 3, 181, 1, 24, 42, 3, 181, 0, 236, 42, 16, 9, 182, 0, 143, 3, 61, 28, 16, 30, 162, 0, 19]
abbrev dktX7_coast_2 : List UInt8 := dkwX7_coast_2 ++ dktX7_coast_3
def dkwX7_coast_1 : List UInt8 := [3, 181, 0, 161, 42, 27, 181, 0, 164, 42, 3, 181, 0, 167, 42, 3, 181, 0, 203, 42, 2, 181, 0, 71]
abbrev dktX7_coast_1 : List UInt8 := dkwX7_coast_1 ++ dktX7_coast_2
def dkwX7_coast_0 : List UInt8 := [42, 3, 181, 0, 150, 27, 155, 0, 11, 27, 42, 180, 0, 161, 164, 0, 9, 42, 4, 182, 1, 62, 172, 42]
abbrev dktX7_coast_0 : List UInt8 := dkwX7_coast_0 ++ dktX7_coast_1
theorem dksX7_coast_0 : cX7_coast.data.toList.drop 0 = dktX7_coast_0 := by decide +kernel
theorem dksX7_coast_1 : cX7_coast.data.toList.drop 24 = dktX7_coast_1 := dk_seg dksX7_coast_0 24 rfl rfl
theorem dksX7_coast_2 : cX7_coast.data.toList.drop 48 = dktX7_coast_2 := dk_seg dksX7_coast_1 24 rfl rfl
theorem dksX7_coast_3 : cX7_coast.data.toList.drop 72 = dktX7_coast_3 := dk_seg dksX7_coast_2 24 rfl rfl
theorem dksX7_coast_4 : cX7_coast.data.toList.drop 95 = dktX7_coast_4 := dk_seg dksX7_coast_3 23 rfl rfl
theorem dksX7_coast_5 : cX7_coast.data.toList.drop 118 = dktX7_coast_5 := dk_seg dksX7_coast_4 23 rfl rfl
theorem dksX7_coast_6 : cX7_coast.data.toList.drop 142 = dktX7_coast_6 := dk_seg dksX7_coast_5 24 rfl rfl
theorem dX7_coast_0 : decode cX7_coast 0 = .ok (.aload_n 0, 1) := dk_42 (dk_at dksX7_coast_0 0 rfl rfl)
theorem dX7_coast_1 : decode cX7_coast 1 = .ok (.iconst 0, 1) := dk_3 (dk_at dksX7_coast_0 1 rfl rfl)
theorem dX7_coast_2 : decode cX7_coast 2 = .ok (.putfield 150, 3) := dk_181 0 150 (dk_at dksX7_coast_0 2 rfl rfl)
theorem dX7_coast_5 : decode cX7_coast 5 = .ok (.iload_n 1, 1) := dk_27 (dk_at dksX7_coast_0 5 rfl rfl)
theorem dX7_coast_6 : decode cX7_coast 6 = .ok (.ifCond .lt 11, 3) := dk_155 0 11 (dk_at dksX7_coast_0 6 rfl rfl)
theorem dX7_coast_9 : decode cX7_coast 9 = .ok (.iload_n 1, 1) := dk_27 (dk_at dksX7_coast_0 9 rfl rfl)
theorem dX7_coast_10 : decode cX7_coast 10 = .ok (.aload_n 0, 1) := dk_42 (dk_at dksX7_coast_0 10 rfl rfl)
theorem dX7_coast_11 : decode cX7_coast 11 = .ok (.getfield 161, 3) := dk_180 0 161 (dk_at dksX7_coast_0 11 rfl rfl)
theorem dX7_coast_14 : decode cX7_coast 14 = .ok (.if_icmp .le 9, 3) := dk_164 0 9 (dk_at dksX7_coast_0 14 rfl rfl)
theorem dX7_coast_17 : decode cX7_coast 17 = .ok (.aload_n 0, 1) := dk_42 (dk_at dksX7_coast_0 17 rfl rfl)
theorem dX7_coast_18 : decode cX7_coast 18 = .ok (.iconst 1, 1) := dk_4 (dk_at dksX7_coast_0 18 rfl rfl)
theorem dX7_coast_19 : decode cX7_coast 19 = .ok (.invokevirtual 318, 3) := dk_182 1 62 (dk_at dksX7_coast_0 19 rfl rfl)
theorem dX7_coast_22 : decode cX7_coast 22 = .ok (.ireturn, 1) := dk_172 (dk_at dksX7_coast_0 22 rfl rfl)
theorem dX7_coast_23 : decode cX7_coast 23 = .ok (.aload_n 0, 1) := dk_42 (dk_at dksX7_coast_0 23 rfl rfl)
theorem dX7_coast_24 : decode cX7_coast 24 = .ok (.iconst 0, 1) := dk_3 (dk_at dksX7_coast_1 0 rfl rfl)
theorem dX7_coast_25 : decode cX7_coast 25 = .ok (.putfield 161, 3) := dk_181 0 161 (dk_at dksX7_coast_1 1 rfl rfl)
theorem dX7_coast_28 : decode cX7_coast 28 = .ok (.aload_n 0, 1) := dk_42 (dk_at dksX7_coast_1 4 rfl rfl)
theorem dX7_coast_29 : decode cX7_coast 29 = .ok (.iload_n 1, 1) := dk_27 (dk_at dksX7_coast_1 5 rfl rfl)
theorem dX7_coast_30 : decode cX7_coast 30 = .ok (.putfield 164, 3) := dk_181 0 164 (dk_at dksX7_coast_1 6 rfl rfl)
theorem dX7_coast_33 : decode cX7_coast 33 = .ok (.aload_n 0, 1) := dk_42 (dk_at dksX7_coast_1 9 rfl rfl)
theorem dX7_coast_34 : decode cX7_coast 34 = .ok (.iconst 0, 1) := dk_3 (dk_at dksX7_coast_1 10 rfl rfl)
theorem dX7_coast_35 : decode cX7_coast 35 = .ok (.putfield 167, 3) := dk_181 0 167 (dk_at dksX7_coast_1 11 rfl rfl)
theorem dX7_coast_38 : decode cX7_coast 38 = .ok (.aload_n 0, 1) := dk_42 (dk_at dksX7_coast_1 14 rfl rfl)
theorem dX7_coast_39 : decode cX7_coast 39 = .ok (.iconst 0, 1) := dk_3 (dk_at dksX7_coast_1 15 rfl rfl)
theorem dX7_coast_40 : decode cX7_coast 40 = .ok (.putfield 203, 3) := dk_181 0 203 (dk_at dksX7_coast_1 16 rfl rfl)
theorem dX7_coast_43 : decode cX7_coast 43 = .ok (.aload_n 0, 1) := dk_42 (dk_at dksX7_coast_1 19 rfl rfl)
theorem dX7_coast_44 : decode cX7_coast 44 = .ok (.iconst (-1), 1) := dk_2 (dk_at dksX7_coast_1 20 rfl rfl)
theorem dX7_coast_45 : decode cX7_coast 45 = .ok (.putfield 71, 3) := dk_181 0 71 (dk_at dksX7_coast_1 21 rfl rfl)
theorem dX7_coast_48 : decode cX7_coast 48 = .ok (.aload_n 0, 1) := dk_42 (dk_at dksX7_coast_2 0 rfl rfl)
theorem dX7_coast_49 : decode cX7_coast 49 = .ok (.iconst 0, 1) := dk_3 (dk_at dksX7_coast_2 1 rfl rfl)
theorem dX7_coast_50 : decode cX7_coast 50 = .ok (.putfield 280, 3) := dk_181 1 24 (dk_at dksX7_coast_2 2 rfl rfl)
theorem dX7_coast_53 : decode cX7_coast 53 = .ok (.aload_n 0, 1) := dk_42 (dk_at dksX7_coast_2 5 rfl rfl)
theorem dX7_coast_54 : decode cX7_coast 54 = .ok (.iconst 0, 1) := dk_3 (dk_at dksX7_coast_2 6 rfl rfl)
theorem dX7_coast_55 : decode cX7_coast 55 = .ok (.putfield 236, 3) := dk_181 0 236 (dk_at dksX7_coast_2 7 rfl rfl)
theorem dX7_coast_58 : decode cX7_coast 58 = .ok (.aload_n 0, 1) := dk_42 (dk_at dksX7_coast_2 10 rfl rfl)
theorem dX7_coast_59 : decode cX7_coast 59 = .ok (.bipush 9, 2) := dk_16 9 (dk_at dksX7_coast_2 11 rfl rfl)
theorem dX7_coast_61 : decode cX7_coast 61 = .ok (.invokevirtual 143, 3) := dk_182 0 143 (dk_at dksX7_coast_2 13 rfl rfl)
theorem dX7_coast_64 : decode cX7_coast 64 = .ok (.iconst 0, 1) := dk_3 (dk_at dksX7_coast_2 16 rfl rfl)
theorem dX7_coast_65 : decode cX7_coast 65 = .ok (.istore_n 2, 1) := dk_61 (dk_at dksX7_coast_2 17 rfl rfl)
theorem dX7_coast_66 : decode cX7_coast 66 = .ok (.iload_n 2, 1) := dk_28 (dk_at dksX7_coast_2 18 rfl rfl)
theorem dX7_coast_67 : decode cX7_coast 67 = .ok (.bipush 30, 2) := dk_16 30 (dk_at dksX7_coast_2 19 rfl rfl)
theorem dX7_coast_69 : decode cX7_coast 69 = .ok (.if_icmp .ge 19, 3) := dk_162 0 19 (dk_at dksX7_coast_2 21 rfl rfl)
theorem dX7_coast_72 : decode cX7_coast 72 = .ok (.aload_n 0, 1) := dk_42 (dk_at dksX7_coast_3 0 rfl rfl)
theorem dX7_coast_73 : decode cX7_coast 73 = .ok (.getfield 44, 3) := dk_180 0 44 (dk_at dksX7_coast_3 1 rfl rfl)
theorem dX7_coast_76 : decode cX7_coast 76 = .ok (.bipush 30, 2) := dk_16 30 (dk_at dksX7_coast_3 4 rfl rfl)
theorem dX7_coast_78 : decode cX7_coast 78 = .ok (.iload_n 2, 1) := dk_28 (dk_at dksX7_coast_3 6 rfl rfl)
theorem dX7_coast_79 : decode cX7_coast 79 = .ok (.iadd, 1) := dk_96 (dk_at dksX7_coast_3 7 rfl rfl)
theorem dX7_coast_80 : decode cX7_coast 80 = .ok (.iconst 0, 1) := dk_3 (dk_at dksX7_coast_3 8 rfl rfl)
theorem dX7_coast_81 : decode cX7_coast 81 = .ok (.iastore, 1) := dk_79 (dk_at dksX7_coast_3 9 rfl rfl)
theorem dX7_coast_82 : decode cX7_coast 82 = .ok (.iinc 2 1, 3) := dk_132 2 1 (dk_at dksX7_coast_3 10 rfl rfl)
theorem dX7_coast_85 : decode cX7_coast 85 = .ok (.goto (-19), 3) := dk_167 255 237 (dk_at dksX7_coast_3 13 rfl rfl)
theorem dX7_coast_88 : decode cX7_coast 88 = .ok (.aload_n 0, 1) := dk_42 (dk_at dksX7_coast_3 16 rfl rfl)
theorem dX7_coast_89 : decode cX7_coast 89 = .ok (.invokevirtual 226, 3) := dk_182 0 226 (dk_at dksX7_coast_3 17 rfl rfl)
theorem dX7_coast_92 : decode cX7_coast 92 = .ok (.iconst 0, 1) := dk_3 (dk_at dksX7_coast_3 20 rfl rfl)
theorem dX7_coast_93 : decode cX7_coast 93 = .ok (.istore_n 2, 1) := dk_61 (dk_at dksX7_coast_3 21 rfl rfl)
theorem dX7_coast_94 : decode cX7_coast 94 = .ok (.aload_n 0, 1) := dk_42 (dk_at dksX7_coast_3 22 rfl rfl)
theorem dX7_coast_95 : decode cX7_coast 95 = .ok (.getfield 203, 3) := dk_180 0 203 (dk_at dksX7_coast_4 0 rfl rfl)
theorem dX7_coast_98 : decode cX7_coast 98 = .ok (.ifCond .ne 19, 3) := dk_154 0 19 (dk_at dksX7_coast_4 3 rfl rfl)
theorem dX7_coast_101 : decode cX7_coast 101 = .ok (.aload_n 0, 1) := dk_42 (dk_at dksX7_coast_4 6 rfl rfl)
theorem dX7_coast_102 : decode cX7_coast 102 = .ok (.getfield 177, 3) := dk_180 0 177 (dk_at dksX7_coast_4 7 rfl rfl)
theorem dX7_coast_105 : decode cX7_coast 105 = .ok (.ifCond .eq 12, 3) := dk_153 0 12 (dk_at dksX7_coast_4 10 rfl rfl)
theorem dX7_coast_108 : decode cX7_coast 108 = .ok (.aload_n 0, 1) := dk_42 (dk_at dksX7_coast_4 13 rfl rfl)
theorem dX7_coast_109 : decode cX7_coast 109 = .ok (.iload_n 2, 1) := dk_28 (dk_at dksX7_coast_4 14 rfl rfl)
theorem dX7_coast_110 : decode cX7_coast 110 = .ok (.invokevirtual 321, 3) := dk_182 1 65 (dk_at dksX7_coast_4 15 rfl rfl)
theorem dX7_coast_113 : decode cX7_coast 113 = .ok (.istore_n 2, 1) := dk_61 (dk_at dksX7_coast_4 18 rfl rfl)
theorem dX7_coast_114 : decode cX7_coast 114 = .ok (.goto (-20), 3) := dk_167 255 236 (dk_at dksX7_coast_4 19 rfl rfl)
theorem dX7_coast_117 : decode cX7_coast 117 = .ok (.aload_n 0, 1) := dk_42 (dk_at dksX7_coast_4 22 rfl rfl)
theorem dX7_coast_118 : decode cX7_coast 118 = .ok (.getfield 203, 3) := dk_180 0 203 (dk_at dksX7_coast_5 0 rfl rfl)
theorem dX7_coast_121 : decode cX7_coast 121 = .ok (.ifCond .eq 26, 3) := dk_153 0 26 (dk_at dksX7_coast_5 3 rfl rfl)
theorem dX7_coast_124 : decode cX7_coast 124 = .ok (.aload_n 0, 1) := dk_42 (dk_at dksX7_coast_5 6 rfl rfl)
theorem dX7_coast_125 : decode cX7_coast 125 = .ok (.aload_n 0, 1) := dk_42 (dk_at dksX7_coast_5 7 rfl rfl)
theorem dX7_coast_126 : decode cX7_coast 126 = .ok (.getfield 206, 3) := dk_180 0 206 (dk_at dksX7_coast_5 8 rfl rfl)
theorem dX7_coast_129 : decode cX7_coast 129 = .ok (.putfield 71, 3) := dk_181 0 71 (dk_at dksX7_coast_5 11 rfl rfl)
theorem dX7_coast_132 : decode cX7_coast 132 = .ok (.aload_n 0, 1) := dk_42 (dk_at dksX7_coast_5 14 rfl rfl)
theorem dX7_coast_133 : decode cX7_coast 133 = .ok (.getfield 62, 3) := dk_180 0 62 (dk_at dksX7_coast_5 15 rfl rfl)
theorem dX7_coast_136 : decode cX7_coast 136 = .ok (.iconst 0, 1) := dk_3 (dk_at dksX7_coast_5 18 rfl rfl)
theorem dX7_coast_137 : decode cX7_coast 137 = .ok (.dup2, 1) := dk_92 (dk_at dksX7_coast_5 19 rfl rfl)
theorem dX7_coast_138 : decode cX7_coast 138 = .ok (.iaload, 1) := dk_46 (dk_at dksX7_coast_5 20 rfl rfl)
theorem dX7_coast_139 : decode cX7_coast 139 = .ok (.iconst 1, 1) := dk_4 (dk_at dksX7_coast_5 21 rfl rfl)
theorem dX7_coast_140 : decode cX7_coast 140 = .ok (.iadd, 1) := dk_96 (dk_at dksX7_coast_5 22 rfl rfl)
theorem dX7_coast_141 : decode cX7_coast 141 = .ok (.iastore, 1) := dk_79 (dk_at dksX7_coast_5 23 rfl rfl)
theorem dX7_coast_142 : decode cX7_coast 142 = .ok (.aload_n 0, 1) := dk_42 (dk_at dksX7_coast_6 0 rfl rfl)
theorem dX7_coast_143 : decode cX7_coast 143 = .ok (.getfield 203, 3) := dk_180 0 203 (dk_at dksX7_coast_6 1 rfl rfl)
theorem dX7_coast_146 : decode cX7_coast 146 = .ok (.ireturn, 1) := dk_172 (dk_at dksX7_coast_6 4 rfl rfl)
theorem dX7_coast_147 : decode cX7_coast 147 = .ok (.aload_n 0, 1) := dk_42 (dk_at dksX7_coast_6 5 rfl rfl)
theorem dX7_coast_148 : decode cX7_coast 148 = .ok (.invokevirtual 324, 3) := dk_182 1 68 (dk_at dksX7_coast_6 6 rfl rfl)
theorem dX7_coast_151 : decode cX7_coast 151 = .ok (.iconst 0, 1) := dk_3 (dk_at dksX7_coast_6 9 rfl rfl)
theorem dX7_coast_152 : decode cX7_coast 152 = .ok (.ireturn, 1) := dk_172 (dk_at dksX7_coast_6 10 rfl rfl)
abbrev cX7_fail : ByteArray := prog_18_method_4_code
def yX7_fail : MethodName := ⟨RX7, "fail", "(I)I"⟩
def dkwX7_fail_0 : List UInt8 := [42, 27, 181, 0, 150, 3, 172]
abbrev dktX7_fail_0 : List UInt8 := dkwX7_fail_0 ++ []
theorem dksX7_fail_0 : cX7_fail.data.toList.drop 0 = dktX7_fail_0 := by decide +kernel
theorem dX7_fail_0 : decode cX7_fail 0 = .ok (.aload_n 0, 1) := dk_42 (dk_at dksX7_fail_0 0 rfl rfl)
theorem dX7_fail_1 : decode cX7_fail 1 = .ok (.iload_n 1, 1) := dk_27 (dk_at dksX7_fail_0 1 rfl rfl)
theorem dX7_fail_2 : decode cX7_fail 2 = .ok (.putfield 150, 3) := dk_181 0 150 (dk_at dksX7_fail_0 2 rfl rfl)
theorem dX7_fail_5 : decode cX7_fail 5 = .ok (.iconst 0, 1) := dk_3 (dk_at dksX7_fail_0 5 rfl rfl)
theorem dX7_fail_6 : decode cX7_fail 6 = .ok (.ireturn, 1) := dk_172 (dk_at dksX7_fail_0 6 rfl rfl)
abbrev cX7_stepOn : ByteArray := prog_18_method_17_code
def yX7_stepOn : MethodName := ⟨RX7, "stepOn", "()V"⟩
def dkwX7_stepOn_9 : List UInt8 := [181, 0, 177, 42, 42, 180, 0, 167, 181, 0, 200, 177]
abbrev dktX7_stepOn_9 : List UInt8 := dkwX7_stepOn_9 ++ []
def dkwX7_stepOn_8 : List UInt8 := [42, 89, 180, 0, 167, 4, 96, 181, 0, 167, 42, 27, 184, 0, 197, 153, 0, 7, 6, 167, 0, 4, 7]
abbrev dktX7_stepOn_8 : List UInt8 := dkwX7_stepOn_8 ++ dktX7_stepOn_9
def dkwX7_stepOn_7 : List UInt8 := [181, 0, 187, 42, 89, 180, 0, 167, 4, 96, 181, 0, 167, 167, 255, 204, 42, 5, 181, 0, 177, 167, 0, 29]
abbrev dktX7_stepOn_7 : List UInt8 := dkwX7_stepOn_7 ++ dktX7_stepOn_8
def dkwX7_stepOn_6 : List UInt8 := [18, 190, 16, 10, 42, 180, 0, 187, 104, 42, 42, 180, 0, 167, 182, 0, 170, 96, 16, 48, 100, 184, 0, 191]
abbrev dktX7_stepOn_6 : List UInt8 := dkwX7_stepOn_6 ++ dktX7_stepOn_7
def dkwX7_stepOn_5 : List UInt8 := [153, 0, 71, 42, 3, 181, 0, 187, 42, 42, 180, 0, 167, 182, 0, 170, 184, 0, 184, 153, 0, 44, 42]
abbrev dktX7_stepOn_5 : List UInt8 := dkwX7_stepOn_5 ++ dktX7_stepOn_6
def dkwX7_stepOn_4 : List UInt8 := [180, 0, 167, 4, 96, 181, 0, 167, 167, 255, 232, 42, 4, 181, 0, 177, 167, 0, 104, 27, 184, 0, 184]
abbrev dktX7_stepOn_4 : List UInt8 := dkwX7_stepOn_4 ++ dktX7_stepOn_5
def dkwX7_stepOn_3 : List UInt8 := [184, 0, 180, 153, 0, 38, 42, 42, 180, 0, 167, 182, 0, 170, 184, 0, 180, 153, 0, 16, 42, 89]
abbrev dktX7_stepOn_3 : List UInt8 := dkwX7_stepOn_3 ++ dktX7_stepOn_4
def dkwX7_stepOn_2 : List UInt8 := [42, 42, 180, 0, 167, 182, 0, 170, 60, 27, 2, 160, 0, 11, 42, 3, 181, 0, 177, 167, 0, 146, 27]
abbrev dktX7_stepOn_2 : List UInt8 := dkwX7_stepOn_2 ++ dktX7_stepOn_3
def dkwX7_stepOn_1 : List UInt8 := [160, 0, 16, 42, 89, 180, 0, 167, 4, 96, 181, 0, 167, 167, 255, 220, 42, 42, 180, 0, 167, 181, 0, 174]
abbrev dktX7_stepOn_1 : List UInt8 := dkwX7_stepOn_1 ++ dktX7_stepOn_2
def dkwX7_stepOn_0 : List UInt8 := [42, 42, 180, 0, 167, 182, 0, 170, 16, 32, 159, 0, 16, 42, 42, 180, 0, 167, 182, 0, 170, 16, 10]
abbrev dktX7_stepOn_0 : List UInt8 := dkwX7_stepOn_0 ++ dktX7_stepOn_1
theorem dksX7_stepOn_0 : cX7_stepOn.data.toList.drop 0 = dktX7_stepOn_0 := by decide +kernel
theorem dksX7_stepOn_1 : cX7_stepOn.data.toList.drop 23 = dktX7_stepOn_1 := dk_seg dksX7_stepOn_0 23 rfl rfl
theorem dksX7_stepOn_2 : cX7_stepOn.data.toList.drop 47 = dktX7_stepOn_2 := dk_seg dksX7_stepOn_1 24 rfl rfl
theorem dksX7_stepOn_3 : cX7_stepOn.data.toList.drop 70 = dktX7_stepOn_3 := dk_seg dksX7_stepOn_2 23 rfl rfl
theorem dksX7_stepOn_4 : cX7_stepOn.data.toList.drop 92 = dktX7_stepOn_4 := dk_seg dksX7_stepOn_3 22 rfl rfl
theorem dksX7_stepOn_5 : cX7_stepOn.data.toList.drop 115 = dktX7_stepOn_5 := dk_seg dksX7_stepOn_4 23 rfl rfl
theorem dksX7_stepOn_6 : cX7_stepOn.data.toList.drop 138 = dktX7_stepOn_6 := dk_seg dksX7_stepOn_5 23 rfl rfl
theorem dksX7_stepOn_7 : cX7_stepOn.data.toList.drop 162 = dktX7_stepOn_7 := dk_seg dksX7_stepOn_6 24 rfl rfl
theorem dksX7_stepOn_8 : cX7_stepOn.data.toList.drop 186 = dktX7_stepOn_8 := dk_seg dksX7_stepOn_7 24 rfl rfl
theorem dksX7_stepOn_9 : cX7_stepOn.data.toList.drop 209 = dktX7_stepOn_9 := dk_seg dksX7_stepOn_8 23 rfl rfl
theorem dX7_stepOn_0 : decode cX7_stepOn 0 = .ok (.aload_n 0, 1) := dk_42 (dk_at dksX7_stepOn_0 0 rfl rfl)
theorem dX7_stepOn_1 : decode cX7_stepOn 1 = .ok (.aload_n 0, 1) := dk_42 (dk_at dksX7_stepOn_0 1 rfl rfl)
theorem dX7_stepOn_2 : decode cX7_stepOn 2 = .ok (.getfield 167, 3) := dk_180 0 167 (dk_at dksX7_stepOn_0 2 rfl rfl)
theorem dX7_stepOn_5 : decode cX7_stepOn 5 = .ok (.invokevirtual 170, 3) := dk_182 0 170 (dk_at dksX7_stepOn_0 5 rfl rfl)
theorem dX7_stepOn_8 : decode cX7_stepOn 8 = .ok (.bipush 32, 2) := dk_16 32 (dk_at dksX7_stepOn_0 8 rfl rfl)
theorem dX7_stepOn_10 : decode cX7_stepOn 10 = .ok (.if_icmp .eq 16, 3) := dk_159 0 16 (dk_at dksX7_stepOn_0 10 rfl rfl)
theorem dX7_stepOn_13 : decode cX7_stepOn 13 = .ok (.aload_n 0, 1) := dk_42 (dk_at dksX7_stepOn_0 13 rfl rfl)
theorem dX7_stepOn_14 : decode cX7_stepOn 14 = .ok (.aload_n 0, 1) := dk_42 (dk_at dksX7_stepOn_0 14 rfl rfl)
theorem dX7_stepOn_15 : decode cX7_stepOn 15 = .ok (.getfield 167, 3) := dk_180 0 167 (dk_at dksX7_stepOn_0 15 rfl rfl)
theorem dX7_stepOn_18 : decode cX7_stepOn 18 = .ok (.invokevirtual 170, 3) := dk_182 0 170 (dk_at dksX7_stepOn_0 18 rfl rfl)
theorem dX7_stepOn_21 : decode cX7_stepOn 21 = .ok (.bipush 10, 2) := dk_16 10 (dk_at dksX7_stepOn_0 21 rfl rfl)
theorem dX7_stepOn_23 : decode cX7_stepOn 23 = .ok (.if_icmp .ne 16, 3) := dk_160 0 16 (dk_at dksX7_stepOn_1 0 rfl rfl)
theorem dX7_stepOn_26 : decode cX7_stepOn 26 = .ok (.aload_n 0, 1) := dk_42 (dk_at dksX7_stepOn_1 3 rfl rfl)
theorem dX7_stepOn_27 : decode cX7_stepOn 27 = .ok (.dup, 1) := dk_89 (dk_at dksX7_stepOn_1 4 rfl rfl)
theorem dX7_stepOn_28 : decode cX7_stepOn 28 = .ok (.getfield 167, 3) := dk_180 0 167 (dk_at dksX7_stepOn_1 5 rfl rfl)
theorem dX7_stepOn_31 : decode cX7_stepOn 31 = .ok (.iconst 1, 1) := dk_4 (dk_at dksX7_stepOn_1 8 rfl rfl)
theorem dX7_stepOn_32 : decode cX7_stepOn 32 = .ok (.iadd, 1) := dk_96 (dk_at dksX7_stepOn_1 9 rfl rfl)
theorem dX7_stepOn_33 : decode cX7_stepOn 33 = .ok (.putfield 167, 3) := dk_181 0 167 (dk_at dksX7_stepOn_1 10 rfl rfl)
theorem dX7_stepOn_36 : decode cX7_stepOn 36 = .ok (.goto (-36), 3) := dk_167 255 220 (dk_at dksX7_stepOn_1 13 rfl rfl)
theorem dX7_stepOn_39 : decode cX7_stepOn 39 = .ok (.aload_n 0, 1) := dk_42 (dk_at dksX7_stepOn_1 16 rfl rfl)
theorem dX7_stepOn_40 : decode cX7_stepOn 40 = .ok (.aload_n 0, 1) := dk_42 (dk_at dksX7_stepOn_1 17 rfl rfl)
theorem dX7_stepOn_41 : decode cX7_stepOn 41 = .ok (.getfield 167, 3) := dk_180 0 167 (dk_at dksX7_stepOn_1 18 rfl rfl)
theorem dX7_stepOn_44 : decode cX7_stepOn 44 = .ok (.putfield 174, 3) := dk_181 0 174 (dk_at dksX7_stepOn_1 21 rfl rfl)
theorem dX7_stepOn_47 : decode cX7_stepOn 47 = .ok (.aload_n 0, 1) := dk_42 (dk_at dksX7_stepOn_2 0 rfl rfl)
theorem dX7_stepOn_48 : decode cX7_stepOn 48 = .ok (.aload_n 0, 1) := dk_42 (dk_at dksX7_stepOn_2 1 rfl rfl)
theorem dX7_stepOn_49 : decode cX7_stepOn 49 = .ok (.getfield 167, 3) := dk_180 0 167 (dk_at dksX7_stepOn_2 2 rfl rfl)
theorem dX7_stepOn_52 : decode cX7_stepOn 52 = .ok (.invokevirtual 170, 3) := dk_182 0 170 (dk_at dksX7_stepOn_2 5 rfl rfl)
theorem dX7_stepOn_55 : decode cX7_stepOn 55 = .ok (.istore_n 1, 1) := dk_60 (dk_at dksX7_stepOn_2 8 rfl rfl)
theorem dX7_stepOn_56 : decode cX7_stepOn 56 = .ok (.iload_n 1, 1) := dk_27 (dk_at dksX7_stepOn_2 9 rfl rfl)
theorem dX7_stepOn_57 : decode cX7_stepOn 57 = .ok (.iconst (-1), 1) := dk_2 (dk_at dksX7_stepOn_2 10 rfl rfl)
theorem dX7_stepOn_58 : decode cX7_stepOn 58 = .ok (.if_icmp .ne 11, 3) := dk_160 0 11 (dk_at dksX7_stepOn_2 11 rfl rfl)
theorem dX7_stepOn_61 : decode cX7_stepOn 61 = .ok (.aload_n 0, 1) := dk_42 (dk_at dksX7_stepOn_2 14 rfl rfl)
theorem dX7_stepOn_62 : decode cX7_stepOn 62 = .ok (.iconst 0, 1) := dk_3 (dk_at dksX7_stepOn_2 15 rfl rfl)
theorem dX7_stepOn_63 : decode cX7_stepOn 63 = .ok (.putfield 177, 3) := dk_181 0 177 (dk_at dksX7_stepOn_2 16 rfl rfl)
theorem dX7_stepOn_66 : decode cX7_stepOn 66 = .ok (.goto 146, 3) := dk_167 0 146 (dk_at dksX7_stepOn_2 19 rfl rfl)
theorem dX7_stepOn_69 : decode cX7_stepOn 69 = .ok (.iload_n 1, 1) := dk_27 (dk_at dksX7_stepOn_2 22 rfl rfl)
theorem dX7_stepOn_70 : decode cX7_stepOn 70 = .ok (.invokestatic 180, 3) := dk_184 0 180 (dk_at dksX7_stepOn_3 0 rfl rfl)
theorem dX7_stepOn_73 : decode cX7_stepOn 73 = .ok (.ifCond .eq 38, 3) := dk_153 0 38 (dk_at dksX7_stepOn_3 3 rfl rfl)
theorem dX7_stepOn_76 : decode cX7_stepOn 76 = .ok (.aload_n 0, 1) := dk_42 (dk_at dksX7_stepOn_3 6 rfl rfl)
theorem dX7_stepOn_77 : decode cX7_stepOn 77 = .ok (.aload_n 0, 1) := dk_42 (dk_at dksX7_stepOn_3 7 rfl rfl)
theorem dX7_stepOn_78 : decode cX7_stepOn 78 = .ok (.getfield 167, 3) := dk_180 0 167 (dk_at dksX7_stepOn_3 8 rfl rfl)
theorem dX7_stepOn_81 : decode cX7_stepOn 81 = .ok (.invokevirtual 170, 3) := dk_182 0 170 (dk_at dksX7_stepOn_3 11 rfl rfl)
theorem dX7_stepOn_84 : decode cX7_stepOn 84 = .ok (.invokestatic 180, 3) := dk_184 0 180 (dk_at dksX7_stepOn_3 14 rfl rfl)
theorem dX7_stepOn_87 : decode cX7_stepOn 87 = .ok (.ifCond .eq 16, 3) := dk_153 0 16 (dk_at dksX7_stepOn_3 17 rfl rfl)
theorem dX7_stepOn_90 : decode cX7_stepOn 90 = .ok (.aload_n 0, 1) := dk_42 (dk_at dksX7_stepOn_3 20 rfl rfl)
theorem dX7_stepOn_91 : decode cX7_stepOn 91 = .ok (.dup, 1) := dk_89 (dk_at dksX7_stepOn_3 21 rfl rfl)
theorem dX7_stepOn_92 : decode cX7_stepOn 92 = .ok (.getfield 167, 3) := dk_180 0 167 (dk_at dksX7_stepOn_4 0 rfl rfl)
theorem dX7_stepOn_95 : decode cX7_stepOn 95 = .ok (.iconst 1, 1) := dk_4 (dk_at dksX7_stepOn_4 3 rfl rfl)
theorem dX7_stepOn_96 : decode cX7_stepOn 96 = .ok (.iadd, 1) := dk_96 (dk_at dksX7_stepOn_4 4 rfl rfl)
theorem dX7_stepOn_97 : decode cX7_stepOn 97 = .ok (.putfield 167, 3) := dk_181 0 167 (dk_at dksX7_stepOn_4 5 rfl rfl)
theorem dX7_stepOn_100 : decode cX7_stepOn 100 = .ok (.goto (-24), 3) := dk_167 255 232 (dk_at dksX7_stepOn_4 8 rfl rfl)
theorem dX7_stepOn_103 : decode cX7_stepOn 103 = .ok (.aload_n 0, 1) := dk_42 (dk_at dksX7_stepOn_4 11 rfl rfl)
theorem dX7_stepOn_104 : decode cX7_stepOn 104 = .ok (.iconst 1, 1) := dk_4 (dk_at dksX7_stepOn_4 12 rfl rfl)
theorem dX7_stepOn_105 : decode cX7_stepOn 105 = .ok (.putfield 177, 3) := dk_181 0 177 (dk_at dksX7_stepOn_4 13 rfl rfl)
theorem dX7_stepOn_108 : decode cX7_stepOn 108 = .ok (.goto 104, 3) := dk_167 0 104 (dk_at dksX7_stepOn_4 16 rfl rfl)
theorem dX7_stepOn_111 : decode cX7_stepOn 111 = .ok (.iload_n 1, 1) := dk_27 (dk_at dksX7_stepOn_4 19 rfl rfl)
theorem dX7_stepOn_112 : decode cX7_stepOn 112 = .ok (.invokestatic 184, 3) := dk_184 0 184 (dk_at dksX7_stepOn_4 20 rfl rfl)
theorem dX7_stepOn_115 : decode cX7_stepOn 115 = .ok (.ifCond .eq 71, 3) := dk_153 0 71 (dk_at dksX7_stepOn_5 0 rfl rfl)
theorem dX7_stepOn_118 : decode cX7_stepOn 118 = .ok (.aload_n 0, 1) := dk_42 (dk_at dksX7_stepOn_5 3 rfl rfl)
theorem dX7_stepOn_119 : decode cX7_stepOn 119 = .ok (.iconst 0, 1) := dk_3 (dk_at dksX7_stepOn_5 4 rfl rfl)
theorem dX7_stepOn_120 : decode cX7_stepOn 120 = .ok (.putfield 187, 3) := dk_181 0 187 (dk_at dksX7_stepOn_5 5 rfl rfl)
theorem dX7_stepOn_123 : decode cX7_stepOn 123 = .ok (.aload_n 0, 1) := dk_42 (dk_at dksX7_stepOn_5 8 rfl rfl)
theorem dX7_stepOn_124 : decode cX7_stepOn 124 = .ok (.aload_n 0, 1) := dk_42 (dk_at dksX7_stepOn_5 9 rfl rfl)
theorem dX7_stepOn_125 : decode cX7_stepOn 125 = .ok (.getfield 167, 3) := dk_180 0 167 (dk_at dksX7_stepOn_5 10 rfl rfl)
theorem dX7_stepOn_128 : decode cX7_stepOn 128 = .ok (.invokevirtual 170, 3) := dk_182 0 170 (dk_at dksX7_stepOn_5 13 rfl rfl)
theorem dX7_stepOn_131 : decode cX7_stepOn 131 = .ok (.invokestatic 184, 3) := dk_184 0 184 (dk_at dksX7_stepOn_5 16 rfl rfl)
theorem dX7_stepOn_134 : decode cX7_stepOn 134 = .ok (.ifCond .eq 44, 3) := dk_153 0 44 (dk_at dksX7_stepOn_5 19 rfl rfl)
theorem dX7_stepOn_137 : decode cX7_stepOn 137 = .ok (.aload_n 0, 1) := dk_42 (dk_at dksX7_stepOn_5 22 rfl rfl)
theorem dX7_stepOn_138 : decode cX7_stepOn 138 = .ok (.ldc 190, 2) := dk_18 190 (dk_at dksX7_stepOn_6 0 rfl rfl)
theorem dX7_stepOn_140 : decode cX7_stepOn 140 = .ok (.bipush 10, 2) := dk_16 10 (dk_at dksX7_stepOn_6 2 rfl rfl)
theorem dX7_stepOn_142 : decode cX7_stepOn 142 = .ok (.aload_n 0, 1) := dk_42 (dk_at dksX7_stepOn_6 4 rfl rfl)
theorem dX7_stepOn_143 : decode cX7_stepOn 143 = .ok (.getfield 187, 3) := dk_180 0 187 (dk_at dksX7_stepOn_6 5 rfl rfl)
theorem dX7_stepOn_146 : decode cX7_stepOn 146 = .ok (.imul, 1) := dk_104 (dk_at dksX7_stepOn_6 8 rfl rfl)
theorem dX7_stepOn_147 : decode cX7_stepOn 147 = .ok (.aload_n 0, 1) := dk_42 (dk_at dksX7_stepOn_6 9 rfl rfl)
theorem dX7_stepOn_148 : decode cX7_stepOn 148 = .ok (.aload_n 0, 1) := dk_42 (dk_at dksX7_stepOn_6 10 rfl rfl)
theorem dX7_stepOn_149 : decode cX7_stepOn 149 = .ok (.getfield 167, 3) := dk_180 0 167 (dk_at dksX7_stepOn_6 11 rfl rfl)
theorem dX7_stepOn_152 : decode cX7_stepOn 152 = .ok (.invokevirtual 170, 3) := dk_182 0 170 (dk_at dksX7_stepOn_6 14 rfl rfl)
theorem dX7_stepOn_155 : decode cX7_stepOn 155 = .ok (.iadd, 1) := dk_96 (dk_at dksX7_stepOn_6 17 rfl rfl)
theorem dX7_stepOn_156 : decode cX7_stepOn 156 = .ok (.bipush 48, 2) := dk_16 48 (dk_at dksX7_stepOn_6 18 rfl rfl)
theorem dX7_stepOn_158 : decode cX7_stepOn 158 = .ok (.isub, 1) := dk_100 (dk_at dksX7_stepOn_6 20 rfl rfl)
theorem dX7_stepOn_159 : decode cX7_stepOn 159 = .ok (.invokestatic 191, 3) := dk_184 0 191 (dk_at dksX7_stepOn_6 21 rfl rfl)
theorem dX7_stepOn_162 : decode cX7_stepOn 162 = .ok (.putfield 187, 3) := dk_181 0 187 (dk_at dksX7_stepOn_7 0 rfl rfl)
theorem dX7_stepOn_165 : decode cX7_stepOn 165 = .ok (.aload_n 0, 1) := dk_42 (dk_at dksX7_stepOn_7 3 rfl rfl)
theorem dX7_stepOn_166 : decode cX7_stepOn 166 = .ok (.dup, 1) := dk_89 (dk_at dksX7_stepOn_7 4 rfl rfl)
theorem dX7_stepOn_167 : decode cX7_stepOn 167 = .ok (.getfield 167, 3) := dk_180 0 167 (dk_at dksX7_stepOn_7 5 rfl rfl)
theorem dX7_stepOn_170 : decode cX7_stepOn 170 = .ok (.iconst 1, 1) := dk_4 (dk_at dksX7_stepOn_7 8 rfl rfl)
theorem dX7_stepOn_171 : decode cX7_stepOn 171 = .ok (.iadd, 1) := dk_96 (dk_at dksX7_stepOn_7 9 rfl rfl)
theorem dX7_stepOn_172 : decode cX7_stepOn 172 = .ok (.putfield 167, 3) := dk_181 0 167 (dk_at dksX7_stepOn_7 10 rfl rfl)
theorem dX7_stepOn_175 : decode cX7_stepOn 175 = .ok (.goto (-52), 3) := dk_167 255 204 (dk_at dksX7_stepOn_7 13 rfl rfl)
theorem dX7_stepOn_178 : decode cX7_stepOn 178 = .ok (.aload_n 0, 1) := dk_42 (dk_at dksX7_stepOn_7 16 rfl rfl)
theorem dX7_stepOn_179 : decode cX7_stepOn 179 = .ok (.iconst 2, 1) := dk_5 (dk_at dksX7_stepOn_7 17 rfl rfl)
theorem dX7_stepOn_180 : decode cX7_stepOn 180 = .ok (.putfield 177, 3) := dk_181 0 177 (dk_at dksX7_stepOn_7 18 rfl rfl)
theorem dX7_stepOn_183 : decode cX7_stepOn 183 = .ok (.goto 29, 3) := dk_167 0 29 (dk_at dksX7_stepOn_7 21 rfl rfl)
theorem dX7_stepOn_186 : decode cX7_stepOn 186 = .ok (.aload_n 0, 1) := dk_42 (dk_at dksX7_stepOn_8 0 rfl rfl)
theorem dX7_stepOn_187 : decode cX7_stepOn 187 = .ok (.dup, 1) := dk_89 (dk_at dksX7_stepOn_8 1 rfl rfl)
theorem dX7_stepOn_188 : decode cX7_stepOn 188 = .ok (.getfield 167, 3) := dk_180 0 167 (dk_at dksX7_stepOn_8 2 rfl rfl)
theorem dX7_stepOn_191 : decode cX7_stepOn 191 = .ok (.iconst 1, 1) := dk_4 (dk_at dksX7_stepOn_8 5 rfl rfl)
theorem dX7_stepOn_192 : decode cX7_stepOn 192 = .ok (.iadd, 1) := dk_96 (dk_at dksX7_stepOn_8 6 rfl rfl)
theorem dX7_stepOn_193 : decode cX7_stepOn 193 = .ok (.putfield 167, 3) := dk_181 0 167 (dk_at dksX7_stepOn_8 7 rfl rfl)
theorem dX7_stepOn_196 : decode cX7_stepOn 196 = .ok (.aload_n 0, 1) := dk_42 (dk_at dksX7_stepOn_8 10 rfl rfl)
theorem dX7_stepOn_197 : decode cX7_stepOn 197 = .ok (.iload_n 1, 1) := dk_27 (dk_at dksX7_stepOn_8 11 rfl rfl)
theorem dX7_stepOn_198 : decode cX7_stepOn 198 = .ok (.invokestatic 197, 3) := dk_184 0 197 (dk_at dksX7_stepOn_8 12 rfl rfl)
theorem dX7_stepOn_201 : decode cX7_stepOn 201 = .ok (.ifCond .eq 7, 3) := dk_153 0 7 (dk_at dksX7_stepOn_8 15 rfl rfl)
theorem dX7_stepOn_204 : decode cX7_stepOn 204 = .ok (.iconst 3, 1) := dk_6 (dk_at dksX7_stepOn_8 18 rfl rfl)
theorem dX7_stepOn_205 : decode cX7_stepOn 205 = .ok (.goto 4, 3) := dk_167 0 4 (dk_at dksX7_stepOn_8 19 rfl rfl)
theorem dX7_stepOn_208 : decode cX7_stepOn 208 = .ok (.iconst 4, 1) := dk_7 (dk_at dksX7_stepOn_8 22 rfl rfl)
theorem dX7_stepOn_209 : decode cX7_stepOn 209 = .ok (.putfield 177, 3) := dk_181 0 177 (dk_at dksX7_stepOn_9 0 rfl rfl)
theorem dX7_stepOn_212 : decode cX7_stepOn 212 = .ok (.aload_n 0, 1) := dk_42 (dk_at dksX7_stepOn_9 3 rfl rfl)
theorem dX7_stepOn_213 : decode cX7_stepOn 213 = .ok (.aload_n 0, 1) := dk_42 (dk_at dksX7_stepOn_9 4 rfl rfl)
theorem dX7_stepOn_214 : decode cX7_stepOn 214 = .ok (.getfield 167, 3) := dk_180 0 167 (dk_at dksX7_stepOn_9 5 rfl rfl)
theorem dX7_stepOn_217 : decode cX7_stepOn 217 = .ok (.putfield 200, 3) := dk_181 0 200 (dk_at dksX7_stepOn_9 8 rfl rfl)
theorem dX7_stepOn_220 : decode cX7_stepOn 220 = .ok (.return_, 1) := dk_177 (dk_at dksX7_stepOn_9 11 rfl rfl)
abbrev cX7_byteAt : ByteArray := prog_18_method_13_code
def yX7_byteAt : MethodName := ⟨RX7, "byteAt", "(I)I"⟩
def dkwX7_byteAt_0 : List UInt8 := [27, 42, 180, 0, 164, 162, 0, 12, 42, 180, 0, 68, 27, 46, 167, 0, 4, 2, 172]
abbrev dktX7_byteAt_0 : List UInt8 := dkwX7_byteAt_0 ++ []
theorem dksX7_byteAt_0 : cX7_byteAt.data.toList.drop 0 = dktX7_byteAt_0 := by decide +kernel
theorem dX7_byteAt_0 : decode cX7_byteAt 0 = .ok (.iload_n 1, 1) := dk_27 (dk_at dksX7_byteAt_0 0 rfl rfl)
theorem dX7_byteAt_1 : decode cX7_byteAt 1 = .ok (.aload_n 0, 1) := dk_42 (dk_at dksX7_byteAt_0 1 rfl rfl)
theorem dX7_byteAt_2 : decode cX7_byteAt 2 = .ok (.getfield 164, 3) := dk_180 0 164 (dk_at dksX7_byteAt_0 2 rfl rfl)
theorem dX7_byteAt_5 : decode cX7_byteAt 5 = .ok (.if_icmp .ge 12, 3) := dk_162 0 12 (dk_at dksX7_byteAt_0 5 rfl rfl)
theorem dX7_byteAt_8 : decode cX7_byteAt 8 = .ok (.aload_n 0, 1) := dk_42 (dk_at dksX7_byteAt_0 8 rfl rfl)
theorem dX7_byteAt_9 : decode cX7_byteAt 9 = .ok (.getfield 68, 3) := dk_180 0 68 (dk_at dksX7_byteAt_0 9 rfl rfl)
theorem dX7_byteAt_12 : decode cX7_byteAt 12 = .ok (.iload_n 1, 1) := dk_27 (dk_at dksX7_byteAt_0 12 rfl rfl)
theorem dX7_byteAt_13 : decode cX7_byteAt 13 = .ok (.iaload, 1) := dk_46 (dk_at dksX7_byteAt_0 13 rfl rfl)
theorem dX7_byteAt_14 : decode cX7_byteAt 14 = .ok (.goto 4, 3) := dk_167 0 4 (dk_at dksX7_byteAt_0 14 rfl rfl)
theorem dX7_byteAt_17 : decode cX7_byteAt 17 = .ok (.iconst (-1), 1) := dk_2 (dk_at dksX7_byteAt_0 17 rfl rfl)
theorem dX7_byteAt_18 : decode cX7_byteAt 18 = .ok (.ireturn, 1) := dk_172 (dk_at dksX7_byteAt_0 18 rfl rfl)
abbrev cX7_isLetter : ByteArray := prog_18_method_14_code
def yX7_isLetter : MethodName := ⟨RX7, "isLetter", "(I)Z"⟩
def dkwX7_isLetter_0 : List UInt8 := [26, 16, 97, 161, 0, 13, 26, 16, 122, 163, 0, 7, 4, 167, 0, 4, 3, 172]
abbrev dktX7_isLetter_0 : List UInt8 := dkwX7_isLetter_0 ++ []
theorem dksX7_isLetter_0 : cX7_isLetter.data.toList.drop 0 = dktX7_isLetter_0 := by decide +kernel
theorem dX7_isLetter_0 : decode cX7_isLetter 0 = .ok (.iload_n 0, 1) := dk_26 (dk_at dksX7_isLetter_0 0 rfl rfl)
theorem dX7_isLetter_1 : decode cX7_isLetter 1 = .ok (.bipush 97, 2) := dk_16 97 (dk_at dksX7_isLetter_0 1 rfl rfl)
theorem dX7_isLetter_3 : decode cX7_isLetter 3 = .ok (.if_icmp .lt 13, 3) := dk_161 0 13 (dk_at dksX7_isLetter_0 3 rfl rfl)
theorem dX7_isLetter_6 : decode cX7_isLetter 6 = .ok (.iload_n 0, 1) := dk_26 (dk_at dksX7_isLetter_0 6 rfl rfl)
theorem dX7_isLetter_7 : decode cX7_isLetter 7 = .ok (.bipush 122, 2) := dk_16 122 (dk_at dksX7_isLetter_0 7 rfl rfl)
theorem dX7_isLetter_9 : decode cX7_isLetter 9 = .ok (.if_icmp .gt 7, 3) := dk_163 0 7 (dk_at dksX7_isLetter_0 9 rfl rfl)
theorem dX7_isLetter_12 : decode cX7_isLetter 12 = .ok (.iconst 1, 1) := dk_4 (dk_at dksX7_isLetter_0 12 rfl rfl)
theorem dX7_isLetter_13 : decode cX7_isLetter 13 = .ok (.goto 4, 3) := dk_167 0 4 (dk_at dksX7_isLetter_0 13 rfl rfl)
theorem dX7_isLetter_16 : decode cX7_isLetter 16 = .ok (.iconst 0, 1) := dk_3 (dk_at dksX7_isLetter_0 16 rfl rfl)
theorem dX7_isLetter_17 : decode cX7_isLetter 17 = .ok (.ireturn, 1) := dk_172 (dk_at dksX7_isLetter_0 17 rfl rfl)
abbrev cX7_isDigit : ByteArray := prog_18_method_15_code
def yX7_isDigit : MethodName := ⟨RX7, "isDigit", "(I)Z"⟩
def dkwX7_isDigit_0 : List UInt8 := [26, 16, 48, 161, 0, 13, 26, 16, 57, 163, 0, 7, 4, 167, 0, 4, 3, 172]
abbrev dktX7_isDigit_0 : List UInt8 := dkwX7_isDigit_0 ++ []
theorem dksX7_isDigit_0 : cX7_isDigit.data.toList.drop 0 = dktX7_isDigit_0 := by decide +kernel
theorem dX7_isDigit_0 : decode cX7_isDigit 0 = .ok (.iload_n 0, 1) := dk_26 (dk_at dksX7_isDigit_0 0 rfl rfl)
theorem dX7_isDigit_1 : decode cX7_isDigit 1 = .ok (.bipush 48, 2) := dk_16 48 (dk_at dksX7_isDigit_0 1 rfl rfl)
theorem dX7_isDigit_3 : decode cX7_isDigit 3 = .ok (.if_icmp .lt 13, 3) := dk_161 0 13 (dk_at dksX7_isDigit_0 3 rfl rfl)
theorem dX7_isDigit_6 : decode cX7_isDigit 6 = .ok (.iload_n 0, 1) := dk_26 (dk_at dksX7_isDigit_0 6 rfl rfl)
theorem dX7_isDigit_7 : decode cX7_isDigit 7 = .ok (.bipush 57, 2) := dk_16 57 (dk_at dksX7_isDigit_0 7 rfl rfl)
theorem dX7_isDigit_9 : decode cX7_isDigit 9 = .ok (.if_icmp .gt 7, 3) := dk_163 0 7 (dk_at dksX7_isDigit_0 9 rfl rfl)
theorem dX7_isDigit_12 : decode cX7_isDigit 12 = .ok (.iconst 1, 1) := dk_4 (dk_at dksX7_isDigit_0 12 rfl rfl)
theorem dX7_isDigit_13 : decode cX7_isDigit 13 = .ok (.goto 4, 3) := dk_167 0 4 (dk_at dksX7_isDigit_0 13 rfl rfl)
theorem dX7_isDigit_16 : decode cX7_isDigit 16 = .ok (.iconst 0, 1) := dk_3 (dk_at dksX7_isDigit_0 16 rfl rfl)
theorem dX7_isDigit_17 : decode cX7_isDigit 17 = .ok (.ireturn, 1) := dk_172 (dk_at dksX7_isDigit_0 17 rfl rfl)
abbrev cX7_isMark : ByteArray := prog_18_method_16_code
def yX7_isMark : MethodName := ⟨RX7, "isMark", "(I)Z"⟩
def dkwX7_isMark_2 : List UInt8 := [26, 16, 61, 160, 0, 7, 4, 167, 0, 4, 3, 172]
abbrev dktX7_isMark_2 : List UInt8 := dkwX7_isMark_2 ++ []
def dkwX7_isMark_1 : List UInt8 := [26, 16, 45, 159, 0, 27, 26, 16, 42, 159, 0, 21, 26, 16, 47, 159, 0, 15, 26, 16, 60, 159, 0, 9]
abbrev dktX7_isMark_1 : List UInt8 := dkwX7_isMark_1 ++ dktX7_isMark_2
def dkwX7_isMark_0 : List UInt8 := [26, 16, 59, 159, 0, 51, 26, 16, 40, 159, 0, 45, 26, 16, 41, 159, 0, 39, 26, 16, 43, 159, 0, 33]
abbrev dktX7_isMark_0 : List UInt8 := dkwX7_isMark_0 ++ dktX7_isMark_1
theorem dksX7_isMark_0 : cX7_isMark.data.toList.drop 0 = dktX7_isMark_0 := by decide +kernel
theorem dksX7_isMark_1 : cX7_isMark.data.toList.drop 24 = dktX7_isMark_1 := dk_seg dksX7_isMark_0 24 rfl rfl
theorem dksX7_isMark_2 : cX7_isMark.data.toList.drop 48 = dktX7_isMark_2 := dk_seg dksX7_isMark_1 24 rfl rfl
theorem dX7_isMark_0 : decode cX7_isMark 0 = .ok (.iload_n 0, 1) := dk_26 (dk_at dksX7_isMark_0 0 rfl rfl)
theorem dX7_isMark_1 : decode cX7_isMark 1 = .ok (.bipush 59, 2) := dk_16 59 (dk_at dksX7_isMark_0 1 rfl rfl)
theorem dX7_isMark_3 : decode cX7_isMark 3 = .ok (.if_icmp .eq 51, 3) := dk_159 0 51 (dk_at dksX7_isMark_0 3 rfl rfl)
theorem dX7_isMark_6 : decode cX7_isMark 6 = .ok (.iload_n 0, 1) := dk_26 (dk_at dksX7_isMark_0 6 rfl rfl)
theorem dX7_isMark_7 : decode cX7_isMark 7 = .ok (.bipush 40, 2) := dk_16 40 (dk_at dksX7_isMark_0 7 rfl rfl)
theorem dX7_isMark_9 : decode cX7_isMark 9 = .ok (.if_icmp .eq 45, 3) := dk_159 0 45 (dk_at dksX7_isMark_0 9 rfl rfl)
theorem dX7_isMark_12 : decode cX7_isMark 12 = .ok (.iload_n 0, 1) := dk_26 (dk_at dksX7_isMark_0 12 rfl rfl)
theorem dX7_isMark_13 : decode cX7_isMark 13 = .ok (.bipush 41, 2) := dk_16 41 (dk_at dksX7_isMark_0 13 rfl rfl)
theorem dX7_isMark_15 : decode cX7_isMark 15 = .ok (.if_icmp .eq 39, 3) := dk_159 0 39 (dk_at dksX7_isMark_0 15 rfl rfl)
theorem dX7_isMark_18 : decode cX7_isMark 18 = .ok (.iload_n 0, 1) := dk_26 (dk_at dksX7_isMark_0 18 rfl rfl)
theorem dX7_isMark_19 : decode cX7_isMark 19 = .ok (.bipush 43, 2) := dk_16 43 (dk_at dksX7_isMark_0 19 rfl rfl)
theorem dX7_isMark_21 : decode cX7_isMark 21 = .ok (.if_icmp .eq 33, 3) := dk_159 0 33 (dk_at dksX7_isMark_0 21 rfl rfl)
theorem dX7_isMark_24 : decode cX7_isMark 24 = .ok (.iload_n 0, 1) := dk_26 (dk_at dksX7_isMark_1 0 rfl rfl)
theorem dX7_isMark_25 : decode cX7_isMark 25 = .ok (.bipush 45, 2) := dk_16 45 (dk_at dksX7_isMark_1 1 rfl rfl)
theorem dX7_isMark_27 : decode cX7_isMark 27 = .ok (.if_icmp .eq 27, 3) := dk_159 0 27 (dk_at dksX7_isMark_1 3 rfl rfl)
theorem dX7_isMark_30 : decode cX7_isMark 30 = .ok (.iload_n 0, 1) := dk_26 (dk_at dksX7_isMark_1 6 rfl rfl)
theorem dX7_isMark_31 : decode cX7_isMark 31 = .ok (.bipush 42, 2) := dk_16 42 (dk_at dksX7_isMark_1 7 rfl rfl)
theorem dX7_isMark_33 : decode cX7_isMark 33 = .ok (.if_icmp .eq 21, 3) := dk_159 0 21 (dk_at dksX7_isMark_1 9 rfl rfl)
theorem dX7_isMark_36 : decode cX7_isMark 36 = .ok (.iload_n 0, 1) := dk_26 (dk_at dksX7_isMark_1 12 rfl rfl)
theorem dX7_isMark_37 : decode cX7_isMark 37 = .ok (.bipush 47, 2) := dk_16 47 (dk_at dksX7_isMark_1 13 rfl rfl)
theorem dX7_isMark_39 : decode cX7_isMark 39 = .ok (.if_icmp .eq 15, 3) := dk_159 0 15 (dk_at dksX7_isMark_1 15 rfl rfl)
theorem dX7_isMark_42 : decode cX7_isMark 42 = .ok (.iload_n 0, 1) := dk_26 (dk_at dksX7_isMark_1 18 rfl rfl)
theorem dX7_isMark_43 : decode cX7_isMark 43 = .ok (.bipush 60, 2) := dk_16 60 (dk_at dksX7_isMark_1 19 rfl rfl)
theorem dX7_isMark_45 : decode cX7_isMark 45 = .ok (.if_icmp .eq 9, 3) := dk_159 0 9 (dk_at dksX7_isMark_1 21 rfl rfl)
theorem dX7_isMark_48 : decode cX7_isMark 48 = .ok (.iload_n 0, 1) := dk_26 (dk_at dksX7_isMark_2 0 rfl rfl)
theorem dX7_isMark_49 : decode cX7_isMark 49 = .ok (.bipush 61, 2) := dk_16 61 (dk_at dksX7_isMark_2 1 rfl rfl)
theorem dX7_isMark_51 : decode cX7_isMark 51 = .ok (.if_icmp .ne 7, 3) := dk_160 0 7 (dk_at dksX7_isMark_2 3 rfl rfl)
theorem dX7_isMark_54 : decode cX7_isMark 54 = .ok (.iconst 1, 1) := dk_4 (dk_at dksX7_isMark_2 6 rfl rfl)
theorem dX7_isMark_55 : decode cX7_isMark 55 = .ok (.goto 4, 3) := dk_167 0 4 (dk_at dksX7_isMark_2 7 rfl rfl)
theorem dX7_isMark_58 : decode cX7_isMark 58 = .ok (.iconst 0, 1) := dk_3 (dk_at dksX7_isMark_2 10 rfl rfl)
theorem dX7_isMark_59 : decode cX7_isMark 59 = .ok (.ireturn, 1) := dk_172 (dk_at dksX7_isMark_2 11 rfl rfl)
abbrev cX7_readLine : ByteArray := prog_18_method_39_code
def yX7_readLine : MethodName := ⟨RX7, "readLine", "(I)I"⟩
def dkwX7_readLine_8 : List UInt8 := [182, 1, 59, 167, 0, 8, 42, 4, 182, 0, 223, 42, 16, 59, 182, 0, 253, 27, 29, 128, 172]
abbrev dktX7_readLine_8 : List UInt8 := dkwX7_readLine_8 ++ []
def dkwX7_readLine_7 : List UInt8 := [182, 0, 216, 153, 0, 10, 42, 182, 1, 54, 167, 0, 25, 42, 19, 1, 57, 182, 0, 216, 153, 0, 10, 42]
abbrev dktX7_readLine_7 : List UInt8 := dkwX7_readLine_7 ++ dktX7_readLine_8
def dkwX7_readLine_6 : List UInt8 := [182, 1, 48, 167, 0, 54, 28, 2, 159, 0, 11, 42, 28, 182, 1, 51, 167, 0, 41, 42, 18, 19]
abbrev dktX7_readLine_6 : List UInt8 := dkwX7_readLine_6 ++ dktX7_readLine_7
def dkwX7_readLine_5 : List UInt8 := [126, 153, 0, 8, 42, 8, 182, 0, 223, 29, 158, 0, 18, 42, 180, 0, 203, 154, 0, 11, 42, 29]
abbrev dktX7_readLine_5 : List UInt8 := dkwX7_readLine_5 ++ dktX7_readLine_6
def dkwX7_readLine_4 : List UInt8 := [167, 0, 4, 3, 62, 29, 4, 160, 0, 15, 42, 180, 0, 236, 153, 0, 8, 42, 7, 182, 0, 223, 29, 27]
abbrev dktX7_readLine_4 : List UInt8 := dkwX7_readLine_4 ++ dktX7_readLine_5
def dkwX7_readLine_3 : List UInt8 := [182, 0, 216, 153, 0, 8, 16, 16, 167, 0, 19, 42, 19, 1, 46, 182, 0, 216, 153, 0, 8, 16, 32]
abbrev dktX7_readLine_3 : List UInt8 := dkwX7_readLine_3 ++ dktX7_readLine_4
def dkwX7_readLine_2 : List UInt8 := [167, 0, 49, 42, 19, 1, 42, 182, 0, 216, 153, 0, 8, 16, 8, 167, 0, 34, 42, 19, 1, 44]
abbrev dktX7_readLine_2 : List UInt8 := dkwX7_readLine_2 ++ dktX7_readLine_3
def dkwX7_readLine_1 : List UInt8 := [19, 1, 39, 182, 0, 216, 153, 0, 7, 5, 167, 0, 63, 42, 19, 1, 40, 182, 0, 216, 153, 0, 7, 7]
abbrev dktX7_readLine_1 : List UInt8 := dkwX7_readLine_1 ++ dktX7_readLine_2
def dkwX7_readLine_0 : List UInt8 := [42, 42, 180, 0, 15, 182, 0, 249, 61, 42, 19, 1, 37, 182, 0, 216, 153, 0, 7, 4, 167, 0, 77, 42]
abbrev dktX7_readLine_0 : List UInt8 := dkwX7_readLine_0 ++ dktX7_readLine_1
theorem dksX7_readLine_0 : cX7_readLine.data.toList.drop 0 = dktX7_readLine_0 := by decide +kernel
theorem dksX7_readLine_1 : cX7_readLine.data.toList.drop 24 = dktX7_readLine_1 := dk_seg dksX7_readLine_0 24 rfl rfl
theorem dksX7_readLine_2 : cX7_readLine.data.toList.drop 48 = dktX7_readLine_2 := dk_seg dksX7_readLine_1 24 rfl rfl
theorem dksX7_readLine_3 : cX7_readLine.data.toList.drop 70 = dktX7_readLine_3 := dk_seg dksX7_readLine_2 22 rfl rfl
theorem dksX7_readLine_4 : cX7_readLine.data.toList.drop 93 = dktX7_readLine_4 := dk_seg dksX7_readLine_3 23 rfl rfl
theorem dksX7_readLine_5 : cX7_readLine.data.toList.drop 117 = dktX7_readLine_5 := dk_seg dksX7_readLine_4 24 rfl rfl
theorem dksX7_readLine_6 : cX7_readLine.data.toList.drop 139 = dktX7_readLine_6 := dk_seg dksX7_readLine_5 22 rfl rfl
theorem dksX7_readLine_7 : cX7_readLine.data.toList.drop 161 = dktX7_readLine_7 := dk_seg dksX7_readLine_6 22 rfl rfl
theorem dksX7_readLine_8 : cX7_readLine.data.toList.drop 185 = dktX7_readLine_8 := dk_seg dksX7_readLine_7 24 rfl rfl
theorem dX7_readLine_0 : decode cX7_readLine 0 = .ok (.aload_n 0, 1) := dk_42 (dk_at dksX7_readLine_0 0 rfl rfl)
theorem dX7_readLine_1 : decode cX7_readLine 1 = .ok (.aload_n 0, 1) := dk_42 (dk_at dksX7_readLine_0 1 rfl rfl)
theorem dX7_readLine_2 : decode cX7_readLine 2 = .ok (.getfield 15, 3) := dk_180 0 15 (dk_at dksX7_readLine_0 2 rfl rfl)
theorem dX7_readLine_5 : decode cX7_readLine 5 = .ok (.invokevirtual 249, 3) := dk_182 0 249 (dk_at dksX7_readLine_0 5 rfl rfl)
theorem dX7_readLine_8 : decode cX7_readLine 8 = .ok (.istore_n 2, 1) := dk_61 (dk_at dksX7_readLine_0 8 rfl rfl)
theorem dX7_readLine_9 : decode cX7_readLine 9 = .ok (.aload_n 0, 1) := dk_42 (dk_at dksX7_readLine_0 9 rfl rfl)
theorem dX7_readLine_10 : decode cX7_readLine 10 = .ok (.ldc_w 293, 3) := dk_19 1 37 (dk_at dksX7_readLine_0 10 rfl rfl)
theorem dX7_readLine_13 : decode cX7_readLine 13 = .ok (.invokevirtual 216, 3) := dk_182 0 216 (dk_at dksX7_readLine_0 13 rfl rfl)
theorem dX7_readLine_16 : decode cX7_readLine 16 = .ok (.ifCond .eq 7, 3) := dk_153 0 7 (dk_at dksX7_readLine_0 16 rfl rfl)
theorem dX7_readLine_19 : decode cX7_readLine 19 = .ok (.iconst 1, 1) := dk_4 (dk_at dksX7_readLine_0 19 rfl rfl)
theorem dX7_readLine_20 : decode cX7_readLine 20 = .ok (.goto 77, 3) := dk_167 0 77 (dk_at dksX7_readLine_0 20 rfl rfl)
theorem dX7_readLine_23 : decode cX7_readLine 23 = .ok (.aload_n 0, 1) := dk_42 (dk_at dksX7_readLine_0 23 rfl rfl)
theorem dX7_readLine_24 : decode cX7_readLine 24 = .ok (.ldc_w 295, 3) := dk_19 1 39 (dk_at dksX7_readLine_1 0 rfl rfl)
theorem dX7_readLine_27 : decode cX7_readLine 27 = .ok (.invokevirtual 216, 3) := dk_182 0 216 (dk_at dksX7_readLine_1 3 rfl rfl)
theorem dX7_readLine_30 : decode cX7_readLine 30 = .ok (.ifCond .eq 7, 3) := dk_153 0 7 (dk_at dksX7_readLine_1 6 rfl rfl)
theorem dX7_readLine_33 : decode cX7_readLine 33 = .ok (.iconst 2, 1) := dk_5 (dk_at dksX7_readLine_1 9 rfl rfl)
theorem dX7_readLine_34 : decode cX7_readLine 34 = .ok (.goto 63, 3) := dk_167 0 63 (dk_at dksX7_readLine_1 10 rfl rfl)
theorem dX7_readLine_37 : decode cX7_readLine 37 = .ok (.aload_n 0, 1) := dk_42 (dk_at dksX7_readLine_1 13 rfl rfl)
theorem dX7_readLine_38 : decode cX7_readLine 38 = .ok (.ldc_w 296, 3) := dk_19 1 40 (dk_at dksX7_readLine_1 14 rfl rfl)
theorem dX7_readLine_41 : decode cX7_readLine 41 = .ok (.invokevirtual 216, 3) := dk_182 0 216 (dk_at dksX7_readLine_1 17 rfl rfl)
theorem dX7_readLine_44 : decode cX7_readLine 44 = .ok (.ifCond .eq 7, 3) := dk_153 0 7 (dk_at dksX7_readLine_1 20 rfl rfl)
theorem dX7_readLine_47 : decode cX7_readLine 47 = .ok (.iconst 4, 1) := dk_7 (dk_at dksX7_readLine_1 23 rfl rfl)
theorem dX7_readLine_48 : decode cX7_readLine 48 = .ok (.goto 49, 3) := dk_167 0 49 (dk_at dksX7_readLine_2 0 rfl rfl)
theorem dX7_readLine_51 : decode cX7_readLine 51 = .ok (.aload_n 0, 1) := dk_42 (dk_at dksX7_readLine_2 3 rfl rfl)
theorem dX7_readLine_52 : decode cX7_readLine 52 = .ok (.ldc_w 298, 3) := dk_19 1 42 (dk_at dksX7_readLine_2 4 rfl rfl)
theorem dX7_readLine_55 : decode cX7_readLine 55 = .ok (.invokevirtual 216, 3) := dk_182 0 216 (dk_at dksX7_readLine_2 7 rfl rfl)
theorem dX7_readLine_58 : decode cX7_readLine 58 = .ok (.ifCond .eq 8, 3) := dk_153 0 8 (dk_at dksX7_readLine_2 10 rfl rfl)
theorem dX7_readLine_61 : decode cX7_readLine 61 = .ok (.bipush 8, 2) := dk_16 8 (dk_at dksX7_readLine_2 13 rfl rfl)
theorem dX7_readLine_63 : decode cX7_readLine 63 = .ok (.goto 34, 3) := dk_167 0 34 (dk_at dksX7_readLine_2 15 rfl rfl)
theorem dX7_readLine_66 : decode cX7_readLine 66 = .ok (.aload_n 0, 1) := dk_42 (dk_at dksX7_readLine_2 18 rfl rfl)
theorem dX7_readLine_67 : decode cX7_readLine 67 = .ok (.ldc_w 300, 3) := dk_19 1 44 (dk_at dksX7_readLine_2 19 rfl rfl)
theorem dX7_readLine_70 : decode cX7_readLine 70 = .ok (.invokevirtual 216, 3) := dk_182 0 216 (dk_at dksX7_readLine_3 0 rfl rfl)
theorem dX7_readLine_73 : decode cX7_readLine 73 = .ok (.ifCond .eq 8, 3) := dk_153 0 8 (dk_at dksX7_readLine_3 3 rfl rfl)
theorem dX7_readLine_76 : decode cX7_readLine 76 = .ok (.bipush 16, 2) := dk_16 16 (dk_at dksX7_readLine_3 6 rfl rfl)
theorem dX7_readLine_78 : decode cX7_readLine 78 = .ok (.goto 19, 3) := dk_167 0 19 (dk_at dksX7_readLine_3 8 rfl rfl)
theorem dX7_readLine_81 : decode cX7_readLine 81 = .ok (.aload_n 0, 1) := dk_42 (dk_at dksX7_readLine_3 11 rfl rfl)
theorem dX7_readLine_82 : decode cX7_readLine 82 = .ok (.ldc_w 302, 3) := dk_19 1 46 (dk_at dksX7_readLine_3 12 rfl rfl)
theorem dX7_readLine_85 : decode cX7_readLine 85 = .ok (.invokevirtual 216, 3) := dk_182 0 216 (dk_at dksX7_readLine_3 15 rfl rfl)
theorem dX7_readLine_88 : decode cX7_readLine 88 = .ok (.ifCond .eq 8, 3) := dk_153 0 8 (dk_at dksX7_readLine_3 18 rfl rfl)
theorem dX7_readLine_91 : decode cX7_readLine 91 = .ok (.bipush 32, 2) := dk_16 32 (dk_at dksX7_readLine_3 21 rfl rfl)
theorem dX7_readLine_93 : decode cX7_readLine 93 = .ok (.goto 4, 3) := dk_167 0 4 (dk_at dksX7_readLine_4 0 rfl rfl)
theorem dX7_readLine_96 : decode cX7_readLine 96 = .ok (.iconst 0, 1) := dk_3 (dk_at dksX7_readLine_4 3 rfl rfl)
theorem dX7_readLine_97 : decode cX7_readLine 97 = .ok (.istore_n 3, 1) := dk_62 (dk_at dksX7_readLine_4 4 rfl rfl)
theorem dX7_readLine_98 : decode cX7_readLine 98 = .ok (.iload_n 3, 1) := dk_29 (dk_at dksX7_readLine_4 5 rfl rfl)
theorem dX7_readLine_99 : decode cX7_readLine 99 = .ok (.iconst 1, 1) := dk_4 (dk_at dksX7_readLine_4 6 rfl rfl)
theorem dX7_readLine_100 : decode cX7_readLine 100 = .ok (.if_icmp .ne 15, 3) := dk_160 0 15 (dk_at dksX7_readLine_4 7 rfl rfl)
theorem dX7_readLine_103 : decode cX7_readLine 103 = .ok (.aload_n 0, 1) := dk_42 (dk_at dksX7_readLine_4 10 rfl rfl)
theorem dX7_readLine_104 : decode cX7_readLine 104 = .ok (.getfield 236, 3) := dk_180 0 236 (dk_at dksX7_readLine_4 11 rfl rfl)
theorem dX7_readLine_107 : decode cX7_readLine 107 = .ok (.ifCond .eq 8, 3) := dk_153 0 8 (dk_at dksX7_readLine_4 14 rfl rfl)
theorem dX7_readLine_110 : decode cX7_readLine 110 = .ok (.aload_n 0, 1) := dk_42 (dk_at dksX7_readLine_4 17 rfl rfl)
theorem dX7_readLine_111 : decode cX7_readLine 111 = .ok (.iconst 4, 1) := dk_7 (dk_at dksX7_readLine_4 18 rfl rfl)
theorem dX7_readLine_112 : decode cX7_readLine 112 = .ok (.invokevirtual 223, 3) := dk_182 0 223 (dk_at dksX7_readLine_4 19 rfl rfl)
theorem dX7_readLine_115 : decode cX7_readLine 115 = .ok (.iload_n 3, 1) := dk_29 (dk_at dksX7_readLine_4 22 rfl rfl)
theorem dX7_readLine_116 : decode cX7_readLine 116 = .ok (.iload_n 1, 1) := dk_27 (dk_at dksX7_readLine_4 23 rfl rfl)
theorem dX7_readLine_117 : decode cX7_readLine 117 = .ok (.iand, 1) := dk_126 (dk_at dksX7_readLine_5 0 rfl rfl)
theorem dX7_readLine_118 : decode cX7_readLine 118 = .ok (.ifCond .eq 8, 3) := dk_153 0 8 (dk_at dksX7_readLine_5 1 rfl rfl)
theorem dX7_readLine_121 : decode cX7_readLine 121 = .ok (.aload_n 0, 1) := dk_42 (dk_at dksX7_readLine_5 4 rfl rfl)
theorem dX7_readLine_122 : decode cX7_readLine 122 = .ok (.iconst 5, 1) := dk_8 (dk_at dksX7_readLine_5 5 rfl rfl)
theorem dX7_readLine_123 : decode cX7_readLine 123 = .ok (.invokevirtual 223, 3) := dk_182 0 223 (dk_at dksX7_readLine_5 6 rfl rfl)
theorem dX7_readLine_126 : decode cX7_readLine 126 = .ok (.iload_n 3, 1) := dk_29 (dk_at dksX7_readLine_5 9 rfl rfl)
theorem dX7_readLine_127 : decode cX7_readLine 127 = .ok (.ifCond .le 18, 3) := dk_158 0 18 (dk_at dksX7_readLine_5 10 rfl rfl)
theorem dX7_readLine_130 : decode cX7_readLine 130 = .ok (.aload_n 0, 1) := dk_42 (dk_at dksX7_readLine_5 13 rfl rfl)
theorem dX7_readLine_131 : decode cX7_readLine 131 = .ok (.getfield 203, 3) := dk_180 0 203 (dk_at dksX7_readLine_5 14 rfl rfl)
theorem dX7_readLine_134 : decode cX7_readLine 134 = .ok (.ifCond .ne 11, 3) := dk_154 0 11 (dk_at dksX7_readLine_5 17 rfl rfl)
theorem dX7_readLine_137 : decode cX7_readLine 137 = .ok (.aload_n 0, 1) := dk_42 (dk_at dksX7_readLine_5 20 rfl rfl)
theorem dX7_readLine_138 : decode cX7_readLine 138 = .ok (.iload_n 3, 1) := dk_29 (dk_at dksX7_readLine_5 21 rfl rfl)
theorem dX7_readLine_139 : decode cX7_readLine 139 = .ok (.invokevirtual 304, 3) := dk_182 1 48 (dk_at dksX7_readLine_6 0 rfl rfl)
theorem dX7_readLine_142 : decode cX7_readLine 142 = .ok (.goto 54, 3) := dk_167 0 54 (dk_at dksX7_readLine_6 3 rfl rfl)
theorem dX7_readLine_145 : decode cX7_readLine 145 = .ok (.iload_n 2, 1) := dk_28 (dk_at dksX7_readLine_6 6 rfl rfl)
theorem dX7_readLine_146 : decode cX7_readLine 146 = .ok (.iconst (-1), 1) := dk_2 (dk_at dksX7_readLine_6 7 rfl rfl)
theorem dX7_readLine_147 : decode cX7_readLine 147 = .ok (.if_icmp .eq 11, 3) := dk_159 0 11 (dk_at dksX7_readLine_6 8 rfl rfl)
theorem dX7_readLine_150 : decode cX7_readLine 150 = .ok (.aload_n 0, 1) := dk_42 (dk_at dksX7_readLine_6 11 rfl rfl)
theorem dX7_readLine_151 : decode cX7_readLine 151 = .ok (.iload_n 2, 1) := dk_28 (dk_at dksX7_readLine_6 12 rfl rfl)
theorem dX7_readLine_152 : decode cX7_readLine 152 = .ok (.invokevirtual 307, 3) := dk_182 1 51 (dk_at dksX7_readLine_6 13 rfl rfl)
theorem dX7_readLine_155 : decode cX7_readLine 155 = .ok (.goto 41, 3) := dk_167 0 41 (dk_at dksX7_readLine_6 16 rfl rfl)
theorem dX7_readLine_158 : decode cX7_readLine 158 = .ok (.aload_n 0, 1) := dk_42 (dk_at dksX7_readLine_6 19 rfl rfl)
theorem dX7_readLine_159 : decode cX7_readLine 159 = .ok (.ldc 19, 2) := dk_18 19 (dk_at dksX7_readLine_6 20 rfl rfl)
theorem dX7_readLine_161 : decode cX7_readLine 161 = .ok (.invokevirtual 216, 3) := dk_182 0 216 (dk_at dksX7_readLine_7 0 rfl rfl)
theorem dX7_readLine_164 : decode cX7_readLine 164 = .ok (.ifCond .eq 10, 3) := dk_153 0 10 (dk_at dksX7_readLine_7 3 rfl rfl)
theorem dX7_readLine_167 : decode cX7_readLine 167 = .ok (.aload_n 0, 1) := dk_42 (dk_at dksX7_readLine_7 6 rfl rfl)
theorem dX7_readLine_168 : decode cX7_readLine 168 = .ok (.invokevirtual 310, 3) := dk_182 1 54 (dk_at dksX7_readLine_7 7 rfl rfl)
theorem dX7_readLine_171 : decode cX7_readLine 171 = .ok (.goto 25, 3) := dk_167 0 25 (dk_at dksX7_readLine_7 10 rfl rfl)
theorem dX7_readLine_174 : decode cX7_readLine 174 = .ok (.aload_n 0, 1) := dk_42 (dk_at dksX7_readLine_7 13 rfl rfl)
theorem dX7_readLine_175 : decode cX7_readLine 175 = .ok (.ldc_w 313, 3) := dk_19 1 57 (dk_at dksX7_readLine_7 14 rfl rfl)
theorem dX7_readLine_178 : decode cX7_readLine 178 = .ok (.invokevirtual 216, 3) := dk_182 0 216 (dk_at dksX7_readLine_7 17 rfl rfl)
theorem dX7_readLine_181 : decode cX7_readLine 181 = .ok (.ifCond .eq 10, 3) := dk_153 0 10 (dk_at dksX7_readLine_7 20 rfl rfl)
theorem dX7_readLine_184 : decode cX7_readLine 184 = .ok (.aload_n 0, 1) := dk_42 (dk_at dksX7_readLine_7 23 rfl rfl)
theorem dX7_readLine_185 : decode cX7_readLine 185 = .ok (.invokevirtual 315, 3) := dk_182 1 59 (dk_at dksX7_readLine_8 0 rfl rfl)
theorem dX7_readLine_188 : decode cX7_readLine 188 = .ok (.goto 8, 3) := dk_167 0 8 (dk_at dksX7_readLine_8 3 rfl rfl)
theorem dX7_readLine_191 : decode cX7_readLine 191 = .ok (.aload_n 0, 1) := dk_42 (dk_at dksX7_readLine_8 6 rfl rfl)
theorem dX7_readLine_192 : decode cX7_readLine 192 = .ok (.iconst 1, 1) := dk_4 (dk_at dksX7_readLine_8 7 rfl rfl)
theorem dX7_readLine_193 : decode cX7_readLine 193 = .ok (.invokevirtual 223, 3) := dk_182 0 223 (dk_at dksX7_readLine_8 8 rfl rfl)
theorem dX7_readLine_196 : decode cX7_readLine 196 = .ok (.aload_n 0, 1) := dk_42 (dk_at dksX7_readLine_8 11 rfl rfl)
theorem dX7_readLine_197 : decode cX7_readLine 197 = .ok (.bipush 59, 2) := dk_16 59 (dk_at dksX7_readLine_8 12 rfl rfl)
theorem dX7_readLine_199 : decode cX7_readLine 199 = .ok (.invokevirtual 253, 3) := dk_182 0 253 (dk_at dksX7_readLine_8 14 rfl rfl)
theorem dX7_readLine_202 : decode cX7_readLine 202 = .ok (.iload_n 1, 1) := dk_27 (dk_at dksX7_readLine_8 17 rfl rfl)
theorem dX7_readLine_203 : decode cX7_readLine 203 = .ok (.iload_n 3, 1) := dk_29 (dk_at dksX7_readLine_8 18 rfl rfl)
theorem dX7_readLine_204 : decode cX7_readLine 204 = .ok (.ior, 1) := dk_128 (dk_at dksX7_readLine_8 19 rfl rfl)
theorem dX7_readLine_205 : decode cX7_readLine 205 = .ok (.ireturn, 1) := dk_172 (dk_at dksX7_readLine_8 20 rfl rfl)
abbrev cX7_which : ByteArray := prog_18_method_20_code
def yX7_which : MethodName := ⟨RX7, "which", "([Ljava/lang/String;)I"⟩
def dkwX7_which_1 : List UInt8 := [167, 255, 235, 2, 172]
abbrev dktX7_which_1 : List UInt8 := dkwX7_which_1 ++ []
def dkwX7_which_0 : List UInt8 := [3, 61, 28, 43, 190, 162, 0, 21, 42, 43, 28, 50, 182, 0, 216, 153, 0, 5, 28, 172, 132, 2, 1]
abbrev dktX7_which_0 : List UInt8 := dkwX7_which_0 ++ dktX7_which_1
theorem dksX7_which_0 : cX7_which.data.toList.drop 0 = dktX7_which_0 := by decide +kernel
theorem dksX7_which_1 : cX7_which.data.toList.drop 23 = dktX7_which_1 := dk_seg dksX7_which_0 23 rfl rfl
theorem dX7_which_0 : decode cX7_which 0 = .ok (.iconst 0, 1) := dk_3 (dk_at dksX7_which_0 0 rfl rfl)
theorem dX7_which_1 : decode cX7_which 1 = .ok (.istore_n 2, 1) := dk_61 (dk_at dksX7_which_0 1 rfl rfl)
theorem dX7_which_2 : decode cX7_which 2 = .ok (.iload_n 2, 1) := dk_28 (dk_at dksX7_which_0 2 rfl rfl)
theorem dX7_which_3 : decode cX7_which 3 = .ok (.aload_n 1, 1) := dk_43 (dk_at dksX7_which_0 3 rfl rfl)
theorem dX7_which_4 : decode cX7_which 4 = .ok (.arraylength, 1) := dk_190 (dk_at dksX7_which_0 4 rfl rfl)
theorem dX7_which_5 : decode cX7_which 5 = .ok (.if_icmp .ge 21, 3) := dk_162 0 21 (dk_at dksX7_which_0 5 rfl rfl)
theorem dX7_which_8 : decode cX7_which 8 = .ok (.aload_n 0, 1) := dk_42 (dk_at dksX7_which_0 8 rfl rfl)
theorem dX7_which_9 : decode cX7_which 9 = .ok (.aload_n 1, 1) := dk_43 (dk_at dksX7_which_0 9 rfl rfl)
theorem dX7_which_10 : decode cX7_which 10 = .ok (.iload_n 2, 1) := dk_28 (dk_at dksX7_which_0 10 rfl rfl)
theorem dX7_which_11 : decode cX7_which 11 = .ok (.aaload, 1) := dk_50 (dk_at dksX7_which_0 11 rfl rfl)
theorem dX7_which_12 : decode cX7_which 12 = .ok (.invokevirtual 216, 3) := dk_182 0 216 (dk_at dksX7_which_0 12 rfl rfl)
theorem dX7_which_15 : decode cX7_which 15 = .ok (.ifCond .eq 5, 3) := dk_153 0 5 (dk_at dksX7_which_0 15 rfl rfl)
theorem dX7_which_18 : decode cX7_which 18 = .ok (.iload_n 2, 1) := dk_28 (dk_at dksX7_which_0 18 rfl rfl)
theorem dX7_which_19 : decode cX7_which 19 = .ok (.ireturn, 1) := dk_172 (dk_at dksX7_which_0 19 rfl rfl)
theorem dX7_which_20 : decode cX7_which 20 = .ok (.iinc 2 1, 3) := dk_132 2 1 (dk_at dksX7_which_0 20 rfl rfl)
theorem dX7_which_23 : decode cX7_which 23 = .ok (.goto (-21), 3) := dk_167 255 235 (dk_at dksX7_which_1 0 rfl rfl)
theorem dX7_which_26 : decode cX7_which 26 = .ok (.iconst (-1), 1) := dk_2 (dk_at dksX7_which_1 3 rfl rfl)
theorem dX7_which_27 : decode cX7_which 27 = .ok (.ireturn, 1) := dk_172 (dk_at dksX7_which_1 4 rfl rfl)
abbrev cX7_is : ByteArray := prog_18_method_19_code
def yX7_is : MethodName := ⟨RX7, "is", "(Ljava/lang/String;)Z"⟩
def dkwX7_is_3 : List UInt8 := [167, 0, 4, 3, 61, 132, 3, 1, 167, 255, 216, 28, 172]
abbrev dktX7_is_3 : List UInt8 := dkwX7_is_3 ++ []
def dkwX7_is_2 : List UInt8 := [162, 0, 34, 43, 29, 182, 0, 212, 42, 180, 0, 68, 42, 180, 0, 174, 29, 96, 46, 160, 0, 7, 4]
abbrev dktX7_is_2 : List UInt8 := dkwX7_is_2 ++ dktX7_is_3
def dkwX7_is_1 : List UInt8 := [180, 0, 174, 100, 160, 0, 7, 4, 167, 0, 4, 3, 61, 3, 62, 28, 153, 0, 42, 29, 43, 182, 0, 209]
abbrev dktX7_is_1 : List UInt8 := dkwX7_is_1 ++ dktX7_is_2
def dkwX7_is_0 : List UInt8 := [42, 180, 0, 203, 154, 0, 31, 42, 180, 0, 177, 4, 160, 0, 23, 43, 182, 0, 209, 42, 180, 0, 200, 42]
abbrev dktX7_is_0 : List UInt8 := dkwX7_is_0 ++ dktX7_is_1
theorem dksX7_is_0 : cX7_is.data.toList.drop 0 = dktX7_is_0 := by decide +kernel
theorem dksX7_is_1 : cX7_is.data.toList.drop 24 = dktX7_is_1 := dk_seg dksX7_is_0 24 rfl rfl
theorem dksX7_is_2 : cX7_is.data.toList.drop 48 = dktX7_is_2 := dk_seg dksX7_is_1 24 rfl rfl
theorem dksX7_is_3 : cX7_is.data.toList.drop 71 = dktX7_is_3 := dk_seg dksX7_is_2 23 rfl rfl
theorem dX7_is_0 : decode cX7_is 0 = .ok (.aload_n 0, 1) := dk_42 (dk_at dksX7_is_0 0 rfl rfl)
theorem dX7_is_1 : decode cX7_is 1 = .ok (.getfield 203, 3) := dk_180 0 203 (dk_at dksX7_is_0 1 rfl rfl)
theorem dX7_is_4 : decode cX7_is 4 = .ok (.ifCond .ne 31, 3) := dk_154 0 31 (dk_at dksX7_is_0 4 rfl rfl)
theorem dX7_is_7 : decode cX7_is 7 = .ok (.aload_n 0, 1) := dk_42 (dk_at dksX7_is_0 7 rfl rfl)
theorem dX7_is_8 : decode cX7_is 8 = .ok (.getfield 177, 3) := dk_180 0 177 (dk_at dksX7_is_0 8 rfl rfl)
theorem dX7_is_11 : decode cX7_is 11 = .ok (.iconst 1, 1) := dk_4 (dk_at dksX7_is_0 11 rfl rfl)
theorem dX7_is_12 : decode cX7_is 12 = .ok (.if_icmp .ne 23, 3) := dk_160 0 23 (dk_at dksX7_is_0 12 rfl rfl)
theorem dX7_is_15 : decode cX7_is 15 = .ok (.aload_n 1, 1) := dk_43 (dk_at dksX7_is_0 15 rfl rfl)
theorem dX7_is_16 : decode cX7_is 16 = .ok (.invokevirtual 209, 3) := dk_182 0 209 (dk_at dksX7_is_0 16 rfl rfl)
theorem dX7_is_19 : decode cX7_is 19 = .ok (.aload_n 0, 1) := dk_42 (dk_at dksX7_is_0 19 rfl rfl)
theorem dX7_is_20 : decode cX7_is 20 = .ok (.getfield 200, 3) := dk_180 0 200 (dk_at dksX7_is_0 20 rfl rfl)
theorem dX7_is_23 : decode cX7_is 23 = .ok (.aload_n 0, 1) := dk_42 (dk_at dksX7_is_0 23 rfl rfl)
theorem dX7_is_24 : decode cX7_is 24 = .ok (.getfield 174, 3) := dk_180 0 174 (dk_at dksX7_is_1 0 rfl rfl)
theorem dX7_is_27 : decode cX7_is 27 = .ok (.isub, 1) := dk_100 (dk_at dksX7_is_1 3 rfl rfl)
theorem dX7_is_28 : decode cX7_is 28 = .ok (.if_icmp .ne 7, 3) := dk_160 0 7 (dk_at dksX7_is_1 4 rfl rfl)
theorem dX7_is_31 : decode cX7_is 31 = .ok (.iconst 1, 1) := dk_4 (dk_at dksX7_is_1 7 rfl rfl)
theorem dX7_is_32 : decode cX7_is 32 = .ok (.goto 4, 3) := dk_167 0 4 (dk_at dksX7_is_1 8 rfl rfl)
theorem dX7_is_35 : decode cX7_is 35 = .ok (.iconst 0, 1) := dk_3 (dk_at dksX7_is_1 11 rfl rfl)
theorem dX7_is_36 : decode cX7_is 36 = .ok (.istore_n 2, 1) := dk_61 (dk_at dksX7_is_1 12 rfl rfl)
theorem dX7_is_37 : decode cX7_is 37 = .ok (.iconst 0, 1) := dk_3 (dk_at dksX7_is_1 13 rfl rfl)
theorem dX7_is_38 : decode cX7_is 38 = .ok (.istore_n 3, 1) := dk_62 (dk_at dksX7_is_1 14 rfl rfl)
theorem dX7_is_39 : decode cX7_is 39 = .ok (.iload_n 2, 1) := dk_28 (dk_at dksX7_is_1 15 rfl rfl)
theorem dX7_is_40 : decode cX7_is 40 = .ok (.ifCond .eq 42, 3) := dk_153 0 42 (dk_at dksX7_is_1 16 rfl rfl)
theorem dX7_is_43 : decode cX7_is 43 = .ok (.iload_n 3, 1) := dk_29 (dk_at dksX7_is_1 19 rfl rfl)
theorem dX7_is_44 : decode cX7_is 44 = .ok (.aload_n 1, 1) := dk_43 (dk_at dksX7_is_1 20 rfl rfl)
theorem dX7_is_45 : decode cX7_is 45 = .ok (.invokevirtual 209, 3) := dk_182 0 209 (dk_at dksX7_is_1 21 rfl rfl)
theorem dX7_is_48 : decode cX7_is 48 = .ok (.if_icmp .ge 34, 3) := dk_162 0 34 (dk_at dksX7_is_2 0 rfl rfl)
theorem dX7_is_51 : decode cX7_is 51 = .ok (.aload_n 1, 1) := dk_43 (dk_at dksX7_is_2 3 rfl rfl)
theorem dX7_is_52 : decode cX7_is 52 = .ok (.iload_n 3, 1) := dk_29 (dk_at dksX7_is_2 4 rfl rfl)
theorem dX7_is_53 : decode cX7_is 53 = .ok (.invokevirtual 212, 3) := dk_182 0 212 (dk_at dksX7_is_2 5 rfl rfl)
theorem dX7_is_56 : decode cX7_is 56 = .ok (.aload_n 0, 1) := dk_42 (dk_at dksX7_is_2 8 rfl rfl)
theorem dX7_is_57 : decode cX7_is 57 = .ok (.getfield 68, 3) := dk_180 0 68 (dk_at dksX7_is_2 9 rfl rfl)
theorem dX7_is_60 : decode cX7_is 60 = .ok (.aload_n 0, 1) := dk_42 (dk_at dksX7_is_2 12 rfl rfl)
theorem dX7_is_61 : decode cX7_is 61 = .ok (.getfield 174, 3) := dk_180 0 174 (dk_at dksX7_is_2 13 rfl rfl)
theorem dX7_is_64 : decode cX7_is 64 = .ok (.iload_n 3, 1) := dk_29 (dk_at dksX7_is_2 16 rfl rfl)
theorem dX7_is_65 : decode cX7_is 65 = .ok (.iadd, 1) := dk_96 (dk_at dksX7_is_2 17 rfl rfl)
theorem dX7_is_66 : decode cX7_is 66 = .ok (.iaload, 1) := dk_46 (dk_at dksX7_is_2 18 rfl rfl)
theorem dX7_is_67 : decode cX7_is 67 = .ok (.if_icmp .ne 7, 3) := dk_160 0 7 (dk_at dksX7_is_2 19 rfl rfl)
theorem dX7_is_70 : decode cX7_is 70 = .ok (.iconst 1, 1) := dk_4 (dk_at dksX7_is_2 22 rfl rfl)
theorem dX7_is_71 : decode cX7_is 71 = .ok (.goto 4, 3) := dk_167 0 4 (dk_at dksX7_is_3 0 rfl rfl)
theorem dX7_is_74 : decode cX7_is 74 = .ok (.iconst 0, 1) := dk_3 (dk_at dksX7_is_3 3 rfl rfl)
theorem dX7_is_75 : decode cX7_is 75 = .ok (.istore_n 2, 1) := dk_61 (dk_at dksX7_is_3 4 rfl rfl)
theorem dX7_is_76 : decode cX7_is 76 = .ok (.iinc 3 1, 3) := dk_132 3 1 (dk_at dksX7_is_3 5 rfl rfl)
theorem dX7_is_79 : decode cX7_is 79 = .ok (.goto (-40), 3) := dk_167 255 216 (dk_at dksX7_is_3 8 rfl rfl)
theorem dX7_is_82 : decode cX7_is 82 = .ok (.iload_n 2, 1) := dk_28 (dk_at dksX7_is_3 11 rfl rfl)
theorem dX7_is_83 : decode cX7_is 83 = .ok (.ireturn, 1) := dk_172 (dk_at dksX7_is_3 12 rfl rfl)
abbrev cX7_wrong : ByteArray := prog_18_method_18_code
def yX7_wrong : MethodName := ⟨RX7, "wrong", "(I)V"⟩
def dkwX7_wrong_0 : List UInt8 := [42, 180, 0, 203, 153, 0, 4, 177, 42, 27, 181, 0, 203, 42, 42, 180, 0, 174, 181, 0, 206, 177]
abbrev dktX7_wrong_0 : List UInt8 := dkwX7_wrong_0 ++ []
theorem dksX7_wrong_0 : cX7_wrong.data.toList.drop 0 = dktX7_wrong_0 := by decide +kernel
theorem dX7_wrong_0 : decode cX7_wrong 0 = .ok (.aload_n 0, 1) := dk_42 (dk_at dksX7_wrong_0 0 rfl rfl)
theorem dX7_wrong_1 : decode cX7_wrong 1 = .ok (.getfield 203, 3) := dk_180 0 203 (dk_at dksX7_wrong_0 1 rfl rfl)
theorem dX7_wrong_4 : decode cX7_wrong 4 = .ok (.ifCond .eq 4, 3) := dk_153 0 4 (dk_at dksX7_wrong_0 4 rfl rfl)
theorem dX7_wrong_7 : decode cX7_wrong 7 = .ok (.return_, 1) := dk_177 (dk_at dksX7_wrong_0 7 rfl rfl)
theorem dX7_wrong_8 : decode cX7_wrong 8 = .ok (.aload_n 0, 1) := dk_42 (dk_at dksX7_wrong_0 8 rfl rfl)
theorem dX7_wrong_9 : decode cX7_wrong 9 = .ok (.iload_n 1, 1) := dk_27 (dk_at dksX7_wrong_0 9 rfl rfl)
theorem dX7_wrong_10 : decode cX7_wrong 10 = .ok (.putfield 203, 3) := dk_181 0 203 (dk_at dksX7_wrong_0 10 rfl rfl)
theorem dX7_wrong_13 : decode cX7_wrong 13 = .ok (.aload_n 0, 1) := dk_42 (dk_at dksX7_wrong_0 13 rfl rfl)
theorem dX7_wrong_14 : decode cX7_wrong 14 = .ok (.aload_n 0, 1) := dk_42 (dk_at dksX7_wrong_0 14 rfl rfl)
theorem dX7_wrong_15 : decode cX7_wrong 15 = .ok (.getfield 174, 3) := dk_180 0 174 (dk_at dksX7_wrong_0 15 rfl rfl)
theorem dX7_wrong_18 : decode cX7_wrong 18 = .ok (.putfield 206, 3) := dk_181 0 206 (dk_at dksX7_wrong_0 18 rfl rfl)
theorem dX7_wrong_21 : decode cX7_wrong 21 = .ok (.return_, 1) := dk_177 (dk_at dksX7_wrong_0 21 rfl rfl)
abbrev cX7_sayOnce : ByteArray := prog_18_method_38_code
def yX7_sayOnce : MethodName := ⟨RX7, "sayOnce", "(I)V"⟩
def dkwX7_sayOnce_4 : List UInt8 := [177]
abbrev dktX7_sayOnce_4 : List UInt8 := dkwX7_sayOnce_4 ++ []
def dkwX7_sayOnce_3 : List UInt8 := [182, 0, 243, 79, 27, 16, 8, 160, 0, 17, 42, 180, 0, 40, 16, 14, 42, 4, 16, 99, 182, 0, 243, 79]
abbrev dktX7_sayOnce_3 : List UInt8 := dkwX7_sayOnce_3 ++ dktX7_sayOnce_4
def dkwX7_sayOnce_2 : List UInt8 := [3, 16, 99, 182, 0, 243, 79, 27, 7, 160, 0, 17, 42, 180, 0, 40, 16, 13, 42, 3, 16, 20]
abbrev dktX7_sayOnce_2 : List UInt8 := dkwX7_sayOnce_2 ++ dktX7_sayOnce_3
def dkwX7_sayOnce_1 : List UInt8 := [167, 0, 4, 3, 182, 1, 33, 177, 42, 182, 0, 226, 27, 5, 160, 0, 17, 42, 180, 0, 40, 16, 12, 42]
abbrev dktX7_sayOnce_1 : List UInt8 := dkwX7_sayOnce_1 ++ dktX7_sayOnce_2
def dkwX7_sayOnce_0 : List UInt8 := [27, 4, 160, 0, 8, 42, 182, 1, 30, 177, 27, 16, 8, 164, 0, 19, 42, 27, 16, 32, 160, 0, 7, 4]
abbrev dktX7_sayOnce_0 : List UInt8 := dkwX7_sayOnce_0 ++ dktX7_sayOnce_1
theorem dksX7_sayOnce_0 : cX7_sayOnce.data.toList.drop 0 = dktX7_sayOnce_0 := by decide +kernel
theorem dksX7_sayOnce_1 : cX7_sayOnce.data.toList.drop 24 = dktX7_sayOnce_1 := dk_seg dksX7_sayOnce_0 24 rfl rfl
theorem dksX7_sayOnce_2 : cX7_sayOnce.data.toList.drop 48 = dktX7_sayOnce_2 := dk_seg dksX7_sayOnce_1 24 rfl rfl
theorem dksX7_sayOnce_3 : cX7_sayOnce.data.toList.drop 70 = dktX7_sayOnce_3 := dk_seg dksX7_sayOnce_2 22 rfl rfl
theorem dksX7_sayOnce_4 : cX7_sayOnce.data.toList.drop 94 = dktX7_sayOnce_4 := dk_seg dksX7_sayOnce_3 24 rfl rfl
theorem dX7_sayOnce_0 : decode cX7_sayOnce 0 = .ok (.iload_n 1, 1) := dk_27 (dk_at dksX7_sayOnce_0 0 rfl rfl)
theorem dX7_sayOnce_1 : decode cX7_sayOnce 1 = .ok (.iconst 1, 1) := dk_4 (dk_at dksX7_sayOnce_0 1 rfl rfl)
theorem dX7_sayOnce_2 : decode cX7_sayOnce 2 = .ok (.if_icmp .ne 8, 3) := dk_160 0 8 (dk_at dksX7_sayOnce_0 2 rfl rfl)
theorem dX7_sayOnce_5 : decode cX7_sayOnce 5 = .ok (.aload_n 0, 1) := dk_42 (dk_at dksX7_sayOnce_0 5 rfl rfl)
theorem dX7_sayOnce_6 : decode cX7_sayOnce 6 = .ok (.invokevirtual 286, 3) := dk_182 1 30 (dk_at dksX7_sayOnce_0 6 rfl rfl)
theorem dX7_sayOnce_9 : decode cX7_sayOnce 9 = .ok (.return_, 1) := dk_177 (dk_at dksX7_sayOnce_0 9 rfl rfl)
theorem dX7_sayOnce_10 : decode cX7_sayOnce 10 = .ok (.iload_n 1, 1) := dk_27 (dk_at dksX7_sayOnce_0 10 rfl rfl)
theorem dX7_sayOnce_11 : decode cX7_sayOnce 11 = .ok (.bipush 8, 2) := dk_16 8 (dk_at dksX7_sayOnce_0 11 rfl rfl)
theorem dX7_sayOnce_13 : decode cX7_sayOnce 13 = .ok (.if_icmp .le 19, 3) := dk_164 0 19 (dk_at dksX7_sayOnce_0 13 rfl rfl)
theorem dX7_sayOnce_16 : decode cX7_sayOnce 16 = .ok (.aload_n 0, 1) := dk_42 (dk_at dksX7_sayOnce_0 16 rfl rfl)
theorem dX7_sayOnce_17 : decode cX7_sayOnce 17 = .ok (.iload_n 1, 1) := dk_27 (dk_at dksX7_sayOnce_0 17 rfl rfl)
theorem dX7_sayOnce_18 : decode cX7_sayOnce 18 = .ok (.bipush 32, 2) := dk_16 32 (dk_at dksX7_sayOnce_0 18 rfl rfl)
theorem dX7_sayOnce_20 : decode cX7_sayOnce 20 = .ok (.if_icmp .ne 7, 3) := dk_160 0 7 (dk_at dksX7_sayOnce_0 20 rfl rfl)
theorem dX7_sayOnce_23 : decode cX7_sayOnce 23 = .ok (.iconst 1, 1) := dk_4 (dk_at dksX7_sayOnce_0 23 rfl rfl)
theorem dX7_sayOnce_24 : decode cX7_sayOnce 24 = .ok (.goto 4, 3) := dk_167 0 4 (dk_at dksX7_sayOnce_1 0 rfl rfl)
theorem dX7_sayOnce_27 : decode cX7_sayOnce 27 = .ok (.iconst 0, 1) := dk_3 (dk_at dksX7_sayOnce_1 3 rfl rfl)
theorem dX7_sayOnce_28 : decode cX7_sayOnce 28 = .ok (.invokevirtual 289, 3) := dk_182 1 33 (dk_at dksX7_sayOnce_1 4 rfl rfl)
theorem dX7_sayOnce_31 : decode cX7_sayOnce 31 = .ok (.return_, 1) := dk_177 (dk_at dksX7_sayOnce_1 7 rfl rfl)
theorem dX7_sayOnce_32 : decode cX7_sayOnce 32 = .ok (.aload_n 0, 1) := dk_42 (dk_at dksX7_sayOnce_1 8 rfl rfl)
theorem dX7_sayOnce_33 : decode cX7_sayOnce 33 = .ok (.invokevirtual 226, 3) := dk_182 0 226 (dk_at dksX7_sayOnce_1 9 rfl rfl)
theorem dX7_sayOnce_36 : decode cX7_sayOnce 36 = .ok (.iload_n 1, 1) := dk_27 (dk_at dksX7_sayOnce_1 12 rfl rfl)
theorem dX7_sayOnce_37 : decode cX7_sayOnce 37 = .ok (.iconst 2, 1) := dk_5 (dk_at dksX7_sayOnce_1 13 rfl rfl)
theorem dX7_sayOnce_38 : decode cX7_sayOnce 38 = .ok (.if_icmp .ne 17, 3) := dk_160 0 17 (dk_at dksX7_sayOnce_1 14 rfl rfl)
theorem dX7_sayOnce_41 : decode cX7_sayOnce 41 = .ok (.aload_n 0, 1) := dk_42 (dk_at dksX7_sayOnce_1 17 rfl rfl)
theorem dX7_sayOnce_42 : decode cX7_sayOnce 42 = .ok (.getfield 40, 3) := dk_180 0 40 (dk_at dksX7_sayOnce_1 18 rfl rfl)
theorem dX7_sayOnce_45 : decode cX7_sayOnce 45 = .ok (.bipush 12, 2) := dk_16 12 (dk_at dksX7_sayOnce_1 21 rfl rfl)
theorem dX7_sayOnce_47 : decode cX7_sayOnce 47 = .ok (.aload_n 0, 1) := dk_42 (dk_at dksX7_sayOnce_1 23 rfl rfl)
theorem dX7_sayOnce_48 : decode cX7_sayOnce 48 = .ok (.iconst 0, 1) := dk_3 (dk_at dksX7_sayOnce_2 0 rfl rfl)
theorem dX7_sayOnce_49 : decode cX7_sayOnce 49 = .ok (.bipush 99, 2) := dk_16 99 (dk_at dksX7_sayOnce_2 1 rfl rfl)
theorem dX7_sayOnce_51 : decode cX7_sayOnce 51 = .ok (.invokevirtual 243, 3) := dk_182 0 243 (dk_at dksX7_sayOnce_2 3 rfl rfl)
theorem dX7_sayOnce_54 : decode cX7_sayOnce 54 = .ok (.iastore, 1) := dk_79 (dk_at dksX7_sayOnce_2 6 rfl rfl)
theorem dX7_sayOnce_55 : decode cX7_sayOnce 55 = .ok (.iload_n 1, 1) := dk_27 (dk_at dksX7_sayOnce_2 7 rfl rfl)
theorem dX7_sayOnce_56 : decode cX7_sayOnce 56 = .ok (.iconst 4, 1) := dk_7 (dk_at dksX7_sayOnce_2 8 rfl rfl)
theorem dX7_sayOnce_57 : decode cX7_sayOnce 57 = .ok (.if_icmp .ne 17, 3) := dk_160 0 17 (dk_at dksX7_sayOnce_2 9 rfl rfl)
theorem dX7_sayOnce_60 : decode cX7_sayOnce 60 = .ok (.aload_n 0, 1) := dk_42 (dk_at dksX7_sayOnce_2 12 rfl rfl)
theorem dX7_sayOnce_61 : decode cX7_sayOnce 61 = .ok (.getfield 40, 3) := dk_180 0 40 (dk_at dksX7_sayOnce_2 13 rfl rfl)
theorem dX7_sayOnce_64 : decode cX7_sayOnce 64 = .ok (.bipush 13, 2) := dk_16 13 (dk_at dksX7_sayOnce_2 16 rfl rfl)
theorem dX7_sayOnce_66 : decode cX7_sayOnce 66 = .ok (.aload_n 0, 1) := dk_42 (dk_at dksX7_sayOnce_2 18 rfl rfl)
theorem dX7_sayOnce_67 : decode cX7_sayOnce 67 = .ok (.iconst 0, 1) := dk_3 (dk_at dksX7_sayOnce_2 19 rfl rfl)
theorem dX7_sayOnce_68 : decode cX7_sayOnce 68 = .ok (.bipush 20, 2) := dk_16 20 (dk_at dksX7_sayOnce_2 20 rfl rfl)
theorem dX7_sayOnce_70 : decode cX7_sayOnce 70 = .ok (.invokevirtual 243, 3) := dk_182 0 243 (dk_at dksX7_sayOnce_3 0 rfl rfl)
theorem dX7_sayOnce_73 : decode cX7_sayOnce 73 = .ok (.iastore, 1) := dk_79 (dk_at dksX7_sayOnce_3 3 rfl rfl)
theorem dX7_sayOnce_74 : decode cX7_sayOnce 74 = .ok (.iload_n 1, 1) := dk_27 (dk_at dksX7_sayOnce_3 4 rfl rfl)
theorem dX7_sayOnce_75 : decode cX7_sayOnce 75 = .ok (.bipush 8, 2) := dk_16 8 (dk_at dksX7_sayOnce_3 5 rfl rfl)
theorem dX7_sayOnce_77 : decode cX7_sayOnce 77 = .ok (.if_icmp .ne 17, 3) := dk_160 0 17 (dk_at dksX7_sayOnce_3 7 rfl rfl)
theorem dX7_sayOnce_80 : decode cX7_sayOnce 80 = .ok (.aload_n 0, 1) := dk_42 (dk_at dksX7_sayOnce_3 10 rfl rfl)
theorem dX7_sayOnce_81 : decode cX7_sayOnce 81 = .ok (.getfield 40, 3) := dk_180 0 40 (dk_at dksX7_sayOnce_3 11 rfl rfl)
theorem dX7_sayOnce_84 : decode cX7_sayOnce 84 = .ok (.bipush 14, 2) := dk_16 14 (dk_at dksX7_sayOnce_3 14 rfl rfl)
theorem dX7_sayOnce_86 : decode cX7_sayOnce 86 = .ok (.aload_n 0, 1) := dk_42 (dk_at dksX7_sayOnce_3 16 rfl rfl)
theorem dX7_sayOnce_87 : decode cX7_sayOnce 87 = .ok (.iconst 1, 1) := dk_4 (dk_at dksX7_sayOnce_3 17 rfl rfl)
theorem dX7_sayOnce_88 : decode cX7_sayOnce 88 = .ok (.bipush 99, 2) := dk_16 99 (dk_at dksX7_sayOnce_3 18 rfl rfl)
theorem dX7_sayOnce_90 : decode cX7_sayOnce 90 = .ok (.invokevirtual 243, 3) := dk_182 0 243 (dk_at dksX7_sayOnce_3 20 rfl rfl)
theorem dX7_sayOnce_93 : decode cX7_sayOnce 93 = .ok (.iastore, 1) := dk_79 (dk_at dksX7_sayOnce_3 23 rfl rfl)
theorem dX7_sayOnce_94 : decode cX7_sayOnce 94 = .ok (.return_, 1) := dk_177 (dk_at dksX7_sayOnce_4 0 rfl rfl)
abbrev cX7_saySky : ByteArray := prog_18_method_33_code
def yX7_saySky : MethodName := ⟨RX7, "saySky", "()V"⟩
def dkwX7_saySky_1 : List UInt8 := [42, 4, 8, 182, 0, 243, 79, 177]
abbrev dktX7_saySky_1 : List UInt8 := dkwX7_saySky_1 ++ []
def dkwX7_saySky_0 : List UInt8 := [42, 182, 0, 226, 42, 180, 0, 40, 16, 9, 42, 4, 16, 6, 182, 0, 243, 79, 42, 180, 0, 40, 16, 10]
abbrev dktX7_saySky_0 : List UInt8 := dkwX7_saySky_0 ++ dktX7_saySky_1
theorem dksX7_saySky_0 : cX7_saySky.data.toList.drop 0 = dktX7_saySky_0 := by decide +kernel
theorem dksX7_saySky_1 : cX7_saySky.data.toList.drop 24 = dktX7_saySky_1 := dk_seg dksX7_saySky_0 24 rfl rfl
theorem dX7_saySky_0 : decode cX7_saySky 0 = .ok (.aload_n 0, 1) := dk_42 (dk_at dksX7_saySky_0 0 rfl rfl)
theorem dX7_saySky_1 : decode cX7_saySky 1 = .ok (.invokevirtual 226, 3) := dk_182 0 226 (dk_at dksX7_saySky_0 1 rfl rfl)
theorem dX7_saySky_4 : decode cX7_saySky 4 = .ok (.aload_n 0, 1) := dk_42 (dk_at dksX7_saySky_0 4 rfl rfl)
theorem dX7_saySky_5 : decode cX7_saySky 5 = .ok (.getfield 40, 3) := dk_180 0 40 (dk_at dksX7_saySky_0 5 rfl rfl)
theorem dX7_saySky_8 : decode cX7_saySky 8 = .ok (.bipush 9, 2) := dk_16 9 (dk_at dksX7_saySky_0 8 rfl rfl)
theorem dX7_saySky_10 : decode cX7_saySky 10 = .ok (.aload_n 0, 1) := dk_42 (dk_at dksX7_saySky_0 10 rfl rfl)
theorem dX7_saySky_11 : decode cX7_saySky 11 = .ok (.iconst 1, 1) := dk_4 (dk_at dksX7_saySky_0 11 rfl rfl)
theorem dX7_saySky_12 : decode cX7_saySky 12 = .ok (.bipush 6, 2) := dk_16 6 (dk_at dksX7_saySky_0 12 rfl rfl)
theorem dX7_saySky_14 : decode cX7_saySky 14 = .ok (.invokevirtual 243, 3) := dk_182 0 243 (dk_at dksX7_saySky_0 14 rfl rfl)
theorem dX7_saySky_17 : decode cX7_saySky 17 = .ok (.iastore, 1) := dk_79 (dk_at dksX7_saySky_0 17 rfl rfl)
theorem dX7_saySky_18 : decode cX7_saySky 18 = .ok (.aload_n 0, 1) := dk_42 (dk_at dksX7_saySky_0 18 rfl rfl)
theorem dX7_saySky_19 : decode cX7_saySky 19 = .ok (.getfield 40, 3) := dk_180 0 40 (dk_at dksX7_saySky_0 19 rfl rfl)
theorem dX7_saySky_22 : decode cX7_saySky 22 = .ok (.bipush 10, 2) := dk_16 10 (dk_at dksX7_saySky_0 22 rfl rfl)
theorem dX7_saySky_24 : decode cX7_saySky 24 = .ok (.aload_n 0, 1) := dk_42 (dk_at dksX7_saySky_1 0 rfl rfl)
theorem dX7_saySky_25 : decode cX7_saySky 25 = .ok (.iconst 1, 1) := dk_4 (dk_at dksX7_saySky_1 1 rfl rfl)
theorem dX7_saySky_26 : decode cX7_saySky 26 = .ok (.iconst 5, 1) := dk_8 (dk_at dksX7_saySky_1 2 rfl rfl)
theorem dX7_saySky_27 : decode cX7_saySky 27 = .ok (.invokevirtual 243, 3) := dk_182 0 243 (dk_at dksX7_saySky_1 3 rfl rfl)
theorem dX7_saySky_30 : decode cX7_saySky 30 = .ok (.iastore, 1) := dk_79 (dk_at dksX7_saySky_1 6 rfl rfl)
theorem dX7_saySky_31 : decode cX7_saySky 31 = .ok (.return_, 1) := dk_177 (dk_at dksX7_saySky_1 7 rfl rfl)
abbrev cX7_readNumber : ByteArray := prog_18_method_24_code
def yX7_readNumber : MethodName := ⟨RX7, "readNumber", "(II)I"⟩
def dkwX7_readNumber_0 : List UInt8 := [42, 27, 28, 182, 0, 229, 62, 42, 180, 0, 203, 154, 0, 7, 42, 182, 0, 226, 29, 172]
abbrev dktX7_readNumber_0 : List UInt8 := dkwX7_readNumber_0 ++ []
theorem dksX7_readNumber_0 : cX7_readNumber.data.toList.drop 0 = dktX7_readNumber_0 := by decide +kernel
theorem dX7_readNumber_0 : decode cX7_readNumber 0 = .ok (.aload_n 0, 1) := dk_42 (dk_at dksX7_readNumber_0 0 rfl rfl)
theorem dX7_readNumber_1 : decode cX7_readNumber 1 = .ok (.iload_n 1, 1) := dk_27 (dk_at dksX7_readNumber_0 1 rfl rfl)
theorem dX7_readNumber_2 : decode cX7_readNumber 2 = .ok (.iload_n 2, 1) := dk_28 (dk_at dksX7_readNumber_0 2 rfl rfl)
theorem dX7_readNumber_3 : decode cX7_readNumber 3 = .ok (.invokevirtual 229, 3) := dk_182 0 229 (dk_at dksX7_readNumber_0 3 rfl rfl)
theorem dX7_readNumber_6 : decode cX7_readNumber 6 = .ok (.istore_n 3, 1) := dk_62 (dk_at dksX7_readNumber_0 6 rfl rfl)
theorem dX7_readNumber_7 : decode cX7_readNumber 7 = .ok (.aload_n 0, 1) := dk_42 (dk_at dksX7_readNumber_0 7 rfl rfl)
theorem dX7_readNumber_8 : decode cX7_readNumber 8 = .ok (.getfield 203, 3) := dk_180 0 203 (dk_at dksX7_readNumber_0 8 rfl rfl)
theorem dX7_readNumber_11 : decode cX7_readNumber 11 = .ok (.ifCond .ne 7, 3) := dk_154 0 7 (dk_at dksX7_readNumber_0 11 rfl rfl)
theorem dX7_readNumber_14 : decode cX7_readNumber 14 = .ok (.aload_n 0, 1) := dk_42 (dk_at dksX7_readNumber_0 14 rfl rfl)
theorem dX7_readNumber_15 : decode cX7_readNumber 15 = .ok (.invokevirtual 226, 3) := dk_182 0 226 (dk_at dksX7_readNumber_0 15 rfl rfl)
theorem dX7_readNumber_18 : decode cX7_readNumber 18 = .ok (.iload_n 3, 1) := dk_29 (dk_at dksX7_readNumber_0 18 rfl rfl)
theorem dX7_readNumber_19 : decode cX7_readNumber 19 = .ok (.ireturn, 1) := dk_172 (dk_at dksX7_readNumber_0 19 rfl rfl)
abbrev cX7_numberNow : ByteArray := prog_18_method_23_code
def yX7_numberNow : MethodName := ⟨RX7, "numberNow", "(II)I"⟩
def dkwX7_numberNow_3 : List UInt8 := [167, 0, 4, 3, 172]
abbrev dktX7_numberNow_3 : List UInt8 := dkwX7_numberNow_3 ++ []
def dkwX7_numberNow_2 : List UInt8 := [42, 180, 0, 187, 28, 164, 0, 8, 42, 5, 182, 0, 223, 42, 180, 0, 203, 154, 0, 10, 42, 180, 0, 187]
abbrev dktX7_numberNow_2 : List UInt8 := dkwX7_numberNow_2 ++ dktX7_numberNow_3
def dkwX7_numberNow_1 : List UInt8 := [167, 0, 37, 42, 180, 0, 200, 42, 180, 0, 174, 100, 7, 163, 0, 19, 42, 180, 0, 187, 27, 161, 0, 11]
abbrev dktX7_numberNow_1 : List UInt8 := dkwX7_numberNow_1 ++ dktX7_numberNow_2
def dkwX7_numberNow_0 : List UInt8 := [42, 180, 0, 203, 153, 0, 5, 3, 172, 42, 180, 0, 177, 5, 159, 0, 11, 42, 4, 182, 0, 223]
abbrev dktX7_numberNow_0 : List UInt8 := dkwX7_numberNow_0 ++ dktX7_numberNow_1
theorem dksX7_numberNow_0 : cX7_numberNow.data.toList.drop 0 = dktX7_numberNow_0 := by decide +kernel
theorem dksX7_numberNow_1 : cX7_numberNow.data.toList.drop 22 = dktX7_numberNow_1 := dk_seg dksX7_numberNow_0 22 rfl rfl
theorem dksX7_numberNow_2 : cX7_numberNow.data.toList.drop 46 = dktX7_numberNow_2 := dk_seg dksX7_numberNow_1 24 rfl rfl
theorem dksX7_numberNow_3 : cX7_numberNow.data.toList.drop 70 = dktX7_numberNow_3 := dk_seg dksX7_numberNow_2 24 rfl rfl
theorem dX7_numberNow_0 : decode cX7_numberNow 0 = .ok (.aload_n 0, 1) := dk_42 (dk_at dksX7_numberNow_0 0 rfl rfl)
theorem dX7_numberNow_1 : decode cX7_numberNow 1 = .ok (.getfield 203, 3) := dk_180 0 203 (dk_at dksX7_numberNow_0 1 rfl rfl)
theorem dX7_numberNow_4 : decode cX7_numberNow 4 = .ok (.ifCond .eq 5, 3) := dk_153 0 5 (dk_at dksX7_numberNow_0 4 rfl rfl)
theorem dX7_numberNow_7 : decode cX7_numberNow 7 = .ok (.iconst 0, 1) := dk_3 (dk_at dksX7_numberNow_0 7 rfl rfl)
theorem dX7_numberNow_8 : decode cX7_numberNow 8 = .ok (.ireturn, 1) := dk_172 (dk_at dksX7_numberNow_0 8 rfl rfl)
theorem dX7_numberNow_9 : decode cX7_numberNow 9 = .ok (.aload_n 0, 1) := dk_42 (dk_at dksX7_numberNow_0 9 rfl rfl)
theorem dX7_numberNow_10 : decode cX7_numberNow 10 = .ok (.getfield 177, 3) := dk_180 0 177 (dk_at dksX7_numberNow_0 10 rfl rfl)
theorem dX7_numberNow_13 : decode cX7_numberNow 13 = .ok (.iconst 2, 1) := dk_5 (dk_at dksX7_numberNow_0 13 rfl rfl)
theorem dX7_numberNow_14 : decode cX7_numberNow 14 = .ok (.if_icmp .eq 11, 3) := dk_159 0 11 (dk_at dksX7_numberNow_0 14 rfl rfl)
theorem dX7_numberNow_17 : decode cX7_numberNow 17 = .ok (.aload_n 0, 1) := dk_42 (dk_at dksX7_numberNow_0 17 rfl rfl)
theorem dX7_numberNow_18 : decode cX7_numberNow 18 = .ok (.iconst 1, 1) := dk_4 (dk_at dksX7_numberNow_0 18 rfl rfl)
theorem dX7_numberNow_19 : decode cX7_numberNow 19 = .ok (.invokevirtual 223, 3) := dk_182 0 223 (dk_at dksX7_numberNow_0 19 rfl rfl)
theorem dX7_numberNow_22 : decode cX7_numberNow 22 = .ok (.goto 37, 3) := dk_167 0 37 (dk_at dksX7_numberNow_1 0 rfl rfl)
theorem dX7_numberNow_25 : decode cX7_numberNow 25 = .ok (.aload_n 0, 1) := dk_42 (dk_at dksX7_numberNow_1 3 rfl rfl)
theorem dX7_numberNow_26 : decode cX7_numberNow 26 = .ok (.getfield 200, 3) := dk_180 0 200 (dk_at dksX7_numberNow_1 4 rfl rfl)
theorem dX7_numberNow_29 : decode cX7_numberNow 29 = .ok (.aload_n 0, 1) := dk_42 (dk_at dksX7_numberNow_1 7 rfl rfl)
theorem dX7_numberNow_30 : decode cX7_numberNow 30 = .ok (.getfield 174, 3) := dk_180 0 174 (dk_at dksX7_numberNow_1 8 rfl rfl)
theorem dX7_numberNow_33 : decode cX7_numberNow 33 = .ok (.isub, 1) := dk_100 (dk_at dksX7_numberNow_1 11 rfl rfl)
theorem dX7_numberNow_34 : decode cX7_numberNow 34 = .ok (.iconst 4, 1) := dk_7 (dk_at dksX7_numberNow_1 12 rfl rfl)
theorem dX7_numberNow_35 : decode cX7_numberNow 35 = .ok (.if_icmp .gt 19, 3) := dk_163 0 19 (dk_at dksX7_numberNow_1 13 rfl rfl)
theorem dX7_numberNow_38 : decode cX7_numberNow 38 = .ok (.aload_n 0, 1) := dk_42 (dk_at dksX7_numberNow_1 16 rfl rfl)
theorem dX7_numberNow_39 : decode cX7_numberNow 39 = .ok (.getfield 187, 3) := dk_180 0 187 (dk_at dksX7_numberNow_1 17 rfl rfl)
theorem dX7_numberNow_42 : decode cX7_numberNow 42 = .ok (.iload_n 1, 1) := dk_27 (dk_at dksX7_numberNow_1 20 rfl rfl)
theorem dX7_numberNow_43 : decode cX7_numberNow 43 = .ok (.if_icmp .lt 11, 3) := dk_161 0 11 (dk_at dksX7_numberNow_1 21 rfl rfl)
theorem dX7_numberNow_46 : decode cX7_numberNow 46 = .ok (.aload_n 0, 1) := dk_42 (dk_at dksX7_numberNow_2 0 rfl rfl)
theorem dX7_numberNow_47 : decode cX7_numberNow 47 = .ok (.getfield 187, 3) := dk_180 0 187 (dk_at dksX7_numberNow_2 1 rfl rfl)
theorem dX7_numberNow_50 : decode cX7_numberNow 50 = .ok (.iload_n 2, 1) := dk_28 (dk_at dksX7_numberNow_2 4 rfl rfl)
theorem dX7_numberNow_51 : decode cX7_numberNow 51 = .ok (.if_icmp .le 8, 3) := dk_164 0 8 (dk_at dksX7_numberNow_2 5 rfl rfl)
theorem dX7_numberNow_54 : decode cX7_numberNow 54 = .ok (.aload_n 0, 1) := dk_42 (dk_at dksX7_numberNow_2 8 rfl rfl)
theorem dX7_numberNow_55 : decode cX7_numberNow 55 = .ok (.iconst 2, 1) := dk_5 (dk_at dksX7_numberNow_2 9 rfl rfl)
theorem dX7_numberNow_56 : decode cX7_numberNow 56 = .ok (.invokevirtual 223, 3) := dk_182 0 223 (dk_at dksX7_numberNow_2 10 rfl rfl)
theorem dX7_numberNow_59 : decode cX7_numberNow 59 = .ok (.aload_n 0, 1) := dk_42 (dk_at dksX7_numberNow_2 13 rfl rfl)
theorem dX7_numberNow_60 : decode cX7_numberNow 60 = .ok (.getfield 203, 3) := dk_180 0 203 (dk_at dksX7_numberNow_2 14 rfl rfl)
theorem dX7_numberNow_63 : decode cX7_numberNow 63 = .ok (.ifCond .ne 10, 3) := dk_154 0 10 (dk_at dksX7_numberNow_2 17 rfl rfl)
theorem dX7_numberNow_66 : decode cX7_numberNow 66 = .ok (.aload_n 0, 1) := dk_42 (dk_at dksX7_numberNow_2 20 rfl rfl)
theorem dX7_numberNow_67 : decode cX7_numberNow 67 = .ok (.getfield 187, 3) := dk_180 0 187 (dk_at dksX7_numberNow_2 21 rfl rfl)
theorem dX7_numberNow_70 : decode cX7_numberNow 70 = .ok (.goto 4, 3) := dk_167 0 4 (dk_at dksX7_numberNow_3 0 rfl rfl)
theorem dX7_numberNow_73 : decode cX7_numberNow 73 = .ok (.iconst 0, 1) := dk_3 (dk_at dksX7_numberNow_3 3 rfl rfl)
theorem dX7_numberNow_74 : decode cX7_numberNow 74 = .ok (.ireturn, 1) := dk_172 (dk_at dksX7_numberNow_3 4 rfl rfl)
abbrev cX7_sayRule : ByteArray := prog_18_method_37_code
def yX7_sayRule : MethodName := ⟨RX7, "sayRule", "(Z)V"⟩
def dkwX7_sayRule_1 : List UInt8 := [180, 0, 31, 181, 0, 37, 42, 3, 182, 1, 0, 177]
abbrev dktX7_sayRule_1 : List UInt8 := dkwX7_sayRule_1 ++ []
def dkwX7_sayRule_0 : List UInt8 := [42, 182, 0, 226, 42, 27, 181, 0, 240, 42, 27, 153, 0, 10, 42, 180, 0, 34, 167, 0, 7, 42]
abbrev dktX7_sayRule_0 : List UInt8 := dkwX7_sayRule_0 ++ dktX7_sayRule_1
theorem dksX7_sayRule_0 : cX7_sayRule.data.toList.drop 0 = dktX7_sayRule_0 := by decide +kernel
theorem dksX7_sayRule_1 : cX7_sayRule.data.toList.drop 22 = dktX7_sayRule_1 := dk_seg dksX7_sayRule_0 22 rfl rfl
theorem dX7_sayRule_0 : decode cX7_sayRule 0 = .ok (.aload_n 0, 1) := dk_42 (dk_at dksX7_sayRule_0 0 rfl rfl)
theorem dX7_sayRule_1 : decode cX7_sayRule 1 = .ok (.invokevirtual 226, 3) := dk_182 0 226 (dk_at dksX7_sayRule_0 1 rfl rfl)
theorem dX7_sayRule_4 : decode cX7_sayRule 4 = .ok (.aload_n 0, 1) := dk_42 (dk_at dksX7_sayRule_0 4 rfl rfl)
theorem dX7_sayRule_5 : decode cX7_sayRule 5 = .ok (.iload_n 1, 1) := dk_27 (dk_at dksX7_sayRule_0 5 rfl rfl)
theorem dX7_sayRule_6 : decode cX7_sayRule 6 = .ok (.putfield 240, 3) := dk_181 0 240 (dk_at dksX7_sayRule_0 6 rfl rfl)
theorem dX7_sayRule_9 : decode cX7_sayRule 9 = .ok (.aload_n 0, 1) := dk_42 (dk_at dksX7_sayRule_0 9 rfl rfl)
theorem dX7_sayRule_10 : decode cX7_sayRule 10 = .ok (.iload_n 1, 1) := dk_27 (dk_at dksX7_sayRule_0 10 rfl rfl)
theorem dX7_sayRule_11 : decode cX7_sayRule 11 = .ok (.ifCond .eq 10, 3) := dk_153 0 10 (dk_at dksX7_sayRule_0 11 rfl rfl)
theorem dX7_sayRule_14 : decode cX7_sayRule 14 = .ok (.aload_n 0, 1) := dk_42 (dk_at dksX7_sayRule_0 14 rfl rfl)
theorem dX7_sayRule_15 : decode cX7_sayRule 15 = .ok (.getfield 34, 3) := dk_180 0 34 (dk_at dksX7_sayRule_0 15 rfl rfl)
theorem dX7_sayRule_18 : decode cX7_sayRule 18 = .ok (.goto 7, 3) := dk_167 0 7 (dk_at dksX7_sayRule_0 18 rfl rfl)
theorem dX7_sayRule_21 : decode cX7_sayRule 21 = .ok (.aload_n 0, 1) := dk_42 (dk_at dksX7_sayRule_0 21 rfl rfl)
theorem dX7_sayRule_22 : decode cX7_sayRule 22 = .ok (.getfield 31, 3) := dk_180 0 31 (dk_at dksX7_sayRule_1 0 rfl rfl)
theorem dX7_sayRule_25 : decode cX7_sayRule 25 = .ok (.putfield 37, 3) := dk_181 0 37 (dk_at dksX7_sayRule_1 3 rfl rfl)
theorem dX7_sayRule_28 : decode cX7_sayRule 28 = .ok (.aload_n 0, 1) := dk_42 (dk_at dksX7_sayRule_1 6 rfl rfl)
theorem dX7_sayRule_29 : decode cX7_sayRule 29 = .ok (.iconst 0, 1) := dk_3 (dk_at dksX7_sayRule_1 7 rfl rfl)
theorem dX7_sayRule_30 : decode cX7_sayRule 30 = .ok (.invokevirtual 256, 3) := dk_182 1 0 (dk_at dksX7_sayRule_1 8 rfl rfl)
theorem dX7_sayRule_33 : decode cX7_sayRule 33 = .ok (.return_, 1) := dk_177 (dk_at dksX7_sayRule_1 11 rfl rfl)
abbrev cX7_readExpression : ByteArray := prog_18_method_32_code
def yX7_readExpression : MethodName := ⟨RX7, "readExpression", "(I)V"⟩
def dkwX7_readExpression_4 : List UInt8 := [177]
abbrev dktX7_readExpression_4 : List UInt8 := dkwX7_readExpression_4 ++ []
def dkwX7_readExpression_3 : List UInt8 := [182, 0, 216, 153, 0, 21, 42, 182, 0, 226, 42, 27, 182, 1, 19, 42, 16, 229, 182, 0, 246, 167, 255, 231]
abbrev dktX7_readExpression_3 : List UInt8 := dkwX7_readExpression_3 ++ dktX7_readExpression_4
def dkwX7_readExpression_2 : List UInt8 := [167, 0, 14, 27, 16, 6, 160, 0, 8, 42, 5, 182, 0, 223, 42, 27, 182, 1, 19, 42, 19, 1, 22]
abbrev dktX7_readExpression_2 : List UInt8 := dkwX7_readExpression_2 ++ dktX7_readExpression_3
def dkwX7_readExpression_1 : List UInt8 := [42, 16, 40, 182, 0, 220, 153, 0, 7, 4, 167, 0, 4, 3, 61, 28, 154, 0, 11, 42, 4, 182, 0, 223]
abbrev dktX7_readExpression_1 : List UInt8 := dkwX7_readExpression_1 ++ dktX7_readExpression_2
def dkwX7_readExpression_0 : List UInt8 := [42, 180, 0, 203, 153, 0, 4, 177, 42, 180, 0, 177, 5, 159, 0, 20, 42, 180, 0, 177, 4, 159, 0, 12]
abbrev dktX7_readExpression_0 : List UInt8 := dkwX7_readExpression_0 ++ dktX7_readExpression_1
theorem dksX7_readExpression_0 : cX7_readExpression.data.toList.drop 0 = dktX7_readExpression_0 := by decide +kernel
theorem dksX7_readExpression_1 : cX7_readExpression.data.toList.drop 24 = dktX7_readExpression_1 := dk_seg dksX7_readExpression_0 24 rfl rfl
theorem dksX7_readExpression_2 : cX7_readExpression.data.toList.drop 48 = dktX7_readExpression_2 := dk_seg dksX7_readExpression_1 24 rfl rfl
theorem dksX7_readExpression_3 : cX7_readExpression.data.toList.drop 71 = dktX7_readExpression_3 := dk_seg dksX7_readExpression_2 23 rfl rfl
theorem dksX7_readExpression_4 : cX7_readExpression.data.toList.drop 95 = dktX7_readExpression_4 := dk_seg dksX7_readExpression_3 24 rfl rfl
theorem dX7_readExpression_0 : decode cX7_readExpression 0 = .ok (.aload_n 0, 1) := dk_42 (dk_at dksX7_readExpression_0 0 rfl rfl)
theorem dX7_readExpression_1 : decode cX7_readExpression 1 = .ok (.getfield 203, 3) := dk_180 0 203 (dk_at dksX7_readExpression_0 1 rfl rfl)
theorem dX7_readExpression_4 : decode cX7_readExpression 4 = .ok (.ifCond .eq 4, 3) := dk_153 0 4 (dk_at dksX7_readExpression_0 4 rfl rfl)
theorem dX7_readExpression_7 : decode cX7_readExpression 7 = .ok (.return_, 1) := dk_177 (dk_at dksX7_readExpression_0 7 rfl rfl)
theorem dX7_readExpression_8 : decode cX7_readExpression 8 = .ok (.aload_n 0, 1) := dk_42 (dk_at dksX7_readExpression_0 8 rfl rfl)
theorem dX7_readExpression_9 : decode cX7_readExpression 9 = .ok (.getfield 177, 3) := dk_180 0 177 (dk_at dksX7_readExpression_0 9 rfl rfl)
theorem dX7_readExpression_12 : decode cX7_readExpression 12 = .ok (.iconst 2, 1) := dk_5 (dk_at dksX7_readExpression_0 12 rfl rfl)
theorem dX7_readExpression_13 : decode cX7_readExpression 13 = .ok (.if_icmp .eq 20, 3) := dk_159 0 20 (dk_at dksX7_readExpression_0 13 rfl rfl)
theorem dX7_readExpression_16 : decode cX7_readExpression 16 = .ok (.aload_n 0, 1) := dk_42 (dk_at dksX7_readExpression_0 16 rfl rfl)
theorem dX7_readExpression_17 : decode cX7_readExpression 17 = .ok (.getfield 177, 3) := dk_180 0 177 (dk_at dksX7_readExpression_0 17 rfl rfl)
theorem dX7_readExpression_20 : decode cX7_readExpression 20 = .ok (.iconst 1, 1) := dk_4 (dk_at dksX7_readExpression_0 20 rfl rfl)
theorem dX7_readExpression_21 : decode cX7_readExpression 21 = .ok (.if_icmp .eq 12, 3) := dk_159 0 12 (dk_at dksX7_readExpression_0 21 rfl rfl)
theorem dX7_readExpression_24 : decode cX7_readExpression 24 = .ok (.aload_n 0, 1) := dk_42 (dk_at dksX7_readExpression_1 0 rfl rfl)
theorem dX7_readExpression_25 : decode cX7_readExpression 25 = .ok (.bipush 40, 2) := dk_16 40 (dk_at dksX7_readExpression_1 1 rfl rfl)
theorem dX7_readExpression_27 : decode cX7_readExpression 27 = .ok (.invokevirtual 220, 3) := dk_182 0 220 (dk_at dksX7_readExpression_1 3 rfl rfl)
theorem dX7_readExpression_30 : decode cX7_readExpression 30 = .ok (.ifCond .eq 7, 3) := dk_153 0 7 (dk_at dksX7_readExpression_1 6 rfl rfl)
theorem dX7_readExpression_33 : decode cX7_readExpression 33 = .ok (.iconst 1, 1) := dk_4 (dk_at dksX7_readExpression_1 9 rfl rfl)
theorem dX7_readExpression_34 : decode cX7_readExpression 34 = .ok (.goto 4, 3) := dk_167 0 4 (dk_at dksX7_readExpression_1 10 rfl rfl)
theorem dX7_readExpression_37 : decode cX7_readExpression 37 = .ok (.iconst 0, 1) := dk_3 (dk_at dksX7_readExpression_1 13 rfl rfl)
theorem dX7_readExpression_38 : decode cX7_readExpression 38 = .ok (.istore_n 2, 1) := dk_61 (dk_at dksX7_readExpression_1 14 rfl rfl)
theorem dX7_readExpression_39 : decode cX7_readExpression 39 = .ok (.iload_n 2, 1) := dk_28 (dk_at dksX7_readExpression_1 15 rfl rfl)
theorem dX7_readExpression_40 : decode cX7_readExpression 40 = .ok (.ifCond .ne 11, 3) := dk_154 0 11 (dk_at dksX7_readExpression_1 16 rfl rfl)
theorem dX7_readExpression_43 : decode cX7_readExpression 43 = .ok (.aload_n 0, 1) := dk_42 (dk_at dksX7_readExpression_1 19 rfl rfl)
theorem dX7_readExpression_44 : decode cX7_readExpression 44 = .ok (.iconst 1, 1) := dk_4 (dk_at dksX7_readExpression_1 20 rfl rfl)
theorem dX7_readExpression_45 : decode cX7_readExpression 45 = .ok (.invokevirtual 223, 3) := dk_182 0 223 (dk_at dksX7_readExpression_1 21 rfl rfl)
theorem dX7_readExpression_48 : decode cX7_readExpression 48 = .ok (.goto 14, 3) := dk_167 0 14 (dk_at dksX7_readExpression_2 0 rfl rfl)
theorem dX7_readExpression_51 : decode cX7_readExpression 51 = .ok (.iload_n 1, 1) := dk_27 (dk_at dksX7_readExpression_2 3 rfl rfl)
theorem dX7_readExpression_52 : decode cX7_readExpression 52 = .ok (.bipush 6, 2) := dk_16 6 (dk_at dksX7_readExpression_2 4 rfl rfl)
theorem dX7_readExpression_54 : decode cX7_readExpression 54 = .ok (.if_icmp .ne 8, 3) := dk_160 0 8 (dk_at dksX7_readExpression_2 6 rfl rfl)
theorem dX7_readExpression_57 : decode cX7_readExpression 57 = .ok (.aload_n 0, 1) := dk_42 (dk_at dksX7_readExpression_2 9 rfl rfl)
theorem dX7_readExpression_58 : decode cX7_readExpression 58 = .ok (.iconst 2, 1) := dk_5 (dk_at dksX7_readExpression_2 10 rfl rfl)
theorem dX7_readExpression_59 : decode cX7_readExpression 59 = .ok (.invokevirtual 223, 3) := dk_182 0 223 (dk_at dksX7_readExpression_2 11 rfl rfl)
theorem dX7_readExpression_62 : decode cX7_readExpression 62 = .ok (.aload_n 0, 1) := dk_42 (dk_at dksX7_readExpression_2 14 rfl rfl)
theorem dX7_readExpression_63 : decode cX7_readExpression 63 = .ok (.iload_n 1, 1) := dk_27 (dk_at dksX7_readExpression_2 15 rfl rfl)
theorem dX7_readExpression_64 : decode cX7_readExpression 64 = .ok (.invokevirtual 275, 3) := dk_182 1 19 (dk_at dksX7_readExpression_2 16 rfl rfl)
theorem dX7_readExpression_67 : decode cX7_readExpression 67 = .ok (.aload_n 0, 1) := dk_42 (dk_at dksX7_readExpression_2 19 rfl rfl)
theorem dX7_readExpression_68 : decode cX7_readExpression 68 = .ok (.ldc_w 278, 3) := dk_19 1 22 (dk_at dksX7_readExpression_2 20 rfl rfl)
theorem dX7_readExpression_71 : decode cX7_readExpression 71 = .ok (.invokevirtual 216, 3) := dk_182 0 216 (dk_at dksX7_readExpression_3 0 rfl rfl)
theorem dX7_readExpression_74 : decode cX7_readExpression 74 = .ok (.ifCond .eq 21, 3) := dk_153 0 21 (dk_at dksX7_readExpression_3 3 rfl rfl)
theorem dX7_readExpression_77 : decode cX7_readExpression 77 = .ok (.aload_n 0, 1) := dk_42 (dk_at dksX7_readExpression_3 6 rfl rfl)
theorem dX7_readExpression_78 : decode cX7_readExpression 78 = .ok (.invokevirtual 226, 3) := dk_182 0 226 (dk_at dksX7_readExpression_3 7 rfl rfl)
theorem dX7_readExpression_81 : decode cX7_readExpression 81 = .ok (.aload_n 0, 1) := dk_42 (dk_at dksX7_readExpression_3 10 rfl rfl)
theorem dX7_readExpression_82 : decode cX7_readExpression 82 = .ok (.iload_n 1, 1) := dk_27 (dk_at dksX7_readExpression_3 11 rfl rfl)
theorem dX7_readExpression_83 : decode cX7_readExpression 83 = .ok (.invokevirtual 275, 3) := dk_182 1 19 (dk_at dksX7_readExpression_3 12 rfl rfl)
theorem dX7_readExpression_86 : decode cX7_readExpression 86 = .ok (.aload_n 0, 1) := dk_42 (dk_at dksX7_readExpression_3 15 rfl rfl)
theorem dX7_readExpression_87 : decode cX7_readExpression 87 = .ok (.bipush (-27), 2) := dk_16 229 (dk_at dksX7_readExpression_3 16 rfl rfl)
theorem dX7_readExpression_89 : decode cX7_readExpression 89 = .ok (.invokevirtual 246, 3) := dk_182 0 246 (dk_at dksX7_readExpression_3 18 rfl rfl)
theorem dX7_readExpression_92 : decode cX7_readExpression 92 = .ok (.goto (-25), 3) := dk_167 255 231 (dk_at dksX7_readExpression_3 21 rfl rfl)
theorem dX7_readExpression_95 : decode cX7_readExpression 95 = .ok (.return_, 1) := dk_177 (dk_at dksX7_readExpression_4 0 rfl rfl)
abbrev cX7_isMarked : ByteArray := prog_18_method_21_code
def yX7_isMarked : MethodName := ⟨RX7, "isMarked", "(I)Z"⟩
def dkwX7_isMarked_1 : List UInt8 := [27, 160, 0, 7, 4, 167, 0, 4, 3, 172]
abbrev dktX7_isMarked_1 : List UInt8 := dkwX7_isMarked_1 ++ []
def dkwX7_isMarked_0 : List UInt8 := [42, 180, 0, 203, 154, 0, 28, 42, 180, 0, 177, 6, 160, 0, 20, 42, 180, 0, 68, 42, 180, 0, 174, 46]
abbrev dktX7_isMarked_0 : List UInt8 := dkwX7_isMarked_0 ++ dktX7_isMarked_1
theorem dksX7_isMarked_0 : cX7_isMarked.data.toList.drop 0 = dktX7_isMarked_0 := by decide +kernel
theorem dksX7_isMarked_1 : cX7_isMarked.data.toList.drop 24 = dktX7_isMarked_1 := dk_seg dksX7_isMarked_0 24 rfl rfl
theorem dX7_isMarked_0 : decode cX7_isMarked 0 = .ok (.aload_n 0, 1) := dk_42 (dk_at dksX7_isMarked_0 0 rfl rfl)
theorem dX7_isMarked_1 : decode cX7_isMarked 1 = .ok (.getfield 203, 3) := dk_180 0 203 (dk_at dksX7_isMarked_0 1 rfl rfl)
theorem dX7_isMarked_4 : decode cX7_isMarked 4 = .ok (.ifCond .ne 28, 3) := dk_154 0 28 (dk_at dksX7_isMarked_0 4 rfl rfl)
theorem dX7_isMarked_7 : decode cX7_isMarked 7 = .ok (.aload_n 0, 1) := dk_42 (dk_at dksX7_isMarked_0 7 rfl rfl)
theorem dX7_isMarked_8 : decode cX7_isMarked 8 = .ok (.getfield 177, 3) := dk_180 0 177 (dk_at dksX7_isMarked_0 8 rfl rfl)
theorem dX7_isMarked_11 : decode cX7_isMarked 11 = .ok (.iconst 3, 1) := dk_6 (dk_at dksX7_isMarked_0 11 rfl rfl)
theorem dX7_isMarked_12 : decode cX7_isMarked 12 = .ok (.if_icmp .ne 20, 3) := dk_160 0 20 (dk_at dksX7_isMarked_0 12 rfl rfl)
theorem dX7_isMarked_15 : decode cX7_isMarked 15 = .ok (.aload_n 0, 1) := dk_42 (dk_at dksX7_isMarked_0 15 rfl rfl)
theorem dX7_isMarked_16 : decode cX7_isMarked 16 = .ok (.getfield 68, 3) := dk_180 0 68 (dk_at dksX7_isMarked_0 16 rfl rfl)
theorem dX7_isMarked_19 : decode cX7_isMarked 19 = .ok (.aload_n 0, 1) := dk_42 (dk_at dksX7_isMarked_0 19 rfl rfl)
theorem dX7_isMarked_20 : decode cX7_isMarked 20 = .ok (.getfield 174, 3) := dk_180 0 174 (dk_at dksX7_isMarked_0 20 rfl rfl)
theorem dX7_isMarked_23 : decode cX7_isMarked 23 = .ok (.iaload, 1) := dk_46 (dk_at dksX7_isMarked_0 23 rfl rfl)
theorem dX7_isMarked_24 : decode cX7_isMarked 24 = .ok (.iload_n 1, 1) := dk_27 (dk_at dksX7_isMarked_1 0 rfl rfl)
theorem dX7_isMarked_25 : decode cX7_isMarked 25 = .ok (.if_icmp .ne 7, 3) := dk_160 0 7 (dk_at dksX7_isMarked_1 1 rfl rfl)
theorem dX7_isMarked_28 : decode cX7_isMarked 28 = .ok (.iconst 1, 1) := dk_4 (dk_at dksX7_isMarked_1 4 rfl rfl)
theorem dX7_isMarked_29 : decode cX7_isMarked 29 = .ok (.goto 4, 3) := dk_167 0 4 (dk_at dksX7_isMarked_1 5 rfl rfl)
theorem dX7_isMarked_32 : decode cX7_isMarked 32 = .ok (.iconst 0, 1) := dk_3 (dk_at dksX7_isMarked_1 8 rfl rfl)
theorem dX7_isMarked_33 : decode cX7_isMarked 33 = .ok (.ireturn, 1) := dk_172 (dk_at dksX7_isMarked_1 9 rfl rfl)
abbrev cX7_readAnd : ByteArray := prog_18_method_31_code
def yX7_readAnd : MethodName := ⟨RX7, "readAnd", "(I)V"⟩
def dkwX7_readAnd_1 : List UInt8 := [42, 16, 230, 182, 0, 246, 167, 255, 231, 177]
abbrev dktX7_readAnd_1 : List UInt8 := dkwX7_readAnd_1 ++ []
def dkwX7_readAnd_0 : List UInt8 := [42, 27, 182, 1, 14, 42, 19, 1, 17, 182, 0, 216, 153, 0, 21, 42, 182, 0, 226, 42, 27, 182, 1, 14]
abbrev dktX7_readAnd_0 : List UInt8 := dkwX7_readAnd_0 ++ dktX7_readAnd_1
theorem dksX7_readAnd_0 : cX7_readAnd.data.toList.drop 0 = dktX7_readAnd_0 := by decide +kernel
theorem dksX7_readAnd_1 : cX7_readAnd.data.toList.drop 24 = dktX7_readAnd_1 := dk_seg dksX7_readAnd_0 24 rfl rfl
theorem dX7_readAnd_0 : decode cX7_readAnd 0 = .ok (.aload_n 0, 1) := dk_42 (dk_at dksX7_readAnd_0 0 rfl rfl)
theorem dX7_readAnd_1 : decode cX7_readAnd 1 = .ok (.iload_n 1, 1) := dk_27 (dk_at dksX7_readAnd_0 1 rfl rfl)
theorem dX7_readAnd_2 : decode cX7_readAnd 2 = .ok (.invokevirtual 270, 3) := dk_182 1 14 (dk_at dksX7_readAnd_0 2 rfl rfl)
theorem dX7_readAnd_5 : decode cX7_readAnd 5 = .ok (.aload_n 0, 1) := dk_42 (dk_at dksX7_readAnd_0 5 rfl rfl)
theorem dX7_readAnd_6 : decode cX7_readAnd 6 = .ok (.ldc_w 273, 3) := dk_19 1 17 (dk_at dksX7_readAnd_0 6 rfl rfl)
theorem dX7_readAnd_9 : decode cX7_readAnd 9 = .ok (.invokevirtual 216, 3) := dk_182 0 216 (dk_at dksX7_readAnd_0 9 rfl rfl)
theorem dX7_readAnd_12 : decode cX7_readAnd 12 = .ok (.ifCond .eq 21, 3) := dk_153 0 21 (dk_at dksX7_readAnd_0 12 rfl rfl)
theorem dX7_readAnd_15 : decode cX7_readAnd 15 = .ok (.aload_n 0, 1) := dk_42 (dk_at dksX7_readAnd_0 15 rfl rfl)
theorem dX7_readAnd_16 : decode cX7_readAnd 16 = .ok (.invokevirtual 226, 3) := dk_182 0 226 (dk_at dksX7_readAnd_0 16 rfl rfl)
theorem dX7_readAnd_19 : decode cX7_readAnd 19 = .ok (.aload_n 0, 1) := dk_42 (dk_at dksX7_readAnd_0 19 rfl rfl)
theorem dX7_readAnd_20 : decode cX7_readAnd 20 = .ok (.iload_n 1, 1) := dk_27 (dk_at dksX7_readAnd_0 20 rfl rfl)
theorem dX7_readAnd_21 : decode cX7_readAnd 21 = .ok (.invokevirtual 270, 3) := dk_182 1 14 (dk_at dksX7_readAnd_0 21 rfl rfl)
theorem dX7_readAnd_24 : decode cX7_readAnd 24 = .ok (.aload_n 0, 1) := dk_42 (dk_at dksX7_readAnd_1 0 rfl rfl)
theorem dX7_readAnd_25 : decode cX7_readAnd 25 = .ok (.bipush (-26), 2) := dk_16 230 (dk_at dksX7_readAnd_1 1 rfl rfl)
theorem dX7_readAnd_27 : decode cX7_readAnd 27 = .ok (.invokevirtual 246, 3) := dk_182 0 246 (dk_at dksX7_readAnd_1 3 rfl rfl)
theorem dX7_readAnd_30 : decode cX7_readAnd 30 = .ok (.goto (-25), 3) := dk_167 255 231 (dk_at dksX7_readAnd_1 6 rfl rfl)
theorem dX7_readAnd_33 : decode cX7_readAnd 33 = .ok (.return_, 1) := dk_177 (dk_at dksX7_readAnd_1 9 rfl rfl)
abbrev cX7_readNot : ByteArray := prog_18_method_30_code
def yX7_readNot : MethodName := ⟨RX7, "readNot", "(I)V"⟩
def dkwX7_readNot_4 : List UInt8 := [182, 0, 246, 3, 62, 29, 28, 162, 0, 15, 42, 16, 228, 182, 0, 246, 132, 3, 1, 167, 255, 242, 177]
abbrev dktX7_readNot_4 : List UInt8 := dkwX7_readNot_4 ++ []
def dkwX7_readNot_3 : List UInt8 := [153, 0, 8, 16, 232, 167, 0, 5, 16, 231, 62, 42, 182, 0, 226, 42, 27, 182, 1, 11, 42, 29]
abbrev dktX7_readNot_3 : List UInt8 := dkwX7_readNot_3 ++ dktX7_readNot_4
def dkwX7_readNot_2 : List UInt8 := [16, 60, 182, 0, 220, 154, 0, 12, 42, 16, 61, 182, 0, 220, 153, 0, 34, 42, 16, 60, 182, 0, 220]
abbrev dktX7_readNot_2 : List UInt8 := dkwX7_readNot_2 ++ dktX7_readNot_3
def dkwX7_readNot_1 : List UInt8 := [132, 2, 1, 42, 180, 0, 203, 154, 255, 228, 42, 182, 0, 226, 167, 255, 221, 42, 27, 182, 1, 11, 42]
abbrev dktX7_readNot_1 : List UInt8 := dkwX7_readNot_1 ++ dktX7_readNot_2
def dkwX7_readNot_0 : List UInt8 := [3, 61, 42, 19, 1, 9, 182, 0, 216, 153, 0, 31, 28, 16, 6, 160, 0, 8, 42, 5, 182, 0, 223]
abbrev dktX7_readNot_0 : List UInt8 := dkwX7_readNot_0 ++ dktX7_readNot_1
theorem dksX7_readNot_0 : cX7_readNot.data.toList.drop 0 = dktX7_readNot_0 := by decide +kernel
theorem dksX7_readNot_1 : cX7_readNot.data.toList.drop 23 = dktX7_readNot_1 := dk_seg dksX7_readNot_0 23 rfl rfl
theorem dksX7_readNot_2 : cX7_readNot.data.toList.drop 46 = dktX7_readNot_2 := dk_seg dksX7_readNot_1 23 rfl rfl
theorem dksX7_readNot_3 : cX7_readNot.data.toList.drop 69 = dktX7_readNot_3 := dk_seg dksX7_readNot_2 23 rfl rfl
theorem dksX7_readNot_4 : cX7_readNot.data.toList.drop 91 = dktX7_readNot_4 := dk_seg dksX7_readNot_3 22 rfl rfl
theorem dX7_readNot_0 : decode cX7_readNot 0 = .ok (.iconst 0, 1) := dk_3 (dk_at dksX7_readNot_0 0 rfl rfl)
theorem dX7_readNot_1 : decode cX7_readNot 1 = .ok (.istore_n 2, 1) := dk_61 (dk_at dksX7_readNot_0 1 rfl rfl)
theorem dX7_readNot_2 : decode cX7_readNot 2 = .ok (.aload_n 0, 1) := dk_42 (dk_at dksX7_readNot_0 2 rfl rfl)
theorem dX7_readNot_3 : decode cX7_readNot 3 = .ok (.ldc_w 265, 3) := dk_19 1 9 (dk_at dksX7_readNot_0 3 rfl rfl)
theorem dX7_readNot_6 : decode cX7_readNot 6 = .ok (.invokevirtual 216, 3) := dk_182 0 216 (dk_at dksX7_readNot_0 6 rfl rfl)
theorem dX7_readNot_9 : decode cX7_readNot 9 = .ok (.ifCond .eq 31, 3) := dk_153 0 31 (dk_at dksX7_readNot_0 9 rfl rfl)
theorem dX7_readNot_12 : decode cX7_readNot 12 = .ok (.iload_n 2, 1) := dk_28 (dk_at dksX7_readNot_0 12 rfl rfl)
theorem dX7_readNot_13 : decode cX7_readNot 13 = .ok (.bipush 6, 2) := dk_16 6 (dk_at dksX7_readNot_0 13 rfl rfl)
theorem dX7_readNot_15 : decode cX7_readNot 15 = .ok (.if_icmp .ne 8, 3) := dk_160 0 8 (dk_at dksX7_readNot_0 15 rfl rfl)
theorem dX7_readNot_18 : decode cX7_readNot 18 = .ok (.aload_n 0, 1) := dk_42 (dk_at dksX7_readNot_0 18 rfl rfl)
theorem dX7_readNot_19 : decode cX7_readNot 19 = .ok (.iconst 2, 1) := dk_5 (dk_at dksX7_readNot_0 19 rfl rfl)
theorem dX7_readNot_20 : decode cX7_readNot 20 = .ok (.invokevirtual 223, 3) := dk_182 0 223 (dk_at dksX7_readNot_0 20 rfl rfl)
theorem dX7_readNot_23 : decode cX7_readNot 23 = .ok (.iinc 2 1, 3) := dk_132 2 1 (dk_at dksX7_readNot_1 0 rfl rfl)
theorem dX7_readNot_26 : decode cX7_readNot 26 = .ok (.aload_n 0, 1) := dk_42 (dk_at dksX7_readNot_1 3 rfl rfl)
theorem dX7_readNot_27 : decode cX7_readNot 27 = .ok (.getfield 203, 3) := dk_180 0 203 (dk_at dksX7_readNot_1 4 rfl rfl)
theorem dX7_readNot_30 : decode cX7_readNot 30 = .ok (.ifCond .ne (-28), 3) := dk_154 255 228 (dk_at dksX7_readNot_1 7 rfl rfl)
theorem dX7_readNot_33 : decode cX7_readNot 33 = .ok (.aload_n 0, 1) := dk_42 (dk_at dksX7_readNot_1 10 rfl rfl)
theorem dX7_readNot_34 : decode cX7_readNot 34 = .ok (.invokevirtual 226, 3) := dk_182 0 226 (dk_at dksX7_readNot_1 11 rfl rfl)
theorem dX7_readNot_37 : decode cX7_readNot 37 = .ok (.goto (-35), 3) := dk_167 255 221 (dk_at dksX7_readNot_1 14 rfl rfl)
theorem dX7_readNot_40 : decode cX7_readNot 40 = .ok (.aload_n 0, 1) := dk_42 (dk_at dksX7_readNot_1 17 rfl rfl)
theorem dX7_readNot_41 : decode cX7_readNot 41 = .ok (.iload_n 1, 1) := dk_27 (dk_at dksX7_readNot_1 18 rfl rfl)
theorem dX7_readNot_42 : decode cX7_readNot 42 = .ok (.invokevirtual 267, 3) := dk_182 1 11 (dk_at dksX7_readNot_1 19 rfl rfl)
theorem dX7_readNot_45 : decode cX7_readNot 45 = .ok (.aload_n 0, 1) := dk_42 (dk_at dksX7_readNot_1 22 rfl rfl)
theorem dX7_readNot_46 : decode cX7_readNot 46 = .ok (.bipush 60, 2) := dk_16 60 (dk_at dksX7_readNot_2 0 rfl rfl)
theorem dX7_readNot_48 : decode cX7_readNot 48 = .ok (.invokevirtual 220, 3) := dk_182 0 220 (dk_at dksX7_readNot_2 2 rfl rfl)
theorem dX7_readNot_51 : decode cX7_readNot 51 = .ok (.ifCond .ne 12, 3) := dk_154 0 12 (dk_at dksX7_readNot_2 5 rfl rfl)
theorem dX7_readNot_54 : decode cX7_readNot 54 = .ok (.aload_n 0, 1) := dk_42 (dk_at dksX7_readNot_2 8 rfl rfl)
theorem dX7_readNot_55 : decode cX7_readNot 55 = .ok (.bipush 61, 2) := dk_16 61 (dk_at dksX7_readNot_2 9 rfl rfl)
theorem dX7_readNot_57 : decode cX7_readNot 57 = .ok (.invokevirtual 220, 3) := dk_182 0 220 (dk_at dksX7_readNot_2 11 rfl rfl)
theorem dX7_readNot_60 : decode cX7_readNot 60 = .ok (.ifCond .eq 34, 3) := dk_153 0 34 (dk_at dksX7_readNot_2 14 rfl rfl)
theorem dX7_readNot_63 : decode cX7_readNot 63 = .ok (.aload_n 0, 1) := dk_42 (dk_at dksX7_readNot_2 17 rfl rfl)
theorem dX7_readNot_64 : decode cX7_readNot 64 = .ok (.bipush 60, 2) := dk_16 60 (dk_at dksX7_readNot_2 18 rfl rfl)
theorem dX7_readNot_66 : decode cX7_readNot 66 = .ok (.invokevirtual 220, 3) := dk_182 0 220 (dk_at dksX7_readNot_2 20 rfl rfl)
theorem dX7_readNot_69 : decode cX7_readNot 69 = .ok (.ifCond .eq 8, 3) := dk_153 0 8 (dk_at dksX7_readNot_3 0 rfl rfl)
theorem dX7_readNot_72 : decode cX7_readNot 72 = .ok (.bipush (-24), 2) := dk_16 232 (dk_at dksX7_readNot_3 3 rfl rfl)
theorem dX7_readNot_74 : decode cX7_readNot 74 = .ok (.goto 5, 3) := dk_167 0 5 (dk_at dksX7_readNot_3 5 rfl rfl)
theorem dX7_readNot_77 : decode cX7_readNot 77 = .ok (.bipush (-25), 2) := dk_16 231 (dk_at dksX7_readNot_3 8 rfl rfl)
theorem dX7_readNot_79 : decode cX7_readNot 79 = .ok (.istore_n 3, 1) := dk_62 (dk_at dksX7_readNot_3 10 rfl rfl)
theorem dX7_readNot_80 : decode cX7_readNot 80 = .ok (.aload_n 0, 1) := dk_42 (dk_at dksX7_readNot_3 11 rfl rfl)
theorem dX7_readNot_81 : decode cX7_readNot 81 = .ok (.invokevirtual 226, 3) := dk_182 0 226 (dk_at dksX7_readNot_3 12 rfl rfl)
theorem dX7_readNot_84 : decode cX7_readNot 84 = .ok (.aload_n 0, 1) := dk_42 (dk_at dksX7_readNot_3 15 rfl rfl)
theorem dX7_readNot_85 : decode cX7_readNot 85 = .ok (.iload_n 1, 1) := dk_27 (dk_at dksX7_readNot_3 16 rfl rfl)
theorem dX7_readNot_86 : decode cX7_readNot 86 = .ok (.invokevirtual 267, 3) := dk_182 1 11 (dk_at dksX7_readNot_3 17 rfl rfl)
theorem dX7_readNot_89 : decode cX7_readNot 89 = .ok (.aload_n 0, 1) := dk_42 (dk_at dksX7_readNot_3 20 rfl rfl)
theorem dX7_readNot_90 : decode cX7_readNot 90 = .ok (.iload_n 3, 1) := dk_29 (dk_at dksX7_readNot_3 21 rfl rfl)
theorem dX7_readNot_91 : decode cX7_readNot 91 = .ok (.invokevirtual 246, 3) := dk_182 0 246 (dk_at dksX7_readNot_4 0 rfl rfl)
theorem dX7_readNot_94 : decode cX7_readNot 94 = .ok (.iconst 0, 1) := dk_3 (dk_at dksX7_readNot_4 3 rfl rfl)
theorem dX7_readNot_95 : decode cX7_readNot 95 = .ok (.istore_n 3, 1) := dk_62 (dk_at dksX7_readNot_4 4 rfl rfl)
theorem dX7_readNot_96 : decode cX7_readNot 96 = .ok (.iload_n 3, 1) := dk_29 (dk_at dksX7_readNot_4 5 rfl rfl)
theorem dX7_readNot_97 : decode cX7_readNot 97 = .ok (.iload_n 2, 1) := dk_28 (dk_at dksX7_readNot_4 6 rfl rfl)
theorem dX7_readNot_98 : decode cX7_readNot 98 = .ok (.if_icmp .ge 15, 3) := dk_162 0 15 (dk_at dksX7_readNot_4 7 rfl rfl)
theorem dX7_readNot_101 : decode cX7_readNot 101 = .ok (.aload_n 0, 1) := dk_42 (dk_at dksX7_readNot_4 10 rfl rfl)
theorem dX7_readNot_102 : decode cX7_readNot 102 = .ok (.bipush (-28), 2) := dk_16 228 (dk_at dksX7_readNot_4 11 rfl rfl)
theorem dX7_readNot_104 : decode cX7_readNot 104 = .ok (.invokevirtual 246, 3) := dk_182 0 246 (dk_at dksX7_readNot_4 13 rfl rfl)
theorem dX7_readNot_107 : decode cX7_readNot 107 = .ok (.iinc 3 1, 3) := dk_132 3 1 (dk_at dksX7_readNot_4 16 rfl rfl)
theorem dX7_readNot_110 : decode cX7_readNot 110 = .ok (.goto (-14), 3) := dk_167 255 242 (dk_at dksX7_readNot_4 19 rfl rfl)
theorem dX7_readNot_113 : decode cX7_readNot 113 = .ok (.return_, 1) := dk_177 (dk_at dksX7_readNot_4 22 rfl rfl)
abbrev cX7_readSum : ByteArray := prog_18_method_29_code
def yX7_readSum : MethodName := ⟨RX7, "readSum", "(I)V"⟩
def dkwX7_readSum_2 : List UInt8 := [182, 1, 6, 42, 28, 182, 0, 246, 167, 255, 207, 177]
abbrev dktX7_readSum_2 : List UInt8 := dkwX7_readSum_2 ++ []
def dkwX7_readSum_1 : List UInt8 := [16, 43, 182, 0, 220, 153, 0, 8, 16, 236, 167, 0, 5, 16, 235, 61, 42, 182, 0, 226, 42, 27]
abbrev dktX7_readSum_1 : List UInt8 := dkwX7_readSum_1 ++ dktX7_readSum_2
def dkwX7_readSum_0 : List UInt8 := [42, 27, 182, 1, 6, 42, 16, 43, 182, 0, 220, 154, 0, 12, 42, 16, 45, 182, 0, 220, 153, 0, 37, 42]
abbrev dktX7_readSum_0 : List UInt8 := dkwX7_readSum_0 ++ dktX7_readSum_1
theorem dksX7_readSum_0 : cX7_readSum.data.toList.drop 0 = dktX7_readSum_0 := by decide +kernel
theorem dksX7_readSum_1 : cX7_readSum.data.toList.drop 24 = dktX7_readSum_1 := dk_seg dksX7_readSum_0 24 rfl rfl
theorem dksX7_readSum_2 : cX7_readSum.data.toList.drop 46 = dktX7_readSum_2 := dk_seg dksX7_readSum_1 22 rfl rfl
theorem dX7_readSum_0 : decode cX7_readSum 0 = .ok (.aload_n 0, 1) := dk_42 (dk_at dksX7_readSum_0 0 rfl rfl)
theorem dX7_readSum_1 : decode cX7_readSum 1 = .ok (.iload_n 1, 1) := dk_27 (dk_at dksX7_readSum_0 1 rfl rfl)
theorem dX7_readSum_2 : decode cX7_readSum 2 = .ok (.invokevirtual 262, 3) := dk_182 1 6 (dk_at dksX7_readSum_0 2 rfl rfl)
theorem dX7_readSum_5 : decode cX7_readSum 5 = .ok (.aload_n 0, 1) := dk_42 (dk_at dksX7_readSum_0 5 rfl rfl)
theorem dX7_readSum_6 : decode cX7_readSum 6 = .ok (.bipush 43, 2) := dk_16 43 (dk_at dksX7_readSum_0 6 rfl rfl)
theorem dX7_readSum_8 : decode cX7_readSum 8 = .ok (.invokevirtual 220, 3) := dk_182 0 220 (dk_at dksX7_readSum_0 8 rfl rfl)
theorem dX7_readSum_11 : decode cX7_readSum 11 = .ok (.ifCond .ne 12, 3) := dk_154 0 12 (dk_at dksX7_readSum_0 11 rfl rfl)
theorem dX7_readSum_14 : decode cX7_readSum 14 = .ok (.aload_n 0, 1) := dk_42 (dk_at dksX7_readSum_0 14 rfl rfl)
theorem dX7_readSum_15 : decode cX7_readSum 15 = .ok (.bipush 45, 2) := dk_16 45 (dk_at dksX7_readSum_0 15 rfl rfl)
theorem dX7_readSum_17 : decode cX7_readSum 17 = .ok (.invokevirtual 220, 3) := dk_182 0 220 (dk_at dksX7_readSum_0 17 rfl rfl)
theorem dX7_readSum_20 : decode cX7_readSum 20 = .ok (.ifCond .eq 37, 3) := dk_153 0 37 (dk_at dksX7_readSum_0 20 rfl rfl)
theorem dX7_readSum_23 : decode cX7_readSum 23 = .ok (.aload_n 0, 1) := dk_42 (dk_at dksX7_readSum_0 23 rfl rfl)
theorem dX7_readSum_24 : decode cX7_readSum 24 = .ok (.bipush 43, 2) := dk_16 43 (dk_at dksX7_readSum_1 0 rfl rfl)
theorem dX7_readSum_26 : decode cX7_readSum 26 = .ok (.invokevirtual 220, 3) := dk_182 0 220 (dk_at dksX7_readSum_1 2 rfl rfl)
theorem dX7_readSum_29 : decode cX7_readSum 29 = .ok (.ifCond .eq 8, 3) := dk_153 0 8 (dk_at dksX7_readSum_1 5 rfl rfl)
theorem dX7_readSum_32 : decode cX7_readSum 32 = .ok (.bipush (-20), 2) := dk_16 236 (dk_at dksX7_readSum_1 8 rfl rfl)
theorem dX7_readSum_34 : decode cX7_readSum 34 = .ok (.goto 5, 3) := dk_167 0 5 (dk_at dksX7_readSum_1 10 rfl rfl)
theorem dX7_readSum_37 : decode cX7_readSum 37 = .ok (.bipush (-21), 2) := dk_16 235 (dk_at dksX7_readSum_1 13 rfl rfl)
theorem dX7_readSum_39 : decode cX7_readSum 39 = .ok (.istore_n 2, 1) := dk_61 (dk_at dksX7_readSum_1 15 rfl rfl)
theorem dX7_readSum_40 : decode cX7_readSum 40 = .ok (.aload_n 0, 1) := dk_42 (dk_at dksX7_readSum_1 16 rfl rfl)
theorem dX7_readSum_41 : decode cX7_readSum 41 = .ok (.invokevirtual 226, 3) := dk_182 0 226 (dk_at dksX7_readSum_1 17 rfl rfl)
theorem dX7_readSum_44 : decode cX7_readSum 44 = .ok (.aload_n 0, 1) := dk_42 (dk_at dksX7_readSum_1 20 rfl rfl)
theorem dX7_readSum_45 : decode cX7_readSum 45 = .ok (.iload_n 1, 1) := dk_27 (dk_at dksX7_readSum_1 21 rfl rfl)
theorem dX7_readSum_46 : decode cX7_readSum 46 = .ok (.invokevirtual 262, 3) := dk_182 1 6 (dk_at dksX7_readSum_2 0 rfl rfl)
theorem dX7_readSum_49 : decode cX7_readSum 49 = .ok (.aload_n 0, 1) := dk_42 (dk_at dksX7_readSum_2 3 rfl rfl)
theorem dX7_readSum_50 : decode cX7_readSum 50 = .ok (.iload_n 2, 1) := dk_28 (dk_at dksX7_readSum_2 4 rfl rfl)
theorem dX7_readSum_51 : decode cX7_readSum 51 = .ok (.invokevirtual 246, 3) := dk_182 0 246 (dk_at dksX7_readSum_2 5 rfl rfl)
theorem dX7_readSum_54 : decode cX7_readSum 54 = .ok (.goto (-49), 3) := dk_167 255 207 (dk_at dksX7_readSum_2 8 rfl rfl)
theorem dX7_readSum_57 : decode cX7_readSum 57 = .ok (.return_, 1) := dk_177 (dk_at dksX7_readSum_2 11 rfl rfl)
abbrev cX7_readProduct : ByteArray := prog_18_method_28_code
def yX7_readProduct : MethodName := ⟨RX7, "readProduct", "(I)V"⟩
def dkwX7_readProduct_2 : List UInt8 := [182, 1, 3, 42, 28, 182, 0, 246, 167, 255, 207, 177]
abbrev dktX7_readProduct_2 : List UInt8 := dkwX7_readProduct_2 ++ []
def dkwX7_readProduct_1 : List UInt8 := [16, 42, 182, 0, 220, 153, 0, 8, 16, 234, 167, 0, 5, 16, 233, 61, 42, 182, 0, 226, 42, 27]
abbrev dktX7_readProduct_1 : List UInt8 := dkwX7_readProduct_1 ++ dktX7_readProduct_2
def dkwX7_readProduct_0 : List UInt8 := [42, 27, 182, 1, 3, 42, 16, 42, 182, 0, 220, 154, 0, 12, 42, 16, 47, 182, 0, 220, 153, 0, 37, 42]
abbrev dktX7_readProduct_0 : List UInt8 := dkwX7_readProduct_0 ++ dktX7_readProduct_1
theorem dksX7_readProduct_0 : cX7_readProduct.data.toList.drop 0 = dktX7_readProduct_0 := by decide +kernel
theorem dksX7_readProduct_1 : cX7_readProduct.data.toList.drop 24 = dktX7_readProduct_1 := dk_seg dksX7_readProduct_0 24 rfl rfl
theorem dksX7_readProduct_2 : cX7_readProduct.data.toList.drop 46 = dktX7_readProduct_2 := dk_seg dksX7_readProduct_1 22 rfl rfl
theorem dX7_readProduct_0 : decode cX7_readProduct 0 = .ok (.aload_n 0, 1) := dk_42 (dk_at dksX7_readProduct_0 0 rfl rfl)
theorem dX7_readProduct_1 : decode cX7_readProduct 1 = .ok (.iload_n 1, 1) := dk_27 (dk_at dksX7_readProduct_0 1 rfl rfl)
theorem dX7_readProduct_2 : decode cX7_readProduct 2 = .ok (.invokevirtual 259, 3) := dk_182 1 3 (dk_at dksX7_readProduct_0 2 rfl rfl)
theorem dX7_readProduct_5 : decode cX7_readProduct 5 = .ok (.aload_n 0, 1) := dk_42 (dk_at dksX7_readProduct_0 5 rfl rfl)
theorem dX7_readProduct_6 : decode cX7_readProduct 6 = .ok (.bipush 42, 2) := dk_16 42 (dk_at dksX7_readProduct_0 6 rfl rfl)
theorem dX7_readProduct_8 : decode cX7_readProduct 8 = .ok (.invokevirtual 220, 3) := dk_182 0 220 (dk_at dksX7_readProduct_0 8 rfl rfl)
theorem dX7_readProduct_11 : decode cX7_readProduct 11 = .ok (.ifCond .ne 12, 3) := dk_154 0 12 (dk_at dksX7_readProduct_0 11 rfl rfl)
theorem dX7_readProduct_14 : decode cX7_readProduct 14 = .ok (.aload_n 0, 1) := dk_42 (dk_at dksX7_readProduct_0 14 rfl rfl)
theorem dX7_readProduct_15 : decode cX7_readProduct 15 = .ok (.bipush 47, 2) := dk_16 47 (dk_at dksX7_readProduct_0 15 rfl rfl)
theorem dX7_readProduct_17 : decode cX7_readProduct 17 = .ok (.invokevirtual 220, 3) := dk_182 0 220 (dk_at dksX7_readProduct_0 17 rfl rfl)
theorem dX7_readProduct_20 : decode cX7_readProduct 20 = .ok (.ifCond .eq 37, 3) := dk_153 0 37 (dk_at dksX7_readProduct_0 20 rfl rfl)
theorem dX7_readProduct_23 : decode cX7_readProduct 23 = .ok (.aload_n 0, 1) := dk_42 (dk_at dksX7_readProduct_0 23 rfl rfl)
theorem dX7_readProduct_24 : decode cX7_readProduct 24 = .ok (.bipush 42, 2) := dk_16 42 (dk_at dksX7_readProduct_1 0 rfl rfl)
theorem dX7_readProduct_26 : decode cX7_readProduct 26 = .ok (.invokevirtual 220, 3) := dk_182 0 220 (dk_at dksX7_readProduct_1 2 rfl rfl)
theorem dX7_readProduct_29 : decode cX7_readProduct 29 = .ok (.ifCond .eq 8, 3) := dk_153 0 8 (dk_at dksX7_readProduct_1 5 rfl rfl)
theorem dX7_readProduct_32 : decode cX7_readProduct 32 = .ok (.bipush (-22), 2) := dk_16 234 (dk_at dksX7_readProduct_1 8 rfl rfl)
theorem dX7_readProduct_34 : decode cX7_readProduct 34 = .ok (.goto 5, 3) := dk_167 0 5 (dk_at dksX7_readProduct_1 10 rfl rfl)
theorem dX7_readProduct_37 : decode cX7_readProduct 37 = .ok (.bipush (-23), 2) := dk_16 233 (dk_at dksX7_readProduct_1 13 rfl rfl)
theorem dX7_readProduct_39 : decode cX7_readProduct 39 = .ok (.istore_n 2, 1) := dk_61 (dk_at dksX7_readProduct_1 15 rfl rfl)
theorem dX7_readProduct_40 : decode cX7_readProduct 40 = .ok (.aload_n 0, 1) := dk_42 (dk_at dksX7_readProduct_1 16 rfl rfl)
theorem dX7_readProduct_41 : decode cX7_readProduct 41 = .ok (.invokevirtual 226, 3) := dk_182 0 226 (dk_at dksX7_readProduct_1 17 rfl rfl)
theorem dX7_readProduct_44 : decode cX7_readProduct 44 = .ok (.aload_n 0, 1) := dk_42 (dk_at dksX7_readProduct_1 20 rfl rfl)
theorem dX7_readProduct_45 : decode cX7_readProduct 45 = .ok (.iload_n 1, 1) := dk_27 (dk_at dksX7_readProduct_1 21 rfl rfl)
theorem dX7_readProduct_46 : decode cX7_readProduct 46 = .ok (.invokevirtual 259, 3) := dk_182 1 3 (dk_at dksX7_readProduct_2 0 rfl rfl)
theorem dX7_readProduct_49 : decode cX7_readProduct 49 = .ok (.aload_n 0, 1) := dk_42 (dk_at dksX7_readProduct_2 3 rfl rfl)
theorem dX7_readProduct_50 : decode cX7_readProduct 50 = .ok (.iload_n 2, 1) := dk_28 (dk_at dksX7_readProduct_2 4 rfl rfl)
theorem dX7_readProduct_51 : decode cX7_readProduct 51 = .ok (.invokevirtual 246, 3) := dk_182 0 246 (dk_at dksX7_readProduct_2 5 rfl rfl)
theorem dX7_readProduct_54 : decode cX7_readProduct 54 = .ok (.goto (-49), 3) := dk_167 255 207 (dk_at dksX7_readProduct_2 8 rfl rfl)
theorem dX7_readProduct_57 : decode cX7_readProduct 57 = .ok (.return_, 1) := dk_177 (dk_at dksX7_readProduct_2 11 rfl rfl)
abbrev cX7_readPart : ByteArray := prog_18_method_27_code
def yX7_readPart : MethodName := ⟨RX7, "readPart", "(I)V"⟩
def dkwX7_readPart_4 : List UInt8 := [177]
abbrev dktX7_readPart_4 : List UInt8 := dkwX7_readPart_4 ++ []
def dkwX7_readPart_3 : List UInt8 := [42, 182, 0, 226, 177, 42, 16, 40, 182, 0, 253, 42, 27, 4, 96, 182, 1, 0, 42, 16, 41, 182, 0, 253]
abbrev dktX7_readPart_3 : List UInt8 := dkwX7_readPart_3 ++ dktX7_readPart_4
def dkwX7_readPart_2 : List UInt8 := [28, 2, 160, 0, 8, 42, 6, 182, 0, 223, 42, 2, 28, 100, 182, 0, 246, 42, 180, 0, 203, 154, 0, 7]
abbrev dktX7_readPart_2 : List UInt8 := dkwX7_readPart_2 ++ dktX7_readPart_3
def dkwX7_readPart_1 : List UInt8 := [182, 0, 243, 182, 0, 246, 177, 42, 180, 0, 177, 4, 160, 0, 41, 42, 42, 180, 0, 37, 182, 0, 249, 61]
abbrev dktX7_readPart_1 : List UInt8 := dkwX7_readPart_1 ++ dktX7_readPart_2
def dkwX7_readPart_0 : List UInt8 := [42, 180, 0, 203, 153, 0, 4, 177, 42, 180, 0, 177, 5, 160, 0, 16, 42, 42, 3, 17, 39, 15]
abbrev dktX7_readPart_0 : List UInt8 := dkwX7_readPart_0 ++ dktX7_readPart_1
theorem dksX7_readPart_0 : cX7_readPart.data.toList.drop 0 = dktX7_readPart_0 := by decide +kernel
theorem dksX7_readPart_1 : cX7_readPart.data.toList.drop 22 = dktX7_readPart_1 := dk_seg dksX7_readPart_0 22 rfl rfl
theorem dksX7_readPart_2 : cX7_readPart.data.toList.drop 46 = dktX7_readPart_2 := dk_seg dksX7_readPart_1 24 rfl rfl
theorem dksX7_readPart_3 : cX7_readPart.data.toList.drop 70 = dktX7_readPart_3 := dk_seg dksX7_readPart_2 24 rfl rfl
theorem dksX7_readPart_4 : cX7_readPart.data.toList.drop 94 = dktX7_readPart_4 := dk_seg dksX7_readPart_3 24 rfl rfl
theorem dX7_readPart_0 : decode cX7_readPart 0 = .ok (.aload_n 0, 1) := dk_42 (dk_at dksX7_readPart_0 0 rfl rfl)
theorem dX7_readPart_1 : decode cX7_readPart 1 = .ok (.getfield 203, 3) := dk_180 0 203 (dk_at dksX7_readPart_0 1 rfl rfl)
theorem dX7_readPart_4 : decode cX7_readPart 4 = .ok (.ifCond .eq 4, 3) := dk_153 0 4 (dk_at dksX7_readPart_0 4 rfl rfl)
theorem dX7_readPart_7 : decode cX7_readPart 7 = .ok (.return_, 1) := dk_177 (dk_at dksX7_readPart_0 7 rfl rfl)
theorem dX7_readPart_8 : decode cX7_readPart 8 = .ok (.aload_n 0, 1) := dk_42 (dk_at dksX7_readPart_0 8 rfl rfl)
theorem dX7_readPart_9 : decode cX7_readPart 9 = .ok (.getfield 177, 3) := dk_180 0 177 (dk_at dksX7_readPart_0 9 rfl rfl)
theorem dX7_readPart_12 : decode cX7_readPart 12 = .ok (.iconst 2, 1) := dk_5 (dk_at dksX7_readPart_0 12 rfl rfl)
theorem dX7_readPart_13 : decode cX7_readPart 13 = .ok (.if_icmp .ne 16, 3) := dk_160 0 16 (dk_at dksX7_readPart_0 13 rfl rfl)
theorem dX7_readPart_16 : decode cX7_readPart 16 = .ok (.aload_n 0, 1) := dk_42 (dk_at dksX7_readPart_0 16 rfl rfl)
theorem dX7_readPart_17 : decode cX7_readPart 17 = .ok (.aload_n 0, 1) := dk_42 (dk_at dksX7_readPart_0 17 rfl rfl)
theorem dX7_readPart_18 : decode cX7_readPart 18 = .ok (.iconst 0, 1) := dk_3 (dk_at dksX7_readPart_0 18 rfl rfl)
theorem dX7_readPart_19 : decode cX7_readPart 19 = .ok (.sipush 9999, 3) := dk_17 39 15 (dk_at dksX7_readPart_0 19 rfl rfl)
theorem dX7_readPart_22 : decode cX7_readPart 22 = .ok (.invokevirtual 243, 3) := dk_182 0 243 (dk_at dksX7_readPart_1 0 rfl rfl)
theorem dX7_readPart_25 : decode cX7_readPart 25 = .ok (.invokevirtual 246, 3) := dk_182 0 246 (dk_at dksX7_readPart_1 3 rfl rfl)
theorem dX7_readPart_28 : decode cX7_readPart 28 = .ok (.return_, 1) := dk_177 (dk_at dksX7_readPart_1 6 rfl rfl)
theorem dX7_readPart_29 : decode cX7_readPart 29 = .ok (.aload_n 0, 1) := dk_42 (dk_at dksX7_readPart_1 7 rfl rfl)
theorem dX7_readPart_30 : decode cX7_readPart 30 = .ok (.getfield 177, 3) := dk_180 0 177 (dk_at dksX7_readPart_1 8 rfl rfl)
theorem dX7_readPart_33 : decode cX7_readPart 33 = .ok (.iconst 1, 1) := dk_4 (dk_at dksX7_readPart_1 11 rfl rfl)
theorem dX7_readPart_34 : decode cX7_readPart 34 = .ok (.if_icmp .ne 41, 3) := dk_160 0 41 (dk_at dksX7_readPart_1 12 rfl rfl)
theorem dX7_readPart_37 : decode cX7_readPart 37 = .ok (.aload_n 0, 1) := dk_42 (dk_at dksX7_readPart_1 15 rfl rfl)
theorem dX7_readPart_38 : decode cX7_readPart 38 = .ok (.aload_n 0, 1) := dk_42 (dk_at dksX7_readPart_1 16 rfl rfl)
theorem dX7_readPart_39 : decode cX7_readPart 39 = .ok (.getfield 37, 3) := dk_180 0 37 (dk_at dksX7_readPart_1 17 rfl rfl)
theorem dX7_readPart_42 : decode cX7_readPart 42 = .ok (.invokevirtual 249, 3) := dk_182 0 249 (dk_at dksX7_readPart_1 20 rfl rfl)
theorem dX7_readPart_45 : decode cX7_readPart 45 = .ok (.istore_n 2, 1) := dk_61 (dk_at dksX7_readPart_1 23 rfl rfl)
theorem dX7_readPart_46 : decode cX7_readPart 46 = .ok (.iload_n 2, 1) := dk_28 (dk_at dksX7_readPart_2 0 rfl rfl)
theorem dX7_readPart_47 : decode cX7_readPart 47 = .ok (.iconst (-1), 1) := dk_2 (dk_at dksX7_readPart_2 1 rfl rfl)
theorem dX7_readPart_48 : decode cX7_readPart 48 = .ok (.if_icmp .ne 8, 3) := dk_160 0 8 (dk_at dksX7_readPart_2 2 rfl rfl)
theorem dX7_readPart_51 : decode cX7_readPart 51 = .ok (.aload_n 0, 1) := dk_42 (dk_at dksX7_readPart_2 5 rfl rfl)
theorem dX7_readPart_52 : decode cX7_readPart 52 = .ok (.iconst 3, 1) := dk_6 (dk_at dksX7_readPart_2 6 rfl rfl)
theorem dX7_readPart_53 : decode cX7_readPart 53 = .ok (.invokevirtual 223, 3) := dk_182 0 223 (dk_at dksX7_readPart_2 7 rfl rfl)
theorem dX7_readPart_56 : decode cX7_readPart 56 = .ok (.aload_n 0, 1) := dk_42 (dk_at dksX7_readPart_2 10 rfl rfl)
theorem dX7_readPart_57 : decode cX7_readPart 57 = .ok (.iconst (-1), 1) := dk_2 (dk_at dksX7_readPart_2 11 rfl rfl)
theorem dX7_readPart_58 : decode cX7_readPart 58 = .ok (.iload_n 2, 1) := dk_28 (dk_at dksX7_readPart_2 12 rfl rfl)
theorem dX7_readPart_59 : decode cX7_readPart 59 = .ok (.isub, 1) := dk_100 (dk_at dksX7_readPart_2 13 rfl rfl)
theorem dX7_readPart_60 : decode cX7_readPart 60 = .ok (.invokevirtual 246, 3) := dk_182 0 246 (dk_at dksX7_readPart_2 14 rfl rfl)
theorem dX7_readPart_63 : decode cX7_readPart 63 = .ok (.aload_n 0, 1) := dk_42 (dk_at dksX7_readPart_2 17 rfl rfl)
theorem dX7_readPart_64 : decode cX7_readPart 64 = .ok (.getfield 203, 3) := dk_180 0 203 (dk_at dksX7_readPart_2 18 rfl rfl)
theorem dX7_readPart_67 : decode cX7_readPart 67 = .ok (.ifCond .ne 7, 3) := dk_154 0 7 (dk_at dksX7_readPart_2 21 rfl rfl)
theorem dX7_readPart_70 : decode cX7_readPart 70 = .ok (.aload_n 0, 1) := dk_42 (dk_at dksX7_readPart_3 0 rfl rfl)
theorem dX7_readPart_71 : decode cX7_readPart 71 = .ok (.invokevirtual 226, 3) := dk_182 0 226 (dk_at dksX7_readPart_3 1 rfl rfl)
theorem dX7_readPart_74 : decode cX7_readPart 74 = .ok (.return_, 1) := dk_177 (dk_at dksX7_readPart_3 4 rfl rfl)
theorem dX7_readPart_75 : decode cX7_readPart 75 = .ok (.aload_n 0, 1) := dk_42 (dk_at dksX7_readPart_3 5 rfl rfl)
theorem dX7_readPart_76 : decode cX7_readPart 76 = .ok (.bipush 40, 2) := dk_16 40 (dk_at dksX7_readPart_3 6 rfl rfl)
theorem dX7_readPart_78 : decode cX7_readPart 78 = .ok (.invokevirtual 253, 3) := dk_182 0 253 (dk_at dksX7_readPart_3 8 rfl rfl)
theorem dX7_readPart_81 : decode cX7_readPart 81 = .ok (.aload_n 0, 1) := dk_42 (dk_at dksX7_readPart_3 11 rfl rfl)
theorem dX7_readPart_82 : decode cX7_readPart 82 = .ok (.iload_n 1, 1) := dk_27 (dk_at dksX7_readPart_3 12 rfl rfl)
theorem dX7_readPart_83 : decode cX7_readPart 83 = .ok (.iconst 1, 1) := dk_4 (dk_at dksX7_readPart_3 13 rfl rfl)
theorem dX7_readPart_84 : decode cX7_readPart 84 = .ok (.iadd, 1) := dk_96 (dk_at dksX7_readPart_3 14 rfl rfl)
theorem dX7_readPart_85 : decode cX7_readPart 85 = .ok (.invokevirtual 256, 3) := dk_182 1 0 (dk_at dksX7_readPart_3 15 rfl rfl)
theorem dX7_readPart_88 : decode cX7_readPart 88 = .ok (.aload_n 0, 1) := dk_42 (dk_at dksX7_readPart_3 18 rfl rfl)
theorem dX7_readPart_89 : decode cX7_readPart 89 = .ok (.bipush 41, 2) := dk_16 41 (dk_at dksX7_readPart_3 19 rfl rfl)
theorem dX7_readPart_91 : decode cX7_readPart 91 = .ok (.invokevirtual 253, 3) := dk_182 0 253 (dk_at dksX7_readPart_3 21 rfl rfl)
theorem dX7_readPart_94 : decode cX7_readPart 94 = .ok (.return_, 1) := dk_177 (dk_at dksX7_readPart_4 0 rfl rfl)
abbrev cX7_lay : ByteArray := prog_18_method_26_code
def yX7_lay : MethodName := ⟨RX7, "lay", "(I)V"⟩
def dkwX7_lay_2 : List UInt8 := [17, 2, 188, 42, 180, 0, 40, 28, 46, 96, 27, 79, 42, 180, 0, 40, 28, 92, 46, 4, 96, 79, 177]
abbrev dktX7_lay_2 : List UInt8 := dkwX7_lay_2 ++ []
def dkwX7_lay_1 : List UInt8 := [96, 61, 42, 180, 0, 240, 153, 0, 10, 42, 180, 0, 59, 167, 0, 7, 42, 180, 0, 56, 78, 45]
abbrev dktX7_lay_1 : List UInt8 := dkwX7_lay_1 ++ dktX7_lay_2
def dkwX7_lay_0 : List UInt8 := [42, 180, 0, 203, 153, 0, 4, 177, 16, 9, 42, 180, 0, 240, 153, 0, 8, 16, 7, 167, 0, 5, 16, 6]
abbrev dktX7_lay_0 : List UInt8 := dkwX7_lay_0 ++ dktX7_lay_1
theorem dksX7_lay_0 : cX7_lay.data.toList.drop 0 = dktX7_lay_0 := by decide +kernel
theorem dksX7_lay_1 : cX7_lay.data.toList.drop 24 = dktX7_lay_1 := dk_seg dksX7_lay_0 24 rfl rfl
theorem dksX7_lay_2 : cX7_lay.data.toList.drop 46 = dktX7_lay_2 := dk_seg dksX7_lay_1 22 rfl rfl
theorem dX7_lay_0 : decode cX7_lay 0 = .ok (.aload_n 0, 1) := dk_42 (dk_at dksX7_lay_0 0 rfl rfl)
theorem dX7_lay_1 : decode cX7_lay 1 = .ok (.getfield 203, 3) := dk_180 0 203 (dk_at dksX7_lay_0 1 rfl rfl)
theorem dX7_lay_4 : decode cX7_lay 4 = .ok (.ifCond .eq 4, 3) := dk_153 0 4 (dk_at dksX7_lay_0 4 rfl rfl)
theorem dX7_lay_7 : decode cX7_lay 7 = .ok (.return_, 1) := dk_177 (dk_at dksX7_lay_0 7 rfl rfl)
theorem dX7_lay_8 : decode cX7_lay 8 = .ok (.bipush 9, 2) := dk_16 9 (dk_at dksX7_lay_0 8 rfl rfl)
theorem dX7_lay_10 : decode cX7_lay 10 = .ok (.aload_n 0, 1) := dk_42 (dk_at dksX7_lay_0 10 rfl rfl)
theorem dX7_lay_11 : decode cX7_lay 11 = .ok (.getfield 240, 3) := dk_180 0 240 (dk_at dksX7_lay_0 11 rfl rfl)
theorem dX7_lay_14 : decode cX7_lay 14 = .ok (.ifCond .eq 8, 3) := dk_153 0 8 (dk_at dksX7_lay_0 14 rfl rfl)
theorem dX7_lay_17 : decode cX7_lay 17 = .ok (.bipush 7, 2) := dk_16 7 (dk_at dksX7_lay_0 17 rfl rfl)
theorem dX7_lay_19 : decode cX7_lay 19 = .ok (.goto 5, 3) := dk_167 0 5 (dk_at dksX7_lay_0 19 rfl rfl)
theorem dX7_lay_22 : decode cX7_lay 22 = .ok (.bipush 6, 2) := dk_16 6 (dk_at dksX7_lay_0 22 rfl rfl)
theorem dX7_lay_24 : decode cX7_lay 24 = .ok (.iadd, 1) := dk_96 (dk_at dksX7_lay_1 0 rfl rfl)
theorem dX7_lay_25 : decode cX7_lay 25 = .ok (.istore_n 2, 1) := dk_61 (dk_at dksX7_lay_1 1 rfl rfl)
theorem dX7_lay_26 : decode cX7_lay 26 = .ok (.aload_n 0, 1) := dk_42 (dk_at dksX7_lay_1 2 rfl rfl)
theorem dX7_lay_27 : decode cX7_lay 27 = .ok (.getfield 240, 3) := dk_180 0 240 (dk_at dksX7_lay_1 3 rfl rfl)
theorem dX7_lay_30 : decode cX7_lay 30 = .ok (.ifCond .eq 10, 3) := dk_153 0 10 (dk_at dksX7_lay_1 6 rfl rfl)
theorem dX7_lay_33 : decode cX7_lay 33 = .ok (.aload_n 0, 1) := dk_42 (dk_at dksX7_lay_1 9 rfl rfl)
theorem dX7_lay_34 : decode cX7_lay 34 = .ok (.getfield 59, 3) := dk_180 0 59 (dk_at dksX7_lay_1 10 rfl rfl)
theorem dX7_lay_37 : decode cX7_lay 37 = .ok (.goto 7, 3) := dk_167 0 7 (dk_at dksX7_lay_1 13 rfl rfl)
theorem dX7_lay_40 : decode cX7_lay 40 = .ok (.aload_n 0, 1) := dk_42 (dk_at dksX7_lay_1 16 rfl rfl)
theorem dX7_lay_41 : decode cX7_lay 41 = .ok (.getfield 56, 3) := dk_180 0 56 (dk_at dksX7_lay_1 17 rfl rfl)
theorem dX7_lay_44 : decode cX7_lay 44 = .ok (.astore_n 3, 1) := dk_78 (dk_at dksX7_lay_1 20 rfl rfl)
theorem dX7_lay_45 : decode cX7_lay 45 = .ok (.aload_n 3, 1) := dk_45 (dk_at dksX7_lay_1 21 rfl rfl)
theorem dX7_lay_46 : decode cX7_lay 46 = .ok (.sipush 700, 3) := dk_17 2 188 (dk_at dksX7_lay_2 0 rfl rfl)
theorem dX7_lay_49 : decode cX7_lay 49 = .ok (.aload_n 0, 1) := dk_42 (dk_at dksX7_lay_2 3 rfl rfl)
theorem dX7_lay_50 : decode cX7_lay 50 = .ok (.getfield 40, 3) := dk_180 0 40 (dk_at dksX7_lay_2 4 rfl rfl)
theorem dX7_lay_53 : decode cX7_lay 53 = .ok (.iload_n 2, 1) := dk_28 (dk_at dksX7_lay_2 7 rfl rfl)
theorem dX7_lay_54 : decode cX7_lay 54 = .ok (.iaload, 1) := dk_46 (dk_at dksX7_lay_2 8 rfl rfl)
theorem dX7_lay_55 : decode cX7_lay 55 = .ok (.iadd, 1) := dk_96 (dk_at dksX7_lay_2 9 rfl rfl)
theorem dX7_lay_56 : decode cX7_lay 56 = .ok (.iload_n 1, 1) := dk_27 (dk_at dksX7_lay_2 10 rfl rfl)
theorem dX7_lay_57 : decode cX7_lay 57 = .ok (.iastore, 1) := dk_79 (dk_at dksX7_lay_2 11 rfl rfl)
theorem dX7_lay_58 : decode cX7_lay 58 = .ok (.aload_n 0, 1) := dk_42 (dk_at dksX7_lay_2 12 rfl rfl)
theorem dX7_lay_59 : decode cX7_lay 59 = .ok (.getfield 40, 3) := dk_180 0 40 (dk_at dksX7_lay_2 13 rfl rfl)
theorem dX7_lay_62 : decode cX7_lay 62 = .ok (.iload_n 2, 1) := dk_28 (dk_at dksX7_lay_2 16 rfl rfl)
theorem dX7_lay_63 : decode cX7_lay 63 = .ok (.dup2, 1) := dk_92 (dk_at dksX7_lay_2 17 rfl rfl)
theorem dX7_lay_64 : decode cX7_lay 64 = .ok (.iaload, 1) := dk_46 (dk_at dksX7_lay_2 18 rfl rfl)
theorem dX7_lay_65 : decode cX7_lay 65 = .ok (.iconst 1, 1) := dk_4 (dk_at dksX7_lay_2 19 rfl rfl)
theorem dX7_lay_66 : decode cX7_lay 66 = .ok (.iadd, 1) := dk_96 (dk_at dksX7_lay_2 20 rfl rfl)
theorem dX7_lay_67 : decode cX7_lay 67 = .ok (.iastore, 1) := dk_79 (dk_at dksX7_lay_2 21 rfl rfl)
theorem dX7_lay_68 : decode cX7_lay 68 = .ok (.return_, 1) := dk_177 (dk_at dksX7_lay_2 22 rfl rfl)
abbrev cX7_mark : ByteArray := prog_18_method_22_code
def yX7_mark : MethodName := ⟨RX7, "mark", "(I)V"⟩
def dkwX7_mark_1 : List UInt8 := [154, 0, 7, 42, 182, 0, 226, 177]
abbrev dktX7_mark_1 : List UInt8 := dkwX7_mark_1 ++ []
def dkwX7_mark_0 : List UInt8 := [42, 180, 0, 203, 154, 0, 16, 42, 27, 182, 0, 220, 154, 0, 8, 42, 4, 182, 0, 223, 42, 180, 0, 203]
abbrev dktX7_mark_0 : List UInt8 := dkwX7_mark_0 ++ dktX7_mark_1
theorem dksX7_mark_0 : cX7_mark.data.toList.drop 0 = dktX7_mark_0 := by decide +kernel
theorem dksX7_mark_1 : cX7_mark.data.toList.drop 24 = dktX7_mark_1 := dk_seg dksX7_mark_0 24 rfl rfl
theorem dX7_mark_0 : decode cX7_mark 0 = .ok (.aload_n 0, 1) := dk_42 (dk_at dksX7_mark_0 0 rfl rfl)
theorem dX7_mark_1 : decode cX7_mark 1 = .ok (.getfield 203, 3) := dk_180 0 203 (dk_at dksX7_mark_0 1 rfl rfl)
theorem dX7_mark_4 : decode cX7_mark 4 = .ok (.ifCond .ne 16, 3) := dk_154 0 16 (dk_at dksX7_mark_0 4 rfl rfl)
theorem dX7_mark_7 : decode cX7_mark 7 = .ok (.aload_n 0, 1) := dk_42 (dk_at dksX7_mark_0 7 rfl rfl)
theorem dX7_mark_8 : decode cX7_mark 8 = .ok (.iload_n 1, 1) := dk_27 (dk_at dksX7_mark_0 8 rfl rfl)
theorem dX7_mark_9 : decode cX7_mark 9 = .ok (.invokevirtual 220, 3) := dk_182 0 220 (dk_at dksX7_mark_0 9 rfl rfl)
theorem dX7_mark_12 : decode cX7_mark 12 = .ok (.ifCond .ne 8, 3) := dk_154 0 8 (dk_at dksX7_mark_0 12 rfl rfl)
theorem dX7_mark_15 : decode cX7_mark 15 = .ok (.aload_n 0, 1) := dk_42 (dk_at dksX7_mark_0 15 rfl rfl)
theorem dX7_mark_16 : decode cX7_mark 16 = .ok (.iconst 1, 1) := dk_4 (dk_at dksX7_mark_0 16 rfl rfl)
theorem dX7_mark_17 : decode cX7_mark 17 = .ok (.invokevirtual 223, 3) := dk_182 0 223 (dk_at dksX7_mark_0 17 rfl rfl)
theorem dX7_mark_20 : decode cX7_mark 20 = .ok (.aload_n 0, 1) := dk_42 (dk_at dksX7_mark_0 20 rfl rfl)
theorem dX7_mark_21 : decode cX7_mark 21 = .ok (.getfield 203, 3) := dk_180 0 203 (dk_at dksX7_mark_0 21 rfl rfl)
theorem dX7_mark_24 : decode cX7_mark 24 = .ok (.ifCond .ne 7, 3) := dk_154 0 7 (dk_at dksX7_mark_1 0 rfl rfl)
theorem dX7_mark_27 : decode cX7_mark 27 = .ok (.aload_n 0, 1) := dk_42 (dk_at dksX7_mark_1 3 rfl rfl)
theorem dX7_mark_28 : decode cX7_mark 28 = .ok (.invokevirtual 226, 3) := dk_182 0 226 (dk_at dksX7_mark_1 4 rfl rfl)
theorem dX7_mark_31 : decode cX7_mark 31 = .ok (.return_, 1) := dk_177 (dk_at dksX7_mark_1 7 rfl rfl)
abbrev cX7_sayWoman : ByteArray := prog_18_method_35_code
def yX7_sayWoman : MethodName := ⟨RX7, "sayWoman", "(I)V"⟩
def dkwX7_sayWoman_3 : List UInt8 := [180, 0, 203, 153, 0, 4, 177, 42, 182, 0, 226, 42, 180, 0, 40, 16, 11, 92, 46, 4, 96, 79, 177]
abbrev dktX7_sayWoman_3 : List UInt8 := dkwX7_sayWoman_3 ++ []
def dkwX7_sayWoman_2 : List UInt8 := [180, 0, 50, 28, 42, 3, 16, 9, 182, 0, 243, 79, 42, 180, 0, 53, 28, 42, 3, 182, 1, 27, 79, 42]
abbrev dktX7_sayWoman_2 : List UInt8 := dkwX7_sayWoman_2 ++ dktX7_sayWoman_3
def dkwX7_sayWoman_1 : List UInt8 := [177, 42, 182, 0, 226, 16, 6, 42, 180, 0, 40, 16, 11, 46, 96, 61, 42, 180, 0, 47, 28, 27, 79, 42]
abbrev dktX7_sayWoman_1 : List UInt8 := dkwX7_sayWoman_1 ++ dktX7_sayWoman_2
def dkwX7_sayWoman_0 : List UInt8 := [42, 180, 0, 40, 16, 11, 46, 16, 6, 160, 0, 8, 42, 5, 182, 0, 223, 42, 180, 0, 203, 153, 0, 4]
abbrev dktX7_sayWoman_0 : List UInt8 := dkwX7_sayWoman_0 ++ dktX7_sayWoman_1
theorem dksX7_sayWoman_0 : cX7_sayWoman.data.toList.drop 0 = dktX7_sayWoman_0 := by decide +kernel
theorem dksX7_sayWoman_1 : cX7_sayWoman.data.toList.drop 24 = dktX7_sayWoman_1 := dk_seg dksX7_sayWoman_0 24 rfl rfl
theorem dksX7_sayWoman_2 : cX7_sayWoman.data.toList.drop 48 = dktX7_sayWoman_2 := dk_seg dksX7_sayWoman_1 24 rfl rfl
theorem dksX7_sayWoman_3 : cX7_sayWoman.data.toList.drop 72 = dktX7_sayWoman_3 := dk_seg dksX7_sayWoman_2 24 rfl rfl
theorem dX7_sayWoman_0 : decode cX7_sayWoman 0 = .ok (.aload_n 0, 1) := dk_42 (dk_at dksX7_sayWoman_0 0 rfl rfl)
theorem dX7_sayWoman_1 : decode cX7_sayWoman 1 = .ok (.getfield 40, 3) := dk_180 0 40 (dk_at dksX7_sayWoman_0 1 rfl rfl)
theorem dX7_sayWoman_4 : decode cX7_sayWoman 4 = .ok (.bipush 11, 2) := dk_16 11 (dk_at dksX7_sayWoman_0 4 rfl rfl)
theorem dX7_sayWoman_6 : decode cX7_sayWoman 6 = .ok (.iaload, 1) := dk_46 (dk_at dksX7_sayWoman_0 6 rfl rfl)
theorem dX7_sayWoman_7 : decode cX7_sayWoman 7 = .ok (.bipush 6, 2) := dk_16 6 (dk_at dksX7_sayWoman_0 7 rfl rfl)
theorem dX7_sayWoman_9 : decode cX7_sayWoman 9 = .ok (.if_icmp .ne 8, 3) := dk_160 0 8 (dk_at dksX7_sayWoman_0 9 rfl rfl)
theorem dX7_sayWoman_12 : decode cX7_sayWoman 12 = .ok (.aload_n 0, 1) := dk_42 (dk_at dksX7_sayWoman_0 12 rfl rfl)
theorem dX7_sayWoman_13 : decode cX7_sayWoman 13 = .ok (.iconst 2, 1) := dk_5 (dk_at dksX7_sayWoman_0 13 rfl rfl)
theorem dX7_sayWoman_14 : decode cX7_sayWoman 14 = .ok (.invokevirtual 223, 3) := dk_182 0 223 (dk_at dksX7_sayWoman_0 14 rfl rfl)
theorem dX7_sayWoman_17 : decode cX7_sayWoman 17 = .ok (.aload_n 0, 1) := dk_42 (dk_at dksX7_sayWoman_0 17 rfl rfl)
theorem dX7_sayWoman_18 : decode cX7_sayWoman 18 = .ok (.getfield 203, 3) := dk_180 0 203 (dk_at dksX7_sayWoman_0 18 rfl rfl)
theorem dX7_sayWoman_21 : decode cX7_sayWoman 21 = .ok (.ifCond .eq 4, 3) := dk_153 0 4 (dk_at dksX7_sayWoman_0 21 rfl rfl)
theorem dX7_sayWoman_24 : decode cX7_sayWoman 24 = .ok (.return_, 1) := dk_177 (dk_at dksX7_sayWoman_1 0 rfl rfl)
theorem dX7_sayWoman_25 : decode cX7_sayWoman 25 = .ok (.aload_n 0, 1) := dk_42 (dk_at dksX7_sayWoman_1 1 rfl rfl)
theorem dX7_sayWoman_26 : decode cX7_sayWoman 26 = .ok (.invokevirtual 226, 3) := dk_182 0 226 (dk_at dksX7_sayWoman_1 2 rfl rfl)
theorem dX7_sayWoman_29 : decode cX7_sayWoman 29 = .ok (.bipush 6, 2) := dk_16 6 (dk_at dksX7_sayWoman_1 5 rfl rfl)
theorem dX7_sayWoman_31 : decode cX7_sayWoman 31 = .ok (.aload_n 0, 1) := dk_42 (dk_at dksX7_sayWoman_1 7 rfl rfl)
theorem dX7_sayWoman_32 : decode cX7_sayWoman 32 = .ok (.getfield 40, 3) := dk_180 0 40 (dk_at dksX7_sayWoman_1 8 rfl rfl)
theorem dX7_sayWoman_35 : decode cX7_sayWoman 35 = .ok (.bipush 11, 2) := dk_16 11 (dk_at dksX7_sayWoman_1 11 rfl rfl)
theorem dX7_sayWoman_37 : decode cX7_sayWoman 37 = .ok (.iaload, 1) := dk_46 (dk_at dksX7_sayWoman_1 13 rfl rfl)
theorem dX7_sayWoman_38 : decode cX7_sayWoman 38 = .ok (.iadd, 1) := dk_96 (dk_at dksX7_sayWoman_1 14 rfl rfl)
theorem dX7_sayWoman_39 : decode cX7_sayWoman 39 = .ok (.istore_n 2, 1) := dk_61 (dk_at dksX7_sayWoman_1 15 rfl rfl)
theorem dX7_sayWoman_40 : decode cX7_sayWoman 40 = .ok (.aload_n 0, 1) := dk_42 (dk_at dksX7_sayWoman_1 16 rfl rfl)
theorem dX7_sayWoman_41 : decode cX7_sayWoman 41 = .ok (.getfield 47, 3) := dk_180 0 47 (dk_at dksX7_sayWoman_1 17 rfl rfl)
theorem dX7_sayWoman_44 : decode cX7_sayWoman 44 = .ok (.iload_n 2, 1) := dk_28 (dk_at dksX7_sayWoman_1 20 rfl rfl)
theorem dX7_sayWoman_45 : decode cX7_sayWoman 45 = .ok (.iload_n 1, 1) := dk_27 (dk_at dksX7_sayWoman_1 21 rfl rfl)
theorem dX7_sayWoman_46 : decode cX7_sayWoman 46 = .ok (.iastore, 1) := dk_79 (dk_at dksX7_sayWoman_1 22 rfl rfl)
theorem dX7_sayWoman_47 : decode cX7_sayWoman 47 = .ok (.aload_n 0, 1) := dk_42 (dk_at dksX7_sayWoman_1 23 rfl rfl)
theorem dX7_sayWoman_48 : decode cX7_sayWoman 48 = .ok (.getfield 50, 3) := dk_180 0 50 (dk_at dksX7_sayWoman_2 0 rfl rfl)
theorem dX7_sayWoman_51 : decode cX7_sayWoman 51 = .ok (.iload_n 2, 1) := dk_28 (dk_at dksX7_sayWoman_2 3 rfl rfl)
theorem dX7_sayWoman_52 : decode cX7_sayWoman 52 = .ok (.aload_n 0, 1) := dk_42 (dk_at dksX7_sayWoman_2 4 rfl rfl)
theorem dX7_sayWoman_53 : decode cX7_sayWoman 53 = .ok (.iconst 0, 1) := dk_3 (dk_at dksX7_sayWoman_2 5 rfl rfl)
theorem dX7_sayWoman_54 : decode cX7_sayWoman 54 = .ok (.bipush 9, 2) := dk_16 9 (dk_at dksX7_sayWoman_2 6 rfl rfl)
theorem dX7_sayWoman_56 : decode cX7_sayWoman 56 = .ok (.invokevirtual 243, 3) := dk_182 0 243 (dk_at dksX7_sayWoman_2 8 rfl rfl)
theorem dX7_sayWoman_59 : decode cX7_sayWoman 59 = .ok (.iastore, 1) := dk_79 (dk_at dksX7_sayWoman_2 11 rfl rfl)
theorem dX7_sayWoman_60 : decode cX7_sayWoman 60 = .ok (.aload_n 0, 1) := dk_42 (dk_at dksX7_sayWoman_2 12 rfl rfl)
theorem dX7_sayWoman_61 : decode cX7_sayWoman 61 = .ok (.getfield 53, 3) := dk_180 0 53 (dk_at dksX7_sayWoman_2 13 rfl rfl)
theorem dX7_sayWoman_64 : decode cX7_sayWoman 64 = .ok (.iload_n 2, 1) := dk_28 (dk_at dksX7_sayWoman_2 16 rfl rfl)
theorem dX7_sayWoman_65 : decode cX7_sayWoman 65 = .ok (.aload_n 0, 1) := dk_42 (dk_at dksX7_sayWoman_2 17 rfl rfl)
theorem dX7_sayWoman_66 : decode cX7_sayWoman 66 = .ok (.iconst 0, 1) := dk_3 (dk_at dksX7_sayWoman_2 18 rfl rfl)
theorem dX7_sayWoman_67 : decode cX7_sayWoman 67 = .ok (.invokevirtual 283, 3) := dk_182 1 27 (dk_at dksX7_sayWoman_2 19 rfl rfl)
theorem dX7_sayWoman_70 : decode cX7_sayWoman 70 = .ok (.iastore, 1) := dk_79 (dk_at dksX7_sayWoman_2 22 rfl rfl)
theorem dX7_sayWoman_71 : decode cX7_sayWoman 71 = .ok (.aload_n 0, 1) := dk_42 (dk_at dksX7_sayWoman_2 23 rfl rfl)
theorem dX7_sayWoman_72 : decode cX7_sayWoman 72 = .ok (.getfield 203, 3) := dk_180 0 203 (dk_at dksX7_sayWoman_3 0 rfl rfl)
theorem dX7_sayWoman_75 : decode cX7_sayWoman 75 = .ok (.ifCond .eq 4, 3) := dk_153 0 4 (dk_at dksX7_sayWoman_3 3 rfl rfl)
theorem dX7_sayWoman_78 : decode cX7_sayWoman 78 = .ok (.return_, 1) := dk_177 (dk_at dksX7_sayWoman_3 6 rfl rfl)
theorem dX7_sayWoman_79 : decode cX7_sayWoman 79 = .ok (.aload_n 0, 1) := dk_42 (dk_at dksX7_sayWoman_3 7 rfl rfl)
theorem dX7_sayWoman_80 : decode cX7_sayWoman 80 = .ok (.invokevirtual 226, 3) := dk_182 0 226 (dk_at dksX7_sayWoman_3 8 rfl rfl)
theorem dX7_sayWoman_83 : decode cX7_sayWoman 83 = .ok (.aload_n 0, 1) := dk_42 (dk_at dksX7_sayWoman_3 11 rfl rfl)
theorem dX7_sayWoman_84 : decode cX7_sayWoman 84 = .ok (.getfield 40, 3) := dk_180 0 40 (dk_at dksX7_sayWoman_3 12 rfl rfl)
theorem dX7_sayWoman_87 : decode cX7_sayWoman 87 = .ok (.bipush 11, 2) := dk_16 11 (dk_at dksX7_sayWoman_3 15 rfl rfl)
theorem dX7_sayWoman_89 : decode cX7_sayWoman 89 = .ok (.dup2, 1) := dk_92 (dk_at dksX7_sayWoman_3 17 rfl rfl)
theorem dX7_sayWoman_90 : decode cX7_sayWoman 90 = .ok (.iaload, 1) := dk_46 (dk_at dksX7_sayWoman_3 18 rfl rfl)
theorem dX7_sayWoman_91 : decode cX7_sayWoman 91 = .ok (.iconst 1, 1) := dk_4 (dk_at dksX7_sayWoman_3 19 rfl rfl)
theorem dX7_sayWoman_92 : decode cX7_sayWoman 92 = .ok (.iadd, 1) := dk_96 (dk_at dksX7_sayWoman_3 20 rfl rfl)
theorem dX7_sayWoman_93 : decode cX7_sayWoman 93 = .ok (.iastore, 1) := dk_79 (dk_at dksX7_sayWoman_3 21 rfl rfl)
theorem dX7_sayWoman_94 : decode cX7_sayWoman 94 = .ok (.return_, 1) := dk_177 (dk_at dksX7_sayWoman_3 22 rfl rfl)
abbrev cX7_cellNow : ByteArray := prog_18_method_25_code
def yX7_cellNow : MethodName := ⟨RX7, "cellNow", "(I)I"⟩
def dkwX7_cellNow_3 : List UInt8 := [28, 167, 0, 4, 3, 172]
abbrev dktX7_cellNow_3 : List UInt8 := dkwX7_cellNow_3 ++ []
def dkwX7_cellNow_2 : List UInt8 := [28, 184, 0, 232, 153, 0, 8, 42, 7, 182, 0, 223, 42, 4, 181, 0, 236, 42, 180, 0, 203, 154, 0, 7]
abbrev dktX7_cellNow_2 : List UInt8 := dkwX7_cellNow_2 ++ dktX7_cellNow_3
def dkwX7_cellNow_1 : List UInt8 := [42, 180, 0, 40, 16, 10, 46, 104, 161, 0, 8, 42, 6, 182, 0, 223, 42, 180, 0, 203, 154, 0, 16, 27]
abbrev dktX7_cellNow_1 : List UInt8 := dkwX7_cellNow_1 ++ dktX7_cellNow_2
def dkwX7_cellNow_0 : List UInt8 := [42, 3, 17, 39, 15, 182, 0, 229, 61, 42, 180, 0, 203, 154, 0, 27, 28, 42, 180, 0, 40, 16, 9, 46]
abbrev dktX7_cellNow_0 : List UInt8 := dkwX7_cellNow_0 ++ dktX7_cellNow_1
theorem dksX7_cellNow_0 : cX7_cellNow.data.toList.drop 0 = dktX7_cellNow_0 := by decide +kernel
theorem dksX7_cellNow_1 : cX7_cellNow.data.toList.drop 24 = dktX7_cellNow_1 := dk_seg dksX7_cellNow_0 24 rfl rfl
theorem dksX7_cellNow_2 : cX7_cellNow.data.toList.drop 48 = dktX7_cellNow_2 := dk_seg dksX7_cellNow_1 24 rfl rfl
theorem dksX7_cellNow_3 : cX7_cellNow.data.toList.drop 72 = dktX7_cellNow_3 := dk_seg dksX7_cellNow_2 24 rfl rfl
theorem dX7_cellNow_0 : decode cX7_cellNow 0 = .ok (.aload_n 0, 1) := dk_42 (dk_at dksX7_cellNow_0 0 rfl rfl)
theorem dX7_cellNow_1 : decode cX7_cellNow 1 = .ok (.iconst 0, 1) := dk_3 (dk_at dksX7_cellNow_0 1 rfl rfl)
theorem dX7_cellNow_2 : decode cX7_cellNow 2 = .ok (.sipush 9999, 3) := dk_17 39 15 (dk_at dksX7_cellNow_0 2 rfl rfl)
theorem dX7_cellNow_5 : decode cX7_cellNow 5 = .ok (.invokevirtual 229, 3) := dk_182 0 229 (dk_at dksX7_cellNow_0 5 rfl rfl)
theorem dX7_cellNow_8 : decode cX7_cellNow 8 = .ok (.istore_n 2, 1) := dk_61 (dk_at dksX7_cellNow_0 8 rfl rfl)
theorem dX7_cellNow_9 : decode cX7_cellNow 9 = .ok (.aload_n 0, 1) := dk_42 (dk_at dksX7_cellNow_0 9 rfl rfl)
theorem dX7_cellNow_10 : decode cX7_cellNow 10 = .ok (.getfield 203, 3) := dk_180 0 203 (dk_at dksX7_cellNow_0 10 rfl rfl)
theorem dX7_cellNow_13 : decode cX7_cellNow 13 = .ok (.ifCond .ne 27, 3) := dk_154 0 27 (dk_at dksX7_cellNow_0 13 rfl rfl)
theorem dX7_cellNow_16 : decode cX7_cellNow 16 = .ok (.iload_n 2, 1) := dk_28 (dk_at dksX7_cellNow_0 16 rfl rfl)
theorem dX7_cellNow_17 : decode cX7_cellNow 17 = .ok (.aload_n 0, 1) := dk_42 (dk_at dksX7_cellNow_0 17 rfl rfl)
theorem dX7_cellNow_18 : decode cX7_cellNow 18 = .ok (.getfield 40, 3) := dk_180 0 40 (dk_at dksX7_cellNow_0 18 rfl rfl)
theorem dX7_cellNow_21 : decode cX7_cellNow 21 = .ok (.bipush 9, 2) := dk_16 9 (dk_at dksX7_cellNow_0 21 rfl rfl)
theorem dX7_cellNow_23 : decode cX7_cellNow 23 = .ok (.iaload, 1) := dk_46 (dk_at dksX7_cellNow_0 23 rfl rfl)
theorem dX7_cellNow_24 : decode cX7_cellNow 24 = .ok (.aload_n 0, 1) := dk_42 (dk_at dksX7_cellNow_1 0 rfl rfl)
theorem dX7_cellNow_25 : decode cX7_cellNow 25 = .ok (.getfield 40, 3) := dk_180 0 40 (dk_at dksX7_cellNow_1 1 rfl rfl)
theorem dX7_cellNow_28 : decode cX7_cellNow 28 = .ok (.bipush 10, 2) := dk_16 10 (dk_at dksX7_cellNow_1 4 rfl rfl)
theorem dX7_cellNow_30 : decode cX7_cellNow 30 = .ok (.iaload, 1) := dk_46 (dk_at dksX7_cellNow_1 6 rfl rfl)
theorem dX7_cellNow_31 : decode cX7_cellNow 31 = .ok (.imul, 1) := dk_104 (dk_at dksX7_cellNow_1 7 rfl rfl)
theorem dX7_cellNow_32 : decode cX7_cellNow 32 = .ok (.if_icmp .lt 8, 3) := dk_161 0 8 (dk_at dksX7_cellNow_1 8 rfl rfl)
theorem dX7_cellNow_35 : decode cX7_cellNow 35 = .ok (.aload_n 0, 1) := dk_42 (dk_at dksX7_cellNow_1 11 rfl rfl)
theorem dX7_cellNow_36 : decode cX7_cellNow 36 = .ok (.iconst 3, 1) := dk_6 (dk_at dksX7_cellNow_1 12 rfl rfl)
theorem dX7_cellNow_37 : decode cX7_cellNow 37 = .ok (.invokevirtual 223, 3) := dk_182 0 223 (dk_at dksX7_cellNow_1 13 rfl rfl)
theorem dX7_cellNow_40 : decode cX7_cellNow 40 = .ok (.aload_n 0, 1) := dk_42 (dk_at dksX7_cellNow_1 16 rfl rfl)
theorem dX7_cellNow_41 : decode cX7_cellNow 41 = .ok (.getfield 203, 3) := dk_180 0 203 (dk_at dksX7_cellNow_1 17 rfl rfl)
theorem dX7_cellNow_44 : decode cX7_cellNow 44 = .ok (.ifCond .ne 16, 3) := dk_154 0 16 (dk_at dksX7_cellNow_1 20 rfl rfl)
theorem dX7_cellNow_47 : decode cX7_cellNow 47 = .ok (.iload_n 1, 1) := dk_27 (dk_at dksX7_cellNow_1 23 rfl rfl)
theorem dX7_cellNow_48 : decode cX7_cellNow 48 = .ok (.iload_n 2, 1) := dk_28 (dk_at dksX7_cellNow_2 0 rfl rfl)
theorem dX7_cellNow_49 : decode cX7_cellNow 49 = .ok (.invokestatic 232, 3) := dk_184 0 232 (dk_at dksX7_cellNow_2 1 rfl rfl)
theorem dX7_cellNow_52 : decode cX7_cellNow 52 = .ok (.ifCond .eq 8, 3) := dk_153 0 8 (dk_at dksX7_cellNow_2 4 rfl rfl)
theorem dX7_cellNow_55 : decode cX7_cellNow 55 = .ok (.aload_n 0, 1) := dk_42 (dk_at dksX7_cellNow_2 7 rfl rfl)
theorem dX7_cellNow_56 : decode cX7_cellNow 56 = .ok (.iconst 4, 1) := dk_7 (dk_at dksX7_cellNow_2 8 rfl rfl)
theorem dX7_cellNow_57 : decode cX7_cellNow 57 = .ok (.invokevirtual 223, 3) := dk_182 0 223 (dk_at dksX7_cellNow_2 9 rfl rfl)
theorem dX7_cellNow_60 : decode cX7_cellNow 60 = .ok (.aload_n 0, 1) := dk_42 (dk_at dksX7_cellNow_2 12 rfl rfl)
theorem dX7_cellNow_61 : decode cX7_cellNow 61 = .ok (.iconst 1, 1) := dk_4 (dk_at dksX7_cellNow_2 13 rfl rfl)
theorem dX7_cellNow_62 : decode cX7_cellNow 62 = .ok (.putfield 236, 3) := dk_181 0 236 (dk_at dksX7_cellNow_2 14 rfl rfl)
theorem dX7_cellNow_65 : decode cX7_cellNow 65 = .ok (.aload_n 0, 1) := dk_42 (dk_at dksX7_cellNow_2 17 rfl rfl)
theorem dX7_cellNow_66 : decode cX7_cellNow 66 = .ok (.getfield 203, 3) := dk_180 0 203 (dk_at dksX7_cellNow_2 18 rfl rfl)
theorem dX7_cellNow_69 : decode cX7_cellNow 69 = .ok (.ifCond .ne 7, 3) := dk_154 0 7 (dk_at dksX7_cellNow_2 21 rfl rfl)
theorem dX7_cellNow_72 : decode cX7_cellNow 72 = .ok (.iload_n 2, 1) := dk_28 (dk_at dksX7_cellNow_3 0 rfl rfl)
theorem dX7_cellNow_73 : decode cX7_cellNow 73 = .ok (.goto 4, 3) := dk_167 0 4 (dk_at dksX7_cellNow_3 1 rfl rfl)
theorem dX7_cellNow_76 : decode cX7_cellNow 76 = .ok (.iconst 0, 1) := dk_3 (dk_at dksX7_cellNow_3 4 rfl rfl)
theorem dX7_cellNow_77 : decode cX7_cellNow 77 = .ok (.ireturn, 1) := dk_172 (dk_at dksX7_cellNow_3 5 rfl rfl)
abbrev cX7_isOf : ByteArray := prog_18_method_7_code
def yX7_isOf : MethodName := ⟨RX7, "isOf", "(II)Z"⟩
def dkwX7_isOf_0 : List UInt8 := [26, 27, 122, 4, 126, 4, 160, 0, 7, 4, 167, 0, 4, 3, 172]
abbrev dktX7_isOf_0 : List UInt8 := dkwX7_isOf_0 ++ []
theorem dksX7_isOf_0 : cX7_isOf.data.toList.drop 0 = dktX7_isOf_0 := by decide +kernel
theorem dX7_isOf_0 : decode cX7_isOf 0 = .ok (.iload_n 0, 1) := dk_26 (dk_at dksX7_isOf_0 0 rfl rfl)
theorem dX7_isOf_1 : decode cX7_isOf 1 = .ok (.iload_n 1, 1) := dk_27 (dk_at dksX7_isOf_0 1 rfl rfl)
theorem dX7_isOf_2 : decode cX7_isOf 2 = .ok (.ishr, 1) := dk_122 (dk_at dksX7_isOf_0 2 rfl rfl)
theorem dX7_isOf_3 : decode cX7_isOf 3 = .ok (.iconst 1, 1) := dk_4 (dk_at dksX7_isOf_0 3 rfl rfl)
theorem dX7_isOf_4 : decode cX7_isOf 4 = .ok (.iand, 1) := dk_126 (dk_at dksX7_isOf_0 4 rfl rfl)
theorem dX7_isOf_5 : decode cX7_isOf 5 = .ok (.iconst 1, 1) := dk_4 (dk_at dksX7_isOf_0 5 rfl rfl)
theorem dX7_isOf_6 : decode cX7_isOf 6 = .ok (.if_icmp .ne 7, 3) := dk_160 0 7 (dk_at dksX7_isOf_0 6 rfl rfl)
theorem dX7_isOf_9 : decode cX7_isOf 9 = .ok (.iconst 1, 1) := dk_4 (dk_at dksX7_isOf_0 9 rfl rfl)
theorem dX7_isOf_10 : decode cX7_isOf 10 = .ok (.goto 4, 3) := dk_167 0 4 (dk_at dksX7_isOf_0 10 rfl rfl)
theorem dX7_isOf_13 : decode cX7_isOf 13 = .ok (.iconst 0, 1) := dk_3 (dk_at dksX7_isOf_0 13 rfl rfl)
theorem dX7_isOf_14 : decode cX7_isOf 14 = .ok (.ireturn, 1) := dk_172 (dk_at dksX7_isOf_0 14 rfl rfl)
abbrev cX7_sayBlue : ByteArray := prog_18_method_34_code
def yX7_sayBlue : MethodName := ⟨RX7, "sayBlue", "()V"⟩
def dkwX7_sayBlue_2 : List UInt8 := [3, 16, 99, 182, 0, 243, 79, 177]
abbrev dktX7_sayBlue_2 : List UInt8 := dkwX7_sayBlue_2 ++ []
def dkwX7_sayBlue_1 : List UInt8 := [182, 0, 226, 42, 89, 180, 1, 24, 4, 27, 120, 128, 181, 1, 24, 42, 180, 0, 44, 16, 30, 27, 96, 42]
abbrev dktX7_sayBlue_1 : List UInt8 := dkwX7_sayBlue_1 ++ dktX7_sayBlue_2
def dkwX7_sayBlue_0 : List UInt8 := [42, 182, 0, 226, 42, 42, 180, 1, 24, 182, 1, 27, 60, 42, 180, 0, 203, 153, 0, 4, 177, 42]
abbrev dktX7_sayBlue_0 : List UInt8 := dkwX7_sayBlue_0 ++ dktX7_sayBlue_1
theorem dksX7_sayBlue_0 : cX7_sayBlue.data.toList.drop 0 = dktX7_sayBlue_0 := by decide +kernel
theorem dksX7_sayBlue_1 : cX7_sayBlue.data.toList.drop 22 = dktX7_sayBlue_1 := dk_seg dksX7_sayBlue_0 22 rfl rfl
theorem dksX7_sayBlue_2 : cX7_sayBlue.data.toList.drop 46 = dktX7_sayBlue_2 := dk_seg dksX7_sayBlue_1 24 rfl rfl
theorem dX7_sayBlue_0 : decode cX7_sayBlue 0 = .ok (.aload_n 0, 1) := dk_42 (dk_at dksX7_sayBlue_0 0 rfl rfl)
theorem dX7_sayBlue_1 : decode cX7_sayBlue 1 = .ok (.invokevirtual 226, 3) := dk_182 0 226 (dk_at dksX7_sayBlue_0 1 rfl rfl)
theorem dX7_sayBlue_4 : decode cX7_sayBlue 4 = .ok (.aload_n 0, 1) := dk_42 (dk_at dksX7_sayBlue_0 4 rfl rfl)
theorem dX7_sayBlue_5 : decode cX7_sayBlue 5 = .ok (.aload_n 0, 1) := dk_42 (dk_at dksX7_sayBlue_0 5 rfl rfl)
theorem dX7_sayBlue_6 : decode cX7_sayBlue 6 = .ok (.getfield 280, 3) := dk_180 1 24 (dk_at dksX7_sayBlue_0 6 rfl rfl)
theorem dX7_sayBlue_9 : decode cX7_sayBlue 9 = .ok (.invokevirtual 283, 3) := dk_182 1 27 (dk_at dksX7_sayBlue_0 9 rfl rfl)
theorem dX7_sayBlue_12 : decode cX7_sayBlue 12 = .ok (.istore_n 1, 1) := dk_60 (dk_at dksX7_sayBlue_0 12 rfl rfl)
theorem dX7_sayBlue_13 : decode cX7_sayBlue 13 = .ok (.aload_n 0, 1) := dk_42 (dk_at dksX7_sayBlue_0 13 rfl rfl)
theorem dX7_sayBlue_14 : decode cX7_sayBlue 14 = .ok (.getfield 203, 3) := dk_180 0 203 (dk_at dksX7_sayBlue_0 14 rfl rfl)
theorem dX7_sayBlue_17 : decode cX7_sayBlue 17 = .ok (.ifCond .eq 4, 3) := dk_153 0 4 (dk_at dksX7_sayBlue_0 17 rfl rfl)
theorem dX7_sayBlue_20 : decode cX7_sayBlue 20 = .ok (.return_, 1) := dk_177 (dk_at dksX7_sayBlue_0 20 rfl rfl)
theorem dX7_sayBlue_21 : decode cX7_sayBlue 21 = .ok (.aload_n 0, 1) := dk_42 (dk_at dksX7_sayBlue_0 21 rfl rfl)
theorem dX7_sayBlue_22 : decode cX7_sayBlue 22 = .ok (.invokevirtual 226, 3) := dk_182 0 226 (dk_at dksX7_sayBlue_1 0 rfl rfl)
theorem dX7_sayBlue_25 : decode cX7_sayBlue 25 = .ok (.aload_n 0, 1) := dk_42 (dk_at dksX7_sayBlue_1 3 rfl rfl)
theorem dX7_sayBlue_26 : decode cX7_sayBlue 26 = .ok (.dup, 1) := dk_89 (dk_at dksX7_sayBlue_1 4 rfl rfl)
theorem dX7_sayBlue_27 : decode cX7_sayBlue 27 = .ok (.getfield 280, 3) := dk_180 1 24 (dk_at dksX7_sayBlue_1 5 rfl rfl)
theorem dX7_sayBlue_30 : decode cX7_sayBlue 30 = .ok (.iconst 1, 1) := dk_4 (dk_at dksX7_sayBlue_1 8 rfl rfl)
theorem dX7_sayBlue_31 : decode cX7_sayBlue 31 = .ok (.iload_n 1, 1) := dk_27 (dk_at dksX7_sayBlue_1 9 rfl rfl)
theorem dX7_sayBlue_32 : decode cX7_sayBlue 32 = .ok (.ishl, 1) := dk_120 (dk_at dksX7_sayBlue_1 10 rfl rfl)
theorem dX7_sayBlue_33 : decode cX7_sayBlue 33 = .ok (.ior, 1) := dk_128 (dk_at dksX7_sayBlue_1 11 rfl rfl)
theorem dX7_sayBlue_34 : decode cX7_sayBlue 34 = .ok (.putfield 280, 3) := dk_181 1 24 (dk_at dksX7_sayBlue_1 12 rfl rfl)
theorem dX7_sayBlue_37 : decode cX7_sayBlue 37 = .ok (.aload_n 0, 1) := dk_42 (dk_at dksX7_sayBlue_1 15 rfl rfl)
theorem dX7_sayBlue_38 : decode cX7_sayBlue 38 = .ok (.getfield 44, 3) := dk_180 0 44 (dk_at dksX7_sayBlue_1 16 rfl rfl)
theorem dX7_sayBlue_41 : decode cX7_sayBlue 41 = .ok (.bipush 30, 2) := dk_16 30 (dk_at dksX7_sayBlue_1 19 rfl rfl)
theorem dX7_sayBlue_43 : decode cX7_sayBlue 43 = .ok (.iload_n 1, 1) := dk_27 (dk_at dksX7_sayBlue_1 21 rfl rfl)
theorem dX7_sayBlue_44 : decode cX7_sayBlue 44 = .ok (.iadd, 1) := dk_96 (dk_at dksX7_sayBlue_1 22 rfl rfl)
theorem dX7_sayBlue_45 : decode cX7_sayBlue 45 = .ok (.aload_n 0, 1) := dk_42 (dk_at dksX7_sayBlue_1 23 rfl rfl)
theorem dX7_sayBlue_46 : decode cX7_sayBlue 46 = .ok (.iconst 0, 1) := dk_3 (dk_at dksX7_sayBlue_2 0 rfl rfl)
theorem dX7_sayBlue_47 : decode cX7_sayBlue 47 = .ok (.bipush 99, 2) := dk_16 99 (dk_at dksX7_sayBlue_2 1 rfl rfl)
theorem dX7_sayBlue_49 : decode cX7_sayBlue 49 = .ok (.invokevirtual 243, 3) := dk_182 0 243 (dk_at dksX7_sayBlue_2 3 rfl rfl)
theorem dX7_sayBlue_52 : decode cX7_sayBlue 52 = .ok (.iastore, 1) := dk_79 (dk_at dksX7_sayBlue_2 6 rfl rfl)
theorem dX7_sayBlue_53 : decode cX7_sayBlue 53 = .ok (.return_, 1) := dk_177 (dk_at dksX7_sayBlue_2 7 rfl rfl)
abbrev cX7_sayPegs : ByteArray := prog_18_method_36_code
def yX7_sayPegs : MethodName := ⟨RX7, "sayPegs", "()V"⟩
def dkwX7_sayPegs_3 : List UInt8 := [177]
abbrev dktX7_sayPegs_3 : List UInt8 := dkwX7_sayPegs_3 ++ []
def dkwX7_sayPegs_2 : List UInt8 := [153, 0, 4, 177, 42, 182, 0, 226, 42, 180, 0, 40, 16, 17, 92, 46, 4, 27, 120, 128, 79, 167, 255, 204]
abbrev dktX7_sayPegs_2 : List UInt8 := dkwX7_sayPegs_2 ++ dktX7_sayPegs_3
def dkwX7_sayPegs_1 : List UInt8 := [42, 180, 0, 177, 5, 160, 0, 43, 42, 42, 180, 0, 40, 16, 17, 46, 182, 1, 27, 60, 42, 180, 0, 203]
abbrev dktX7_sayPegs_1 : List UInt8 := dkwX7_sayPegs_1 ++ dktX7_sayPegs_2
def dkwX7_sayPegs_0 : List UInt8 := [42, 182, 0, 226, 42, 180, 0, 177, 5, 159, 0, 8, 42, 4, 182, 0, 223, 42, 180, 0, 203, 154, 0, 51]
abbrev dktX7_sayPegs_0 : List UInt8 := dkwX7_sayPegs_0 ++ dktX7_sayPegs_1
theorem dksX7_sayPegs_0 : cX7_sayPegs.data.toList.drop 0 = dktX7_sayPegs_0 := by decide +kernel
theorem dksX7_sayPegs_1 : cX7_sayPegs.data.toList.drop 24 = dktX7_sayPegs_1 := dk_seg dksX7_sayPegs_0 24 rfl rfl
theorem dksX7_sayPegs_2 : cX7_sayPegs.data.toList.drop 48 = dktX7_sayPegs_2 := dk_seg dksX7_sayPegs_1 24 rfl rfl
theorem dksX7_sayPegs_3 : cX7_sayPegs.data.toList.drop 72 = dktX7_sayPegs_3 := dk_seg dksX7_sayPegs_2 24 rfl rfl
theorem dX7_sayPegs_0 : decode cX7_sayPegs 0 = .ok (.aload_n 0, 1) := dk_42 (dk_at dksX7_sayPegs_0 0 rfl rfl)
theorem dX7_sayPegs_1 : decode cX7_sayPegs 1 = .ok (.invokevirtual 226, 3) := dk_182 0 226 (dk_at dksX7_sayPegs_0 1 rfl rfl)
theorem dX7_sayPegs_4 : decode cX7_sayPegs 4 = .ok (.aload_n 0, 1) := dk_42 (dk_at dksX7_sayPegs_0 4 rfl rfl)
theorem dX7_sayPegs_5 : decode cX7_sayPegs 5 = .ok (.getfield 177, 3) := dk_180 0 177 (dk_at dksX7_sayPegs_0 5 rfl rfl)
theorem dX7_sayPegs_8 : decode cX7_sayPegs 8 = .ok (.iconst 2, 1) := dk_5 (dk_at dksX7_sayPegs_0 8 rfl rfl)
theorem dX7_sayPegs_9 : decode cX7_sayPegs 9 = .ok (.if_icmp .eq 8, 3) := dk_159 0 8 (dk_at dksX7_sayPegs_0 9 rfl rfl)
theorem dX7_sayPegs_12 : decode cX7_sayPegs 12 = .ok (.aload_n 0, 1) := dk_42 (dk_at dksX7_sayPegs_0 12 rfl rfl)
theorem dX7_sayPegs_13 : decode cX7_sayPegs 13 = .ok (.iconst 1, 1) := dk_4 (dk_at dksX7_sayPegs_0 13 rfl rfl)
theorem dX7_sayPegs_14 : decode cX7_sayPegs 14 = .ok (.invokevirtual 223, 3) := dk_182 0 223 (dk_at dksX7_sayPegs_0 14 rfl rfl)
theorem dX7_sayPegs_17 : decode cX7_sayPegs 17 = .ok (.aload_n 0, 1) := dk_42 (dk_at dksX7_sayPegs_0 17 rfl rfl)
theorem dX7_sayPegs_18 : decode cX7_sayPegs 18 = .ok (.getfield 203, 3) := dk_180 0 203 (dk_at dksX7_sayPegs_0 18 rfl rfl)
theorem dX7_sayPegs_21 : decode cX7_sayPegs 21 = .ok (.ifCond .ne 51, 3) := dk_154 0 51 (dk_at dksX7_sayPegs_0 21 rfl rfl)
theorem dX7_sayPegs_24 : decode cX7_sayPegs 24 = .ok (.aload_n 0, 1) := dk_42 (dk_at dksX7_sayPegs_1 0 rfl rfl)
theorem dX7_sayPegs_25 : decode cX7_sayPegs 25 = .ok (.getfield 177, 3) := dk_180 0 177 (dk_at dksX7_sayPegs_1 1 rfl rfl)
theorem dX7_sayPegs_28 : decode cX7_sayPegs 28 = .ok (.iconst 2, 1) := dk_5 (dk_at dksX7_sayPegs_1 4 rfl rfl)
theorem dX7_sayPegs_29 : decode cX7_sayPegs 29 = .ok (.if_icmp .ne 43, 3) := dk_160 0 43 (dk_at dksX7_sayPegs_1 5 rfl rfl)
theorem dX7_sayPegs_32 : decode cX7_sayPegs 32 = .ok (.aload_n 0, 1) := dk_42 (dk_at dksX7_sayPegs_1 8 rfl rfl)
theorem dX7_sayPegs_33 : decode cX7_sayPegs 33 = .ok (.aload_n 0, 1) := dk_42 (dk_at dksX7_sayPegs_1 9 rfl rfl)
theorem dX7_sayPegs_34 : decode cX7_sayPegs 34 = .ok (.getfield 40, 3) := dk_180 0 40 (dk_at dksX7_sayPegs_1 10 rfl rfl)
theorem dX7_sayPegs_37 : decode cX7_sayPegs 37 = .ok (.bipush 17, 2) := dk_16 17 (dk_at dksX7_sayPegs_1 13 rfl rfl)
theorem dX7_sayPegs_39 : decode cX7_sayPegs 39 = .ok (.iaload, 1) := dk_46 (dk_at dksX7_sayPegs_1 15 rfl rfl)
theorem dX7_sayPegs_40 : decode cX7_sayPegs 40 = .ok (.invokevirtual 283, 3) := dk_182 1 27 (dk_at dksX7_sayPegs_1 16 rfl rfl)
theorem dX7_sayPegs_43 : decode cX7_sayPegs 43 = .ok (.istore_n 1, 1) := dk_60 (dk_at dksX7_sayPegs_1 19 rfl rfl)
theorem dX7_sayPegs_44 : decode cX7_sayPegs 44 = .ok (.aload_n 0, 1) := dk_42 (dk_at dksX7_sayPegs_1 20 rfl rfl)
theorem dX7_sayPegs_45 : decode cX7_sayPegs 45 = .ok (.getfield 203, 3) := dk_180 0 203 (dk_at dksX7_sayPegs_1 21 rfl rfl)
theorem dX7_sayPegs_48 : decode cX7_sayPegs 48 = .ok (.ifCond .eq 4, 3) := dk_153 0 4 (dk_at dksX7_sayPegs_2 0 rfl rfl)
theorem dX7_sayPegs_51 : decode cX7_sayPegs 51 = .ok (.return_, 1) := dk_177 (dk_at dksX7_sayPegs_2 3 rfl rfl)
theorem dX7_sayPegs_52 : decode cX7_sayPegs 52 = .ok (.aload_n 0, 1) := dk_42 (dk_at dksX7_sayPegs_2 4 rfl rfl)
theorem dX7_sayPegs_53 : decode cX7_sayPegs 53 = .ok (.invokevirtual 226, 3) := dk_182 0 226 (dk_at dksX7_sayPegs_2 5 rfl rfl)
theorem dX7_sayPegs_56 : decode cX7_sayPegs 56 = .ok (.aload_n 0, 1) := dk_42 (dk_at dksX7_sayPegs_2 8 rfl rfl)
theorem dX7_sayPegs_57 : decode cX7_sayPegs 57 = .ok (.getfield 40, 3) := dk_180 0 40 (dk_at dksX7_sayPegs_2 9 rfl rfl)
theorem dX7_sayPegs_60 : decode cX7_sayPegs 60 = .ok (.bipush 17, 2) := dk_16 17 (dk_at dksX7_sayPegs_2 12 rfl rfl)
theorem dX7_sayPegs_62 : decode cX7_sayPegs 62 = .ok (.dup2, 1) := dk_92 (dk_at dksX7_sayPegs_2 14 rfl rfl)
theorem dX7_sayPegs_63 : decode cX7_sayPegs 63 = .ok (.iaload, 1) := dk_46 (dk_at dksX7_sayPegs_2 15 rfl rfl)
theorem dX7_sayPegs_64 : decode cX7_sayPegs 64 = .ok (.iconst 1, 1) := dk_4 (dk_at dksX7_sayPegs_2 16 rfl rfl)
theorem dX7_sayPegs_65 : decode cX7_sayPegs 65 = .ok (.iload_n 1, 1) := dk_27 (dk_at dksX7_sayPegs_2 17 rfl rfl)
theorem dX7_sayPegs_66 : decode cX7_sayPegs 66 = .ok (.ishl, 1) := dk_120 (dk_at dksX7_sayPegs_2 18 rfl rfl)
theorem dX7_sayPegs_67 : decode cX7_sayPegs 67 = .ok (.ior, 1) := dk_128 (dk_at dksX7_sayPegs_2 19 rfl rfl)
theorem dX7_sayPegs_68 : decode cX7_sayPegs 68 = .ok (.iastore, 1) := dk_79 (dk_at dksX7_sayPegs_2 20 rfl rfl)
theorem dX7_sayPegs_69 : decode cX7_sayPegs 69 = .ok (.goto (-52), 3) := dk_167 255 204 (dk_at dksX7_sayPegs_2 21 rfl rfl)
theorem dX7_sayPegs_72 : decode cX7_sayPegs 72 = .ok (.return_, 1) := dk_177 (dk_at dksX7_sayPegs_3 0 rfl rfl)
abbrev cX7_takeOver : ByteArray := prog_18_method_42_code
def yX7_takeOver : MethodName := ⟨RX7, "takeOver", "()V"⟩
def dkwX7_takeOver_8 : List UInt8 := [79, 132, 1, 1, 167, 255, 191, 42, 3, 181, 1, 86, 42, 3, 181, 1, 89, 42, 3, 181, 1, 92, 177]
abbrev dktX7_takeOver_8 : List UInt8 := dkwX7_takeOver_8 ++ []
def dkwX7_takeOver_7 : List UInt8 := [167, 0, 4, 3, 79, 42, 180, 0, 77, 27, 28, 153, 0, 12, 42, 180, 0, 53, 27, 46, 167, 0, 4, 3]
abbrev dktX7_takeOver_7 : List UInt8 := dkwX7_takeOver_7 ++ dktX7_takeOver_8
def dkwX7_takeOver_6 : List UInt8 := [162, 0, 7, 4, 167, 0, 4, 3, 61, 42, 180, 0, 65, 27, 28, 153, 0, 12, 42, 180, 0, 50, 27, 46]
abbrev dktX7_takeOver_6 : List UInt8 := dkwX7_takeOver_6 ++ dktX7_takeOver_7
def dkwX7_takeOver_5 : List UInt8 := [46, 79, 132, 1, 1, 167, 255, 220, 3, 60, 27, 16, 6, 162, 0, 65, 27, 42, 180, 0, 40, 5, 46]
abbrev dktX7_takeOver_5 : List UInt8 := dkwX7_takeOver_5 ++ dktX7_takeOver_6
def dkwX7_takeOver_4 : List UInt8 := [180, 0, 75, 27, 42, 180, 1, 80, 27, 184, 0, 232, 153, 0, 7, 3, 167, 0, 9, 42, 180, 0, 44, 27]
abbrev dktX7_takeOver_4 : List UInt8 := dkwX7_takeOver_4 ++ dktX7_takeOver_5
def dkwX7_takeOver_3 : List UInt8 := [42, 180, 0, 40, 16, 8, 46, 181, 1, 80, 42, 3, 181, 1, 83, 3, 60, 27, 16, 30, 162, 0, 36, 42]
abbrev dktX7_takeOver_3 : List UInt8 := dkwX7_takeOver_3 ++ dktX7_takeOver_4
def dkwX7_takeOver_2 : List UInt8 := [184, 1, 71, 42, 3, 181, 1, 75, 42, 42, 180, 0, 40, 6, 46, 181, 0, 147, 42, 3, 181, 1, 77, 42]
abbrev dktX7_takeOver_2 : List UInt8 := dkwX7_takeOver_2 ++ dktX7_takeOver_3
def dkwX7_takeOver_1 : List UInt8 := [180, 0, 50, 184, 1, 71, 42, 180, 0, 53, 184, 1, 71, 42, 180, 0, 56, 184, 1, 71, 42, 180, 0, 59]
abbrev dktX7_takeOver_1 : List UInt8 := dkwX7_takeOver_1 ++ dktX7_takeOver_2
def dkwX7_takeOver_0 : List UInt8 := [42, 180, 0, 40, 184, 1, 71, 42, 180, 0, 44, 184, 1, 71, 42, 180, 0, 47, 184, 1, 71, 42]
abbrev dktX7_takeOver_0 : List UInt8 := dkwX7_takeOver_0 ++ dktX7_takeOver_1
theorem dksX7_takeOver_0 : cX7_takeOver.data.toList.drop 0 = dktX7_takeOver_0 := by decide +kernel
theorem dksX7_takeOver_1 : cX7_takeOver.data.toList.drop 22 = dktX7_takeOver_1 := dk_seg dksX7_takeOver_0 22 rfl rfl
theorem dksX7_takeOver_2 : cX7_takeOver.data.toList.drop 46 = dktX7_takeOver_2 := dk_seg dksX7_takeOver_1 24 rfl rfl
theorem dksX7_takeOver_3 : cX7_takeOver.data.toList.drop 70 = dktX7_takeOver_3 := dk_seg dksX7_takeOver_2 24 rfl rfl
theorem dksX7_takeOver_4 : cX7_takeOver.data.toList.drop 94 = dktX7_takeOver_4 := dk_seg dksX7_takeOver_3 24 rfl rfl
theorem dksX7_takeOver_5 : cX7_takeOver.data.toList.drop 118 = dktX7_takeOver_5 := dk_seg dksX7_takeOver_4 24 rfl rfl
theorem dksX7_takeOver_6 : cX7_takeOver.data.toList.drop 141 = dktX7_takeOver_6 := dk_seg dksX7_takeOver_5 23 rfl rfl
theorem dksX7_takeOver_7 : cX7_takeOver.data.toList.drop 165 = dktX7_takeOver_7 := dk_seg dksX7_takeOver_6 24 rfl rfl
theorem dksX7_takeOver_8 : cX7_takeOver.data.toList.drop 189 = dktX7_takeOver_8 := dk_seg dksX7_takeOver_7 24 rfl rfl
theorem dX7_takeOver_0 : decode cX7_takeOver 0 = .ok (.aload_n 0, 1) := dk_42 (dk_at dksX7_takeOver_0 0 rfl rfl)
theorem dX7_takeOver_1 : decode cX7_takeOver 1 = .ok (.getfield 40, 3) := dk_180 0 40 (dk_at dksX7_takeOver_0 1 rfl rfl)
theorem dX7_takeOver_4 : decode cX7_takeOver 4 = .ok (.invokestatic 327, 3) := dk_184 1 71 (dk_at dksX7_takeOver_0 4 rfl rfl)
theorem dX7_takeOver_7 : decode cX7_takeOver 7 = .ok (.aload_n 0, 1) := dk_42 (dk_at dksX7_takeOver_0 7 rfl rfl)
theorem dX7_takeOver_8 : decode cX7_takeOver 8 = .ok (.getfield 44, 3) := dk_180 0 44 (dk_at dksX7_takeOver_0 8 rfl rfl)
theorem dX7_takeOver_11 : decode cX7_takeOver 11 = .ok (.invokestatic 327, 3) := dk_184 1 71 (dk_at dksX7_takeOver_0 11 rfl rfl)
theorem dX7_takeOver_14 : decode cX7_takeOver 14 = .ok (.aload_n 0, 1) := dk_42 (dk_at dksX7_takeOver_0 14 rfl rfl)
theorem dX7_takeOver_15 : decode cX7_takeOver 15 = .ok (.getfield 47, 3) := dk_180 0 47 (dk_at dksX7_takeOver_0 15 rfl rfl)
theorem dX7_takeOver_18 : decode cX7_takeOver 18 = .ok (.invokestatic 327, 3) := dk_184 1 71 (dk_at dksX7_takeOver_0 18 rfl rfl)
theorem dX7_takeOver_21 : decode cX7_takeOver 21 = .ok (.aload_n 0, 1) := dk_42 (dk_at dksX7_takeOver_0 21 rfl rfl)
theorem dX7_takeOver_22 : decode cX7_takeOver 22 = .ok (.getfield 50, 3) := dk_180 0 50 (dk_at dksX7_takeOver_1 0 rfl rfl)
theorem dX7_takeOver_25 : decode cX7_takeOver 25 = .ok (.invokestatic 327, 3) := dk_184 1 71 (dk_at dksX7_takeOver_1 3 rfl rfl)
theorem dX7_takeOver_28 : decode cX7_takeOver 28 = .ok (.aload_n 0, 1) := dk_42 (dk_at dksX7_takeOver_1 6 rfl rfl)
theorem dX7_takeOver_29 : decode cX7_takeOver 29 = .ok (.getfield 53, 3) := dk_180 0 53 (dk_at dksX7_takeOver_1 7 rfl rfl)
theorem dX7_takeOver_32 : decode cX7_takeOver 32 = .ok (.invokestatic 327, 3) := dk_184 1 71 (dk_at dksX7_takeOver_1 10 rfl rfl)
theorem dX7_takeOver_35 : decode cX7_takeOver 35 = .ok (.aload_n 0, 1) := dk_42 (dk_at dksX7_takeOver_1 13 rfl rfl)
theorem dX7_takeOver_36 : decode cX7_takeOver 36 = .ok (.getfield 56, 3) := dk_180 0 56 (dk_at dksX7_takeOver_1 14 rfl rfl)
theorem dX7_takeOver_39 : decode cX7_takeOver 39 = .ok (.invokestatic 327, 3) := dk_184 1 71 (dk_at dksX7_takeOver_1 17 rfl rfl)
theorem dX7_takeOver_42 : decode cX7_takeOver 42 = .ok (.aload_n 0, 1) := dk_42 (dk_at dksX7_takeOver_1 20 rfl rfl)
theorem dX7_takeOver_43 : decode cX7_takeOver 43 = .ok (.getfield 59, 3) := dk_180 0 59 (dk_at dksX7_takeOver_1 21 rfl rfl)
theorem dX7_takeOver_46 : decode cX7_takeOver 46 = .ok (.invokestatic 327, 3) := dk_184 1 71 (dk_at dksX7_takeOver_2 0 rfl rfl)
theorem dX7_takeOver_49 : decode cX7_takeOver 49 = .ok (.aload_n 0, 1) := dk_42 (dk_at dksX7_takeOver_2 3 rfl rfl)
theorem dX7_takeOver_50 : decode cX7_takeOver 50 = .ok (.iconst 0, 1) := dk_3 (dk_at dksX7_takeOver_2 4 rfl rfl)
theorem dX7_takeOver_51 : decode cX7_takeOver 51 = .ok (.putfield 331, 3) := dk_181 1 75 (dk_at dksX7_takeOver_2 5 rfl rfl)
theorem dX7_takeOver_54 : decode cX7_takeOver 54 = .ok (.aload_n 0, 1) := dk_42 (dk_at dksX7_takeOver_2 8 rfl rfl)
theorem dX7_takeOver_55 : decode cX7_takeOver 55 = .ok (.aload_n 0, 1) := dk_42 (dk_at dksX7_takeOver_2 9 rfl rfl)
theorem dX7_takeOver_56 : decode cX7_takeOver 56 = .ok (.getfield 40, 3) := dk_180 0 40 (dk_at dksX7_takeOver_2 10 rfl rfl)
theorem dX7_takeOver_59 : decode cX7_takeOver 59 = .ok (.iconst 3, 1) := dk_6 (dk_at dksX7_takeOver_2 13 rfl rfl)
theorem dX7_takeOver_60 : decode cX7_takeOver 60 = .ok (.iaload, 1) := dk_46 (dk_at dksX7_takeOver_2 14 rfl rfl)
theorem dX7_takeOver_61 : decode cX7_takeOver 61 = .ok (.putfield 147, 3) := dk_181 0 147 (dk_at dksX7_takeOver_2 15 rfl rfl)
theorem dX7_takeOver_64 : decode cX7_takeOver 64 = .ok (.aload_n 0, 1) := dk_42 (dk_at dksX7_takeOver_2 18 rfl rfl)
theorem dX7_takeOver_65 : decode cX7_takeOver 65 = .ok (.iconst 0, 1) := dk_3 (dk_at dksX7_takeOver_2 19 rfl rfl)
theorem dX7_takeOver_66 : decode cX7_takeOver 66 = .ok (.putfield 333, 3) := dk_181 1 77 (dk_at dksX7_takeOver_2 20 rfl rfl)
theorem dX7_takeOver_69 : decode cX7_takeOver 69 = .ok (.aload_n 0, 1) := dk_42 (dk_at dksX7_takeOver_2 23 rfl rfl)
theorem dX7_takeOver_70 : decode cX7_takeOver 70 = .ok (.aload_n 0, 1) := dk_42 (dk_at dksX7_takeOver_3 0 rfl rfl)
theorem dX7_takeOver_71 : decode cX7_takeOver 71 = .ok (.getfield 40, 3) := dk_180 0 40 (dk_at dksX7_takeOver_3 1 rfl rfl)
theorem dX7_takeOver_74 : decode cX7_takeOver 74 = .ok (.bipush 8, 2) := dk_16 8 (dk_at dksX7_takeOver_3 4 rfl rfl)
theorem dX7_takeOver_76 : decode cX7_takeOver 76 = .ok (.iaload, 1) := dk_46 (dk_at dksX7_takeOver_3 6 rfl rfl)
theorem dX7_takeOver_77 : decode cX7_takeOver 77 = .ok (.putfield 336, 3) := dk_181 1 80 (dk_at dksX7_takeOver_3 7 rfl rfl)
theorem dX7_takeOver_80 : decode cX7_takeOver 80 = .ok (.aload_n 0, 1) := dk_42 (dk_at dksX7_takeOver_3 10 rfl rfl)
theorem dX7_takeOver_81 : decode cX7_takeOver 81 = .ok (.iconst 0, 1) := dk_3 (dk_at dksX7_takeOver_3 11 rfl rfl)
theorem dX7_takeOver_82 : decode cX7_takeOver 82 = .ok (.putfield 339, 3) := dk_181 1 83 (dk_at dksX7_takeOver_3 12 rfl rfl)
theorem dX7_takeOver_85 : decode cX7_takeOver 85 = .ok (.iconst 0, 1) := dk_3 (dk_at dksX7_takeOver_3 15 rfl rfl)
theorem dX7_takeOver_86 : decode cX7_takeOver 86 = .ok (.istore_n 1, 1) := dk_60 (dk_at dksX7_takeOver_3 16 rfl rfl)
theorem dX7_takeOver_87 : decode cX7_takeOver 87 = .ok (.iload_n 1, 1) := dk_27 (dk_at dksX7_takeOver_3 17 rfl rfl)
theorem dX7_takeOver_88 : decode cX7_takeOver 88 = .ok (.bipush 30, 2) := dk_16 30 (dk_at dksX7_takeOver_3 18 rfl rfl)
theorem dX7_takeOver_90 : decode cX7_takeOver 90 = .ok (.if_icmp .ge 36, 3) := dk_162 0 36 (dk_at dksX7_takeOver_3 20 rfl rfl)
theorem dX7_takeOver_93 : decode cX7_takeOver 93 = .ok (.aload_n 0, 1) := dk_42 (dk_at dksX7_takeOver_3 23 rfl rfl)
theorem dX7_takeOver_94 : decode cX7_takeOver 94 = .ok (.getfield 75, 3) := dk_180 0 75 (dk_at dksX7_takeOver_4 0 rfl rfl)
theorem dX7_takeOver_97 : decode cX7_takeOver 97 = .ok (.iload_n 1, 1) := dk_27 (dk_at dksX7_takeOver_4 3 rfl rfl)
theorem dX7_takeOver_98 : decode cX7_takeOver 98 = .ok (.aload_n 0, 1) := dk_42 (dk_at dksX7_takeOver_4 4 rfl rfl)
theorem dX7_takeOver_99 : decode cX7_takeOver 99 = .ok (.getfield 336, 3) := dk_180 1 80 (dk_at dksX7_takeOver_4 5 rfl rfl)
theorem dX7_takeOver_102 : decode cX7_takeOver 102 = .ok (.iload_n 1, 1) := dk_27 (dk_at dksX7_takeOver_4 8 rfl rfl)
theorem dX7_takeOver_103 : decode cX7_takeOver 103 = .ok (.invokestatic 232, 3) := dk_184 0 232 (dk_at dksX7_takeOver_4 9 rfl rfl)
theorem dX7_takeOver_106 : decode cX7_takeOver 106 = .ok (.ifCond .eq 7, 3) := dk_153 0 7 (dk_at dksX7_takeOver_4 12 rfl rfl)
theorem dX7_takeOver_109 : decode cX7_takeOver 109 = .ok (.iconst 0, 1) := dk_3 (dk_at dksX7_takeOver_4 15 rfl rfl)
theorem dX7_takeOver_110 : decode cX7_takeOver 110 = .ok (.goto 9, 3) := dk_167 0 9 (dk_at dksX7_takeOver_4 16 rfl rfl)
theorem dX7_takeOver_113 : decode cX7_takeOver 113 = .ok (.aload_n 0, 1) := dk_42 (dk_at dksX7_takeOver_4 19 rfl rfl)
theorem dX7_takeOver_114 : decode cX7_takeOver 114 = .ok (.getfield 44, 3) := dk_180 0 44 (dk_at dksX7_takeOver_4 20 rfl rfl)
theorem dX7_takeOver_117 : decode cX7_takeOver 117 = .ok (.iload_n 1, 1) := dk_27 (dk_at dksX7_takeOver_4 23 rfl rfl)
theorem dX7_takeOver_118 : decode cX7_takeOver 118 = .ok (.iaload, 1) := dk_46 (dk_at dksX7_takeOver_5 0 rfl rfl)
theorem dX7_takeOver_119 : decode cX7_takeOver 119 = .ok (.iastore, 1) := dk_79 (dk_at dksX7_takeOver_5 1 rfl rfl)
theorem dX7_takeOver_120 : decode cX7_takeOver 120 = .ok (.iinc 1 1, 3) := dk_132 1 1 (dk_at dksX7_takeOver_5 2 rfl rfl)
theorem dX7_takeOver_123 : decode cX7_takeOver 123 = .ok (.goto (-36), 3) := dk_167 255 220 (dk_at dksX7_takeOver_5 5 rfl rfl)
theorem dX7_takeOver_126 : decode cX7_takeOver 126 = .ok (.iconst 0, 1) := dk_3 (dk_at dksX7_takeOver_5 8 rfl rfl)
theorem dX7_takeOver_127 : decode cX7_takeOver 127 = .ok (.istore_n 1, 1) := dk_60 (dk_at dksX7_takeOver_5 9 rfl rfl)
theorem dX7_takeOver_128 : decode cX7_takeOver 128 = .ok (.iload_n 1, 1) := dk_27 (dk_at dksX7_takeOver_5 10 rfl rfl)
theorem dX7_takeOver_129 : decode cX7_takeOver 129 = .ok (.bipush 6, 2) := dk_16 6 (dk_at dksX7_takeOver_5 11 rfl rfl)
theorem dX7_takeOver_131 : decode cX7_takeOver 131 = .ok (.if_icmp .ge 65, 3) := dk_162 0 65 (dk_at dksX7_takeOver_5 13 rfl rfl)
theorem dX7_takeOver_134 : decode cX7_takeOver 134 = .ok (.iload_n 1, 1) := dk_27 (dk_at dksX7_takeOver_5 16 rfl rfl)
theorem dX7_takeOver_135 : decode cX7_takeOver 135 = .ok (.aload_n 0, 1) := dk_42 (dk_at dksX7_takeOver_5 17 rfl rfl)
theorem dX7_takeOver_136 : decode cX7_takeOver 136 = .ok (.getfield 40, 3) := dk_180 0 40 (dk_at dksX7_takeOver_5 18 rfl rfl)
theorem dX7_takeOver_139 : decode cX7_takeOver 139 = .ok (.iconst 2, 1) := dk_5 (dk_at dksX7_takeOver_5 21 rfl rfl)
theorem dX7_takeOver_140 : decode cX7_takeOver 140 = .ok (.iaload, 1) := dk_46 (dk_at dksX7_takeOver_5 22 rfl rfl)
theorem dX7_takeOver_141 : decode cX7_takeOver 141 = .ok (.if_icmp .ge 7, 3) := dk_162 0 7 (dk_at dksX7_takeOver_6 0 rfl rfl)
theorem dX7_takeOver_144 : decode cX7_takeOver 144 = .ok (.iconst 1, 1) := dk_4 (dk_at dksX7_takeOver_6 3 rfl rfl)
theorem dX7_takeOver_145 : decode cX7_takeOver 145 = .ok (.goto 4, 3) := dk_167 0 4 (dk_at dksX7_takeOver_6 4 rfl rfl)
theorem dX7_takeOver_148 : decode cX7_takeOver 148 = .ok (.iconst 0, 1) := dk_3 (dk_at dksX7_takeOver_6 7 rfl rfl)
theorem dX7_takeOver_149 : decode cX7_takeOver 149 = .ok (.istore_n 2, 1) := dk_61 (dk_at dksX7_takeOver_6 8 rfl rfl)
theorem dX7_takeOver_150 : decode cX7_takeOver 150 = .ok (.aload_n 0, 1) := dk_42 (dk_at dksX7_takeOver_6 9 rfl rfl)
theorem dX7_takeOver_151 : decode cX7_takeOver 151 = .ok (.getfield 65, 3) := dk_180 0 65 (dk_at dksX7_takeOver_6 10 rfl rfl)
theorem dX7_takeOver_154 : decode cX7_takeOver 154 = .ok (.iload_n 1, 1) := dk_27 (dk_at dksX7_takeOver_6 13 rfl rfl)
theorem dX7_takeOver_155 : decode cX7_takeOver 155 = .ok (.iload_n 2, 1) := dk_28 (dk_at dksX7_takeOver_6 14 rfl rfl)
theorem dX7_takeOver_156 : decode cX7_takeOver 156 = .ok (.ifCond .eq 12, 3) := dk_153 0 12 (dk_at dksX7_takeOver_6 15 rfl rfl)
theorem dX7_takeOver_159 : decode cX7_takeOver 159 = .ok (.aload_n 0, 1) := dk_42 (dk_at dksX7_takeOver_6 18 rfl rfl)
theorem dX7_takeOver_160 : decode cX7_takeOver 160 = .ok (.getfield 50, 3) := dk_180 0 50 (dk_at dksX7_takeOver_6 19 rfl rfl)
theorem dX7_takeOver_163 : decode cX7_takeOver 163 = .ok (.iload_n 1, 1) := dk_27 (dk_at dksX7_takeOver_6 22 rfl rfl)
theorem dX7_takeOver_164 : decode cX7_takeOver 164 = .ok (.iaload, 1) := dk_46 (dk_at dksX7_takeOver_6 23 rfl rfl)
theorem dX7_takeOver_165 : decode cX7_takeOver 165 = .ok (.goto 4, 3) := dk_167 0 4 (dk_at dksX7_takeOver_7 0 rfl rfl)
theorem dX7_takeOver_168 : decode cX7_takeOver 168 = .ok (.iconst 0, 1) := dk_3 (dk_at dksX7_takeOver_7 3 rfl rfl)
theorem dX7_takeOver_169 : decode cX7_takeOver 169 = .ok (.iastore, 1) := dk_79 (dk_at dksX7_takeOver_7 4 rfl rfl)
theorem dX7_takeOver_170 : decode cX7_takeOver 170 = .ok (.aload_n 0, 1) := dk_42 (dk_at dksX7_takeOver_7 5 rfl rfl)
theorem dX7_takeOver_171 : decode cX7_takeOver 171 = .ok (.getfield 77, 3) := dk_180 0 77 (dk_at dksX7_takeOver_7 6 rfl rfl)
theorem dX7_takeOver_174 : decode cX7_takeOver 174 = .ok (.iload_n 1, 1) := dk_27 (dk_at dksX7_takeOver_7 9 rfl rfl)
theorem dX7_takeOver_175 : decode cX7_takeOver 175 = .ok (.iload_n 2, 1) := dk_28 (dk_at dksX7_takeOver_7 10 rfl rfl)
theorem dX7_takeOver_176 : decode cX7_takeOver 176 = .ok (.ifCond .eq 12, 3) := dk_153 0 12 (dk_at dksX7_takeOver_7 11 rfl rfl)
theorem dX7_takeOver_179 : decode cX7_takeOver 179 = .ok (.aload_n 0, 1) := dk_42 (dk_at dksX7_takeOver_7 14 rfl rfl)
theorem dX7_takeOver_180 : decode cX7_takeOver 180 = .ok (.getfield 53, 3) := dk_180 0 53 (dk_at dksX7_takeOver_7 15 rfl rfl)
theorem dX7_takeOver_183 : decode cX7_takeOver 183 = .ok (.iload_n 1, 1) := dk_27 (dk_at dksX7_takeOver_7 18 rfl rfl)
theorem dX7_takeOver_184 : decode cX7_takeOver 184 = .ok (.iaload, 1) := dk_46 (dk_at dksX7_takeOver_7 19 rfl rfl)
theorem dX7_takeOver_185 : decode cX7_takeOver 185 = .ok (.goto 4, 3) := dk_167 0 4 (dk_at dksX7_takeOver_7 20 rfl rfl)
theorem dX7_takeOver_188 : decode cX7_takeOver 188 = .ok (.iconst 0, 1) := dk_3 (dk_at dksX7_takeOver_7 23 rfl rfl)
theorem dX7_takeOver_189 : decode cX7_takeOver 189 = .ok (.iastore, 1) := dk_79 (dk_at dksX7_takeOver_8 0 rfl rfl)
theorem dX7_takeOver_190 : decode cX7_takeOver 190 = .ok (.iinc 1 1, 3) := dk_132 1 1 (dk_at dksX7_takeOver_8 1 rfl rfl)
theorem dX7_takeOver_193 : decode cX7_takeOver 193 = .ok (.goto (-65), 3) := dk_167 255 191 (dk_at dksX7_takeOver_8 4 rfl rfl)
theorem dX7_takeOver_196 : decode cX7_takeOver 196 = .ok (.aload_n 0, 1) := dk_42 (dk_at dksX7_takeOver_8 7 rfl rfl)
theorem dX7_takeOver_197 : decode cX7_takeOver 197 = .ok (.iconst 0, 1) := dk_3 (dk_at dksX7_takeOver_8 8 rfl rfl)
theorem dX7_takeOver_198 : decode cX7_takeOver 198 = .ok (.putfield 342, 3) := dk_181 1 86 (dk_at dksX7_takeOver_8 9 rfl rfl)
theorem dX7_takeOver_201 : decode cX7_takeOver 201 = .ok (.aload_n 0, 1) := dk_42 (dk_at dksX7_takeOver_8 12 rfl rfl)
theorem dX7_takeOver_202 : decode cX7_takeOver 202 = .ok (.iconst 0, 1) := dk_3 (dk_at dksX7_takeOver_8 13 rfl rfl)
theorem dX7_takeOver_203 : decode cX7_takeOver 203 = .ok (.putfield 345, 3) := dk_181 1 89 (dk_at dksX7_takeOver_8 14 rfl rfl)
theorem dX7_takeOver_206 : decode cX7_takeOver 206 = .ok (.aload_n 0, 1) := dk_42 (dk_at dksX7_takeOver_8 17 rfl rfl)
theorem dX7_takeOver_207 : decode cX7_takeOver 207 = .ok (.iconst 0, 1) := dk_3 (dk_at dksX7_takeOver_8 18 rfl rfl)
theorem dX7_takeOver_208 : decode cX7_takeOver 208 = .ok (.putfield 348, 3) := dk_181 1 92 (dk_at dksX7_takeOver_8 19 rfl rfl)
theorem dX7_takeOver_211 : decode cX7_takeOver 211 = .ok (.return_, 1) := dk_177 (dk_at dksX7_takeOver_8 22 rfl rfl)
abbrev cX7_takeHalf : ByteArray := prog_18_method_41_code
def yX7_takeHalf : MethodName := ⟨RX7, "takeHalf", "([I)V"⟩
def dkwX7_takeHalf_1 : List UInt8 := [167, 255, 234, 177]
abbrev dktX7_takeHalf_1 : List UInt8 := dkwX7_takeHalf_1 ++ []
def dkwX7_takeHalf_0 : List UInt8 := [3, 60, 27, 42, 190, 5, 108, 162, 0, 20, 42, 27, 42, 42, 190, 5, 108, 27, 96, 46, 79, 132, 1, 1]
abbrev dktX7_takeHalf_0 : List UInt8 := dkwX7_takeHalf_0 ++ dktX7_takeHalf_1
theorem dksX7_takeHalf_0 : cX7_takeHalf.data.toList.drop 0 = dktX7_takeHalf_0 := by decide +kernel
theorem dksX7_takeHalf_1 : cX7_takeHalf.data.toList.drop 24 = dktX7_takeHalf_1 := dk_seg dksX7_takeHalf_0 24 rfl rfl
theorem dX7_takeHalf_0 : decode cX7_takeHalf 0 = .ok (.iconst 0, 1) := dk_3 (dk_at dksX7_takeHalf_0 0 rfl rfl)
theorem dX7_takeHalf_1 : decode cX7_takeHalf 1 = .ok (.istore_n 1, 1) := dk_60 (dk_at dksX7_takeHalf_0 1 rfl rfl)
theorem dX7_takeHalf_2 : decode cX7_takeHalf 2 = .ok (.iload_n 1, 1) := dk_27 (dk_at dksX7_takeHalf_0 2 rfl rfl)
theorem dX7_takeHalf_3 : decode cX7_takeHalf 3 = .ok (.aload_n 0, 1) := dk_42 (dk_at dksX7_takeHalf_0 3 rfl rfl)
theorem dX7_takeHalf_4 : decode cX7_takeHalf 4 = .ok (.arraylength, 1) := dk_190 (dk_at dksX7_takeHalf_0 4 rfl rfl)
theorem dX7_takeHalf_5 : decode cX7_takeHalf 5 = .ok (.iconst 2, 1) := dk_5 (dk_at dksX7_takeHalf_0 5 rfl rfl)
theorem dX7_takeHalf_6 : decode cX7_takeHalf 6 = .ok (.idiv, 1) := dk_108 (dk_at dksX7_takeHalf_0 6 rfl rfl)
theorem dX7_takeHalf_7 : decode cX7_takeHalf 7 = .ok (.if_icmp .ge 20, 3) := dk_162 0 20 (dk_at dksX7_takeHalf_0 7 rfl rfl)
theorem dX7_takeHalf_10 : decode cX7_takeHalf 10 = .ok (.aload_n 0, 1) := dk_42 (dk_at dksX7_takeHalf_0 10 rfl rfl)
theorem dX7_takeHalf_11 : decode cX7_takeHalf 11 = .ok (.iload_n 1, 1) := dk_27 (dk_at dksX7_takeHalf_0 11 rfl rfl)
theorem dX7_takeHalf_12 : decode cX7_takeHalf 12 = .ok (.aload_n 0, 1) := dk_42 (dk_at dksX7_takeHalf_0 12 rfl rfl)
theorem dX7_takeHalf_13 : decode cX7_takeHalf 13 = .ok (.aload_n 0, 1) := dk_42 (dk_at dksX7_takeHalf_0 13 rfl rfl)
theorem dX7_takeHalf_14 : decode cX7_takeHalf 14 = .ok (.arraylength, 1) := dk_190 (dk_at dksX7_takeHalf_0 14 rfl rfl)
theorem dX7_takeHalf_15 : decode cX7_takeHalf 15 = .ok (.iconst 2, 1) := dk_5 (dk_at dksX7_takeHalf_0 15 rfl rfl)
theorem dX7_takeHalf_16 : decode cX7_takeHalf 16 = .ok (.idiv, 1) := dk_108 (dk_at dksX7_takeHalf_0 16 rfl rfl)
theorem dX7_takeHalf_17 : decode cX7_takeHalf 17 = .ok (.iload_n 1, 1) := dk_27 (dk_at dksX7_takeHalf_0 17 rfl rfl)
theorem dX7_takeHalf_18 : decode cX7_takeHalf 18 = .ok (.iadd, 1) := dk_96 (dk_at dksX7_takeHalf_0 18 rfl rfl)
theorem dX7_takeHalf_19 : decode cX7_takeHalf 19 = .ok (.iaload, 1) := dk_46 (dk_at dksX7_takeHalf_0 19 rfl rfl)
theorem dX7_takeHalf_20 : decode cX7_takeHalf 20 = .ok (.iastore, 1) := dk_79 (dk_at dksX7_takeHalf_0 20 rfl rfl)
theorem dX7_takeHalf_21 : decode cX7_takeHalf 21 = .ok (.iinc 1 1, 3) := dk_132 1 1 (dk_at dksX7_takeHalf_0 21 rfl rfl)
theorem dX7_takeHalf_24 : decode cX7_takeHalf 24 = .ok (.goto (-22), 3) := dk_167 255 234 (dk_at dksX7_takeHalf_1 0 rfl rfl)
theorem dX7_takeHalf_27 : decode cX7_takeHalf 27 = .ok (.return_, 1) := dk_177 (dk_at dksX7_takeHalf_1 3 rfl rfl)
abbrev cX7_fault : ByteArray := prog_18_method_43_code
def yX7_fault : MethodName := ⟨RX7, "fault", "()I"⟩
def dkwX7_fault_0 : List UInt8 := [42, 3, 181, 0, 150, 42, 180, 0, 71, 172]
abbrev dktX7_fault_0 : List UInt8 := dkwX7_fault_0 ++ []
theorem dksX7_fault_0 : cX7_fault.data.toList.drop 0 = dktX7_fault_0 := by decide +kernel
theorem dX7_fault_0 : decode cX7_fault 0 = .ok (.aload_n 0, 1) := dk_42 (dk_at dksX7_fault_0 0 rfl rfl)
theorem dX7_fault_1 : decode cX7_fault 1 = .ok (.iconst 0, 1) := dk_3 (dk_at dksX7_fault_0 1 rfl rfl)
theorem dX7_fault_2 : decode cX7_fault 2 = .ok (.putfield 150, 3) := dk_181 0 150 (dk_at dksX7_fault_0 2 rfl rfl)
theorem dX7_fault_5 : decode cX7_fault 5 = .ok (.aload_n 0, 1) := dk_42 (dk_at dksX7_fault_0 5 rfl rfl)
theorem dX7_fault_6 : decode cX7_fault 6 = .ok (.getfield 71, 3) := dk_180 0 71 (dk_at dksX7_fault_0 6 rfl rfl)
theorem dX7_fault_9 : decode cX7_fault 9 = .ok (.ireturn, 1) := dk_172 (dk_at dksX7_fault_0 9 rfl rfl)
abbrev cX7_count : ByteArray := prog_18_method_61_code
def yX7_count : MethodName := ⟨RX7, "count", "(I)I"⟩
def dkwX7_count_5 : List UInt8 := [172, 42, 180, 0, 161, 172, 42, 180, 0, 62, 27, 16, 14, 100, 46, 172, 42, 4, 182, 1, 62, 172]
abbrev dktX7_count_5 : List UInt8 := dkwX7_count_5 ++ []
def dkwX7_count_4 : List UInt8 := [42, 180, 1, 80, 172, 42, 180, 1, 83, 172, 42, 182, 1, 149, 172, 42, 180, 1, 86, 172, 42, 180, 1, 89]
abbrev dktX7_count_4 : List UInt8 := dkwX7_count_4 ++ dktX7_count_5
def dkwX7_count_3 : List UInt8 := [42, 180, 0, 147, 172, 42, 180, 0, 40, 7, 46, 172, 42, 180, 0, 40, 8, 46, 172, 42, 180, 1, 77, 172]
abbrev dktX7_count_3 : List UInt8 := dkwX7_count_3 ++ dktX7_count_4
def dkwX7_count_2 : List UInt8 := [42, 182, 0, 153, 172, 42, 180, 0, 40, 3, 46, 172, 42, 180, 0, 40, 5, 46, 172, 42, 180, 1, 75, 172]
abbrev dktX7_count_2 : List UInt8 := dkwX7_count_2 ++ dktX7_count_3
def dkwX7_count_1 : List UInt8 := [170, 0, 0, 0, 0, 170, 0, 0, 0, 0, 0, 0, 0, 16, 0, 0, 0, 82, 0, 0, 0, 87, 0, 0, 0, 94, 0, 0, 0, 101, 0, 0, 0, 106, 0, 0, 0, 111, 0, 0, 0, 118, 0, 0, 0, 125, 0, 0, 0, 130, 0, 0, 0, 135, 0, 0, 0, 140, 0, 0, 0, 145, 0, 0, 0, 150, 0, 0, 0, 155, 0, 0, 0, 160, 0, 0, 0, 160, 0, 0, 0, 160]
abbrev dktX7_count_1 : List UInt8 := dkwX7_count_1 ++ dktX7_count_2
def dkwX7_count_0 : List UInt8 := [42, 3, 181, 0, 150, 27]
abbrev dktX7_count_0 : List UInt8 := dkwX7_count_0 ++ dktX7_count_1
theorem dksX7_count_0 : cX7_count.data.toList.drop 0 = dktX7_count_0 := by decide +kernel
theorem dksX7_count_1 : cX7_count.data.toList.drop 6 = dktX7_count_1 := dk_seg dksX7_count_0 6 rfl rfl
theorem dksX7_count_2 : cX7_count.data.toList.drop 88 = dktX7_count_2 := dk_seg dksX7_count_1 82 rfl rfl
theorem dksX7_count_3 : cX7_count.data.toList.drop 112 = dktX7_count_3 := dk_seg dksX7_count_2 24 rfl rfl
theorem dksX7_count_4 : cX7_count.data.toList.drop 136 = dktX7_count_4 := dk_seg dksX7_count_3 24 rfl rfl
theorem dksX7_count_5 : cX7_count.data.toList.drop 160 = dktX7_count_5 := dk_seg dksX7_count_4 24 rfl rfl
theorem dX7_count_0 : decode cX7_count 0 = .ok (.aload_n 0, 1) := dk_42 (dk_at dksX7_count_0 0 rfl rfl)
theorem dX7_count_1 : decode cX7_count 1 = .ok (.iconst 0, 1) := dk_3 (dk_at dksX7_count_0 1 rfl rfl)
theorem dX7_count_2 : decode cX7_count 2 = .ok (.putfield 150, 3) := dk_181 0 150 (dk_at dksX7_count_0 2 rfl rfl)
theorem dX7_count_5 : decode cX7_count 5 = .ok (.iload_n 1, 1) := dk_27 (dk_at dksX7_count_0 5 rfl rfl)
theorem dX7_count_6 : decode cX7_count 6 = .ok (.tableswitch 170 0 16 #[82, 87, 94, 101, 106, 111, 118, 125, 130, 135, 140, 145, 150, 155, 160, 160, 160], 82) := by decide +kernel
theorem dX7_count_88 : decode cX7_count 88 = .ok (.aload_n 0, 1) := dk_42 (dk_at dksX7_count_2 0 rfl rfl)
theorem dX7_count_89 : decode cX7_count 89 = .ok (.invokevirtual 153, 3) := dk_182 0 153 (dk_at dksX7_count_2 1 rfl rfl)
theorem dX7_count_92 : decode cX7_count 92 = .ok (.ireturn, 1) := dk_172 (dk_at dksX7_count_2 4 rfl rfl)
theorem dX7_count_93 : decode cX7_count 93 = .ok (.aload_n 0, 1) := dk_42 (dk_at dksX7_count_2 5 rfl rfl)
theorem dX7_count_94 : decode cX7_count 94 = .ok (.getfield 40, 3) := dk_180 0 40 (dk_at dksX7_count_2 6 rfl rfl)
theorem dX7_count_97 : decode cX7_count 97 = .ok (.iconst 0, 1) := dk_3 (dk_at dksX7_count_2 9 rfl rfl)
theorem dX7_count_98 : decode cX7_count 98 = .ok (.iaload, 1) := dk_46 (dk_at dksX7_count_2 10 rfl rfl)
theorem dX7_count_99 : decode cX7_count 99 = .ok (.ireturn, 1) := dk_172 (dk_at dksX7_count_2 11 rfl rfl)
theorem dX7_count_100 : decode cX7_count 100 = .ok (.aload_n 0, 1) := dk_42 (dk_at dksX7_count_2 12 rfl rfl)
theorem dX7_count_101 : decode cX7_count 101 = .ok (.getfield 40, 3) := dk_180 0 40 (dk_at dksX7_count_2 13 rfl rfl)
theorem dX7_count_104 : decode cX7_count 104 = .ok (.iconst 2, 1) := dk_5 (dk_at dksX7_count_2 16 rfl rfl)
theorem dX7_count_105 : decode cX7_count 105 = .ok (.iaload, 1) := dk_46 (dk_at dksX7_count_2 17 rfl rfl)
theorem dX7_count_106 : decode cX7_count 106 = .ok (.ireturn, 1) := dk_172 (dk_at dksX7_count_2 18 rfl rfl)
theorem dX7_count_107 : decode cX7_count 107 = .ok (.aload_n 0, 1) := dk_42 (dk_at dksX7_count_2 19 rfl rfl)
theorem dX7_count_108 : decode cX7_count 108 = .ok (.getfield 331, 3) := dk_180 1 75 (dk_at dksX7_count_2 20 rfl rfl)
theorem dX7_count_111 : decode cX7_count 111 = .ok (.ireturn, 1) := dk_172 (dk_at dksX7_count_2 23 rfl rfl)
theorem dX7_count_112 : decode cX7_count 112 = .ok (.aload_n 0, 1) := dk_42 (dk_at dksX7_count_3 0 rfl rfl)
theorem dX7_count_113 : decode cX7_count 113 = .ok (.getfield 147, 3) := dk_180 0 147 (dk_at dksX7_count_3 1 rfl rfl)
theorem dX7_count_116 : decode cX7_count 116 = .ok (.ireturn, 1) := dk_172 (dk_at dksX7_count_3 4 rfl rfl)
theorem dX7_count_117 : decode cX7_count 117 = .ok (.aload_n 0, 1) := dk_42 (dk_at dksX7_count_3 5 rfl rfl)
theorem dX7_count_118 : decode cX7_count 118 = .ok (.getfield 40, 3) := dk_180 0 40 (dk_at dksX7_count_3 6 rfl rfl)
theorem dX7_count_121 : decode cX7_count 121 = .ok (.iconst 4, 1) := dk_7 (dk_at dksX7_count_3 9 rfl rfl)
theorem dX7_count_122 : decode cX7_count 122 = .ok (.iaload, 1) := dk_46 (dk_at dksX7_count_3 10 rfl rfl)
theorem dX7_count_123 : decode cX7_count 123 = .ok (.ireturn, 1) := dk_172 (dk_at dksX7_count_3 11 rfl rfl)
theorem dX7_count_124 : decode cX7_count 124 = .ok (.aload_n 0, 1) := dk_42 (dk_at dksX7_count_3 12 rfl rfl)
theorem dX7_count_125 : decode cX7_count 125 = .ok (.getfield 40, 3) := dk_180 0 40 (dk_at dksX7_count_3 13 rfl rfl)
theorem dX7_count_128 : decode cX7_count 128 = .ok (.iconst 5, 1) := dk_8 (dk_at dksX7_count_3 16 rfl rfl)
theorem dX7_count_129 : decode cX7_count 129 = .ok (.iaload, 1) := dk_46 (dk_at dksX7_count_3 17 rfl rfl)
theorem dX7_count_130 : decode cX7_count 130 = .ok (.ireturn, 1) := dk_172 (dk_at dksX7_count_3 18 rfl rfl)
theorem dX7_count_131 : decode cX7_count 131 = .ok (.aload_n 0, 1) := dk_42 (dk_at dksX7_count_3 19 rfl rfl)
theorem dX7_count_132 : decode cX7_count 132 = .ok (.getfield 333, 3) := dk_180 1 77 (dk_at dksX7_count_3 20 rfl rfl)
theorem dX7_count_135 : decode cX7_count 135 = .ok (.ireturn, 1) := dk_172 (dk_at dksX7_count_3 23 rfl rfl)
theorem dX7_count_136 : decode cX7_count 136 = .ok (.aload_n 0, 1) := dk_42 (dk_at dksX7_count_4 0 rfl rfl)
theorem dX7_count_137 : decode cX7_count 137 = .ok (.getfield 336, 3) := dk_180 1 80 (dk_at dksX7_count_4 1 rfl rfl)
theorem dX7_count_140 : decode cX7_count 140 = .ok (.ireturn, 1) := dk_172 (dk_at dksX7_count_4 4 rfl rfl)
theorem dX7_count_141 : decode cX7_count 141 = .ok (.aload_n 0, 1) := dk_42 (dk_at dksX7_count_4 5 rfl rfl)
theorem dX7_count_142 : decode cX7_count 142 = .ok (.getfield 339, 3) := dk_180 1 83 (dk_at dksX7_count_4 6 rfl rfl)
theorem dX7_count_145 : decode cX7_count 145 = .ok (.ireturn, 1) := dk_172 (dk_at dksX7_count_4 9 rfl rfl)
theorem dX7_count_146 : decode cX7_count 146 = .ok (.aload_n 0, 1) := dk_42 (dk_at dksX7_count_4 10 rfl rfl)
theorem dX7_count_147 : decode cX7_count 147 = .ok (.invokevirtual 405, 3) := dk_182 1 149 (dk_at dksX7_count_4 11 rfl rfl)
theorem dX7_count_150 : decode cX7_count 150 = .ok (.ireturn, 1) := dk_172 (dk_at dksX7_count_4 14 rfl rfl)
theorem dX7_count_151 : decode cX7_count 151 = .ok (.aload_n 0, 1) := dk_42 (dk_at dksX7_count_4 15 rfl rfl)
theorem dX7_count_152 : decode cX7_count 152 = .ok (.getfield 342, 3) := dk_180 1 86 (dk_at dksX7_count_4 16 rfl rfl)
theorem dX7_count_155 : decode cX7_count 155 = .ok (.ireturn, 1) := dk_172 (dk_at dksX7_count_4 19 rfl rfl)
theorem dX7_count_156 : decode cX7_count 156 = .ok (.aload_n 0, 1) := dk_42 (dk_at dksX7_count_4 20 rfl rfl)
theorem dX7_count_157 : decode cX7_count 157 = .ok (.getfield 345, 3) := dk_180 1 89 (dk_at dksX7_count_4 21 rfl rfl)
theorem dX7_count_160 : decode cX7_count 160 = .ok (.ireturn, 1) := dk_172 (dk_at dksX7_count_5 0 rfl rfl)
theorem dX7_count_161 : decode cX7_count 161 = .ok (.aload_n 0, 1) := dk_42 (dk_at dksX7_count_5 1 rfl rfl)
theorem dX7_count_162 : decode cX7_count 162 = .ok (.getfield 161, 3) := dk_180 0 161 (dk_at dksX7_count_5 2 rfl rfl)
theorem dX7_count_165 : decode cX7_count 165 = .ok (.ireturn, 1) := dk_172 (dk_at dksX7_count_5 5 rfl rfl)
theorem dX7_count_166 : decode cX7_count 166 = .ok (.aload_n 0, 1) := dk_42 (dk_at dksX7_count_5 6 rfl rfl)
theorem dX7_count_167 : decode cX7_count 167 = .ok (.getfield 62, 3) := dk_180 0 62 (dk_at dksX7_count_5 7 rfl rfl)
theorem dX7_count_170 : decode cX7_count 170 = .ok (.iload_n 1, 1) := dk_27 (dk_at dksX7_count_5 10 rfl rfl)
theorem dX7_count_171 : decode cX7_count 171 = .ok (.bipush 14, 2) := dk_16 14 (dk_at dksX7_count_5 11 rfl rfl)
theorem dX7_count_173 : decode cX7_count 173 = .ok (.isub, 1) := dk_100 (dk_at dksX7_count_5 13 rfl rfl)
theorem dX7_count_174 : decode cX7_count 174 = .ok (.iaload, 1) := dk_46 (dk_at dksX7_count_5 14 rfl rfl)
theorem dX7_count_175 : decode cX7_count 175 = .ok (.ireturn, 1) := dk_172 (dk_at dksX7_count_5 15 rfl rfl)
theorem dX7_count_176 : decode cX7_count 176 = .ok (.aload_n 0, 1) := dk_42 (dk_at dksX7_count_5 16 rfl rfl)
theorem dX7_count_177 : decode cX7_count 177 = .ok (.iconst 1, 1) := dk_4 (dk_at dksX7_count_5 17 rfl rfl)
theorem dX7_count_178 : decode cX7_count 178 = .ok (.invokevirtual 318, 3) := dk_182 1 62 (dk_at dksX7_count_5 18 rfl rfl)
theorem dX7_count_181 : decode cX7_count 181 = .ok (.ireturn, 1) := dk_172 (dk_at dksX7_count_5 21 rfl rfl)
abbrev cX7_cells : ByteArray := prog_18_method_9_code
def yX7_cells : MethodName := ⟨RX7, "cells", "()I"⟩
def dkwX7_cells_0 : List UInt8 := [42, 180, 0, 40, 3, 46, 42, 180, 0, 40, 4, 46, 104, 172]
abbrev dktX7_cells_0 : List UInt8 := dkwX7_cells_0 ++ []
theorem dksX7_cells_0 : cX7_cells.data.toList.drop 0 = dktX7_cells_0 := by decide +kernel
theorem dX7_cells_0 : decode cX7_cells 0 = .ok (.aload_n 0, 1) := dk_42 (dk_at dksX7_cells_0 0 rfl rfl)
theorem dX7_cells_1 : decode cX7_cells 1 = .ok (.getfield 40, 3) := dk_180 0 40 (dk_at dksX7_cells_0 1 rfl rfl)
theorem dX7_cells_4 : decode cX7_cells 4 = .ok (.iconst 0, 1) := dk_3 (dk_at dksX7_cells_0 4 rfl rfl)
theorem dX7_cells_5 : decode cX7_cells 5 = .ok (.iaload, 1) := dk_46 (dk_at dksX7_cells_0 5 rfl rfl)
theorem dX7_cells_6 : decode cX7_cells 6 = .ok (.aload_n 0, 1) := dk_42 (dk_at dksX7_cells_0 6 rfl rfl)
theorem dX7_cells_7 : decode cX7_cells 7 = .ok (.getfield 40, 3) := dk_180 0 40 (dk_at dksX7_cells_0 7 rfl rfl)
theorem dX7_cells_10 : decode cX7_cells 10 = .ok (.iconst 1, 1) := dk_4 (dk_at dksX7_cells_0 10 rfl rfl)
theorem dX7_cells_11 : decode cX7_cells 11 = .ok (.iaload, 1) := dk_46 (dk_at dksX7_cells_0 11 rfl rfl)
theorem dX7_cells_12 : decode cX7_cells 12 = .ok (.imul, 1) := dk_104 (dk_at dksX7_cells_0 12 rfl rfl)
theorem dX7_cells_13 : decode cX7_cells 13 = .ok (.ireturn, 1) := dk_172 (dk_at dksX7_cells_0 13 rfl rfl)
abbrev cX7_allBlue : ByteArray := prog_18_method_60_code
def yX7_allBlue : MethodName := ⟨RX7, "allBlue", "()I"⟩
def dkwX7_allBlue_1 : List UInt8 := [167, 255, 236, 27, 172]
abbrev dktX7_allBlue_1 : List UInt8 := dkwX7_allBlue_1 ++ []
def dkwX7_allBlue_0 : List UInt8 := [3, 60, 3, 61, 28, 42, 182, 0, 153, 162, 0, 18, 27, 42, 180, 0, 75, 28, 46, 96, 60, 132, 2, 1]
abbrev dktX7_allBlue_0 : List UInt8 := dkwX7_allBlue_0 ++ dktX7_allBlue_1
theorem dksX7_allBlue_0 : cX7_allBlue.data.toList.drop 0 = dktX7_allBlue_0 := by decide +kernel
theorem dksX7_allBlue_1 : cX7_allBlue.data.toList.drop 24 = dktX7_allBlue_1 := dk_seg dksX7_allBlue_0 24 rfl rfl
theorem dX7_allBlue_0 : decode cX7_allBlue 0 = .ok (.iconst 0, 1) := dk_3 (dk_at dksX7_allBlue_0 0 rfl rfl)
theorem dX7_allBlue_1 : decode cX7_allBlue 1 = .ok (.istore_n 1, 1) := dk_60 (dk_at dksX7_allBlue_0 1 rfl rfl)
theorem dX7_allBlue_2 : decode cX7_allBlue 2 = .ok (.iconst 0, 1) := dk_3 (dk_at dksX7_allBlue_0 2 rfl rfl)
theorem dX7_allBlue_3 : decode cX7_allBlue 3 = .ok (.istore_n 2, 1) := dk_61 (dk_at dksX7_allBlue_0 3 rfl rfl)
theorem dX7_allBlue_4 : decode cX7_allBlue 4 = .ok (.iload_n 2, 1) := dk_28 (dk_at dksX7_allBlue_0 4 rfl rfl)
theorem dX7_allBlue_5 : decode cX7_allBlue 5 = .ok (.aload_n 0, 1) := dk_42 (dk_at dksX7_allBlue_0 5 rfl rfl)
theorem dX7_allBlue_6 : decode cX7_allBlue 6 = .ok (.invokevirtual 153, 3) := dk_182 0 153 (dk_at dksX7_allBlue_0 6 rfl rfl)
theorem dX7_allBlue_9 : decode cX7_allBlue 9 = .ok (.if_icmp .ge 18, 3) := dk_162 0 18 (dk_at dksX7_allBlue_0 9 rfl rfl)
theorem dX7_allBlue_12 : decode cX7_allBlue 12 = .ok (.iload_n 1, 1) := dk_27 (dk_at dksX7_allBlue_0 12 rfl rfl)
theorem dX7_allBlue_13 : decode cX7_allBlue 13 = .ok (.aload_n 0, 1) := dk_42 (dk_at dksX7_allBlue_0 13 rfl rfl)
theorem dX7_allBlue_14 : decode cX7_allBlue 14 = .ok (.getfield 75, 3) := dk_180 0 75 (dk_at dksX7_allBlue_0 14 rfl rfl)
theorem dX7_allBlue_17 : decode cX7_allBlue 17 = .ok (.iload_n 2, 1) := dk_28 (dk_at dksX7_allBlue_0 17 rfl rfl)
theorem dX7_allBlue_18 : decode cX7_allBlue 18 = .ok (.iaload, 1) := dk_46 (dk_at dksX7_allBlue_0 18 rfl rfl)
theorem dX7_allBlue_19 : decode cX7_allBlue 19 = .ok (.iadd, 1) := dk_96 (dk_at dksX7_allBlue_0 19 rfl rfl)
theorem dX7_allBlue_20 : decode cX7_allBlue 20 = .ok (.istore_n 1, 1) := dk_60 (dk_at dksX7_allBlue_0 20 rfl rfl)
theorem dX7_allBlue_21 : decode cX7_allBlue 21 = .ok (.iinc 2 1, 3) := dk_132 2 1 (dk_at dksX7_allBlue_0 21 rfl rfl)
theorem dX7_allBlue_24 : decode cX7_allBlue 24 = .ok (.goto (-20), 3) := dk_167 255 236 (dk_at dksX7_allBlue_1 0 rfl rfl)
theorem dX7_allBlue_27 : decode cX7_allBlue 27 = .ok (.iload_n 1, 1) := dk_27 (dk_at dksX7_allBlue_1 3 rfl rfl)
theorem dX7_allBlue_28 : decode cX7_allBlue 28 = .ok (.ireturn, 1) := dk_172 (dk_at dksX7_allBlue_1 4 rfl rfl)
abbrev cX7_cell : ByteArray := prog_18_method_64_code
def yX7_cell : MethodName := ⟨RX7, "cell", "(II)I"⟩
def dkwX7_cell_3 : List UInt8 := [182, 1, 158, 172, 42, 4, 182, 1, 62, 172]
abbrev dktX7_cell_3 : List UInt8 := dkwX7_cell_3 ++ []
def dkwX7_cell_2 : List UInt8 := [42, 180, 0, 75, 27, 46, 172, 42, 27, 182, 1, 107, 172, 42, 27, 182, 1, 155, 172, 42, 27, 3]
abbrev dktX7_cell_2 : List UInt8 := dkwX7_cell_2 ++ dktX7_cell_3
def dkwX7_cell_1 : List UInt8 := [170, 0, 0, 0, 0, 0, 0, 58, 0, 0, 0, 0, 0, 0, 0, 3, 0, 0, 0, 32, 0, 0, 0, 39, 0, 0, 0, 45, 0, 0, 0, 51]
abbrev dktX7_cell_1 : List UInt8 := dkwX7_cell_1 ++ dktX7_cell_2
def dkwX7_cell_0 : List UInt8 := [42, 3, 181, 0, 150, 42, 27, 182, 1, 152, 154, 0, 9, 42, 4, 182, 1, 62, 172, 28]
abbrev dktX7_cell_0 : List UInt8 := dkwX7_cell_0 ++ dktX7_cell_1
theorem dksX7_cell_0 : cX7_cell.data.toList.drop 0 = dktX7_cell_0 := by decide +kernel
theorem dksX7_cell_1 : cX7_cell.data.toList.drop 20 = dktX7_cell_1 := dk_seg dksX7_cell_0 20 rfl rfl
theorem dksX7_cell_2 : cX7_cell.data.toList.drop 52 = dktX7_cell_2 := dk_seg dksX7_cell_1 32 rfl rfl
theorem dksX7_cell_3 : cX7_cell.data.toList.drop 74 = dktX7_cell_3 := dk_seg dksX7_cell_2 22 rfl rfl
theorem dX7_cell_0 : decode cX7_cell 0 = .ok (.aload_n 0, 1) := dk_42 (dk_at dksX7_cell_0 0 rfl rfl)
theorem dX7_cell_1 : decode cX7_cell 1 = .ok (.iconst 0, 1) := dk_3 (dk_at dksX7_cell_0 1 rfl rfl)
theorem dX7_cell_2 : decode cX7_cell 2 = .ok (.putfield 150, 3) := dk_181 0 150 (dk_at dksX7_cell_0 2 rfl rfl)
theorem dX7_cell_5 : decode cX7_cell 5 = .ok (.aload_n 0, 1) := dk_42 (dk_at dksX7_cell_0 5 rfl rfl)
theorem dX7_cell_6 : decode cX7_cell 6 = .ok (.iload_n 1, 1) := dk_27 (dk_at dksX7_cell_0 6 rfl rfl)
theorem dX7_cell_7 : decode cX7_cell 7 = .ok (.invokevirtual 408, 3) := dk_182 1 152 (dk_at dksX7_cell_0 7 rfl rfl)
theorem dX7_cell_10 : decode cX7_cell 10 = .ok (.ifCond .ne 9, 3) := dk_154 0 9 (dk_at dksX7_cell_0 10 rfl rfl)
theorem dX7_cell_13 : decode cX7_cell 13 = .ok (.aload_n 0, 1) := dk_42 (dk_at dksX7_cell_0 13 rfl rfl)
theorem dX7_cell_14 : decode cX7_cell 14 = .ok (.iconst 1, 1) := dk_4 (dk_at dksX7_cell_0 14 rfl rfl)
theorem dX7_cell_15 : decode cX7_cell 15 = .ok (.invokevirtual 318, 3) := dk_182 1 62 (dk_at dksX7_cell_0 15 rfl rfl)
theorem dX7_cell_18 : decode cX7_cell 18 = .ok (.ireturn, 1) := dk_172 (dk_at dksX7_cell_0 18 rfl rfl)
theorem dX7_cell_19 : decode cX7_cell 19 = .ok (.iload_n 2, 1) := dk_28 (dk_at dksX7_cell_0 19 rfl rfl)
theorem dX7_cell_20 : decode cX7_cell 20 = .ok (.tableswitch 58 0 3 #[32, 39, 45, 51], 32) := by decide +kernel
theorem dX7_cell_52 : decode cX7_cell 52 = .ok (.aload_n 0, 1) := dk_42 (dk_at dksX7_cell_2 0 rfl rfl)
theorem dX7_cell_53 : decode cX7_cell 53 = .ok (.getfield 75, 3) := dk_180 0 75 (dk_at dksX7_cell_2 1 rfl rfl)
theorem dX7_cell_56 : decode cX7_cell 56 = .ok (.iload_n 1, 1) := dk_27 (dk_at dksX7_cell_2 4 rfl rfl)
theorem dX7_cell_57 : decode cX7_cell 57 = .ok (.iaload, 1) := dk_46 (dk_at dksX7_cell_2 5 rfl rfl)
theorem dX7_cell_58 : decode cX7_cell 58 = .ok (.ireturn, 1) := dk_172 (dk_at dksX7_cell_2 6 rfl rfl)
theorem dX7_cell_59 : decode cX7_cell 59 = .ok (.aload_n 0, 1) := dk_42 (dk_at dksX7_cell_2 7 rfl rfl)
theorem dX7_cell_60 : decode cX7_cell 60 = .ok (.iload_n 1, 1) := dk_27 (dk_at dksX7_cell_2 8 rfl rfl)
theorem dX7_cell_61 : decode cX7_cell 61 = .ok (.invokevirtual 363, 3) := dk_182 1 107 (dk_at dksX7_cell_2 9 rfl rfl)
theorem dX7_cell_64 : decode cX7_cell 64 = .ok (.ireturn, 1) := dk_172 (dk_at dksX7_cell_2 12 rfl rfl)
theorem dX7_cell_65 : decode cX7_cell 65 = .ok (.aload_n 0, 1) := dk_42 (dk_at dksX7_cell_2 13 rfl rfl)
theorem dX7_cell_66 : decode cX7_cell 66 = .ok (.iload_n 1, 1) := dk_27 (dk_at dksX7_cell_2 14 rfl rfl)
theorem dX7_cell_67 : decode cX7_cell 67 = .ok (.invokevirtual 411, 3) := dk_182 1 155 (dk_at dksX7_cell_2 15 rfl rfl)
theorem dX7_cell_70 : decode cX7_cell 70 = .ok (.ireturn, 1) := dk_172 (dk_at dksX7_cell_2 18 rfl rfl)
theorem dX7_cell_71 : decode cX7_cell 71 = .ok (.aload_n 0, 1) := dk_42 (dk_at dksX7_cell_2 19 rfl rfl)
theorem dX7_cell_72 : decode cX7_cell 72 = .ok (.iload_n 1, 1) := dk_27 (dk_at dksX7_cell_2 20 rfl rfl)
theorem dX7_cell_73 : decode cX7_cell 73 = .ok (.iconst 0, 1) := dk_3 (dk_at dksX7_cell_2 21 rfl rfl)
theorem dX7_cell_74 : decode cX7_cell 74 = .ok (.invokevirtual 414, 3) := dk_182 1 158 (dk_at dksX7_cell_3 0 rfl rfl)
theorem dX7_cell_77 : decode cX7_cell 77 = .ok (.ireturn, 1) := dk_172 (dk_at dksX7_cell_3 3 rfl rfl)
theorem dX7_cell_78 : decode cX7_cell 78 = .ok (.aload_n 0, 1) := dk_42 (dk_at dksX7_cell_3 4 rfl rfl)
theorem dX7_cell_79 : decode cX7_cell 79 = .ok (.iconst 1, 1) := dk_4 (dk_at dksX7_cell_3 5 rfl rfl)
theorem dX7_cell_80 : decode cX7_cell 80 = .ok (.invokevirtual 318, 3) := dk_182 1 62 (dk_at dksX7_cell_3 6 rfl rfl)
theorem dX7_cell_83 : decode cX7_cell 83 = .ok (.ireturn, 1) := dk_172 (dk_at dksX7_cell_3 9 rfl rfl)
abbrev cX7_isCell : ByteArray := prog_18_method_10_code
def yX7_isCell : MethodName := ⟨RX7, "isCell", "(I)Z"⟩
def dkwX7_isCell_0 : List UInt8 := [27, 133, 9, 42, 182, 0, 153, 4, 100, 133, 184, 0, 157, 172]
abbrev dktX7_isCell_0 : List UInt8 := dkwX7_isCell_0 ++ []
theorem dksX7_isCell_0 : cX7_isCell.data.toList.drop 0 = dktX7_isCell_0 := by decide +kernel
theorem dX7_isCell_0 : decode cX7_isCell 0 = .ok (.iload_n 1, 1) := dk_27 (dk_at dksX7_isCell_0 0 rfl rfl)
theorem dX7_isCell_1 : decode cX7_isCell 1 = .ok (.i2l, 1) := dk_133 (dk_at dksX7_isCell_0 1 rfl rfl)
theorem dX7_isCell_2 : decode cX7_isCell 2 = .ok (.lconst 0, 1) := dk_9 (dk_at dksX7_isCell_0 2 rfl rfl)
theorem dX7_isCell_3 : decode cX7_isCell 3 = .ok (.aload_n 0, 1) := dk_42 (dk_at dksX7_isCell_0 3 rfl rfl)
theorem dX7_isCell_4 : decode cX7_isCell 4 = .ok (.invokevirtual 153, 3) := dk_182 0 153 (dk_at dksX7_isCell_0 4 rfl rfl)
theorem dX7_isCell_7 : decode cX7_isCell 7 = .ok (.iconst 1, 1) := dk_4 (dk_at dksX7_isCell_0 7 rfl rfl)
theorem dX7_isCell_8 : decode cX7_isCell 8 = .ok (.isub, 1) := dk_100 (dk_at dksX7_isCell_0 8 rfl rfl)
theorem dX7_isCell_9 : decode cX7_isCell 9 = .ok (.i2l, 1) := dk_133 (dk_at dksX7_isCell_0 9 rfl rfl)
theorem dX7_isCell_10 : decode cX7_isCell 10 = .ok (.invokestatic 157, 3) := dk_184 0 157 (dk_at dksX7_isCell_0 10 rfl rfl)
theorem dX7_isCell_13 : decode cX7_isCell 13 = .ok (.ireturn, 1) := dk_172 (dk_at dksX7_isCell_0 13 rfl rfl)
abbrev cX7_isIn : ByteArray := prog_18_method_6_code
def yX7_isIn : MethodName := ⟨RX7, "isIn", "(JJJ)Z"⟩
def dkwX7_isIn_0 : List UInt8 := [30, 32, 148, 155, 0, 14, 30, 22, 4, 148, 157, 0, 7, 4, 167, 0, 4, 3, 172]
abbrev dktX7_isIn_0 : List UInt8 := dkwX7_isIn_0 ++ []
theorem dksX7_isIn_0 : cX7_isIn.data.toList.drop 0 = dktX7_isIn_0 := by decide +kernel
theorem dX7_isIn_0 : decode cX7_isIn 0 = .ok (.lload_n 0, 1) := dk_30 (dk_at dksX7_isIn_0 0 rfl rfl)
theorem dX7_isIn_1 : decode cX7_isIn 1 = .ok (.lload_n 2, 1) := dk_32 (dk_at dksX7_isIn_0 1 rfl rfl)
theorem dX7_isIn_2 : decode cX7_isIn 2 = .ok (.lcmp, 1) := dk_148 (dk_at dksX7_isIn_0 2 rfl rfl)
theorem dX7_isIn_3 : decode cX7_isIn 3 = .ok (.ifCond .lt 14, 3) := dk_155 0 14 (dk_at dksX7_isIn_0 3 rfl rfl)
theorem dX7_isIn_6 : decode cX7_isIn 6 = .ok (.lload_n 0, 1) := dk_30 (dk_at dksX7_isIn_0 6 rfl rfl)
theorem dX7_isIn_7 : decode cX7_isIn 7 = .ok (.lload 4, 2) := dk_22 4 (dk_at dksX7_isIn_0 7 rfl rfl)
theorem dX7_isIn_9 : decode cX7_isIn 9 = .ok (.lcmp, 1) := dk_148 (dk_at dksX7_isIn_0 9 rfl rfl)
theorem dX7_isIn_10 : decode cX7_isIn 10 = .ok (.ifCond .gt 7, 3) := dk_157 0 7 (dk_at dksX7_isIn_0 10 rfl rfl)
theorem dX7_isIn_13 : decode cX7_isIn 13 = .ok (.iconst 1, 1) := dk_4 (dk_at dksX7_isIn_0 13 rfl rfl)
theorem dX7_isIn_14 : decode cX7_isIn 14 = .ok (.goto 4, 3) := dk_167 0 4 (dk_at dksX7_isIn_0 14 rfl rfl)
theorem dX7_isIn_17 : decode cX7_isIn 17 = .ok (.iconst 0, 1) := dk_3 (dk_at dksX7_isIn_0 17 rfl rfl)
theorem dX7_isIn_18 : decode cX7_isIn 18 = .ok (.ireturn, 1) := dk_172 (dk_at dksX7_isIn_0 18 rfl rfl)
abbrev cX7_besideOf : ByteArray := prog_18_method_49_code
def yX7_besideOf : MethodName := ⟨RX7, "besideOf", "(I)I"⟩
def dkwX7_besideOf_1 : List UInt8 := [29, 120, 167, 0, 4, 3, 128, 61, 132, 3, 1, 167, 255, 225, 28, 172]
abbrev dktX7_besideOf_1 : List UInt8 := dkwX7_besideOf_1 ++ []
def dkwX7_besideOf_0 : List UInt8 := [3, 61, 3, 62, 29, 42, 182, 0, 153, 162, 0, 29, 28, 42, 27, 29, 182, 1, 104, 4, 160, 0, 9, 4]
abbrev dktX7_besideOf_0 : List UInt8 := dkwX7_besideOf_0 ++ dktX7_besideOf_1
theorem dksX7_besideOf_0 : cX7_besideOf.data.toList.drop 0 = dktX7_besideOf_0 := by decide +kernel
theorem dksX7_besideOf_1 : cX7_besideOf.data.toList.drop 24 = dktX7_besideOf_1 := dk_seg dksX7_besideOf_0 24 rfl rfl
theorem dX7_besideOf_0 : decode cX7_besideOf 0 = .ok (.iconst 0, 1) := dk_3 (dk_at dksX7_besideOf_0 0 rfl rfl)
theorem dX7_besideOf_1 : decode cX7_besideOf 1 = .ok (.istore_n 2, 1) := dk_61 (dk_at dksX7_besideOf_0 1 rfl rfl)
theorem dX7_besideOf_2 : decode cX7_besideOf 2 = .ok (.iconst 0, 1) := dk_3 (dk_at dksX7_besideOf_0 2 rfl rfl)
theorem dX7_besideOf_3 : decode cX7_besideOf 3 = .ok (.istore_n 3, 1) := dk_62 (dk_at dksX7_besideOf_0 3 rfl rfl)
theorem dX7_besideOf_4 : decode cX7_besideOf 4 = .ok (.iload_n 3, 1) := dk_29 (dk_at dksX7_besideOf_0 4 rfl rfl)
theorem dX7_besideOf_5 : decode cX7_besideOf 5 = .ok (.aload_n 0, 1) := dk_42 (dk_at dksX7_besideOf_0 5 rfl rfl)
theorem dX7_besideOf_6 : decode cX7_besideOf 6 = .ok (.invokevirtual 153, 3) := dk_182 0 153 (dk_at dksX7_besideOf_0 6 rfl rfl)
theorem dX7_besideOf_9 : decode cX7_besideOf 9 = .ok (.if_icmp .ge 29, 3) := dk_162 0 29 (dk_at dksX7_besideOf_0 9 rfl rfl)
theorem dX7_besideOf_12 : decode cX7_besideOf 12 = .ok (.iload_n 2, 1) := dk_28 (dk_at dksX7_besideOf_0 12 rfl rfl)
theorem dX7_besideOf_13 : decode cX7_besideOf 13 = .ok (.aload_n 0, 1) := dk_42 (dk_at dksX7_besideOf_0 13 rfl rfl)
theorem dX7_besideOf_14 : decode cX7_besideOf 14 = .ok (.iload_n 1, 1) := dk_27 (dk_at dksX7_besideOf_0 14 rfl rfl)
theorem dX7_besideOf_15 : decode cX7_besideOf 15 = .ok (.iload_n 3, 1) := dk_29 (dk_at dksX7_besideOf_0 15 rfl rfl)
theorem dX7_besideOf_16 : decode cX7_besideOf 16 = .ok (.invokevirtual 360, 3) := dk_182 1 104 (dk_at dksX7_besideOf_0 16 rfl rfl)
theorem dX7_besideOf_19 : decode cX7_besideOf 19 = .ok (.iconst 1, 1) := dk_4 (dk_at dksX7_besideOf_0 19 rfl rfl)
theorem dX7_besideOf_20 : decode cX7_besideOf 20 = .ok (.if_icmp .ne 9, 3) := dk_160 0 9 (dk_at dksX7_besideOf_0 20 rfl rfl)
theorem dX7_besideOf_23 : decode cX7_besideOf 23 = .ok (.iconst 1, 1) := dk_4 (dk_at dksX7_besideOf_0 23 rfl rfl)
theorem dX7_besideOf_24 : decode cX7_besideOf 24 = .ok (.iload_n 3, 1) := dk_29 (dk_at dksX7_besideOf_1 0 rfl rfl)
theorem dX7_besideOf_25 : decode cX7_besideOf 25 = .ok (.ishl, 1) := dk_120 (dk_at dksX7_besideOf_1 1 rfl rfl)
theorem dX7_besideOf_26 : decode cX7_besideOf 26 = .ok (.goto 4, 3) := dk_167 0 4 (dk_at dksX7_besideOf_1 2 rfl rfl)
theorem dX7_besideOf_29 : decode cX7_besideOf 29 = .ok (.iconst 0, 1) := dk_3 (dk_at dksX7_besideOf_1 5 rfl rfl)
theorem dX7_besideOf_30 : decode cX7_besideOf 30 = .ok (.ior, 1) := dk_128 (dk_at dksX7_besideOf_1 6 rfl rfl)
theorem dX7_besideOf_31 : decode cX7_besideOf 31 = .ok (.istore_n 2, 1) := dk_61 (dk_at dksX7_besideOf_1 7 rfl rfl)
theorem dX7_besideOf_32 : decode cX7_besideOf 32 = .ok (.iinc 3 1, 3) := dk_132 3 1 (dk_at dksX7_besideOf_1 8 rfl rfl)
theorem dX7_besideOf_35 : decode cX7_besideOf 35 = .ok (.goto (-31), 3) := dk_167 255 225 (dk_at dksX7_besideOf_1 11 rfl rfl)
theorem dX7_besideOf_38 : decode cX7_besideOf 38 = .ok (.iload_n 2, 1) := dk_28 (dk_at dksX7_besideOf_1 14 rfl rfl)
theorem dX7_besideOf_39 : decode cX7_besideOf 39 = .ok (.ireturn, 1) := dk_172 (dk_at dksX7_besideOf_1 15 rfl rfl)
abbrev cX7_farOf : ByteArray := prog_18_method_48_code
def yX7_farOf : MethodName := ⟨RX7, "farOf", "(II)I"⟩
def dkwX7_farOf_1 : List UInt8 := [100, 184, 1, 98, 96, 172]
abbrev dktX7_farOf_1 : List UInt8 := dkwX7_farOf_1 ++ []
def dkwX7_farOf_0 : List UInt8 := [42, 27, 182, 1, 95, 42, 28, 182, 1, 95, 100, 184, 1, 98, 42, 27, 182, 1, 101, 42, 28, 182, 1, 101]
abbrev dktX7_farOf_0 : List UInt8 := dkwX7_farOf_0 ++ dktX7_farOf_1
theorem dksX7_farOf_0 : cX7_farOf.data.toList.drop 0 = dktX7_farOf_0 := by decide +kernel
theorem dksX7_farOf_1 : cX7_farOf.data.toList.drop 24 = dktX7_farOf_1 := dk_seg dksX7_farOf_0 24 rfl rfl
theorem dX7_farOf_0 : decode cX7_farOf 0 = .ok (.aload_n 0, 1) := dk_42 (dk_at dksX7_farOf_0 0 rfl rfl)
theorem dX7_farOf_1 : decode cX7_farOf 1 = .ok (.iload_n 1, 1) := dk_27 (dk_at dksX7_farOf_0 1 rfl rfl)
theorem dX7_farOf_2 : decode cX7_farOf 2 = .ok (.invokevirtual 351, 3) := dk_182 1 95 (dk_at dksX7_farOf_0 2 rfl rfl)
theorem dX7_farOf_5 : decode cX7_farOf 5 = .ok (.aload_n 0, 1) := dk_42 (dk_at dksX7_farOf_0 5 rfl rfl)
theorem dX7_farOf_6 : decode cX7_farOf 6 = .ok (.iload_n 2, 1) := dk_28 (dk_at dksX7_farOf_0 6 rfl rfl)
theorem dX7_farOf_7 : decode cX7_farOf 7 = .ok (.invokevirtual 351, 3) := dk_182 1 95 (dk_at dksX7_farOf_0 7 rfl rfl)
theorem dX7_farOf_10 : decode cX7_farOf 10 = .ok (.isub, 1) := dk_100 (dk_at dksX7_farOf_0 10 rfl rfl)
theorem dX7_farOf_11 : decode cX7_farOf 11 = .ok (.invokestatic 354, 3) := dk_184 1 98 (dk_at dksX7_farOf_0 11 rfl rfl)
theorem dX7_farOf_14 : decode cX7_farOf 14 = .ok (.aload_n 0, 1) := dk_42 (dk_at dksX7_farOf_0 14 rfl rfl)
theorem dX7_farOf_15 : decode cX7_farOf 15 = .ok (.iload_n 1, 1) := dk_27 (dk_at dksX7_farOf_0 15 rfl rfl)
theorem dX7_farOf_16 : decode cX7_farOf 16 = .ok (.invokevirtual 357, 3) := dk_182 1 101 (dk_at dksX7_farOf_0 16 rfl rfl)
theorem dX7_farOf_19 : decode cX7_farOf 19 = .ok (.aload_n 0, 1) := dk_42 (dk_at dksX7_farOf_0 19 rfl rfl)
theorem dX7_farOf_20 : decode cX7_farOf 20 = .ok (.iload_n 2, 1) := dk_28 (dk_at dksX7_farOf_0 20 rfl rfl)
theorem dX7_farOf_21 : decode cX7_farOf 21 = .ok (.invokevirtual 357, 3) := dk_182 1 101 (dk_at dksX7_farOf_0 21 rfl rfl)
theorem dX7_farOf_24 : decode cX7_farOf 24 = .ok (.isub, 1) := dk_100 (dk_at dksX7_farOf_1 0 rfl rfl)
theorem dX7_farOf_25 : decode cX7_farOf 25 = .ok (.invokestatic 354, 3) := dk_184 1 98 (dk_at dksX7_farOf_1 1 rfl rfl)
theorem dX7_farOf_28 : decode cX7_farOf 28 = .ok (.iadd, 1) := dk_96 (dk_at dksX7_farOf_1 4 rfl rfl)
theorem dX7_farOf_29 : decode cX7_farOf 29 = .ok (.ireturn, 1) := dk_172 (dk_at dksX7_farOf_1 5 rfl rfl)
abbrev cX7_columnOf : ByteArray := prog_18_method_46_code
def yX7_columnOf : MethodName := ⟨RX7, "columnOf", "(I)I"⟩
def dkwX7_columnOf_0 : List UInt8 := [27, 42, 180, 0, 40, 3, 46, 112, 172]
abbrev dktX7_columnOf_0 : List UInt8 := dkwX7_columnOf_0 ++ []
theorem dksX7_columnOf_0 : cX7_columnOf.data.toList.drop 0 = dktX7_columnOf_0 := by decide +kernel
theorem dX7_columnOf_0 : decode cX7_columnOf 0 = .ok (.iload_n 1, 1) := dk_27 (dk_at dksX7_columnOf_0 0 rfl rfl)
theorem dX7_columnOf_1 : decode cX7_columnOf 1 = .ok (.aload_n 0, 1) := dk_42 (dk_at dksX7_columnOf_0 1 rfl rfl)
theorem dX7_columnOf_2 : decode cX7_columnOf 2 = .ok (.getfield 40, 3) := dk_180 0 40 (dk_at dksX7_columnOf_0 2 rfl rfl)
theorem dX7_columnOf_5 : decode cX7_columnOf 5 = .ok (.iconst 0, 1) := dk_3 (dk_at dksX7_columnOf_0 5 rfl rfl)
theorem dX7_columnOf_6 : decode cX7_columnOf 6 = .ok (.iaload, 1) := dk_46 (dk_at dksX7_columnOf_0 6 rfl rfl)
theorem dX7_columnOf_7 : decode cX7_columnOf 7 = .ok (.irem, 1) := dk_112 (dk_at dksX7_columnOf_0 7 rfl rfl)
theorem dX7_columnOf_8 : decode cX7_columnOf 8 = .ok (.ireturn, 1) := dk_172 (dk_at dksX7_columnOf_0 8 rfl rfl)
abbrev cX7_rowOf : ByteArray := prog_18_method_47_code
def yX7_rowOf : MethodName := ⟨RX7, "rowOf", "(I)I"⟩
def dkwX7_rowOf_0 : List UInt8 := [27, 42, 180, 0, 40, 3, 46, 108, 172]
abbrev dktX7_rowOf_0 : List UInt8 := dkwX7_rowOf_0 ++ []
theorem dksX7_rowOf_0 : cX7_rowOf.data.toList.drop 0 = dktX7_rowOf_0 := by decide +kernel
theorem dX7_rowOf_0 : decode cX7_rowOf 0 = .ok (.iload_n 1, 1) := dk_27 (dk_at dksX7_rowOf_0 0 rfl rfl)
theorem dX7_rowOf_1 : decode cX7_rowOf 1 = .ok (.aload_n 0, 1) := dk_42 (dk_at dksX7_rowOf_0 1 rfl rfl)
theorem dX7_rowOf_2 : decode cX7_rowOf 2 = .ok (.getfield 40, 3) := dk_180 0 40 (dk_at dksX7_rowOf_0 2 rfl rfl)
theorem dX7_rowOf_5 : decode cX7_rowOf 5 = .ok (.iconst 0, 1) := dk_3 (dk_at dksX7_rowOf_0 5 rfl rfl)
theorem dX7_rowOf_6 : decode cX7_rowOf 6 = .ok (.iaload, 1) := dk_46 (dk_at dksX7_rowOf_0 6 rfl rfl)
theorem dX7_rowOf_7 : decode cX7_rowOf 7 = .ok (.idiv, 1) := dk_108 (dk_at dksX7_rowOf_0 7 rfl rfl)
theorem dX7_rowOf_8 : decode cX7_rowOf 8 = .ok (.ireturn, 1) := dk_172 (dk_at dksX7_rowOf_0 8 rfl rfl)
abbrev cX7_girlsAt : ByteArray := prog_18_method_62_code
def yX7_girlsAt : MethodName := ⟨RX7, "girlsAt", "(I)I"⟩
def dkwX7_girlsAt_1 : List UInt8 := [160, 0, 9, 4, 29, 120, 167, 0, 4, 3, 128, 61, 132, 3, 1, 167, 255, 223, 28, 172]
abbrev dktX7_girlsAt_1 : List UInt8 := dkwX7_girlsAt_1 ++ []
def dkwX7_girlsAt_0 : List UInt8 := [3, 61, 3, 62, 29, 42, 180, 0, 40, 5, 46, 162, 0, 29, 28, 42, 180, 0, 77, 29, 46, 27]
abbrev dktX7_girlsAt_0 : List UInt8 := dkwX7_girlsAt_0 ++ dktX7_girlsAt_1
theorem dksX7_girlsAt_0 : cX7_girlsAt.data.toList.drop 0 = dktX7_girlsAt_0 := by decide +kernel
theorem dksX7_girlsAt_1 : cX7_girlsAt.data.toList.drop 22 = dktX7_girlsAt_1 := dk_seg dksX7_girlsAt_0 22 rfl rfl
theorem dX7_girlsAt_0 : decode cX7_girlsAt 0 = .ok (.iconst 0, 1) := dk_3 (dk_at dksX7_girlsAt_0 0 rfl rfl)
theorem dX7_girlsAt_1 : decode cX7_girlsAt 1 = .ok (.istore_n 2, 1) := dk_61 (dk_at dksX7_girlsAt_0 1 rfl rfl)
theorem dX7_girlsAt_2 : decode cX7_girlsAt 2 = .ok (.iconst 0, 1) := dk_3 (dk_at dksX7_girlsAt_0 2 rfl rfl)
theorem dX7_girlsAt_3 : decode cX7_girlsAt 3 = .ok (.istore_n 3, 1) := dk_62 (dk_at dksX7_girlsAt_0 3 rfl rfl)
theorem dX7_girlsAt_4 : decode cX7_girlsAt 4 = .ok (.iload_n 3, 1) := dk_29 (dk_at dksX7_girlsAt_0 4 rfl rfl)
theorem dX7_girlsAt_5 : decode cX7_girlsAt 5 = .ok (.aload_n 0, 1) := dk_42 (dk_at dksX7_girlsAt_0 5 rfl rfl)
theorem dX7_girlsAt_6 : decode cX7_girlsAt 6 = .ok (.getfield 40, 3) := dk_180 0 40 (dk_at dksX7_girlsAt_0 6 rfl rfl)
theorem dX7_girlsAt_9 : decode cX7_girlsAt 9 = .ok (.iconst 2, 1) := dk_5 (dk_at dksX7_girlsAt_0 9 rfl rfl)
theorem dX7_girlsAt_10 : decode cX7_girlsAt 10 = .ok (.iaload, 1) := dk_46 (dk_at dksX7_girlsAt_0 10 rfl rfl)
theorem dX7_girlsAt_11 : decode cX7_girlsAt 11 = .ok (.if_icmp .ge 29, 3) := dk_162 0 29 (dk_at dksX7_girlsAt_0 11 rfl rfl)
theorem dX7_girlsAt_14 : decode cX7_girlsAt 14 = .ok (.iload_n 2, 1) := dk_28 (dk_at dksX7_girlsAt_0 14 rfl rfl)
theorem dX7_girlsAt_15 : decode cX7_girlsAt 15 = .ok (.aload_n 0, 1) := dk_42 (dk_at dksX7_girlsAt_0 15 rfl rfl)
theorem dX7_girlsAt_16 : decode cX7_girlsAt 16 = .ok (.getfield 77, 3) := dk_180 0 77 (dk_at dksX7_girlsAt_0 16 rfl rfl)
theorem dX7_girlsAt_19 : decode cX7_girlsAt 19 = .ok (.iload_n 3, 1) := dk_29 (dk_at dksX7_girlsAt_0 19 rfl rfl)
theorem dX7_girlsAt_20 : decode cX7_girlsAt 20 = .ok (.iaload, 1) := dk_46 (dk_at dksX7_girlsAt_0 20 rfl rfl)
theorem dX7_girlsAt_21 : decode cX7_girlsAt 21 = .ok (.iload_n 1, 1) := dk_27 (dk_at dksX7_girlsAt_0 21 rfl rfl)
theorem dX7_girlsAt_22 : decode cX7_girlsAt 22 = .ok (.if_icmp .ne 9, 3) := dk_160 0 9 (dk_at dksX7_girlsAt_1 0 rfl rfl)
theorem dX7_girlsAt_25 : decode cX7_girlsAt 25 = .ok (.iconst 1, 1) := dk_4 (dk_at dksX7_girlsAt_1 3 rfl rfl)
theorem dX7_girlsAt_26 : decode cX7_girlsAt 26 = .ok (.iload_n 3, 1) := dk_29 (dk_at dksX7_girlsAt_1 4 rfl rfl)
theorem dX7_girlsAt_27 : decode cX7_girlsAt 27 = .ok (.ishl, 1) := dk_120 (dk_at dksX7_girlsAt_1 5 rfl rfl)
theorem dX7_girlsAt_28 : decode cX7_girlsAt 28 = .ok (.goto 4, 3) := dk_167 0 4 (dk_at dksX7_girlsAt_1 6 rfl rfl)
theorem dX7_girlsAt_31 : decode cX7_girlsAt 31 = .ok (.iconst 0, 1) := dk_3 (dk_at dksX7_girlsAt_1 9 rfl rfl)
theorem dX7_girlsAt_32 : decode cX7_girlsAt 32 = .ok (.ior, 1) := dk_128 (dk_at dksX7_girlsAt_1 10 rfl rfl)
theorem dX7_girlsAt_33 : decode cX7_girlsAt 33 = .ok (.istore_n 2, 1) := dk_61 (dk_at dksX7_girlsAt_1 11 rfl rfl)
theorem dX7_girlsAt_34 : decode cX7_girlsAt 34 = .ok (.iinc 3 1, 3) := dk_132 3 1 (dk_at dksX7_girlsAt_1 12 rfl rfl)
theorem dX7_girlsAt_37 : decode cX7_girlsAt 37 = .ok (.goto (-33), 3) := dk_167 255 223 (dk_at dksX7_girlsAt_1 15 rfl rfl)
theorem dX7_girlsAt_40 : decode cX7_girlsAt 40 = .ok (.iload_n 2, 1) := dk_28 (dk_at dksX7_girlsAt_1 18 rfl rfl)
theorem dX7_girlsAt_41 : decode cX7_girlsAt 41 = .ok (.ireturn, 1) := dk_172 (dk_at dksX7_girlsAt_1 19 rfl rfl)
abbrev cX7_patchOf : ByteArray := prog_18_method_63_code
def yX7_patchOf : MethodName := ⟨RX7, "patchOf", "(II)I"⟩
def dkwX7_patchOf_5 : List UInt8 := [167, 255, 147, 29, 172]
abbrev dktX7_patchOf_5 : List UInt8 := dkwX7_patchOf_5 ++ []
def dkwX7_patchOf_4 : List UInt8 := [120, 167, 0, 4, 3, 128, 62, 132, 7, 1, 167, 255, 201, 132, 5, 1, 167, 255, 163, 132, 4, 1]
abbrev dktX7_patchOf_4 : List UInt8 := dkwX7_patchOf_4 ++ dktX7_patchOf_5
def dkwX7_patchOf_3 : List UInt8 := [180, 0, 75, 21, 5, 46, 42, 180, 0, 75, 21, 7, 46, 100, 184, 1, 98, 28, 163, 0, 10, 4, 21, 7]
abbrev dktX7_patchOf_3 : List UInt8 := dkwX7_patchOf_3 ++ dktX7_patchOf_4
def dkwX7_patchOf_2 : List UInt8 := [54, 7, 21, 7, 42, 182, 0, 153, 162, 0, 52, 29, 21, 6, 21, 7, 184, 0, 232, 153, 0, 32, 42]
abbrev dktX7_patchOf_2 : List UInt8 := dkwX7_patchOf_2 ++ dktX7_patchOf_3
def dkwX7_patchOf_1 : List UInt8 := [162, 0, 90, 29, 21, 5, 184, 0, 232, 154, 0, 6, 167, 0, 72, 42, 21, 5, 182, 1, 107, 54, 6, 3]
abbrev dktX7_patchOf_1 : List UInt8 := dkwX7_patchOf_1 ++ dktX7_patchOf_2
def dkwX7_patchOf_0 : List UInt8 := [4, 27, 120, 62, 3, 54, 4, 21, 4, 16, 30, 162, 0, 108, 3, 54, 5, 21, 5, 42, 182, 0, 153]
abbrev dktX7_patchOf_0 : List UInt8 := dkwX7_patchOf_0 ++ dktX7_patchOf_1
theorem dksX7_patchOf_0 : cX7_patchOf.data.toList.drop 0 = dktX7_patchOf_0 := by decide +kernel
theorem dksX7_patchOf_1 : cX7_patchOf.data.toList.drop 23 = dktX7_patchOf_1 := dk_seg dksX7_patchOf_0 23 rfl rfl
theorem dksX7_patchOf_2 : cX7_patchOf.data.toList.drop 47 = dktX7_patchOf_2 := dk_seg dksX7_patchOf_1 24 rfl rfl
theorem dksX7_patchOf_3 : cX7_patchOf.data.toList.drop 70 = dktX7_patchOf_3 := dk_seg dksX7_patchOf_2 23 rfl rfl
theorem dksX7_patchOf_4 : cX7_patchOf.data.toList.drop 94 = dktX7_patchOf_4 := dk_seg dksX7_patchOf_3 24 rfl rfl
theorem dksX7_patchOf_5 : cX7_patchOf.data.toList.drop 116 = dktX7_patchOf_5 := dk_seg dksX7_patchOf_4 22 rfl rfl
theorem dX7_patchOf_0 : decode cX7_patchOf 0 = .ok (.iconst 1, 1) := dk_4 (dk_at dksX7_patchOf_0 0 rfl rfl)
theorem dX7_patchOf_1 : decode cX7_patchOf 1 = .ok (.iload_n 1, 1) := dk_27 (dk_at dksX7_patchOf_0 1 rfl rfl)
theorem dX7_patchOf_2 : decode cX7_patchOf 2 = .ok (.ishl, 1) := dk_120 (dk_at dksX7_patchOf_0 2 rfl rfl)
theorem dX7_patchOf_3 : decode cX7_patchOf 3 = .ok (.istore_n 3, 1) := dk_62 (dk_at dksX7_patchOf_0 3 rfl rfl)
theorem dX7_patchOf_4 : decode cX7_patchOf 4 = .ok (.iconst 0, 1) := dk_3 (dk_at dksX7_patchOf_0 4 rfl rfl)
theorem dX7_patchOf_5 : decode cX7_patchOf 5 = .ok (.istore 4, 2) := dk_54 4 (dk_at dksX7_patchOf_0 5 rfl rfl)
theorem dX7_patchOf_7 : decode cX7_patchOf 7 = .ok (.iload 4, 2) := dk_21 4 (dk_at dksX7_patchOf_0 7 rfl rfl)
theorem dX7_patchOf_9 : decode cX7_patchOf 9 = .ok (.bipush 30, 2) := dk_16 30 (dk_at dksX7_patchOf_0 9 rfl rfl)
theorem dX7_patchOf_11 : decode cX7_patchOf 11 = .ok (.if_icmp .ge 108, 3) := dk_162 0 108 (dk_at dksX7_patchOf_0 11 rfl rfl)
theorem dX7_patchOf_14 : decode cX7_patchOf 14 = .ok (.iconst 0, 1) := dk_3 (dk_at dksX7_patchOf_0 14 rfl rfl)
theorem dX7_patchOf_15 : decode cX7_patchOf 15 = .ok (.istore 5, 2) := dk_54 5 (dk_at dksX7_patchOf_0 15 rfl rfl)
theorem dX7_patchOf_17 : decode cX7_patchOf 17 = .ok (.iload 5, 2) := dk_21 5 (dk_at dksX7_patchOf_0 17 rfl rfl)
theorem dX7_patchOf_19 : decode cX7_patchOf 19 = .ok (.aload_n 0, 1) := dk_42 (dk_at dksX7_patchOf_0 19 rfl rfl)
theorem dX7_patchOf_20 : decode cX7_patchOf 20 = .ok (.invokevirtual 153, 3) := dk_182 0 153 (dk_at dksX7_patchOf_0 20 rfl rfl)
theorem dX7_patchOf_23 : decode cX7_patchOf 23 = .ok (.if_icmp .ge 90, 3) := dk_162 0 90 (dk_at dksX7_patchOf_1 0 rfl rfl)
theorem dX7_patchOf_26 : decode cX7_patchOf 26 = .ok (.iload_n 3, 1) := dk_29 (dk_at dksX7_patchOf_1 3 rfl rfl)
theorem dX7_patchOf_27 : decode cX7_patchOf 27 = .ok (.iload 5, 2) := dk_21 5 (dk_at dksX7_patchOf_1 4 rfl rfl)
theorem dX7_patchOf_29 : decode cX7_patchOf 29 = .ok (.invokestatic 232, 3) := dk_184 0 232 (dk_at dksX7_patchOf_1 6 rfl rfl)
theorem dX7_patchOf_32 : decode cX7_patchOf 32 = .ok (.ifCond .ne 6, 3) := dk_154 0 6 (dk_at dksX7_patchOf_1 9 rfl rfl)
theorem dX7_patchOf_35 : decode cX7_patchOf 35 = .ok (.goto 72, 3) := dk_167 0 72 (dk_at dksX7_patchOf_1 12 rfl rfl)
theorem dX7_patchOf_38 : decode cX7_patchOf 38 = .ok (.aload_n 0, 1) := dk_42 (dk_at dksX7_patchOf_1 15 rfl rfl)
theorem dX7_patchOf_39 : decode cX7_patchOf 39 = .ok (.iload 5, 2) := dk_21 5 (dk_at dksX7_patchOf_1 16 rfl rfl)
theorem dX7_patchOf_41 : decode cX7_patchOf 41 = .ok (.invokevirtual 363, 3) := dk_182 1 107 (dk_at dksX7_patchOf_1 18 rfl rfl)
theorem dX7_patchOf_44 : decode cX7_patchOf 44 = .ok (.istore 6, 2) := dk_54 6 (dk_at dksX7_patchOf_1 21 rfl rfl)
theorem dX7_patchOf_46 : decode cX7_patchOf 46 = .ok (.iconst 0, 1) := dk_3 (dk_at dksX7_patchOf_1 23 rfl rfl)
theorem dX7_patchOf_47 : decode cX7_patchOf 47 = .ok (.istore 7, 2) := dk_54 7 (dk_at dksX7_patchOf_2 0 rfl rfl)
theorem dX7_patchOf_49 : decode cX7_patchOf 49 = .ok (.iload 7, 2) := dk_21 7 (dk_at dksX7_patchOf_2 2 rfl rfl)
theorem dX7_patchOf_51 : decode cX7_patchOf 51 = .ok (.aload_n 0, 1) := dk_42 (dk_at dksX7_patchOf_2 4 rfl rfl)
theorem dX7_patchOf_52 : decode cX7_patchOf 52 = .ok (.invokevirtual 153, 3) := dk_182 0 153 (dk_at dksX7_patchOf_2 5 rfl rfl)
theorem dX7_patchOf_55 : decode cX7_patchOf 55 = .ok (.if_icmp .ge 52, 3) := dk_162 0 52 (dk_at dksX7_patchOf_2 8 rfl rfl)
theorem dX7_patchOf_58 : decode cX7_patchOf 58 = .ok (.iload_n 3, 1) := dk_29 (dk_at dksX7_patchOf_2 11 rfl rfl)
theorem dX7_patchOf_59 : decode cX7_patchOf 59 = .ok (.iload 6, 2) := dk_21 6 (dk_at dksX7_patchOf_2 12 rfl rfl)
theorem dX7_patchOf_61 : decode cX7_patchOf 61 = .ok (.iload 7, 2) := dk_21 7 (dk_at dksX7_patchOf_2 14 rfl rfl)
theorem dX7_patchOf_63 : decode cX7_patchOf 63 = .ok (.invokestatic 232, 3) := dk_184 0 232 (dk_at dksX7_patchOf_2 16 rfl rfl)
theorem dX7_patchOf_66 : decode cX7_patchOf 66 = .ok (.ifCond .eq 32, 3) := dk_153 0 32 (dk_at dksX7_patchOf_2 19 rfl rfl)
theorem dX7_patchOf_69 : decode cX7_patchOf 69 = .ok (.aload_n 0, 1) := dk_42 (dk_at dksX7_patchOf_2 22 rfl rfl)
theorem dX7_patchOf_70 : decode cX7_patchOf 70 = .ok (.getfield 75, 3) := dk_180 0 75 (dk_at dksX7_patchOf_3 0 rfl rfl)
theorem dX7_patchOf_73 : decode cX7_patchOf 73 = .ok (.iload 5, 2) := dk_21 5 (dk_at dksX7_patchOf_3 3 rfl rfl)
theorem dX7_patchOf_75 : decode cX7_patchOf 75 = .ok (.iaload, 1) := dk_46 (dk_at dksX7_patchOf_3 5 rfl rfl)
theorem dX7_patchOf_76 : decode cX7_patchOf 76 = .ok (.aload_n 0, 1) := dk_42 (dk_at dksX7_patchOf_3 6 rfl rfl)
theorem dX7_patchOf_77 : decode cX7_patchOf 77 = .ok (.getfield 75, 3) := dk_180 0 75 (dk_at dksX7_patchOf_3 7 rfl rfl)
theorem dX7_patchOf_80 : decode cX7_patchOf 80 = .ok (.iload 7, 2) := dk_21 7 (dk_at dksX7_patchOf_3 10 rfl rfl)
theorem dX7_patchOf_82 : decode cX7_patchOf 82 = .ok (.iaload, 1) := dk_46 (dk_at dksX7_patchOf_3 12 rfl rfl)
theorem dX7_patchOf_83 : decode cX7_patchOf 83 = .ok (.isub, 1) := dk_100 (dk_at dksX7_patchOf_3 13 rfl rfl)
theorem dX7_patchOf_84 : decode cX7_patchOf 84 = .ok (.invokestatic 354, 3) := dk_184 1 98 (dk_at dksX7_patchOf_3 14 rfl rfl)
theorem dX7_patchOf_87 : decode cX7_patchOf 87 = .ok (.iload_n 2, 1) := dk_28 (dk_at dksX7_patchOf_3 17 rfl rfl)
theorem dX7_patchOf_88 : decode cX7_patchOf 88 = .ok (.if_icmp .gt 10, 3) := dk_163 0 10 (dk_at dksX7_patchOf_3 18 rfl rfl)
theorem dX7_patchOf_91 : decode cX7_patchOf 91 = .ok (.iconst 1, 1) := dk_4 (dk_at dksX7_patchOf_3 21 rfl rfl)
theorem dX7_patchOf_92 : decode cX7_patchOf 92 = .ok (.iload 7, 2) := dk_21 7 (dk_at dksX7_patchOf_3 22 rfl rfl)
theorem dX7_patchOf_94 : decode cX7_patchOf 94 = .ok (.ishl, 1) := dk_120 (dk_at dksX7_patchOf_4 0 rfl rfl)
theorem dX7_patchOf_95 : decode cX7_patchOf 95 = .ok (.goto 4, 3) := dk_167 0 4 (dk_at dksX7_patchOf_4 1 rfl rfl)
theorem dX7_patchOf_98 : decode cX7_patchOf 98 = .ok (.iconst 0, 1) := dk_3 (dk_at dksX7_patchOf_4 4 rfl rfl)
theorem dX7_patchOf_99 : decode cX7_patchOf 99 = .ok (.ior, 1) := dk_128 (dk_at dksX7_patchOf_4 5 rfl rfl)
theorem dX7_patchOf_100 : decode cX7_patchOf 100 = .ok (.istore_n 3, 1) := dk_62 (dk_at dksX7_patchOf_4 6 rfl rfl)
theorem dX7_patchOf_101 : decode cX7_patchOf 101 = .ok (.iinc 7 1, 3) := dk_132 7 1 (dk_at dksX7_patchOf_4 7 rfl rfl)
theorem dX7_patchOf_104 : decode cX7_patchOf 104 = .ok (.goto (-55), 3) := dk_167 255 201 (dk_at dksX7_patchOf_4 10 rfl rfl)
theorem dX7_patchOf_107 : decode cX7_patchOf 107 = .ok (.iinc 5 1, 3) := dk_132 5 1 (dk_at dksX7_patchOf_4 13 rfl rfl)
theorem dX7_patchOf_110 : decode cX7_patchOf 110 = .ok (.goto (-93), 3) := dk_167 255 163 (dk_at dksX7_patchOf_4 16 rfl rfl)
theorem dX7_patchOf_113 : decode cX7_patchOf 113 = .ok (.iinc 4 1, 3) := dk_132 4 1 (dk_at dksX7_patchOf_4 19 rfl rfl)
theorem dX7_patchOf_116 : decode cX7_patchOf 116 = .ok (.goto (-109), 3) := dk_167 255 147 (dk_at dksX7_patchOf_5 0 rfl rfl)
theorem dX7_patchOf_119 : decode cX7_patchOf 119 = .ok (.iload_n 3, 1) := dk_29 (dk_at dksX7_patchOf_5 3 rfl rfl)
theorem dX7_patchOf_120 : decode cX7_patchOf 120 = .ok (.ireturn, 1) := dk_172 (dk_at dksX7_patchOf_5 4 rfl rfl)
abbrev cX7_girl : ByteArray := prog_18_method_65_code
def yX7_girl : MethodName := ⟨RX7, "girl", "(II)I"⟩
def dkwX7_girl_3 : List UInt8 := [42, 180, 0, 147, 4, 100, 184, 1, 124, 182, 1, 127, 172, 42, 4, 182, 1, 62, 172]
abbrev dktX7_girl_3 : List UInt8 := dkwX7_girl_3 ++ []
def dkwX7_girl_2 : List UInt8 := [42, 180, 0, 65, 27, 46, 172, 42, 180, 0, 77, 27, 46, 172, 42, 180, 0, 47, 27, 46, 172, 42, 27, 3]
abbrev dktX7_girl_2 : List UInt8 := dkwX7_girl_2 ++ dktX7_girl_3
def dkwX7_girl_1 : List UInt8 := [170, 0, 0, 0, 0, 0, 0, 69, 0, 0, 0, 0, 0, 0, 0, 3, 0, 0, 0, 32, 0, 0, 0, 39, 0, 0, 0, 46, 0, 0, 0, 53]
abbrev dktX7_girl_1 : List UInt8 := dkwX7_girl_1 ++ dktX7_girl_2
def dkwX7_girl_0 : List UInt8 := [42, 3, 181, 0, 150, 42, 27, 182, 1, 161, 154, 0, 9, 42, 4, 182, 1, 62, 172, 28]
abbrev dktX7_girl_0 : List UInt8 := dkwX7_girl_0 ++ dktX7_girl_1
theorem dksX7_girl_0 : cX7_girl.data.toList.drop 0 = dktX7_girl_0 := by decide +kernel
theorem dksX7_girl_1 : cX7_girl.data.toList.drop 20 = dktX7_girl_1 := dk_seg dksX7_girl_0 20 rfl rfl
theorem dksX7_girl_2 : cX7_girl.data.toList.drop 52 = dktX7_girl_2 := dk_seg dksX7_girl_1 32 rfl rfl
theorem dksX7_girl_3 : cX7_girl.data.toList.drop 76 = dktX7_girl_3 := dk_seg dksX7_girl_2 24 rfl rfl
theorem dX7_girl_0 : decode cX7_girl 0 = .ok (.aload_n 0, 1) := dk_42 (dk_at dksX7_girl_0 0 rfl rfl)
theorem dX7_girl_1 : decode cX7_girl 1 = .ok (.iconst 0, 1) := dk_3 (dk_at dksX7_girl_0 1 rfl rfl)
theorem dX7_girl_2 : decode cX7_girl 2 = .ok (.putfield 150, 3) := dk_181 0 150 (dk_at dksX7_girl_0 2 rfl rfl)
theorem dX7_girl_5 : decode cX7_girl 5 = .ok (.aload_n 0, 1) := dk_42 (dk_at dksX7_girl_0 5 rfl rfl)
theorem dX7_girl_6 : decode cX7_girl 6 = .ok (.iload_n 1, 1) := dk_27 (dk_at dksX7_girl_0 6 rfl rfl)
theorem dX7_girl_7 : decode cX7_girl 7 = .ok (.invokevirtual 417, 3) := dk_182 1 161 (dk_at dksX7_girl_0 7 rfl rfl)
theorem dX7_girl_10 : decode cX7_girl 10 = .ok (.ifCond .ne 9, 3) := dk_154 0 9 (dk_at dksX7_girl_0 10 rfl rfl)
theorem dX7_girl_13 : decode cX7_girl 13 = .ok (.aload_n 0, 1) := dk_42 (dk_at dksX7_girl_0 13 rfl rfl)
theorem dX7_girl_14 : decode cX7_girl 14 = .ok (.iconst 1, 1) := dk_4 (dk_at dksX7_girl_0 14 rfl rfl)
theorem dX7_girl_15 : decode cX7_girl 15 = .ok (.invokevirtual 318, 3) := dk_182 1 62 (dk_at dksX7_girl_0 15 rfl rfl)
theorem dX7_girl_18 : decode cX7_girl 18 = .ok (.ireturn, 1) := dk_172 (dk_at dksX7_girl_0 18 rfl rfl)
theorem dX7_girl_19 : decode cX7_girl 19 = .ok (.iload_n 2, 1) := dk_28 (dk_at dksX7_girl_0 19 rfl rfl)
theorem dX7_girl_20 : decode cX7_girl 20 = .ok (.tableswitch 69 0 3 #[32, 39, 46, 53], 32) := by decide +kernel
theorem dX7_girl_52 : decode cX7_girl 52 = .ok (.aload_n 0, 1) := dk_42 (dk_at dksX7_girl_2 0 rfl rfl)
theorem dX7_girl_53 : decode cX7_girl 53 = .ok (.getfield 65, 3) := dk_180 0 65 (dk_at dksX7_girl_2 1 rfl rfl)
theorem dX7_girl_56 : decode cX7_girl 56 = .ok (.iload_n 1, 1) := dk_27 (dk_at dksX7_girl_2 4 rfl rfl)
theorem dX7_girl_57 : decode cX7_girl 57 = .ok (.iaload, 1) := dk_46 (dk_at dksX7_girl_2 5 rfl rfl)
theorem dX7_girl_58 : decode cX7_girl 58 = .ok (.ireturn, 1) := dk_172 (dk_at dksX7_girl_2 6 rfl rfl)
theorem dX7_girl_59 : decode cX7_girl 59 = .ok (.aload_n 0, 1) := dk_42 (dk_at dksX7_girl_2 7 rfl rfl)
theorem dX7_girl_60 : decode cX7_girl 60 = .ok (.getfield 77, 3) := dk_180 0 77 (dk_at dksX7_girl_2 8 rfl rfl)
theorem dX7_girl_63 : decode cX7_girl 63 = .ok (.iload_n 1, 1) := dk_27 (dk_at dksX7_girl_2 11 rfl rfl)
theorem dX7_girl_64 : decode cX7_girl 64 = .ok (.iaload, 1) := dk_46 (dk_at dksX7_girl_2 12 rfl rfl)
theorem dX7_girl_65 : decode cX7_girl 65 = .ok (.ireturn, 1) := dk_172 (dk_at dksX7_girl_2 13 rfl rfl)
theorem dX7_girl_66 : decode cX7_girl 66 = .ok (.aload_n 0, 1) := dk_42 (dk_at dksX7_girl_2 14 rfl rfl)
theorem dX7_girl_67 : decode cX7_girl 67 = .ok (.getfield 47, 3) := dk_180 0 47 (dk_at dksX7_girl_2 15 rfl rfl)
theorem dX7_girl_70 : decode cX7_girl 70 = .ok (.iload_n 1, 1) := dk_27 (dk_at dksX7_girl_2 18 rfl rfl)
theorem dX7_girl_71 : decode cX7_girl 71 = .ok (.iaload, 1) := dk_46 (dk_at dksX7_girl_2 19 rfl rfl)
theorem dX7_girl_72 : decode cX7_girl 72 = .ok (.ireturn, 1) := dk_172 (dk_at dksX7_girl_2 20 rfl rfl)
theorem dX7_girl_73 : decode cX7_girl 73 = .ok (.aload_n 0, 1) := dk_42 (dk_at dksX7_girl_2 21 rfl rfl)
theorem dX7_girl_74 : decode cX7_girl 74 = .ok (.iload_n 1, 1) := dk_27 (dk_at dksX7_girl_2 22 rfl rfl)
theorem dX7_girl_75 : decode cX7_girl 75 = .ok (.iconst 0, 1) := dk_3 (dk_at dksX7_girl_2 23 rfl rfl)
theorem dX7_girl_76 : decode cX7_girl 76 = .ok (.aload_n 0, 1) := dk_42 (dk_at dksX7_girl_3 0 rfl rfl)
theorem dX7_girl_77 : decode cX7_girl 77 = .ok (.getfield 147, 3) := dk_180 0 147 (dk_at dksX7_girl_3 1 rfl rfl)
theorem dX7_girl_80 : decode cX7_girl 80 = .ok (.iconst 1, 1) := dk_4 (dk_at dksX7_girl_3 4 rfl rfl)
theorem dX7_girl_81 : decode cX7_girl 81 = .ok (.isub, 1) := dk_100 (dk_at dksX7_girl_3 5 rfl rfl)
theorem dX7_girl_82 : decode cX7_girl 82 = .ok (.invokestatic 380, 3) := dk_184 1 124 (dk_at dksX7_girl_3 6 rfl rfl)
theorem dX7_girl_85 : decode cX7_girl 85 = .ok (.invokevirtual 383, 3) := dk_182 1 127 (dk_at dksX7_girl_3 9 rfl rfl)
theorem dX7_girl_88 : decode cX7_girl 88 = .ok (.ireturn, 1) := dk_172 (dk_at dksX7_girl_3 12 rfl rfl)
theorem dX7_girl_89 : decode cX7_girl 89 = .ok (.aload_n 0, 1) := dk_42 (dk_at dksX7_girl_3 13 rfl rfl)
theorem dX7_girl_90 : decode cX7_girl 90 = .ok (.iconst 1, 1) := dk_4 (dk_at dksX7_girl_3 14 rfl rfl)
theorem dX7_girl_91 : decode cX7_girl 91 = .ok (.invokevirtual 318, 3) := dk_182 1 62 (dk_at dksX7_girl_3 15 rfl rfl)
theorem dX7_girl_94 : decode cX7_girl 94 = .ok (.ireturn, 1) := dk_172 (dk_at dksX7_girl_3 18 rfl rfl)
abbrev cX7_isGirl : ByteArray := prog_18_method_11_code
def yX7_isGirl : MethodName := ⟨RX7, "isGirl", "(I)Z"⟩
def dkwX7_isGirl_0 : List UInt8 := [27, 133, 9, 42, 180, 0, 40, 5, 46, 4, 100, 133, 184, 0, 157, 172]
abbrev dktX7_isGirl_0 : List UInt8 := dkwX7_isGirl_0 ++ []
theorem dksX7_isGirl_0 : cX7_isGirl.data.toList.drop 0 = dktX7_isGirl_0 := by decide +kernel
theorem dX7_isGirl_0 : decode cX7_isGirl 0 = .ok (.iload_n 1, 1) := dk_27 (dk_at dksX7_isGirl_0 0 rfl rfl)
theorem dX7_isGirl_1 : decode cX7_isGirl 1 = .ok (.i2l, 1) := dk_133 (dk_at dksX7_isGirl_0 1 rfl rfl)
theorem dX7_isGirl_2 : decode cX7_isGirl 2 = .ok (.lconst 0, 1) := dk_9 (dk_at dksX7_isGirl_0 2 rfl rfl)
theorem dX7_isGirl_3 : decode cX7_isGirl 3 = .ok (.aload_n 0, 1) := dk_42 (dk_at dksX7_isGirl_0 3 rfl rfl)
theorem dX7_isGirl_4 : decode cX7_isGirl 4 = .ok (.getfield 40, 3) := dk_180 0 40 (dk_at dksX7_isGirl_0 4 rfl rfl)
theorem dX7_isGirl_7 : decode cX7_isGirl 7 = .ok (.iconst 2, 1) := dk_5 (dk_at dksX7_isGirl_0 7 rfl rfl)
theorem dX7_isGirl_8 : decode cX7_isGirl 8 = .ok (.iaload, 1) := dk_46 (dk_at dksX7_isGirl_0 8 rfl rfl)
theorem dX7_isGirl_9 : decode cX7_isGirl 9 = .ok (.iconst 1, 1) := dk_4 (dk_at dksX7_isGirl_0 9 rfl rfl)
theorem dX7_isGirl_10 : decode cX7_isGirl 10 = .ok (.isub, 1) := dk_100 (dk_at dksX7_isGirl_0 10 rfl rfl)
theorem dX7_isGirl_11 : decode cX7_isGirl 11 = .ok (.i2l, 1) := dk_133 (dk_at dksX7_isGirl_0 11 rfl rfl)
theorem dX7_isGirl_12 : decode cX7_isGirl 12 = .ok (.invokestatic 157, 3) := dk_184 0 157 (dk_at dksX7_isGirl_0 12 rfl rfl)
theorem dX7_isGirl_15 : decode cX7_isGirl 15 = .ok (.ireturn, 1) := dk_172 (dk_at dksX7_isGirl_0 15 rfl rfl)
abbrev cX7_dyesOf : ByteArray := prog_18_method_54_code
def yX7_dyesOf : MethodName := ⟨RX7, "dyesOf", "(II)I"⟩
def dkwX7_dyesOf_3 : List UInt8 := [184, 0, 191, 184, 1, 124, 172]
abbrev dktX7_dyesOf_3 : List UInt8 := dkwX7_dyesOf_3 ++ []
def dkwX7_dyesOf_2 : List UInt8 := [8, 28, 79, 42, 42, 180, 0, 56, 42, 180, 0, 40, 16, 6, 46, 182, 1, 120, 62, 3, 16, 30, 29]
abbrev dktX7_dyesOf_2 : List UInt8 := dkwX7_dyesOf_2 ++ dktX7_dyesOf_3
def dkwX7_dyesOf_1 : List UInt8 := [180, 0, 77, 27, 46, 182, 1, 117, 42, 180, 0, 83, 7, 42, 180, 0, 65, 27, 46, 79, 42, 180, 0, 83]
abbrev dktX7_dyesOf_1 : List UInt8 := dkwX7_dyesOf_1 ++ dktX7_dyesOf_2
def dkwX7_dyesOf_0 : List UInt8 := [5, 42, 180, 0, 65, 27, 46, 104, 6, 96, 62, 42, 180, 0, 40, 16, 6, 46, 158, 0, 48, 42, 42]
abbrev dktX7_dyesOf_0 : List UInt8 := dkwX7_dyesOf_0 ++ dktX7_dyesOf_1
theorem dksX7_dyesOf_0 : cX7_dyesOf.data.toList.drop 0 = dktX7_dyesOf_0 := by decide +kernel
theorem dksX7_dyesOf_1 : cX7_dyesOf.data.toList.drop 23 = dktX7_dyesOf_1 := dk_seg dksX7_dyesOf_0 23 rfl rfl
theorem dksX7_dyesOf_2 : cX7_dyesOf.data.toList.drop 47 = dktX7_dyesOf_2 := dk_seg dksX7_dyesOf_1 24 rfl rfl
theorem dksX7_dyesOf_3 : cX7_dyesOf.data.toList.drop 70 = dktX7_dyesOf_3 := dk_seg dksX7_dyesOf_2 23 rfl rfl
theorem dX7_dyesOf_0 : decode cX7_dyesOf 0 = .ok (.iconst 2, 1) := dk_5 (dk_at dksX7_dyesOf_0 0 rfl rfl)
theorem dX7_dyesOf_1 : decode cX7_dyesOf 1 = .ok (.aload_n 0, 1) := dk_42 (dk_at dksX7_dyesOf_0 1 rfl rfl)
theorem dX7_dyesOf_2 : decode cX7_dyesOf 2 = .ok (.getfield 65, 3) := dk_180 0 65 (dk_at dksX7_dyesOf_0 2 rfl rfl)
theorem dX7_dyesOf_5 : decode cX7_dyesOf 5 = .ok (.iload_n 1, 1) := dk_27 (dk_at dksX7_dyesOf_0 5 rfl rfl)
theorem dX7_dyesOf_6 : decode cX7_dyesOf 6 = .ok (.iaload, 1) := dk_46 (dk_at dksX7_dyesOf_0 6 rfl rfl)
theorem dX7_dyesOf_7 : decode cX7_dyesOf 7 = .ok (.imul, 1) := dk_104 (dk_at dksX7_dyesOf_0 7 rfl rfl)
theorem dX7_dyesOf_8 : decode cX7_dyesOf 8 = .ok (.iconst 3, 1) := dk_6 (dk_at dksX7_dyesOf_0 8 rfl rfl)
theorem dX7_dyesOf_9 : decode cX7_dyesOf 9 = .ok (.iadd, 1) := dk_96 (dk_at dksX7_dyesOf_0 9 rfl rfl)
theorem dX7_dyesOf_10 : decode cX7_dyesOf 10 = .ok (.istore_n 3, 1) := dk_62 (dk_at dksX7_dyesOf_0 10 rfl rfl)
theorem dX7_dyesOf_11 : decode cX7_dyesOf 11 = .ok (.aload_n 0, 1) := dk_42 (dk_at dksX7_dyesOf_0 11 rfl rfl)
theorem dX7_dyesOf_12 : decode cX7_dyesOf 12 = .ok (.getfield 40, 3) := dk_180 0 40 (dk_at dksX7_dyesOf_0 12 rfl rfl)
theorem dX7_dyesOf_15 : decode cX7_dyesOf 15 = .ok (.bipush 6, 2) := dk_16 6 (dk_at dksX7_dyesOf_0 15 rfl rfl)
theorem dX7_dyesOf_17 : decode cX7_dyesOf 17 = .ok (.iaload, 1) := dk_46 (dk_at dksX7_dyesOf_0 17 rfl rfl)
theorem dX7_dyesOf_18 : decode cX7_dyesOf 18 = .ok (.ifCond .le 48, 3) := dk_158 0 48 (dk_at dksX7_dyesOf_0 18 rfl rfl)
theorem dX7_dyesOf_21 : decode cX7_dyesOf 21 = .ok (.aload_n 0, 1) := dk_42 (dk_at dksX7_dyesOf_0 21 rfl rfl)
theorem dX7_dyesOf_22 : decode cX7_dyesOf 22 = .ok (.aload_n 0, 1) := dk_42 (dk_at dksX7_dyesOf_0 22 rfl rfl)
theorem dX7_dyesOf_23 : decode cX7_dyesOf 23 = .ok (.getfield 77, 3) := dk_180 0 77 (dk_at dksX7_dyesOf_1 0 rfl rfl)
theorem dX7_dyesOf_26 : decode cX7_dyesOf 26 = .ok (.iload_n 1, 1) := dk_27 (dk_at dksX7_dyesOf_1 3 rfl rfl)
theorem dX7_dyesOf_27 : decode cX7_dyesOf 27 = .ok (.iaload, 1) := dk_46 (dk_at dksX7_dyesOf_1 4 rfl rfl)
theorem dX7_dyesOf_28 : decode cX7_dyesOf 28 = .ok (.invokevirtual 373, 3) := dk_182 1 117 (dk_at dksX7_dyesOf_1 5 rfl rfl)
theorem dX7_dyesOf_31 : decode cX7_dyesOf 31 = .ok (.aload_n 0, 1) := dk_42 (dk_at dksX7_dyesOf_1 8 rfl rfl)
theorem dX7_dyesOf_32 : decode cX7_dyesOf 32 = .ok (.getfield 83, 3) := dk_180 0 83 (dk_at dksX7_dyesOf_1 9 rfl rfl)
theorem dX7_dyesOf_35 : decode cX7_dyesOf 35 = .ok (.iconst 4, 1) := dk_7 (dk_at dksX7_dyesOf_1 12 rfl rfl)
theorem dX7_dyesOf_36 : decode cX7_dyesOf 36 = .ok (.aload_n 0, 1) := dk_42 (dk_at dksX7_dyesOf_1 13 rfl rfl)
theorem dX7_dyesOf_37 : decode cX7_dyesOf 37 = .ok (.getfield 65, 3) := dk_180 0 65 (dk_at dksX7_dyesOf_1 14 rfl rfl)
theorem dX7_dyesOf_40 : decode cX7_dyesOf 40 = .ok (.iload_n 1, 1) := dk_27 (dk_at dksX7_dyesOf_1 17 rfl rfl)
theorem dX7_dyesOf_41 : decode cX7_dyesOf 41 = .ok (.iaload, 1) := dk_46 (dk_at dksX7_dyesOf_1 18 rfl rfl)
theorem dX7_dyesOf_42 : decode cX7_dyesOf 42 = .ok (.iastore, 1) := dk_79 (dk_at dksX7_dyesOf_1 19 rfl rfl)
theorem dX7_dyesOf_43 : decode cX7_dyesOf 43 = .ok (.aload_n 0, 1) := dk_42 (dk_at dksX7_dyesOf_1 20 rfl rfl)
theorem dX7_dyesOf_44 : decode cX7_dyesOf 44 = .ok (.getfield 83, 3) := dk_180 0 83 (dk_at dksX7_dyesOf_1 21 rfl rfl)
theorem dX7_dyesOf_47 : decode cX7_dyesOf 47 = .ok (.iconst 5, 1) := dk_8 (dk_at dksX7_dyesOf_2 0 rfl rfl)
theorem dX7_dyesOf_48 : decode cX7_dyesOf 48 = .ok (.iload_n 2, 1) := dk_28 (dk_at dksX7_dyesOf_2 1 rfl rfl)
theorem dX7_dyesOf_49 : decode cX7_dyesOf 49 = .ok (.iastore, 1) := dk_79 (dk_at dksX7_dyesOf_2 2 rfl rfl)
theorem dX7_dyesOf_50 : decode cX7_dyesOf 50 = .ok (.aload_n 0, 1) := dk_42 (dk_at dksX7_dyesOf_2 3 rfl rfl)
theorem dX7_dyesOf_51 : decode cX7_dyesOf 51 = .ok (.aload_n 0, 1) := dk_42 (dk_at dksX7_dyesOf_2 4 rfl rfl)
theorem dX7_dyesOf_52 : decode cX7_dyesOf 52 = .ok (.getfield 56, 3) := dk_180 0 56 (dk_at dksX7_dyesOf_2 5 rfl rfl)
theorem dX7_dyesOf_55 : decode cX7_dyesOf 55 = .ok (.aload_n 0, 1) := dk_42 (dk_at dksX7_dyesOf_2 8 rfl rfl)
theorem dX7_dyesOf_56 : decode cX7_dyesOf 56 = .ok (.getfield 40, 3) := dk_180 0 40 (dk_at dksX7_dyesOf_2 9 rfl rfl)
theorem dX7_dyesOf_59 : decode cX7_dyesOf 59 = .ok (.bipush 6, 2) := dk_16 6 (dk_at dksX7_dyesOf_2 12 rfl rfl)
theorem dX7_dyesOf_61 : decode cX7_dyesOf 61 = .ok (.iaload, 1) := dk_46 (dk_at dksX7_dyesOf_2 14 rfl rfl)
theorem dX7_dyesOf_62 : decode cX7_dyesOf 62 = .ok (.invokevirtual 376, 3) := dk_182 1 120 (dk_at dksX7_dyesOf_2 15 rfl rfl)
theorem dX7_dyesOf_65 : decode cX7_dyesOf 65 = .ok (.istore_n 3, 1) := dk_62 (dk_at dksX7_dyesOf_2 18 rfl rfl)
theorem dX7_dyesOf_66 : decode cX7_dyesOf 66 = .ok (.iconst 0, 1) := dk_3 (dk_at dksX7_dyesOf_2 19 rfl rfl)
theorem dX7_dyesOf_67 : decode cX7_dyesOf 67 = .ok (.bipush 30, 2) := dk_16 30 (dk_at dksX7_dyesOf_2 20 rfl rfl)
theorem dX7_dyesOf_69 : decode cX7_dyesOf 69 = .ok (.iload_n 3, 1) := dk_29 (dk_at dksX7_dyesOf_2 22 rfl rfl)
theorem dX7_dyesOf_70 : decode cX7_dyesOf 70 = .ok (.invokestatic 191, 3) := dk_184 0 191 (dk_at dksX7_dyesOf_3 0 rfl rfl)
theorem dX7_dyesOf_73 : decode cX7_dyesOf 73 = .ok (.invokestatic 380, 3) := dk_184 1 124 (dk_at dksX7_dyesOf_3 3 rfl rfl)
theorem dX7_dyesOf_76 : decode cX7_dyesOf 76 = .ok (.ireturn, 1) := dk_172 (dk_at dksX7_dyesOf_3 6 rfl rfl)
abbrev cX7_ask : ByteArray := prog_18_method_53_code
def yX7_ask : MethodName := ⟨RX7, "ask", "(I)V"⟩
def dkwX7_ask_1 : List UInt8 := [180, 0, 83, 5, 42, 27, 182, 1, 101, 79, 42, 180, 0, 83, 6, 42, 180, 1, 75, 79, 177]
abbrev dktX7_ask_1 : List UInt8 := dkwX7_ask_1 ++ []
def dkwX7_ask_0 : List UInt8 := [42, 180, 0, 83, 3, 42, 180, 0, 75, 27, 46, 79, 42, 180, 0, 83, 4, 42, 27, 182, 1, 114, 79, 42]
abbrev dktX7_ask_0 : List UInt8 := dkwX7_ask_0 ++ dktX7_ask_1
theorem dksX7_ask_0 : cX7_ask.data.toList.drop 0 = dktX7_ask_0 := by decide +kernel
theorem dksX7_ask_1 : cX7_ask.data.toList.drop 24 = dktX7_ask_1 := dk_seg dksX7_ask_0 24 rfl rfl
theorem dX7_ask_0 : decode cX7_ask 0 = .ok (.aload_n 0, 1) := dk_42 (dk_at dksX7_ask_0 0 rfl rfl)
theorem dX7_ask_1 : decode cX7_ask 1 = .ok (.getfield 83, 3) := dk_180 0 83 (dk_at dksX7_ask_0 1 rfl rfl)
theorem dX7_ask_4 : decode cX7_ask 4 = .ok (.iconst 0, 1) := dk_3 (dk_at dksX7_ask_0 4 rfl rfl)
theorem dX7_ask_5 : decode cX7_ask 5 = .ok (.aload_n 0, 1) := dk_42 (dk_at dksX7_ask_0 5 rfl rfl)
theorem dX7_ask_6 : decode cX7_ask 6 = .ok (.getfield 75, 3) := dk_180 0 75 (dk_at dksX7_ask_0 6 rfl rfl)
theorem dX7_ask_9 : decode cX7_ask 9 = .ok (.iload_n 1, 1) := dk_27 (dk_at dksX7_ask_0 9 rfl rfl)
theorem dX7_ask_10 : decode cX7_ask 10 = .ok (.iaload, 1) := dk_46 (dk_at dksX7_ask_0 10 rfl rfl)
theorem dX7_ask_11 : decode cX7_ask 11 = .ok (.iastore, 1) := dk_79 (dk_at dksX7_ask_0 11 rfl rfl)
theorem dX7_ask_12 : decode cX7_ask 12 = .ok (.aload_n 0, 1) := dk_42 (dk_at dksX7_ask_0 12 rfl rfl)
theorem dX7_ask_13 : decode cX7_ask 13 = .ok (.getfield 83, 3) := dk_180 0 83 (dk_at dksX7_ask_0 13 rfl rfl)
theorem dX7_ask_16 : decode cX7_ask 16 = .ok (.iconst 1, 1) := dk_4 (dk_at dksX7_ask_0 16 rfl rfl)
theorem dX7_ask_17 : decode cX7_ask 17 = .ok (.aload_n 0, 1) := dk_42 (dk_at dksX7_ask_0 17 rfl rfl)
theorem dX7_ask_18 : decode cX7_ask 18 = .ok (.iload_n 1, 1) := dk_27 (dk_at dksX7_ask_0 18 rfl rfl)
theorem dX7_ask_19 : decode cX7_ask 19 = .ok (.invokevirtual 370, 3) := dk_182 1 114 (dk_at dksX7_ask_0 19 rfl rfl)
theorem dX7_ask_22 : decode cX7_ask 22 = .ok (.iastore, 1) := dk_79 (dk_at dksX7_ask_0 22 rfl rfl)
theorem dX7_ask_23 : decode cX7_ask 23 = .ok (.aload_n 0, 1) := dk_42 (dk_at dksX7_ask_0 23 rfl rfl)
theorem dX7_ask_24 : decode cX7_ask 24 = .ok (.getfield 83, 3) := dk_180 0 83 (dk_at dksX7_ask_1 0 rfl rfl)
theorem dX7_ask_27 : decode cX7_ask 27 = .ok (.iconst 2, 1) := dk_5 (dk_at dksX7_ask_1 3 rfl rfl)
theorem dX7_ask_28 : decode cX7_ask 28 = .ok (.aload_n 0, 1) := dk_42 (dk_at dksX7_ask_1 4 rfl rfl)
theorem dX7_ask_29 : decode cX7_ask 29 = .ok (.iload_n 1, 1) := dk_27 (dk_at dksX7_ask_1 5 rfl rfl)
theorem dX7_ask_30 : decode cX7_ask 30 = .ok (.invokevirtual 357, 3) := dk_182 1 101 (dk_at dksX7_ask_1 6 rfl rfl)
theorem dX7_ask_33 : decode cX7_ask 33 = .ok (.iastore, 1) := dk_79 (dk_at dksX7_ask_1 9 rfl rfl)
theorem dX7_ask_34 : decode cX7_ask 34 = .ok (.aload_n 0, 1) := dk_42 (dk_at dksX7_ask_1 10 rfl rfl)
theorem dX7_ask_35 : decode cX7_ask 35 = .ok (.getfield 83, 3) := dk_180 0 83 (dk_at dksX7_ask_1 11 rfl rfl)
theorem dX7_ask_38 : decode cX7_ask 38 = .ok (.iconst 3, 1) := dk_6 (dk_at dksX7_ask_1 14 rfl rfl)
theorem dX7_ask_39 : decode cX7_ask 39 = .ok (.aload_n 0, 1) := dk_42 (dk_at dksX7_ask_1 15 rfl rfl)
theorem dX7_ask_40 : decode cX7_ask 40 = .ok (.getfield 331, 3) := dk_180 1 75 (dk_at dksX7_ask_1 16 rfl rfl)
theorem dX7_ask_43 : decode cX7_ask 43 = .ok (.iastore, 1) := dk_79 (dk_at dksX7_ask_1 19 rfl rfl)
theorem dX7_ask_44 : decode cX7_ask 44 = .ok (.return_, 1) := dk_177 (dk_at dksX7_ask_1 20 rfl rfl)
abbrev cX7_blueBeside : ByteArray := prog_18_method_50_code
def yX7_blueBeside : MethodName := ⟨RX7, "blueBeside", "(I)I"⟩
def dkwX7_blueBeside_2 : List UInt8 := [167, 255, 221, 28, 172]
abbrev dktX7_blueBeside_2 : List UInt8 := dkwX7_blueBeside_2 ++ []
def dkwX7_blueBeside_1 : List UInt8 := [184, 0, 232, 153, 0, 13, 42, 180, 0, 75, 21, 4, 46, 167, 0, 4, 3, 96, 61, 132, 4, 1]
abbrev dktX7_blueBeside_1 : List UInt8 := dkwX7_blueBeside_1 ++ dktX7_blueBeside_2
def dkwX7_blueBeside_0 : List UInt8 := [3, 61, 42, 27, 182, 1, 107, 62, 3, 54, 4, 21, 4, 42, 182, 0, 153, 162, 0, 32, 28, 29, 21, 4]
abbrev dktX7_blueBeside_0 : List UInt8 := dkwX7_blueBeside_0 ++ dktX7_blueBeside_1
theorem dksX7_blueBeside_0 : cX7_blueBeside.data.toList.drop 0 = dktX7_blueBeside_0 := by decide +kernel
theorem dksX7_blueBeside_1 : cX7_blueBeside.data.toList.drop 24 = dktX7_blueBeside_1 := dk_seg dksX7_blueBeside_0 24 rfl rfl
theorem dksX7_blueBeside_2 : cX7_blueBeside.data.toList.drop 46 = dktX7_blueBeside_2 := dk_seg dksX7_blueBeside_1 22 rfl rfl
theorem dX7_blueBeside_0 : decode cX7_blueBeside 0 = .ok (.iconst 0, 1) := dk_3 (dk_at dksX7_blueBeside_0 0 rfl rfl)
theorem dX7_blueBeside_1 : decode cX7_blueBeside 1 = .ok (.istore_n 2, 1) := dk_61 (dk_at dksX7_blueBeside_0 1 rfl rfl)
theorem dX7_blueBeside_2 : decode cX7_blueBeside 2 = .ok (.aload_n 0, 1) := dk_42 (dk_at dksX7_blueBeside_0 2 rfl rfl)
theorem dX7_blueBeside_3 : decode cX7_blueBeside 3 = .ok (.iload_n 1, 1) := dk_27 (dk_at dksX7_blueBeside_0 3 rfl rfl)
theorem dX7_blueBeside_4 : decode cX7_blueBeside 4 = .ok (.invokevirtual 363, 3) := dk_182 1 107 (dk_at dksX7_blueBeside_0 4 rfl rfl)
theorem dX7_blueBeside_7 : decode cX7_blueBeside 7 = .ok (.istore_n 3, 1) := dk_62 (dk_at dksX7_blueBeside_0 7 rfl rfl)
theorem dX7_blueBeside_8 : decode cX7_blueBeside 8 = .ok (.iconst 0, 1) := dk_3 (dk_at dksX7_blueBeside_0 8 rfl rfl)
theorem dX7_blueBeside_9 : decode cX7_blueBeside 9 = .ok (.istore 4, 2) := dk_54 4 (dk_at dksX7_blueBeside_0 9 rfl rfl)
theorem dX7_blueBeside_11 : decode cX7_blueBeside 11 = .ok (.iload 4, 2) := dk_21 4 (dk_at dksX7_blueBeside_0 11 rfl rfl)
theorem dX7_blueBeside_13 : decode cX7_blueBeside 13 = .ok (.aload_n 0, 1) := dk_42 (dk_at dksX7_blueBeside_0 13 rfl rfl)
theorem dX7_blueBeside_14 : decode cX7_blueBeside 14 = .ok (.invokevirtual 153, 3) := dk_182 0 153 (dk_at dksX7_blueBeside_0 14 rfl rfl)
theorem dX7_blueBeside_17 : decode cX7_blueBeside 17 = .ok (.if_icmp .ge 32, 3) := dk_162 0 32 (dk_at dksX7_blueBeside_0 17 rfl rfl)
theorem dX7_blueBeside_20 : decode cX7_blueBeside 20 = .ok (.iload_n 2, 1) := dk_28 (dk_at dksX7_blueBeside_0 20 rfl rfl)
theorem dX7_blueBeside_21 : decode cX7_blueBeside 21 = .ok (.iload_n 3, 1) := dk_29 (dk_at dksX7_blueBeside_0 21 rfl rfl)
theorem dX7_blueBeside_22 : decode cX7_blueBeside 22 = .ok (.iload 4, 2) := dk_21 4 (dk_at dksX7_blueBeside_0 22 rfl rfl)
theorem dX7_blueBeside_24 : decode cX7_blueBeside 24 = .ok (.invokestatic 232, 3) := dk_184 0 232 (dk_at dksX7_blueBeside_1 0 rfl rfl)
theorem dX7_blueBeside_27 : decode cX7_blueBeside 27 = .ok (.ifCond .eq 13, 3) := dk_153 0 13 (dk_at dksX7_blueBeside_1 3 rfl rfl)
theorem dX7_blueBeside_30 : decode cX7_blueBeside 30 = .ok (.aload_n 0, 1) := dk_42 (dk_at dksX7_blueBeside_1 6 rfl rfl)
theorem dX7_blueBeside_31 : decode cX7_blueBeside 31 = .ok (.getfield 75, 3) := dk_180 0 75 (dk_at dksX7_blueBeside_1 7 rfl rfl)
theorem dX7_blueBeside_34 : decode cX7_blueBeside 34 = .ok (.iload 4, 2) := dk_21 4 (dk_at dksX7_blueBeside_1 10 rfl rfl)
theorem dX7_blueBeside_36 : decode cX7_blueBeside 36 = .ok (.iaload, 1) := dk_46 (dk_at dksX7_blueBeside_1 12 rfl rfl)
theorem dX7_blueBeside_37 : decode cX7_blueBeside 37 = .ok (.goto 4, 3) := dk_167 0 4 (dk_at dksX7_blueBeside_1 13 rfl rfl)
theorem dX7_blueBeside_40 : decode cX7_blueBeside 40 = .ok (.iconst 0, 1) := dk_3 (dk_at dksX7_blueBeside_1 16 rfl rfl)
theorem dX7_blueBeside_41 : decode cX7_blueBeside 41 = .ok (.iadd, 1) := dk_96 (dk_at dksX7_blueBeside_1 17 rfl rfl)
theorem dX7_blueBeside_42 : decode cX7_blueBeside 42 = .ok (.istore_n 2, 1) := dk_61 (dk_at dksX7_blueBeside_1 18 rfl rfl)
theorem dX7_blueBeside_43 : decode cX7_blueBeside 43 = .ok (.iinc 4 1, 3) := dk_132 4 1 (dk_at dksX7_blueBeside_1 19 rfl rfl)
theorem dX7_blueBeside_46 : decode cX7_blueBeside 46 = .ok (.goto (-35), 3) := dk_167 255 221 (dk_at dksX7_blueBeside_2 0 rfl rfl)
theorem dX7_blueBeside_49 : decode cX7_blueBeside 49 = .ok (.iload_n 2, 1) := dk_28 (dk_at dksX7_blueBeside_2 3 rfl rfl)
theorem dX7_blueBeside_50 : decode cX7_blueBeside 50 = .ok (.ireturn, 1) := dk_172 (dk_at dksX7_blueBeside_2 4 rfl rfl)
abbrev cX7_valueNow : ByteArray := prog_18_method_52_code
def yX7_valueNow : MethodName := ⟨RX7, "valueNow", "([II)I"⟩
def dkwX7_valueNow_5 : List UInt8 := [184, 1, 110, 79, 132, 4, 1, 167, 255, 139, 42, 180, 0, 86, 3, 46, 172]
abbrev dktX7_valueNow_5 : List UInt8 := dkwX7_valueNow_5 ++ []
def dkwX7_valueNow_4 : List UInt8 := [180, 0, 86, 29, 4, 100, 21, 5, 42, 180, 0, 86, 29, 4, 100, 46, 42, 180, 0, 86, 29, 46]
abbrev dktX7_valueNow_4 : List UInt8 := dkwX7_valueNow_4 ++ dktX7_valueNow_5
def dkwX7_valueNow_3 : List UInt8 := [180, 0, 86, 29, 4, 100, 46, 153, 0, 7, 3, 167, 0, 4, 4, 79, 167, 0, 33, 132, 3, 255, 42]
abbrev dktX7_valueNow_3 : List UInt8 := dkwX7_valueNow_3 ++ dktX7_valueNow_4
def dkwX7_valueNow_2 : List UInt8 := [79, 132, 3, 1, 167, 0, 67, 21, 5, 16, 228, 160, 0, 30, 42, 180, 0, 86, 29, 4, 100, 42]
abbrev dktX7_valueNow_2 : List UInt8 := dkwX7_valueNow_2 ++ dktX7_valueNow_3
def dkwX7_valueNow_1 : List UInt8 := [42, 180, 0, 86, 29, 21, 5, 155, 0, 8, 21, 5, 167, 0, 12, 42, 180, 0, 83, 2, 21, 5, 100, 46]
abbrev dktX7_valueNow_1 : List UInt8 := dkwX7_valueNow_1 ++ dktX7_valueNow_2
def dkwX7_valueNow_0 : List UInt8 := [3, 62, 3, 54, 4, 21, 4, 28, 162, 0, 117, 43, 21, 4, 46, 54, 5, 21, 5, 16, 236, 164, 0, 34]
abbrev dktX7_valueNow_0 : List UInt8 := dkwX7_valueNow_0 ++ dktX7_valueNow_1
theorem dksX7_valueNow_0 : cX7_valueNow.data.toList.drop 0 = dktX7_valueNow_0 := by decide +kernel
theorem dksX7_valueNow_1 : cX7_valueNow.data.toList.drop 24 = dktX7_valueNow_1 := dk_seg dksX7_valueNow_0 24 rfl rfl
theorem dksX7_valueNow_2 : cX7_valueNow.data.toList.drop 48 = dktX7_valueNow_2 := dk_seg dksX7_valueNow_1 24 rfl rfl
theorem dksX7_valueNow_3 : cX7_valueNow.data.toList.drop 70 = dktX7_valueNow_3 := dk_seg dksX7_valueNow_2 22 rfl rfl
theorem dksX7_valueNow_4 : cX7_valueNow.data.toList.drop 93 = dktX7_valueNow_4 := dk_seg dksX7_valueNow_3 23 rfl rfl
theorem dksX7_valueNow_5 : cX7_valueNow.data.toList.drop 115 = dktX7_valueNow_5 := dk_seg dksX7_valueNow_4 22 rfl rfl
theorem dX7_valueNow_0 : decode cX7_valueNow 0 = .ok (.iconst 0, 1) := dk_3 (dk_at dksX7_valueNow_0 0 rfl rfl)
theorem dX7_valueNow_1 : decode cX7_valueNow 1 = .ok (.istore_n 3, 1) := dk_62 (dk_at dksX7_valueNow_0 1 rfl rfl)
theorem dX7_valueNow_2 : decode cX7_valueNow 2 = .ok (.iconst 0, 1) := dk_3 (dk_at dksX7_valueNow_0 2 rfl rfl)
theorem dX7_valueNow_3 : decode cX7_valueNow 3 = .ok (.istore 4, 2) := dk_54 4 (dk_at dksX7_valueNow_0 3 rfl rfl)
theorem dX7_valueNow_5 : decode cX7_valueNow 5 = .ok (.iload 4, 2) := dk_21 4 (dk_at dksX7_valueNow_0 5 rfl rfl)
theorem dX7_valueNow_7 : decode cX7_valueNow 7 = .ok (.iload_n 2, 1) := dk_28 (dk_at dksX7_valueNow_0 7 rfl rfl)
theorem dX7_valueNow_8 : decode cX7_valueNow 8 = .ok (.if_icmp .ge 117, 3) := dk_162 0 117 (dk_at dksX7_valueNow_0 8 rfl rfl)
theorem dX7_valueNow_11 : decode cX7_valueNow 11 = .ok (.aload_n 1, 1) := dk_43 (dk_at dksX7_valueNow_0 11 rfl rfl)
theorem dX7_valueNow_12 : decode cX7_valueNow 12 = .ok (.iload 4, 2) := dk_21 4 (dk_at dksX7_valueNow_0 12 rfl rfl)
theorem dX7_valueNow_14 : decode cX7_valueNow 14 = .ok (.iaload, 1) := dk_46 (dk_at dksX7_valueNow_0 14 rfl rfl)
theorem dX7_valueNow_15 : decode cX7_valueNow 15 = .ok (.istore 5, 2) := dk_54 5 (dk_at dksX7_valueNow_0 15 rfl rfl)
theorem dX7_valueNow_17 : decode cX7_valueNow 17 = .ok (.iload 5, 2) := dk_21 5 (dk_at dksX7_valueNow_0 17 rfl rfl)
theorem dX7_valueNow_19 : decode cX7_valueNow 19 = .ok (.bipush (-20), 2) := dk_16 236 (dk_at dksX7_valueNow_0 19 rfl rfl)
theorem dX7_valueNow_21 : decode cX7_valueNow 21 = .ok (.if_icmp .le 34, 3) := dk_164 0 34 (dk_at dksX7_valueNow_0 21 rfl rfl)
theorem dX7_valueNow_24 : decode cX7_valueNow 24 = .ok (.aload_n 0, 1) := dk_42 (dk_at dksX7_valueNow_1 0 rfl rfl)
theorem dX7_valueNow_25 : decode cX7_valueNow 25 = .ok (.getfield 86, 3) := dk_180 0 86 (dk_at dksX7_valueNow_1 1 rfl rfl)
theorem dX7_valueNow_28 : decode cX7_valueNow 28 = .ok (.iload_n 3, 1) := dk_29 (dk_at dksX7_valueNow_1 4 rfl rfl)
theorem dX7_valueNow_29 : decode cX7_valueNow 29 = .ok (.iload 5, 2) := dk_21 5 (dk_at dksX7_valueNow_1 5 rfl rfl)
theorem dX7_valueNow_31 : decode cX7_valueNow 31 = .ok (.ifCond .lt 8, 3) := dk_155 0 8 (dk_at dksX7_valueNow_1 7 rfl rfl)
theorem dX7_valueNow_34 : decode cX7_valueNow 34 = .ok (.iload 5, 2) := dk_21 5 (dk_at dksX7_valueNow_1 10 rfl rfl)
theorem dX7_valueNow_36 : decode cX7_valueNow 36 = .ok (.goto 12, 3) := dk_167 0 12 (dk_at dksX7_valueNow_1 12 rfl rfl)
theorem dX7_valueNow_39 : decode cX7_valueNow 39 = .ok (.aload_n 0, 1) := dk_42 (dk_at dksX7_valueNow_1 15 rfl rfl)
theorem dX7_valueNow_40 : decode cX7_valueNow 40 = .ok (.getfield 83, 3) := dk_180 0 83 (dk_at dksX7_valueNow_1 16 rfl rfl)
theorem dX7_valueNow_43 : decode cX7_valueNow 43 = .ok (.iconst (-1), 1) := dk_2 (dk_at dksX7_valueNow_1 19 rfl rfl)
theorem dX7_valueNow_44 : decode cX7_valueNow 44 = .ok (.iload 5, 2) := dk_21 5 (dk_at dksX7_valueNow_1 20 rfl rfl)
theorem dX7_valueNow_46 : decode cX7_valueNow 46 = .ok (.isub, 1) := dk_100 (dk_at dksX7_valueNow_1 22 rfl rfl)
theorem dX7_valueNow_47 : decode cX7_valueNow 47 = .ok (.iaload, 1) := dk_46 (dk_at dksX7_valueNow_1 23 rfl rfl)
theorem dX7_valueNow_48 : decode cX7_valueNow 48 = .ok (.iastore, 1) := dk_79 (dk_at dksX7_valueNow_2 0 rfl rfl)
theorem dX7_valueNow_49 : decode cX7_valueNow 49 = .ok (.iinc 3 1, 3) := dk_132 3 1 (dk_at dksX7_valueNow_2 1 rfl rfl)
theorem dX7_valueNow_52 : decode cX7_valueNow 52 = .ok (.goto 67, 3) := dk_167 0 67 (dk_at dksX7_valueNow_2 4 rfl rfl)
theorem dX7_valueNow_55 : decode cX7_valueNow 55 = .ok (.iload 5, 2) := dk_21 5 (dk_at dksX7_valueNow_2 7 rfl rfl)
theorem dX7_valueNow_57 : decode cX7_valueNow 57 = .ok (.bipush (-28), 2) := dk_16 228 (dk_at dksX7_valueNow_2 9 rfl rfl)
theorem dX7_valueNow_59 : decode cX7_valueNow 59 = .ok (.if_icmp .ne 30, 3) := dk_160 0 30 (dk_at dksX7_valueNow_2 11 rfl rfl)
theorem dX7_valueNow_62 : decode cX7_valueNow 62 = .ok (.aload_n 0, 1) := dk_42 (dk_at dksX7_valueNow_2 14 rfl rfl)
theorem dX7_valueNow_63 : decode cX7_valueNow 63 = .ok (.getfield 86, 3) := dk_180 0 86 (dk_at dksX7_valueNow_2 15 rfl rfl)
theorem dX7_valueNow_66 : decode cX7_valueNow 66 = .ok (.iload_n 3, 1) := dk_29 (dk_at dksX7_valueNow_2 18 rfl rfl)
theorem dX7_valueNow_67 : decode cX7_valueNow 67 = .ok (.iconst 1, 1) := dk_4 (dk_at dksX7_valueNow_2 19 rfl rfl)
theorem dX7_valueNow_68 : decode cX7_valueNow 68 = .ok (.isub, 1) := dk_100 (dk_at dksX7_valueNow_2 20 rfl rfl)
theorem dX7_valueNow_69 : decode cX7_valueNow 69 = .ok (.aload_n 0, 1) := dk_42 (dk_at dksX7_valueNow_2 21 rfl rfl)
theorem dX7_valueNow_70 : decode cX7_valueNow 70 = .ok (.getfield 86, 3) := dk_180 0 86 (dk_at dksX7_valueNow_3 0 rfl rfl)
theorem dX7_valueNow_73 : decode cX7_valueNow 73 = .ok (.iload_n 3, 1) := dk_29 (dk_at dksX7_valueNow_3 3 rfl rfl)
theorem dX7_valueNow_74 : decode cX7_valueNow 74 = .ok (.iconst 1, 1) := dk_4 (dk_at dksX7_valueNow_3 4 rfl rfl)
theorem dX7_valueNow_75 : decode cX7_valueNow 75 = .ok (.isub, 1) := dk_100 (dk_at dksX7_valueNow_3 5 rfl rfl)
theorem dX7_valueNow_76 : decode cX7_valueNow 76 = .ok (.iaload, 1) := dk_46 (dk_at dksX7_valueNow_3 6 rfl rfl)
theorem dX7_valueNow_77 : decode cX7_valueNow 77 = .ok (.ifCond .eq 7, 3) := dk_153 0 7 (dk_at dksX7_valueNow_3 7 rfl rfl)
theorem dX7_valueNow_80 : decode cX7_valueNow 80 = .ok (.iconst 0, 1) := dk_3 (dk_at dksX7_valueNow_3 10 rfl rfl)
theorem dX7_valueNow_81 : decode cX7_valueNow 81 = .ok (.goto 4, 3) := dk_167 0 4 (dk_at dksX7_valueNow_3 11 rfl rfl)
theorem dX7_valueNow_84 : decode cX7_valueNow 84 = .ok (.iconst 1, 1) := dk_4 (dk_at dksX7_valueNow_3 14 rfl rfl)
theorem dX7_valueNow_85 : decode cX7_valueNow 85 = .ok (.iastore, 1) := dk_79 (dk_at dksX7_valueNow_3 15 rfl rfl)
theorem dX7_valueNow_86 : decode cX7_valueNow 86 = .ok (.goto 33, 3) := dk_167 0 33 (dk_at dksX7_valueNow_3 16 rfl rfl)
theorem dX7_valueNow_89 : decode cX7_valueNow 89 = .ok (.iinc 3 (-1), 3) := dk_132 3 255 (dk_at dksX7_valueNow_3 19 rfl rfl)
theorem dX7_valueNow_92 : decode cX7_valueNow 92 = .ok (.aload_n 0, 1) := dk_42 (dk_at dksX7_valueNow_3 22 rfl rfl)
theorem dX7_valueNow_93 : decode cX7_valueNow 93 = .ok (.getfield 86, 3) := dk_180 0 86 (dk_at dksX7_valueNow_4 0 rfl rfl)
theorem dX7_valueNow_96 : decode cX7_valueNow 96 = .ok (.iload_n 3, 1) := dk_29 (dk_at dksX7_valueNow_4 3 rfl rfl)
theorem dX7_valueNow_97 : decode cX7_valueNow 97 = .ok (.iconst 1, 1) := dk_4 (dk_at dksX7_valueNow_4 4 rfl rfl)
theorem dX7_valueNow_98 : decode cX7_valueNow 98 = .ok (.isub, 1) := dk_100 (dk_at dksX7_valueNow_4 5 rfl rfl)
theorem dX7_valueNow_99 : decode cX7_valueNow 99 = .ok (.iload 5, 2) := dk_21 5 (dk_at dksX7_valueNow_4 6 rfl rfl)
theorem dX7_valueNow_101 : decode cX7_valueNow 101 = .ok (.aload_n 0, 1) := dk_42 (dk_at dksX7_valueNow_4 8 rfl rfl)
theorem dX7_valueNow_102 : decode cX7_valueNow 102 = .ok (.getfield 86, 3) := dk_180 0 86 (dk_at dksX7_valueNow_4 9 rfl rfl)
theorem dX7_valueNow_105 : decode cX7_valueNow 105 = .ok (.iload_n 3, 1) := dk_29 (dk_at dksX7_valueNow_4 12 rfl rfl)
theorem dX7_valueNow_106 : decode cX7_valueNow 106 = .ok (.iconst 1, 1) := dk_4 (dk_at dksX7_valueNow_4 13 rfl rfl)
theorem dX7_valueNow_107 : decode cX7_valueNow 107 = .ok (.isub, 1) := dk_100 (dk_at dksX7_valueNow_4 14 rfl rfl)
theorem dX7_valueNow_108 : decode cX7_valueNow 108 = .ok (.iaload, 1) := dk_46 (dk_at dksX7_valueNow_4 15 rfl rfl)
theorem dX7_valueNow_109 : decode cX7_valueNow 109 = .ok (.aload_n 0, 1) := dk_42 (dk_at dksX7_valueNow_4 16 rfl rfl)
theorem dX7_valueNow_110 : decode cX7_valueNow 110 = .ok (.getfield 86, 3) := dk_180 0 86 (dk_at dksX7_valueNow_4 17 rfl rfl)
theorem dX7_valueNow_113 : decode cX7_valueNow 113 = .ok (.iload_n 3, 1) := dk_29 (dk_at dksX7_valueNow_4 20 rfl rfl)
theorem dX7_valueNow_114 : decode cX7_valueNow 114 = .ok (.iaload, 1) := dk_46 (dk_at dksX7_valueNow_4 21 rfl rfl)
theorem dX7_valueNow_115 : decode cX7_valueNow 115 = .ok (.invokestatic 366, 3) := dk_184 1 110 (dk_at dksX7_valueNow_5 0 rfl rfl)
theorem dX7_valueNow_118 : decode cX7_valueNow 118 = .ok (.iastore, 1) := dk_79 (dk_at dksX7_valueNow_5 3 rfl rfl)
theorem dX7_valueNow_119 : decode cX7_valueNow 119 = .ok (.iinc 4 1, 3) := dk_132 4 1 (dk_at dksX7_valueNow_5 4 rfl rfl)
theorem dX7_valueNow_122 : decode cX7_valueNow 122 = .ok (.goto (-117), 3) := dk_167 255 139 (dk_at dksX7_valueNow_5 7 rfl rfl)
theorem dX7_valueNow_125 : decode cX7_valueNow 125 = .ok (.aload_n 0, 1) := dk_42 (dk_at dksX7_valueNow_5 10 rfl rfl)
theorem dX7_valueNow_126 : decode cX7_valueNow 126 = .ok (.getfield 86, 3) := dk_180 0 86 (dk_at dksX7_valueNow_5 11 rfl rfl)
theorem dX7_valueNow_129 : decode cX7_valueNow 129 = .ok (.iconst 0, 1) := dk_3 (dk_at dksX7_valueNow_5 14 rfl rfl)
theorem dX7_valueNow_130 : decode cX7_valueNow 130 = .ok (.iaload, 1) := dk_46 (dk_at dksX7_valueNow_5 15 rfl rfl)
theorem dX7_valueNow_131 : decode cX7_valueNow 131 = .ok (.ireturn, 1) := dk_172 (dk_at dksX7_valueNow_5 16 rfl rfl)
abbrev cX7_reckon : ByteArray := prog_18_method_51_code
def yX7_reckon : MethodName := ⟨RX7, "reckon", "(III)I"⟩
def dkwX7_reckon_5 : List UInt8 := [167, 0, 4, 3, 172]
abbrev dktX7_reckon_5 : List UInt8 := dkwX7_reckon_5 ++ []
def dkwX7_reckon_4 : List UInt8 := [153, 0, 11, 28, 153, 0, 7, 4, 167, 0, 4, 3, 172, 27, 154, 0, 7, 28, 153, 0, 7, 4]
abbrev dktX7_reckon_4 : List UInt8 := dkwX7_reckon_4 ++ dktX7_reckon_5
def dkwX7_reckon_3 : List UInt8 := [27, 28, 162, 0, 7, 4, 167, 0, 4, 3, 172, 27, 28, 160, 0, 7, 4, 167, 0, 4, 3, 172, 27]
abbrev dktX7_reckon_3 : List UInt8 := dkwX7_reckon_3 ++ dktX7_reckon_4
def dkwX7_reckon_2 : List UInt8 := [27, 28, 96, 172, 27, 28, 100, 172, 27, 28, 104, 172, 28, 154, 0, 7, 3, 167, 0, 6, 27, 28, 108, 172]
abbrev dktX7_reckon_2 : List UInt8 := dkwX7_reckon_2 ++ dktX7_reckon_3
def dkwX7_reckon_1 : List UInt8 := [170, 0, 0, 0, 0, 0, 103, 255, 255, 255, 230, 255, 255, 255, 236, 0, 0, 0, 89, 0, 0, 0, 78, 0, 0, 0, 67, 0, 0, 0, 55, 0, 0, 0, 51, 0, 0, 0, 47, 0, 0, 0, 43]
abbrev dktX7_reckon_1 : List UInt8 := dkwX7_reckon_1 ++ dktX7_reckon_2
def dkwX7_reckon_0 : List UInt8 := [26]
abbrev dktX7_reckon_0 : List UInt8 := dkwX7_reckon_0 ++ dktX7_reckon_1
theorem dksX7_reckon_0 : cX7_reckon.data.toList.drop 0 = dktX7_reckon_0 := by decide +kernel
theorem dksX7_reckon_1 : cX7_reckon.data.toList.drop 1 = dktX7_reckon_1 := dk_seg dksX7_reckon_0 1 rfl rfl
theorem dksX7_reckon_2 : cX7_reckon.data.toList.drop 44 = dktX7_reckon_2 := dk_seg dksX7_reckon_1 43 rfl rfl
theorem dksX7_reckon_3 : cX7_reckon.data.toList.drop 68 = dktX7_reckon_3 := dk_seg dksX7_reckon_2 24 rfl rfl
theorem dksX7_reckon_4 : cX7_reckon.data.toList.drop 91 = dktX7_reckon_4 := dk_seg dksX7_reckon_3 23 rfl rfl
theorem dksX7_reckon_5 : cX7_reckon.data.toList.drop 113 = dktX7_reckon_5 := dk_seg dksX7_reckon_4 22 rfl rfl
theorem dX7_reckon_0 : decode cX7_reckon 0 = .ok (.iload_n 0, 1) := dk_26 (dk_at dksX7_reckon_0 0 rfl rfl)
theorem dX7_reckon_1 : decode cX7_reckon 1 = .ok (.tableswitch 103 (-26) (-20) #[89, 78, 67, 55, 51, 47, 43], 43) := by decide +kernel
theorem dX7_reckon_44 : decode cX7_reckon 44 = .ok (.iload_n 1, 1) := dk_27 (dk_at dksX7_reckon_2 0 rfl rfl)
theorem dX7_reckon_45 : decode cX7_reckon 45 = .ok (.iload_n 2, 1) := dk_28 (dk_at dksX7_reckon_2 1 rfl rfl)
theorem dX7_reckon_46 : decode cX7_reckon 46 = .ok (.iadd, 1) := dk_96 (dk_at dksX7_reckon_2 2 rfl rfl)
theorem dX7_reckon_47 : decode cX7_reckon 47 = .ok (.ireturn, 1) := dk_172 (dk_at dksX7_reckon_2 3 rfl rfl)
theorem dX7_reckon_48 : decode cX7_reckon 48 = .ok (.iload_n 1, 1) := dk_27 (dk_at dksX7_reckon_2 4 rfl rfl)
theorem dX7_reckon_49 : decode cX7_reckon 49 = .ok (.iload_n 2, 1) := dk_28 (dk_at dksX7_reckon_2 5 rfl rfl)
theorem dX7_reckon_50 : decode cX7_reckon 50 = .ok (.isub, 1) := dk_100 (dk_at dksX7_reckon_2 6 rfl rfl)
theorem dX7_reckon_51 : decode cX7_reckon 51 = .ok (.ireturn, 1) := dk_172 (dk_at dksX7_reckon_2 7 rfl rfl)
theorem dX7_reckon_52 : decode cX7_reckon 52 = .ok (.iload_n 1, 1) := dk_27 (dk_at dksX7_reckon_2 8 rfl rfl)
theorem dX7_reckon_53 : decode cX7_reckon 53 = .ok (.iload_n 2, 1) := dk_28 (dk_at dksX7_reckon_2 9 rfl rfl)
theorem dX7_reckon_54 : decode cX7_reckon 54 = .ok (.imul, 1) := dk_104 (dk_at dksX7_reckon_2 10 rfl rfl)
theorem dX7_reckon_55 : decode cX7_reckon 55 = .ok (.ireturn, 1) := dk_172 (dk_at dksX7_reckon_2 11 rfl rfl)
theorem dX7_reckon_56 : decode cX7_reckon 56 = .ok (.iload_n 2, 1) := dk_28 (dk_at dksX7_reckon_2 12 rfl rfl)
theorem dX7_reckon_57 : decode cX7_reckon 57 = .ok (.ifCond .ne 7, 3) := dk_154 0 7 (dk_at dksX7_reckon_2 13 rfl rfl)
theorem dX7_reckon_60 : decode cX7_reckon 60 = .ok (.iconst 0, 1) := dk_3 (dk_at dksX7_reckon_2 16 rfl rfl)
theorem dX7_reckon_61 : decode cX7_reckon 61 = .ok (.goto 6, 3) := dk_167 0 6 (dk_at dksX7_reckon_2 17 rfl rfl)
theorem dX7_reckon_64 : decode cX7_reckon 64 = .ok (.iload_n 1, 1) := dk_27 (dk_at dksX7_reckon_2 20 rfl rfl)
theorem dX7_reckon_65 : decode cX7_reckon 65 = .ok (.iload_n 2, 1) := dk_28 (dk_at dksX7_reckon_2 21 rfl rfl)
theorem dX7_reckon_66 : decode cX7_reckon 66 = .ok (.idiv, 1) := dk_108 (dk_at dksX7_reckon_2 22 rfl rfl)
theorem dX7_reckon_67 : decode cX7_reckon 67 = .ok (.ireturn, 1) := dk_172 (dk_at dksX7_reckon_2 23 rfl rfl)
theorem dX7_reckon_68 : decode cX7_reckon 68 = .ok (.iload_n 1, 1) := dk_27 (dk_at dksX7_reckon_3 0 rfl rfl)
theorem dX7_reckon_69 : decode cX7_reckon 69 = .ok (.iload_n 2, 1) := dk_28 (dk_at dksX7_reckon_3 1 rfl rfl)
theorem dX7_reckon_70 : decode cX7_reckon 70 = .ok (.if_icmp .ge 7, 3) := dk_162 0 7 (dk_at dksX7_reckon_3 2 rfl rfl)
theorem dX7_reckon_73 : decode cX7_reckon 73 = .ok (.iconst 1, 1) := dk_4 (dk_at dksX7_reckon_3 5 rfl rfl)
theorem dX7_reckon_74 : decode cX7_reckon 74 = .ok (.goto 4, 3) := dk_167 0 4 (dk_at dksX7_reckon_3 6 rfl rfl)
theorem dX7_reckon_77 : decode cX7_reckon 77 = .ok (.iconst 0, 1) := dk_3 (dk_at dksX7_reckon_3 9 rfl rfl)
theorem dX7_reckon_78 : decode cX7_reckon 78 = .ok (.ireturn, 1) := dk_172 (dk_at dksX7_reckon_3 10 rfl rfl)
theorem dX7_reckon_79 : decode cX7_reckon 79 = .ok (.iload_n 1, 1) := dk_27 (dk_at dksX7_reckon_3 11 rfl rfl)
theorem dX7_reckon_80 : decode cX7_reckon 80 = .ok (.iload_n 2, 1) := dk_28 (dk_at dksX7_reckon_3 12 rfl rfl)
theorem dX7_reckon_81 : decode cX7_reckon 81 = .ok (.if_icmp .ne 7, 3) := dk_160 0 7 (dk_at dksX7_reckon_3 13 rfl rfl)
theorem dX7_reckon_84 : decode cX7_reckon 84 = .ok (.iconst 1, 1) := dk_4 (dk_at dksX7_reckon_3 16 rfl rfl)
theorem dX7_reckon_85 : decode cX7_reckon 85 = .ok (.goto 4, 3) := dk_167 0 4 (dk_at dksX7_reckon_3 17 rfl rfl)
theorem dX7_reckon_88 : decode cX7_reckon 88 = .ok (.iconst 0, 1) := dk_3 (dk_at dksX7_reckon_3 20 rfl rfl)
theorem dX7_reckon_89 : decode cX7_reckon 89 = .ok (.ireturn, 1) := dk_172 (dk_at dksX7_reckon_3 21 rfl rfl)
theorem dX7_reckon_90 : decode cX7_reckon 90 = .ok (.iload_n 1, 1) := dk_27 (dk_at dksX7_reckon_3 22 rfl rfl)
theorem dX7_reckon_91 : decode cX7_reckon 91 = .ok (.ifCond .eq 11, 3) := dk_153 0 11 (dk_at dksX7_reckon_4 0 rfl rfl)
theorem dX7_reckon_94 : decode cX7_reckon 94 = .ok (.iload_n 2, 1) := dk_28 (dk_at dksX7_reckon_4 3 rfl rfl)
theorem dX7_reckon_95 : decode cX7_reckon 95 = .ok (.ifCond .eq 7, 3) := dk_153 0 7 (dk_at dksX7_reckon_4 4 rfl rfl)
theorem dX7_reckon_98 : decode cX7_reckon 98 = .ok (.iconst 1, 1) := dk_4 (dk_at dksX7_reckon_4 7 rfl rfl)
theorem dX7_reckon_99 : decode cX7_reckon 99 = .ok (.goto 4, 3) := dk_167 0 4 (dk_at dksX7_reckon_4 8 rfl rfl)
theorem dX7_reckon_102 : decode cX7_reckon 102 = .ok (.iconst 0, 1) := dk_3 (dk_at dksX7_reckon_4 11 rfl rfl)
theorem dX7_reckon_103 : decode cX7_reckon 103 = .ok (.ireturn, 1) := dk_172 (dk_at dksX7_reckon_4 12 rfl rfl)
theorem dX7_reckon_104 : decode cX7_reckon 104 = .ok (.iload_n 1, 1) := dk_27 (dk_at dksX7_reckon_4 13 rfl rfl)
theorem dX7_reckon_105 : decode cX7_reckon 105 = .ok (.ifCond .ne 7, 3) := dk_154 0 7 (dk_at dksX7_reckon_4 14 rfl rfl)
theorem dX7_reckon_108 : decode cX7_reckon 108 = .ok (.iload_n 2, 1) := dk_28 (dk_at dksX7_reckon_4 17 rfl rfl)
theorem dX7_reckon_109 : decode cX7_reckon 109 = .ok (.ifCond .eq 7, 3) := dk_153 0 7 (dk_at dksX7_reckon_4 18 rfl rfl)
theorem dX7_reckon_112 : decode cX7_reckon 112 = .ok (.iconst 1, 1) := dk_4 (dk_at dksX7_reckon_4 21 rfl rfl)
theorem dX7_reckon_113 : decode cX7_reckon 113 = .ok (.goto 4, 3) := dk_167 0 4 (dk_at dksX7_reckon_5 0 rfl rfl)
theorem dX7_reckon_116 : decode cX7_reckon 116 = .ok (.iconst 0, 1) := dk_3 (dk_at dksX7_reckon_5 3 rfl rfl)
theorem dX7_reckon_117 : decode cX7_reckon 117 = .ok (.ireturn, 1) := dk_172 (dk_at dksX7_reckon_5 4 rfl rfl)
abbrev cX7_days : ByteArray := prog_18_method_68_code
def yX7_days : MethodName := ⟨RX7, "days", "(I)I"⟩
def dkwX7_days_2 : List UInt8 := [180, 1, 75, 172]
abbrev dktX7_days_2 : List UInt8 := dkwX7_days_2 ++ []
def dkwX7_days_1 : List UInt8 := [17, 3, 231, 164, 0, 9, 42, 4, 182, 1, 170, 172, 42, 182, 1, 173, 42, 27, 182, 1, 176, 42]
abbrev dktX7_days_1 : List UInt8 := dkwX7_days_1 ++ dktX7_days_2
def dkwX7_days_0 : List UInt8 := [42, 3, 181, 0, 150, 27, 133, 10, 20, 1, 168, 184, 0, 157, 153, 0, 15, 42, 180, 1, 75, 27, 96]
abbrev dktX7_days_0 : List UInt8 := dkwX7_days_0 ++ dktX7_days_1
theorem dksX7_days_0 : cX7_days.data.toList.drop 0 = dktX7_days_0 := by decide +kernel
theorem dksX7_days_1 : cX7_days.data.toList.drop 23 = dktX7_days_1 := dk_seg dksX7_days_0 23 rfl rfl
theorem dksX7_days_2 : cX7_days.data.toList.drop 45 = dktX7_days_2 := dk_seg dksX7_days_1 22 rfl rfl
theorem dX7_days_0 : decode cX7_days 0 = .ok (.aload_n 0, 1) := dk_42 (dk_at dksX7_days_0 0 rfl rfl)
theorem dX7_days_1 : decode cX7_days 1 = .ok (.iconst 0, 1) := dk_3 (dk_at dksX7_days_0 1 rfl rfl)
theorem dX7_days_2 : decode cX7_days 2 = .ok (.putfield 150, 3) := dk_181 0 150 (dk_at dksX7_days_0 2 rfl rfl)
theorem dX7_days_5 : decode cX7_days 5 = .ok (.iload_n 1, 1) := dk_27 (dk_at dksX7_days_0 5 rfl rfl)
theorem dX7_days_6 : decode cX7_days 6 = .ok (.i2l, 1) := dk_133 (dk_at dksX7_days_0 6 rfl rfl)
theorem dX7_days_7 : decode cX7_days 7 = .ok (.lconst 1, 1) := dk_10 (dk_at dksX7_days_0 7 rfl rfl)
theorem dX7_days_8 : decode cX7_days 8 = .ok (.ldc2_w 424, 3) := dk_20 1 168 (dk_at dksX7_days_0 8 rfl rfl)
theorem dX7_days_11 : decode cX7_days 11 = .ok (.invokestatic 157, 3) := dk_184 0 157 (dk_at dksX7_days_0 11 rfl rfl)
theorem dX7_days_14 : decode cX7_days 14 = .ok (.ifCond .eq 15, 3) := dk_153 0 15 (dk_at dksX7_days_0 14 rfl rfl)
theorem dX7_days_17 : decode cX7_days 17 = .ok (.aload_n 0, 1) := dk_42 (dk_at dksX7_days_0 17 rfl rfl)
theorem dX7_days_18 : decode cX7_days 18 = .ok (.getfield 331, 3) := dk_180 1 75 (dk_at dksX7_days_0 18 rfl rfl)
theorem dX7_days_21 : decode cX7_days 21 = .ok (.iload_n 1, 1) := dk_27 (dk_at dksX7_days_0 21 rfl rfl)
theorem dX7_days_22 : decode cX7_days 22 = .ok (.iadd, 1) := dk_96 (dk_at dksX7_days_0 22 rfl rfl)
theorem dX7_days_23 : decode cX7_days 23 = .ok (.sipush 999, 3) := dk_17 3 231 (dk_at dksX7_days_1 0 rfl rfl)
theorem dX7_days_26 : decode cX7_days 26 = .ok (.if_icmp .le 9, 3) := dk_164 0 9 (dk_at dksX7_days_1 3 rfl rfl)
theorem dX7_days_29 : decode cX7_days 29 = .ok (.aload_n 0, 1) := dk_42 (dk_at dksX7_days_1 6 rfl rfl)
theorem dX7_days_30 : decode cX7_days 30 = .ok (.iconst 1, 1) := dk_4 (dk_at dksX7_days_1 7 rfl rfl)
theorem dX7_days_31 : decode cX7_days 31 = .ok (.invokevirtual 426, 3) := dk_182 1 170 (dk_at dksX7_days_1 8 rfl rfl)
theorem dX7_days_34 : decode cX7_days 34 = .ok (.ireturn, 1) := dk_172 (dk_at dksX7_days_1 11 rfl rfl)
theorem dX7_days_35 : decode cX7_days 35 = .ok (.aload_n 0, 1) := dk_42 (dk_at dksX7_days_1 12 rfl rfl)
theorem dX7_days_36 : decode cX7_days 36 = .ok (.invokevirtual 429, 3) := dk_182 1 173 (dk_at dksX7_days_1 13 rfl rfl)
theorem dX7_days_39 : decode cX7_days 39 = .ok (.aload_n 0, 1) := dk_42 (dk_at dksX7_days_1 16 rfl rfl)
theorem dX7_days_40 : decode cX7_days 40 = .ok (.iload_n 1, 1) := dk_27 (dk_at dksX7_days_1 17 rfl rfl)
theorem dX7_days_41 : decode cX7_days 41 = .ok (.invokevirtual 432, 3) := dk_182 1 176 (dk_at dksX7_days_1 18 rfl rfl)
theorem dX7_days_44 : decode cX7_days 44 = .ok (.aload_n 0, 1) := dk_42 (dk_at dksX7_days_1 21 rfl rfl)
theorem dX7_days_45 : decode cX7_days 45 = .ok (.getfield 331, 3) := dk_180 1 75 (dk_at dksX7_days_2 0 rfl rfl)
theorem dX7_days_48 : decode cX7_days 48 = .ok (.ireturn, 1) := dk_172 (dk_at dksX7_days_2 3 rfl rfl)
abbrev cX7_refuse : ByteArray := prog_18_method_66_code
def yX7_refuse : MethodName := ⟨RX7, "refuse", "(I)I"⟩
def dkwX7_refuse_0 : List UInt8 := [42, 180, 0, 62, 27, 92, 46, 4, 96, 79, 2, 172]
abbrev dktX7_refuse_0 : List UInt8 := dkwX7_refuse_0 ++ []
theorem dksX7_refuse_0 : cX7_refuse.data.toList.drop 0 = dktX7_refuse_0 := by decide +kernel
theorem dX7_refuse_0 : decode cX7_refuse 0 = .ok (.aload_n 0, 1) := dk_42 (dk_at dksX7_refuse_0 0 rfl rfl)
theorem dX7_refuse_1 : decode cX7_refuse 1 = .ok (.getfield 62, 3) := dk_180 0 62 (dk_at dksX7_refuse_0 1 rfl rfl)
theorem dX7_refuse_4 : decode cX7_refuse 4 = .ok (.iload_n 1, 1) := dk_27 (dk_at dksX7_refuse_0 4 rfl rfl)
theorem dX7_refuse_5 : decode cX7_refuse 5 = .ok (.dup2, 1) := dk_92 (dk_at dksX7_refuse_0 5 rfl rfl)
theorem dX7_refuse_6 : decode cX7_refuse 6 = .ok (.iaload, 1) := dk_46 (dk_at dksX7_refuse_0 6 rfl rfl)
theorem dX7_refuse_7 : decode cX7_refuse 7 = .ok (.iconst 1, 1) := dk_4 (dk_at dksX7_refuse_0 7 rfl rfl)
theorem dX7_refuse_8 : decode cX7_refuse 8 = .ok (.iadd, 1) := dk_96 (dk_at dksX7_refuse_0 8 rfl rfl)
theorem dX7_refuse_9 : decode cX7_refuse 9 = .ok (.iastore, 1) := dk_79 (dk_at dksX7_refuse_0 9 rfl rfl)
theorem dX7_refuse_10 : decode cX7_refuse 10 = .ok (.iconst (-1), 1) := dk_2 (dk_at dksX7_refuse_0 10 rfl rfl)
theorem dX7_refuse_11 : decode cX7_refuse 11 = .ok (.ireturn, 1) := dk_172 (dk_at dksX7_refuse_0 11 rfl rfl)
abbrev cX7_keep : ByteArray := prog_18_method_67_code
def yX7_keep : MethodName := ⟨RX7, "keep", "()V"⟩
def dkwX7_keep_3 : List UInt8 := [89, 180, 1, 86, 4, 96, 181, 1, 86, 177]
abbrev dktX7_keep_3 : List UInt8 := dkwX7_keep_3 ++ []
def dkwX7_keep_2 : List UInt8 := [180, 1, 86, 4, 100, 181, 1, 86, 42, 42, 180, 0, 80, 16, 41, 42, 180, 1, 86, 104, 182, 1, 164, 42]
abbrev dktX7_keep_2 : List UInt8 := dkwX7_keep_2 ++ dktX7_keep_3
def dkwX7_keep_1 : List UInt8 := [180, 0, 80, 27, 16, 41, 100, 42, 180, 0, 80, 27, 46, 79, 132, 1, 1, 167, 255, 229, 42, 89]
abbrev dktX7_keep_1 : List UInt8 := dkwX7_keep_1 ++ dktX7_keep_2
def dkwX7_keep_0 : List UInt8 := [42, 180, 1, 86, 16, 40, 160, 0, 46, 16, 41, 60, 27, 42, 180, 0, 80, 190, 162, 0, 24, 42]
abbrev dktX7_keep_0 : List UInt8 := dkwX7_keep_0 ++ dktX7_keep_1
theorem dksX7_keep_0 : cX7_keep.data.toList.drop 0 = dktX7_keep_0 := by decide +kernel
theorem dksX7_keep_1 : cX7_keep.data.toList.drop 22 = dktX7_keep_1 := dk_seg dksX7_keep_0 22 rfl rfl
theorem dksX7_keep_2 : cX7_keep.data.toList.drop 44 = dktX7_keep_2 := dk_seg dksX7_keep_1 22 rfl rfl
theorem dksX7_keep_3 : cX7_keep.data.toList.drop 68 = dktX7_keep_3 := dk_seg dksX7_keep_2 24 rfl rfl
theorem dX7_keep_0 : decode cX7_keep 0 = .ok (.aload_n 0, 1) := dk_42 (dk_at dksX7_keep_0 0 rfl rfl)
theorem dX7_keep_1 : decode cX7_keep 1 = .ok (.getfield 342, 3) := dk_180 1 86 (dk_at dksX7_keep_0 1 rfl rfl)
theorem dX7_keep_4 : decode cX7_keep 4 = .ok (.bipush 40, 2) := dk_16 40 (dk_at dksX7_keep_0 4 rfl rfl)
theorem dX7_keep_6 : decode cX7_keep 6 = .ok (.if_icmp .ne 46, 3) := dk_160 0 46 (dk_at dksX7_keep_0 6 rfl rfl)
theorem dX7_keep_9 : decode cX7_keep 9 = .ok (.bipush 41, 2) := dk_16 41 (dk_at dksX7_keep_0 9 rfl rfl)
theorem dX7_keep_11 : decode cX7_keep 11 = .ok (.istore_n 1, 1) := dk_60 (dk_at dksX7_keep_0 11 rfl rfl)
theorem dX7_keep_12 : decode cX7_keep 12 = .ok (.iload_n 1, 1) := dk_27 (dk_at dksX7_keep_0 12 rfl rfl)
theorem dX7_keep_13 : decode cX7_keep 13 = .ok (.aload_n 0, 1) := dk_42 (dk_at dksX7_keep_0 13 rfl rfl)
theorem dX7_keep_14 : decode cX7_keep 14 = .ok (.getfield 80, 3) := dk_180 0 80 (dk_at dksX7_keep_0 14 rfl rfl)
theorem dX7_keep_17 : decode cX7_keep 17 = .ok (.arraylength, 1) := dk_190 (dk_at dksX7_keep_0 17 rfl rfl)
theorem dX7_keep_18 : decode cX7_keep 18 = .ok (.if_icmp .ge 24, 3) := dk_162 0 24 (dk_at dksX7_keep_0 18 rfl rfl)
theorem dX7_keep_21 : decode cX7_keep 21 = .ok (.aload_n 0, 1) := dk_42 (dk_at dksX7_keep_0 21 rfl rfl)
theorem dX7_keep_22 : decode cX7_keep 22 = .ok (.getfield 80, 3) := dk_180 0 80 (dk_at dksX7_keep_1 0 rfl rfl)
theorem dX7_keep_25 : decode cX7_keep 25 = .ok (.iload_n 1, 1) := dk_27 (dk_at dksX7_keep_1 3 rfl rfl)
theorem dX7_keep_26 : decode cX7_keep 26 = .ok (.bipush 41, 2) := dk_16 41 (dk_at dksX7_keep_1 4 rfl rfl)
theorem dX7_keep_28 : decode cX7_keep 28 = .ok (.isub, 1) := dk_100 (dk_at dksX7_keep_1 6 rfl rfl)
theorem dX7_keep_29 : decode cX7_keep 29 = .ok (.aload_n 0, 1) := dk_42 (dk_at dksX7_keep_1 7 rfl rfl)
theorem dX7_keep_30 : decode cX7_keep 30 = .ok (.getfield 80, 3) := dk_180 0 80 (dk_at dksX7_keep_1 8 rfl rfl)
theorem dX7_keep_33 : decode cX7_keep 33 = .ok (.iload_n 1, 1) := dk_27 (dk_at dksX7_keep_1 11 rfl rfl)
theorem dX7_keep_34 : decode cX7_keep 34 = .ok (.iaload, 1) := dk_46 (dk_at dksX7_keep_1 12 rfl rfl)
theorem dX7_keep_35 : decode cX7_keep 35 = .ok (.iastore, 1) := dk_79 (dk_at dksX7_keep_1 13 rfl rfl)
theorem dX7_keep_36 : decode cX7_keep 36 = .ok (.iinc 1 1, 3) := dk_132 1 1 (dk_at dksX7_keep_1 14 rfl rfl)
theorem dX7_keep_39 : decode cX7_keep 39 = .ok (.goto (-27), 3) := dk_167 255 229 (dk_at dksX7_keep_1 17 rfl rfl)
theorem dX7_keep_42 : decode cX7_keep 42 = .ok (.aload_n 0, 1) := dk_42 (dk_at dksX7_keep_1 20 rfl rfl)
theorem dX7_keep_43 : decode cX7_keep 43 = .ok (.dup, 1) := dk_89 (dk_at dksX7_keep_1 21 rfl rfl)
theorem dX7_keep_44 : decode cX7_keep 44 = .ok (.getfield 342, 3) := dk_180 1 86 (dk_at dksX7_keep_2 0 rfl rfl)
theorem dX7_keep_47 : decode cX7_keep 47 = .ok (.iconst 1, 1) := dk_4 (dk_at dksX7_keep_2 3 rfl rfl)
theorem dX7_keep_48 : decode cX7_keep 48 = .ok (.isub, 1) := dk_100 (dk_at dksX7_keep_2 4 rfl rfl)
theorem dX7_keep_49 : decode cX7_keep 49 = .ok (.putfield 342, 3) := dk_181 1 86 (dk_at dksX7_keep_2 5 rfl rfl)
theorem dX7_keep_52 : decode cX7_keep 52 = .ok (.aload_n 0, 1) := dk_42 (dk_at dksX7_keep_2 8 rfl rfl)
theorem dX7_keep_53 : decode cX7_keep 53 = .ok (.aload_n 0, 1) := dk_42 (dk_at dksX7_keep_2 9 rfl rfl)
theorem dX7_keep_54 : decode cX7_keep 54 = .ok (.getfield 80, 3) := dk_180 0 80 (dk_at dksX7_keep_2 10 rfl rfl)
theorem dX7_keep_57 : decode cX7_keep 57 = .ok (.bipush 41, 2) := dk_16 41 (dk_at dksX7_keep_2 13 rfl rfl)
theorem dX7_keep_59 : decode cX7_keep 59 = .ok (.aload_n 0, 1) := dk_42 (dk_at dksX7_keep_2 15 rfl rfl)
theorem dX7_keep_60 : decode cX7_keep 60 = .ok (.getfield 342, 3) := dk_180 1 86 (dk_at dksX7_keep_2 16 rfl rfl)
theorem dX7_keep_63 : decode cX7_keep 63 = .ok (.imul, 1) := dk_104 (dk_at dksX7_keep_2 19 rfl rfl)
theorem dX7_keep_64 : decode cX7_keep 64 = .ok (.invokevirtual 420, 3) := dk_182 1 164 (dk_at dksX7_keep_2 20 rfl rfl)
theorem dX7_keep_67 : decode cX7_keep 67 = .ok (.aload_n 0, 1) := dk_42 (dk_at dksX7_keep_2 23 rfl rfl)
theorem dX7_keep_68 : decode cX7_keep 68 = .ok (.dup, 1) := dk_89 (dk_at dksX7_keep_3 0 rfl rfl)
theorem dX7_keep_69 : decode cX7_keep 69 = .ok (.getfield 342, 3) := dk_180 1 86 (dk_at dksX7_keep_3 1 rfl rfl)
theorem dX7_keep_72 : decode cX7_keep 72 = .ok (.iconst 1, 1) := dk_4 (dk_at dksX7_keep_3 4 rfl rfl)
theorem dX7_keep_73 : decode cX7_keep 73 = .ok (.iadd, 1) := dk_96 (dk_at dksX7_keep_3 5 rfl rfl)
theorem dX7_keep_74 : decode cX7_keep 74 = .ok (.putfield 342, 3) := dk_181 1 86 (dk_at dksX7_keep_3 6 rfl rfl)
theorem dX7_keep_77 : decode cX7_keep 77 = .ok (.return_, 1) := dk_177 (dk_at dksX7_keep_3 9 rfl rfl)
abbrev cX7_pack : ByteArray := prog_18_method_44_code
def yX7_pack : MethodName := ⟨RX7, "pack", "([II)V"⟩
def dkwX7_pack_4 : List UInt8 := [132, 3, 1, 167, 255, 231, 177]
abbrev dktX7_pack_4 : List UInt8 := dkwX7_pack_4 ++ []
def dkwX7_pack_3 : List UInt8 := [29, 16, 6, 162, 0, 25, 43, 28, 8, 96, 16, 30, 96, 29, 96, 42, 180, 0, 77, 29, 46, 79]
abbrev dktX7_pack_3 : List UInt8 := dkwX7_pack_3 ++ dktX7_pack_4
def dkwX7_pack_2 : List UInt8 := [162, 0, 22, 43, 28, 8, 96, 29, 96, 42, 180, 0, 75, 29, 46, 79, 132, 3, 1, 167, 255, 234, 3, 62]
abbrev dktX7_pack_2 : List UInt8 := dkwX7_pack_2 ++ dktX7_pack_3
def dkwX7_pack_1 : List UInt8 := [79, 43, 28, 6, 96, 42, 180, 1, 80, 79, 43, 28, 7, 96, 42, 180, 1, 83, 79, 3, 62, 29, 16, 30]
abbrev dktX7_pack_1 : List UInt8 := dkwX7_pack_1 ++ dktX7_pack_2
def dkwX7_pack_0 : List UInt8 := [43, 28, 42, 180, 1, 75, 79, 43, 28, 4, 96, 42, 180, 0, 147, 79, 43, 28, 5, 96, 42, 180, 1, 77]
abbrev dktX7_pack_0 : List UInt8 := dkwX7_pack_0 ++ dktX7_pack_1
theorem dksX7_pack_0 : cX7_pack.data.toList.drop 0 = dktX7_pack_0 := by decide +kernel
theorem dksX7_pack_1 : cX7_pack.data.toList.drop 24 = dktX7_pack_1 := dk_seg dksX7_pack_0 24 rfl rfl
theorem dksX7_pack_2 : cX7_pack.data.toList.drop 48 = dktX7_pack_2 := dk_seg dksX7_pack_1 24 rfl rfl
theorem dksX7_pack_3 : cX7_pack.data.toList.drop 72 = dktX7_pack_3 := dk_seg dksX7_pack_2 24 rfl rfl
theorem dksX7_pack_4 : cX7_pack.data.toList.drop 94 = dktX7_pack_4 := dk_seg dksX7_pack_3 22 rfl rfl
theorem dX7_pack_0 : decode cX7_pack 0 = .ok (.aload_n 1, 1) := dk_43 (dk_at dksX7_pack_0 0 rfl rfl)
theorem dX7_pack_1 : decode cX7_pack 1 = .ok (.iload_n 2, 1) := dk_28 (dk_at dksX7_pack_0 1 rfl rfl)
theorem dX7_pack_2 : decode cX7_pack 2 = .ok (.aload_n 0, 1) := dk_42 (dk_at dksX7_pack_0 2 rfl rfl)
theorem dX7_pack_3 : decode cX7_pack 3 = .ok (.getfield 331, 3) := dk_180 1 75 (dk_at dksX7_pack_0 3 rfl rfl)
theorem dX7_pack_6 : decode cX7_pack 6 = .ok (.iastore, 1) := dk_79 (dk_at dksX7_pack_0 6 rfl rfl)
theorem dX7_pack_7 : decode cX7_pack 7 = .ok (.aload_n 1, 1) := dk_43 (dk_at dksX7_pack_0 7 rfl rfl)
theorem dX7_pack_8 : decode cX7_pack 8 = .ok (.iload_n 2, 1) := dk_28 (dk_at dksX7_pack_0 8 rfl rfl)
theorem dX7_pack_9 : decode cX7_pack 9 = .ok (.iconst 1, 1) := dk_4 (dk_at dksX7_pack_0 9 rfl rfl)
theorem dX7_pack_10 : decode cX7_pack 10 = .ok (.iadd, 1) := dk_96 (dk_at dksX7_pack_0 10 rfl rfl)
theorem dX7_pack_11 : decode cX7_pack 11 = .ok (.aload_n 0, 1) := dk_42 (dk_at dksX7_pack_0 11 rfl rfl)
theorem dX7_pack_12 : decode cX7_pack 12 = .ok (.getfield 147, 3) := dk_180 0 147 (dk_at dksX7_pack_0 12 rfl rfl)
theorem dX7_pack_15 : decode cX7_pack 15 = .ok (.iastore, 1) := dk_79 (dk_at dksX7_pack_0 15 rfl rfl)
theorem dX7_pack_16 : decode cX7_pack 16 = .ok (.aload_n 1, 1) := dk_43 (dk_at dksX7_pack_0 16 rfl rfl)
theorem dX7_pack_17 : decode cX7_pack 17 = .ok (.iload_n 2, 1) := dk_28 (dk_at dksX7_pack_0 17 rfl rfl)
theorem dX7_pack_18 : decode cX7_pack 18 = .ok (.iconst 2, 1) := dk_5 (dk_at dksX7_pack_0 18 rfl rfl)
theorem dX7_pack_19 : decode cX7_pack 19 = .ok (.iadd, 1) := dk_96 (dk_at dksX7_pack_0 19 rfl rfl)
theorem dX7_pack_20 : decode cX7_pack 20 = .ok (.aload_n 0, 1) := dk_42 (dk_at dksX7_pack_0 20 rfl rfl)
theorem dX7_pack_21 : decode cX7_pack 21 = .ok (.getfield 333, 3) := dk_180 1 77 (dk_at dksX7_pack_0 21 rfl rfl)
theorem dX7_pack_24 : decode cX7_pack 24 = .ok (.iastore, 1) := dk_79 (dk_at dksX7_pack_1 0 rfl rfl)
theorem dX7_pack_25 : decode cX7_pack 25 = .ok (.aload_n 1, 1) := dk_43 (dk_at dksX7_pack_1 1 rfl rfl)
theorem dX7_pack_26 : decode cX7_pack 26 = .ok (.iload_n 2, 1) := dk_28 (dk_at dksX7_pack_1 2 rfl rfl)
theorem dX7_pack_27 : decode cX7_pack 27 = .ok (.iconst 3, 1) := dk_6 (dk_at dksX7_pack_1 3 rfl rfl)
theorem dX7_pack_28 : decode cX7_pack 28 = .ok (.iadd, 1) := dk_96 (dk_at dksX7_pack_1 4 rfl rfl)
theorem dX7_pack_29 : decode cX7_pack 29 = .ok (.aload_n 0, 1) := dk_42 (dk_at dksX7_pack_1 5 rfl rfl)
theorem dX7_pack_30 : decode cX7_pack 30 = .ok (.getfield 336, 3) := dk_180 1 80 (dk_at dksX7_pack_1 6 rfl rfl)
theorem dX7_pack_33 : decode cX7_pack 33 = .ok (.iastore, 1) := dk_79 (dk_at dksX7_pack_1 9 rfl rfl)
theorem dX7_pack_34 : decode cX7_pack 34 = .ok (.aload_n 1, 1) := dk_43 (dk_at dksX7_pack_1 10 rfl rfl)
theorem dX7_pack_35 : decode cX7_pack 35 = .ok (.iload_n 2, 1) := dk_28 (dk_at dksX7_pack_1 11 rfl rfl)
theorem dX7_pack_36 : decode cX7_pack 36 = .ok (.iconst 4, 1) := dk_7 (dk_at dksX7_pack_1 12 rfl rfl)
theorem dX7_pack_37 : decode cX7_pack 37 = .ok (.iadd, 1) := dk_96 (dk_at dksX7_pack_1 13 rfl rfl)
theorem dX7_pack_38 : decode cX7_pack 38 = .ok (.aload_n 0, 1) := dk_42 (dk_at dksX7_pack_1 14 rfl rfl)
theorem dX7_pack_39 : decode cX7_pack 39 = .ok (.getfield 339, 3) := dk_180 1 83 (dk_at dksX7_pack_1 15 rfl rfl)
theorem dX7_pack_42 : decode cX7_pack 42 = .ok (.iastore, 1) := dk_79 (dk_at dksX7_pack_1 18 rfl rfl)
theorem dX7_pack_43 : decode cX7_pack 43 = .ok (.iconst 0, 1) := dk_3 (dk_at dksX7_pack_1 19 rfl rfl)
theorem dX7_pack_44 : decode cX7_pack 44 = .ok (.istore_n 3, 1) := dk_62 (dk_at dksX7_pack_1 20 rfl rfl)
theorem dX7_pack_45 : decode cX7_pack 45 = .ok (.iload_n 3, 1) := dk_29 (dk_at dksX7_pack_1 21 rfl rfl)
theorem dX7_pack_46 : decode cX7_pack 46 = .ok (.bipush 30, 2) := dk_16 30 (dk_at dksX7_pack_1 22 rfl rfl)
theorem dX7_pack_48 : decode cX7_pack 48 = .ok (.if_icmp .ge 22, 3) := dk_162 0 22 (dk_at dksX7_pack_2 0 rfl rfl)
theorem dX7_pack_51 : decode cX7_pack 51 = .ok (.aload_n 1, 1) := dk_43 (dk_at dksX7_pack_2 3 rfl rfl)
theorem dX7_pack_52 : decode cX7_pack 52 = .ok (.iload_n 2, 1) := dk_28 (dk_at dksX7_pack_2 4 rfl rfl)
theorem dX7_pack_53 : decode cX7_pack 53 = .ok (.iconst 5, 1) := dk_8 (dk_at dksX7_pack_2 5 rfl rfl)
theorem dX7_pack_54 : decode cX7_pack 54 = .ok (.iadd, 1) := dk_96 (dk_at dksX7_pack_2 6 rfl rfl)
theorem dX7_pack_55 : decode cX7_pack 55 = .ok (.iload_n 3, 1) := dk_29 (dk_at dksX7_pack_2 7 rfl rfl)
theorem dX7_pack_56 : decode cX7_pack 56 = .ok (.iadd, 1) := dk_96 (dk_at dksX7_pack_2 8 rfl rfl)
theorem dX7_pack_57 : decode cX7_pack 57 = .ok (.aload_n 0, 1) := dk_42 (dk_at dksX7_pack_2 9 rfl rfl)
theorem dX7_pack_58 : decode cX7_pack 58 = .ok (.getfield 75, 3) := dk_180 0 75 (dk_at dksX7_pack_2 10 rfl rfl)
theorem dX7_pack_61 : decode cX7_pack 61 = .ok (.iload_n 3, 1) := dk_29 (dk_at dksX7_pack_2 13 rfl rfl)
theorem dX7_pack_62 : decode cX7_pack 62 = .ok (.iaload, 1) := dk_46 (dk_at dksX7_pack_2 14 rfl rfl)
theorem dX7_pack_63 : decode cX7_pack 63 = .ok (.iastore, 1) := dk_79 (dk_at dksX7_pack_2 15 rfl rfl)
theorem dX7_pack_64 : decode cX7_pack 64 = .ok (.iinc 3 1, 3) := dk_132 3 1 (dk_at dksX7_pack_2 16 rfl rfl)
theorem dX7_pack_67 : decode cX7_pack 67 = .ok (.goto (-22), 3) := dk_167 255 234 (dk_at dksX7_pack_2 19 rfl rfl)
theorem dX7_pack_70 : decode cX7_pack 70 = .ok (.iconst 0, 1) := dk_3 (dk_at dksX7_pack_2 22 rfl rfl)
theorem dX7_pack_71 : decode cX7_pack 71 = .ok (.istore_n 3, 1) := dk_62 (dk_at dksX7_pack_2 23 rfl rfl)
theorem dX7_pack_72 : decode cX7_pack 72 = .ok (.iload_n 3, 1) := dk_29 (dk_at dksX7_pack_3 0 rfl rfl)
theorem dX7_pack_73 : decode cX7_pack 73 = .ok (.bipush 6, 2) := dk_16 6 (dk_at dksX7_pack_3 1 rfl rfl)
theorem dX7_pack_75 : decode cX7_pack 75 = .ok (.if_icmp .ge 25, 3) := dk_162 0 25 (dk_at dksX7_pack_3 3 rfl rfl)
theorem dX7_pack_78 : decode cX7_pack 78 = .ok (.aload_n 1, 1) := dk_43 (dk_at dksX7_pack_3 6 rfl rfl)
theorem dX7_pack_79 : decode cX7_pack 79 = .ok (.iload_n 2, 1) := dk_28 (dk_at dksX7_pack_3 7 rfl rfl)
theorem dX7_pack_80 : decode cX7_pack 80 = .ok (.iconst 5, 1) := dk_8 (dk_at dksX7_pack_3 8 rfl rfl)
theorem dX7_pack_81 : decode cX7_pack 81 = .ok (.iadd, 1) := dk_96 (dk_at dksX7_pack_3 9 rfl rfl)
theorem dX7_pack_82 : decode cX7_pack 82 = .ok (.bipush 30, 2) := dk_16 30 (dk_at dksX7_pack_3 10 rfl rfl)
theorem dX7_pack_84 : decode cX7_pack 84 = .ok (.iadd, 1) := dk_96 (dk_at dksX7_pack_3 12 rfl rfl)
theorem dX7_pack_85 : decode cX7_pack 85 = .ok (.iload_n 3, 1) := dk_29 (dk_at dksX7_pack_3 13 rfl rfl)
theorem dX7_pack_86 : decode cX7_pack 86 = .ok (.iadd, 1) := dk_96 (dk_at dksX7_pack_3 14 rfl rfl)
theorem dX7_pack_87 : decode cX7_pack 87 = .ok (.aload_n 0, 1) := dk_42 (dk_at dksX7_pack_3 15 rfl rfl)
theorem dX7_pack_88 : decode cX7_pack 88 = .ok (.getfield 77, 3) := dk_180 0 77 (dk_at dksX7_pack_3 16 rfl rfl)
theorem dX7_pack_91 : decode cX7_pack 91 = .ok (.iload_n 3, 1) := dk_29 (dk_at dksX7_pack_3 19 rfl rfl)
theorem dX7_pack_92 : decode cX7_pack 92 = .ok (.iaload, 1) := dk_46 (dk_at dksX7_pack_3 20 rfl rfl)
theorem dX7_pack_93 : decode cX7_pack 93 = .ok (.iastore, 1) := dk_79 (dk_at dksX7_pack_3 21 rfl rfl)
theorem dX7_pack_94 : decode cX7_pack 94 = .ok (.iinc 3 1, 3) := dk_132 3 1 (dk_at dksX7_pack_4 0 rfl rfl)
theorem dX7_pack_97 : decode cX7_pack 97 = .ok (.goto (-25), 3) := dk_167 255 231 (dk_at dksX7_pack_4 3 rfl rfl)
theorem dX7_pack_100 : decode cX7_pack 100 = .ok (.return_, 1) := dk_177 (dk_at dksX7_pack_4 6 rfl rfl)
abbrev cX7_goOn : ByteArray := prog_18_method_59_code
def yX7_goOn : MethodName := ⟨RX7, "goOn", "(I)V"⟩
def dkwX7_goOn_0 : List UInt8 := [3, 61, 28, 27, 162, 0, 13, 42, 182, 1, 146, 132, 2, 1, 167, 255, 244, 177]
abbrev dktX7_goOn_0 : List UInt8 := dkwX7_goOn_0 ++ []
theorem dksX7_goOn_0 : cX7_goOn.data.toList.drop 0 = dktX7_goOn_0 := by decide +kernel
theorem dX7_goOn_0 : decode cX7_goOn 0 = .ok (.iconst 0, 1) := dk_3 (dk_at dksX7_goOn_0 0 rfl rfl)
theorem dX7_goOn_1 : decode cX7_goOn 1 = .ok (.istore_n 2, 1) := dk_61 (dk_at dksX7_goOn_0 1 rfl rfl)
theorem dX7_goOn_2 : decode cX7_goOn 2 = .ok (.iload_n 2, 1) := dk_28 (dk_at dksX7_goOn_0 2 rfl rfl)
theorem dX7_goOn_3 : decode cX7_goOn 3 = .ok (.iload_n 1, 1) := dk_27 (dk_at dksX7_goOn_0 3 rfl rfl)
theorem dX7_goOn_4 : decode cX7_goOn 4 = .ok (.if_icmp .ge 13, 3) := dk_162 0 13 (dk_at dksX7_goOn_0 4 rfl rfl)
theorem dX7_goOn_7 : decode cX7_goOn 7 = .ok (.aload_n 0, 1) := dk_42 (dk_at dksX7_goOn_0 7 rfl rfl)
theorem dX7_goOn_8 : decode cX7_goOn 8 = .ok (.invokevirtual 402, 3) := dk_182 1 146 (dk_at dksX7_goOn_0 8 rfl rfl)
theorem dX7_goOn_11 : decode cX7_goOn 11 = .ok (.iinc 2 1, 3) := dk_132 2 1 (dk_at dksX7_goOn_0 11 rfl rfl)
theorem dX7_goOn_14 : decode cX7_goOn 14 = .ok (.goto (-12), 3) := dk_167 255 244 (dk_at dksX7_goOn_0 14 rfl rfl)
theorem dX7_goOn_17 : decode cX7_goOn 17 = .ok (.return_, 1) := dk_177 (dk_at dksX7_goOn_0 17 rfl rfl)
abbrev cX7_aDay : ByteArray := prog_18_method_58_code
def yX7_aDay : MethodName := ⟨RX7, "aDay", "()V"⟩
def dkwX7_aDay_10 : List UInt8 := [181, 1, 75, 177]
abbrev dktX7_aDay_10 : List UInt8 := dkwX7_aDay_10 ++ []
def dkwX7_aDay_9 : List UInt8 := [27, 92, 46, 42, 180, 0, 89, 27, 46, 100, 79, 132, 1, 1, 167, 255, 230, 42, 89, 180, 1, 75, 4, 96]
abbrev dktX7_aDay_9 : List UInt8 := dkwX7_aDay_9 ++ dktX7_aDay_10
def dkwX7_aDay_8 : List UInt8 := [182, 1, 143, 79, 132, 1, 1, 167, 255, 234, 3, 60, 27, 42, 182, 0, 153, 162, 0, 24, 42, 180, 0, 75]
abbrev dktX7_aDay_8 : List UInt8 := dkwX7_aDay_8 ++ dktX7_aDay_9
def dkwX7_aDay_7 : List UInt8 := [132, 1, 1, 167, 255, 222, 3, 60, 27, 42, 182, 0, 153, 162, 0, 20, 42, 180, 0, 89, 27, 42, 27]
abbrev dktX7_aDay_7 : List UInt8 := dkwX7_aDay_7 ++ dktX7_aDay_8
def dkwX7_aDay_6 : List UInt8 := [42, 180, 0, 75, 27, 3, 42, 180, 0, 75, 27, 46, 42, 180, 0, 40, 7, 46, 100, 184, 1, 124, 79]
abbrev dktX7_aDay_6 : List UInt8 := dkwX7_aDay_6 ++ dktX7_aDay_7
def dkwX7_aDay_5 : List UInt8 := [42, 180, 1, 137, 184, 1, 140, 96, 184, 0, 191, 181, 1, 77, 3, 60, 27, 42, 182, 0, 153, 162, 0, 32]
abbrev dktX7_aDay_5 : List UInt8 := dkwX7_aDay_5 ++ dktX7_aDay_6
def dkwX7_aDay_4 : List UInt8 := [27, 120, 167, 0, 4, 3, 128, 181, 1, 137, 132, 1, 1, 167, 255, 214, 42, 17, 39, 15, 42, 180, 1, 77]
abbrev dktX7_aDay_4 : List UInt8 := dkwX7_aDay_4 ++ dktX7_aDay_5
def dkwX7_aDay_3 : List UInt8 := [162, 0, 40, 42, 89, 180, 1, 137, 42, 180, 0, 75, 27, 46, 42, 180, 0, 40, 8, 46, 164, 0, 9, 4]
abbrev dktX7_aDay_3 : List UInt8 := dkwX7_aDay_3 ++ dktX7_aDay_4
def dkwX7_aDay_2 : List UInt8 := [180, 0, 147, 182, 1, 134, 132, 1, 1, 167, 255, 203, 42, 3, 181, 1, 137, 3, 60, 27, 42, 182, 0, 153]
abbrev dktX7_aDay_2 : List UInt8 := dkwX7_aDay_2 ++ dktX7_aDay_3
def dkwX7_aDay_1 : List UInt8 := [180, 0, 147, 154, 0, 6, 167, 0, 22, 42, 89, 180, 0, 147, 4, 100, 181, 0, 147, 42, 27, 42]
abbrev dktX7_aDay_1 : List UInt8 := dkwX7_aDay_1 ++ dktX7_aDay_2
def dkwX7_aDay_0 : List UInt8 := [3, 60, 27, 42, 180, 0, 40, 5, 46, 162, 0, 49, 42, 180, 1, 83, 27, 184, 0, 232, 154, 0, 32, 42]
abbrev dktX7_aDay_0 : List UInt8 := dkwX7_aDay_0 ++ dktX7_aDay_1
theorem dksX7_aDay_0 : cX7_aDay.data.toList.drop 0 = dktX7_aDay_0 := by decide +kernel
theorem dksX7_aDay_1 : cX7_aDay.data.toList.drop 24 = dktX7_aDay_1 := dk_seg dksX7_aDay_0 24 rfl rfl
theorem dksX7_aDay_2 : cX7_aDay.data.toList.drop 46 = dktX7_aDay_2 := dk_seg dksX7_aDay_1 22 rfl rfl
theorem dksX7_aDay_3 : cX7_aDay.data.toList.drop 70 = dktX7_aDay_3 := dk_seg dksX7_aDay_2 24 rfl rfl
theorem dksX7_aDay_4 : cX7_aDay.data.toList.drop 94 = dktX7_aDay_4 := dk_seg dksX7_aDay_3 24 rfl rfl
theorem dksX7_aDay_5 : cX7_aDay.data.toList.drop 118 = dktX7_aDay_5 := dk_seg dksX7_aDay_4 24 rfl rfl
theorem dksX7_aDay_6 : cX7_aDay.data.toList.drop 142 = dktX7_aDay_6 := dk_seg dksX7_aDay_5 24 rfl rfl
theorem dksX7_aDay_7 : cX7_aDay.data.toList.drop 165 = dktX7_aDay_7 := dk_seg dksX7_aDay_6 23 rfl rfl
theorem dksX7_aDay_8 : cX7_aDay.data.toList.drop 188 = dktX7_aDay_8 := dk_seg dksX7_aDay_7 23 rfl rfl
theorem dksX7_aDay_9 : cX7_aDay.data.toList.drop 212 = dktX7_aDay_9 := dk_seg dksX7_aDay_8 24 rfl rfl
theorem dksX7_aDay_10 : cX7_aDay.data.toList.drop 236 = dktX7_aDay_10 := dk_seg dksX7_aDay_9 24 rfl rfl
theorem dX7_aDay_0 : decode cX7_aDay 0 = .ok (.iconst 0, 1) := dk_3 (dk_at dksX7_aDay_0 0 rfl rfl)
theorem dX7_aDay_1 : decode cX7_aDay 1 = .ok (.istore_n 1, 1) := dk_60 (dk_at dksX7_aDay_0 1 rfl rfl)
theorem dX7_aDay_2 : decode cX7_aDay 2 = .ok (.iload_n 1, 1) := dk_27 (dk_at dksX7_aDay_0 2 rfl rfl)
theorem dX7_aDay_3 : decode cX7_aDay 3 = .ok (.aload_n 0, 1) := dk_42 (dk_at dksX7_aDay_0 3 rfl rfl)
theorem dX7_aDay_4 : decode cX7_aDay 4 = .ok (.getfield 40, 3) := dk_180 0 40 (dk_at dksX7_aDay_0 4 rfl rfl)
theorem dX7_aDay_7 : decode cX7_aDay 7 = .ok (.iconst 2, 1) := dk_5 (dk_at dksX7_aDay_0 7 rfl rfl)
theorem dX7_aDay_8 : decode cX7_aDay 8 = .ok (.iaload, 1) := dk_46 (dk_at dksX7_aDay_0 8 rfl rfl)
theorem dX7_aDay_9 : decode cX7_aDay 9 = .ok (.if_icmp .ge 49, 3) := dk_162 0 49 (dk_at dksX7_aDay_0 9 rfl rfl)
theorem dX7_aDay_12 : decode cX7_aDay 12 = .ok (.aload_n 0, 1) := dk_42 (dk_at dksX7_aDay_0 12 rfl rfl)
theorem dX7_aDay_13 : decode cX7_aDay 13 = .ok (.getfield 339, 3) := dk_180 1 83 (dk_at dksX7_aDay_0 13 rfl rfl)
theorem dX7_aDay_16 : decode cX7_aDay 16 = .ok (.iload_n 1, 1) := dk_27 (dk_at dksX7_aDay_0 16 rfl rfl)
theorem dX7_aDay_17 : decode cX7_aDay 17 = .ok (.invokestatic 232, 3) := dk_184 0 232 (dk_at dksX7_aDay_0 17 rfl rfl)
theorem dX7_aDay_20 : decode cX7_aDay 20 = .ok (.ifCond .ne 32, 3) := dk_154 0 32 (dk_at dksX7_aDay_0 20 rfl rfl)
theorem dX7_aDay_23 : decode cX7_aDay 23 = .ok (.aload_n 0, 1) := dk_42 (dk_at dksX7_aDay_0 23 rfl rfl)
theorem dX7_aDay_24 : decode cX7_aDay 24 = .ok (.getfield 147, 3) := dk_180 0 147 (dk_at dksX7_aDay_1 0 rfl rfl)
theorem dX7_aDay_27 : decode cX7_aDay 27 = .ok (.ifCond .ne 6, 3) := dk_154 0 6 (dk_at dksX7_aDay_1 3 rfl rfl)
theorem dX7_aDay_30 : decode cX7_aDay 30 = .ok (.goto 22, 3) := dk_167 0 22 (dk_at dksX7_aDay_1 6 rfl rfl)
theorem dX7_aDay_33 : decode cX7_aDay 33 = .ok (.aload_n 0, 1) := dk_42 (dk_at dksX7_aDay_1 9 rfl rfl)
theorem dX7_aDay_34 : decode cX7_aDay 34 = .ok (.dup, 1) := dk_89 (dk_at dksX7_aDay_1 10 rfl rfl)
theorem dX7_aDay_35 : decode cX7_aDay 35 = .ok (.getfield 147, 3) := dk_180 0 147 (dk_at dksX7_aDay_1 11 rfl rfl)
theorem dX7_aDay_38 : decode cX7_aDay 38 = .ok (.iconst 1, 1) := dk_4 (dk_at dksX7_aDay_1 14 rfl rfl)
theorem dX7_aDay_39 : decode cX7_aDay 39 = .ok (.isub, 1) := dk_100 (dk_at dksX7_aDay_1 15 rfl rfl)
theorem dX7_aDay_40 : decode cX7_aDay 40 = .ok (.putfield 147, 3) := dk_181 0 147 (dk_at dksX7_aDay_1 16 rfl rfl)
theorem dX7_aDay_43 : decode cX7_aDay 43 = .ok (.aload_n 0, 1) := dk_42 (dk_at dksX7_aDay_1 19 rfl rfl)
theorem dX7_aDay_44 : decode cX7_aDay 44 = .ok (.iload_n 1, 1) := dk_27 (dk_at dksX7_aDay_1 20 rfl rfl)
theorem dX7_aDay_45 : decode cX7_aDay 45 = .ok (.aload_n 0, 1) := dk_42 (dk_at dksX7_aDay_1 21 rfl rfl)
theorem dX7_aDay_46 : decode cX7_aDay 46 = .ok (.getfield 147, 3) := dk_180 0 147 (dk_at dksX7_aDay_2 0 rfl rfl)
theorem dX7_aDay_49 : decode cX7_aDay 49 = .ok (.invokevirtual 390, 3) := dk_182 1 134 (dk_at dksX7_aDay_2 3 rfl rfl)
theorem dX7_aDay_52 : decode cX7_aDay 52 = .ok (.iinc 1 1, 3) := dk_132 1 1 (dk_at dksX7_aDay_2 6 rfl rfl)
theorem dX7_aDay_55 : decode cX7_aDay 55 = .ok (.goto (-53), 3) := dk_167 255 203 (dk_at dksX7_aDay_2 9 rfl rfl)
theorem dX7_aDay_58 : decode cX7_aDay 58 = .ok (.aload_n 0, 1) := dk_42 (dk_at dksX7_aDay_2 12 rfl rfl)
theorem dX7_aDay_59 : decode cX7_aDay 59 = .ok (.iconst 0, 1) := dk_3 (dk_at dksX7_aDay_2 13 rfl rfl)
theorem dX7_aDay_60 : decode cX7_aDay 60 = .ok (.putfield 393, 3) := dk_181 1 137 (dk_at dksX7_aDay_2 14 rfl rfl)
theorem dX7_aDay_63 : decode cX7_aDay 63 = .ok (.iconst 0, 1) := dk_3 (dk_at dksX7_aDay_2 17 rfl rfl)
theorem dX7_aDay_64 : decode cX7_aDay 64 = .ok (.istore_n 1, 1) := dk_60 (dk_at dksX7_aDay_2 18 rfl rfl)
theorem dX7_aDay_65 : decode cX7_aDay 65 = .ok (.iload_n 1, 1) := dk_27 (dk_at dksX7_aDay_2 19 rfl rfl)
theorem dX7_aDay_66 : decode cX7_aDay 66 = .ok (.aload_n 0, 1) := dk_42 (dk_at dksX7_aDay_2 20 rfl rfl)
theorem dX7_aDay_67 : decode cX7_aDay 67 = .ok (.invokevirtual 153, 3) := dk_182 0 153 (dk_at dksX7_aDay_2 21 rfl rfl)
theorem dX7_aDay_70 : decode cX7_aDay 70 = .ok (.if_icmp .ge 40, 3) := dk_162 0 40 (dk_at dksX7_aDay_3 0 rfl rfl)
theorem dX7_aDay_73 : decode cX7_aDay 73 = .ok (.aload_n 0, 1) := dk_42 (dk_at dksX7_aDay_3 3 rfl rfl)
theorem dX7_aDay_74 : decode cX7_aDay 74 = .ok (.dup, 1) := dk_89 (dk_at dksX7_aDay_3 4 rfl rfl)
theorem dX7_aDay_75 : decode cX7_aDay 75 = .ok (.getfield 393, 3) := dk_180 1 137 (dk_at dksX7_aDay_3 5 rfl rfl)
theorem dX7_aDay_78 : decode cX7_aDay 78 = .ok (.aload_n 0, 1) := dk_42 (dk_at dksX7_aDay_3 8 rfl rfl)
theorem dX7_aDay_79 : decode cX7_aDay 79 = .ok (.getfield 75, 3) := dk_180 0 75 (dk_at dksX7_aDay_3 9 rfl rfl)
theorem dX7_aDay_82 : decode cX7_aDay 82 = .ok (.iload_n 1, 1) := dk_27 (dk_at dksX7_aDay_3 12 rfl rfl)
theorem dX7_aDay_83 : decode cX7_aDay 83 = .ok (.iaload, 1) := dk_46 (dk_at dksX7_aDay_3 13 rfl rfl)
theorem dX7_aDay_84 : decode cX7_aDay 84 = .ok (.aload_n 0, 1) := dk_42 (dk_at dksX7_aDay_3 14 rfl rfl)
theorem dX7_aDay_85 : decode cX7_aDay 85 = .ok (.getfield 40, 3) := dk_180 0 40 (dk_at dksX7_aDay_3 15 rfl rfl)
theorem dX7_aDay_88 : decode cX7_aDay 88 = .ok (.iconst 5, 1) := dk_8 (dk_at dksX7_aDay_3 18 rfl rfl)
theorem dX7_aDay_89 : decode cX7_aDay 89 = .ok (.iaload, 1) := dk_46 (dk_at dksX7_aDay_3 19 rfl rfl)
theorem dX7_aDay_90 : decode cX7_aDay 90 = .ok (.if_icmp .le 9, 3) := dk_164 0 9 (dk_at dksX7_aDay_3 20 rfl rfl)
theorem dX7_aDay_93 : decode cX7_aDay 93 = .ok (.iconst 1, 1) := dk_4 (dk_at dksX7_aDay_3 23 rfl rfl)
theorem dX7_aDay_94 : decode cX7_aDay 94 = .ok (.iload_n 1, 1) := dk_27 (dk_at dksX7_aDay_4 0 rfl rfl)
theorem dX7_aDay_95 : decode cX7_aDay 95 = .ok (.ishl, 1) := dk_120 (dk_at dksX7_aDay_4 1 rfl rfl)
theorem dX7_aDay_96 : decode cX7_aDay 96 = .ok (.goto 4, 3) := dk_167 0 4 (dk_at dksX7_aDay_4 2 rfl rfl)
theorem dX7_aDay_99 : decode cX7_aDay 99 = .ok (.iconst 0, 1) := dk_3 (dk_at dksX7_aDay_4 5 rfl rfl)
theorem dX7_aDay_100 : decode cX7_aDay 100 = .ok (.ior, 1) := dk_128 (dk_at dksX7_aDay_4 6 rfl rfl)
theorem dX7_aDay_101 : decode cX7_aDay 101 = .ok (.putfield 393, 3) := dk_181 1 137 (dk_at dksX7_aDay_4 7 rfl rfl)
theorem dX7_aDay_104 : decode cX7_aDay 104 = .ok (.iinc 1 1, 3) := dk_132 1 1 (dk_at dksX7_aDay_4 10 rfl rfl)
theorem dX7_aDay_107 : decode cX7_aDay 107 = .ok (.goto (-42), 3) := dk_167 255 214 (dk_at dksX7_aDay_4 13 rfl rfl)
theorem dX7_aDay_110 : decode cX7_aDay 110 = .ok (.aload_n 0, 1) := dk_42 (dk_at dksX7_aDay_4 16 rfl rfl)
theorem dX7_aDay_111 : decode cX7_aDay 111 = .ok (.sipush 9999, 3) := dk_17 39 15 (dk_at dksX7_aDay_4 17 rfl rfl)
theorem dX7_aDay_114 : decode cX7_aDay 114 = .ok (.aload_n 0, 1) := dk_42 (dk_at dksX7_aDay_4 20 rfl rfl)
theorem dX7_aDay_115 : decode cX7_aDay 115 = .ok (.getfield 333, 3) := dk_180 1 77 (dk_at dksX7_aDay_4 21 rfl rfl)
theorem dX7_aDay_118 : decode cX7_aDay 118 = .ok (.aload_n 0, 1) := dk_42 (dk_at dksX7_aDay_5 0 rfl rfl)
theorem dX7_aDay_119 : decode cX7_aDay 119 = .ok (.getfield 393, 3) := dk_180 1 137 (dk_at dksX7_aDay_5 1 rfl rfl)
theorem dX7_aDay_122 : decode cX7_aDay 122 = .ok (.invokestatic 396, 3) := dk_184 1 140 (dk_at dksX7_aDay_5 4 rfl rfl)
theorem dX7_aDay_125 : decode cX7_aDay 125 = .ok (.iadd, 1) := dk_96 (dk_at dksX7_aDay_5 7 rfl rfl)
theorem dX7_aDay_126 : decode cX7_aDay 126 = .ok (.invokestatic 191, 3) := dk_184 0 191 (dk_at dksX7_aDay_5 8 rfl rfl)
theorem dX7_aDay_129 : decode cX7_aDay 129 = .ok (.putfield 333, 3) := dk_181 1 77 (dk_at dksX7_aDay_5 11 rfl rfl)
theorem dX7_aDay_132 : decode cX7_aDay 132 = .ok (.iconst 0, 1) := dk_3 (dk_at dksX7_aDay_5 14 rfl rfl)
theorem dX7_aDay_133 : decode cX7_aDay 133 = .ok (.istore_n 1, 1) := dk_60 (dk_at dksX7_aDay_5 15 rfl rfl)
theorem dX7_aDay_134 : decode cX7_aDay 134 = .ok (.iload_n 1, 1) := dk_27 (dk_at dksX7_aDay_5 16 rfl rfl)
theorem dX7_aDay_135 : decode cX7_aDay 135 = .ok (.aload_n 0, 1) := dk_42 (dk_at dksX7_aDay_5 17 rfl rfl)
theorem dX7_aDay_136 : decode cX7_aDay 136 = .ok (.invokevirtual 153, 3) := dk_182 0 153 (dk_at dksX7_aDay_5 18 rfl rfl)
theorem dX7_aDay_139 : decode cX7_aDay 139 = .ok (.if_icmp .ge 32, 3) := dk_162 0 32 (dk_at dksX7_aDay_5 21 rfl rfl)
theorem dX7_aDay_142 : decode cX7_aDay 142 = .ok (.aload_n 0, 1) := dk_42 (dk_at dksX7_aDay_6 0 rfl rfl)
theorem dX7_aDay_143 : decode cX7_aDay 143 = .ok (.getfield 75, 3) := dk_180 0 75 (dk_at dksX7_aDay_6 1 rfl rfl)
theorem dX7_aDay_146 : decode cX7_aDay 146 = .ok (.iload_n 1, 1) := dk_27 (dk_at dksX7_aDay_6 4 rfl rfl)
theorem dX7_aDay_147 : decode cX7_aDay 147 = .ok (.iconst 0, 1) := dk_3 (dk_at dksX7_aDay_6 5 rfl rfl)
theorem dX7_aDay_148 : decode cX7_aDay 148 = .ok (.aload_n 0, 1) := dk_42 (dk_at dksX7_aDay_6 6 rfl rfl)
theorem dX7_aDay_149 : decode cX7_aDay 149 = .ok (.getfield 75, 3) := dk_180 0 75 (dk_at dksX7_aDay_6 7 rfl rfl)
theorem dX7_aDay_152 : decode cX7_aDay 152 = .ok (.iload_n 1, 1) := dk_27 (dk_at dksX7_aDay_6 10 rfl rfl)
theorem dX7_aDay_153 : decode cX7_aDay 153 = .ok (.iaload, 1) := dk_46 (dk_at dksX7_aDay_6 11 rfl rfl)
theorem dX7_aDay_154 : decode cX7_aDay 154 = .ok (.aload_n 0, 1) := dk_42 (dk_at dksX7_aDay_6 12 rfl rfl)
theorem dX7_aDay_155 : decode cX7_aDay 155 = .ok (.getfield 40, 3) := dk_180 0 40 (dk_at dksX7_aDay_6 13 rfl rfl)
theorem dX7_aDay_158 : decode cX7_aDay 158 = .ok (.iconst 4, 1) := dk_7 (dk_at dksX7_aDay_6 16 rfl rfl)
theorem dX7_aDay_159 : decode cX7_aDay 159 = .ok (.iaload, 1) := dk_46 (dk_at dksX7_aDay_6 17 rfl rfl)
theorem dX7_aDay_160 : decode cX7_aDay 160 = .ok (.isub, 1) := dk_100 (dk_at dksX7_aDay_6 18 rfl rfl)
theorem dX7_aDay_161 : decode cX7_aDay 161 = .ok (.invokestatic 380, 3) := dk_184 1 124 (dk_at dksX7_aDay_6 19 rfl rfl)
theorem dX7_aDay_164 : decode cX7_aDay 164 = .ok (.iastore, 1) := dk_79 (dk_at dksX7_aDay_6 22 rfl rfl)
theorem dX7_aDay_165 : decode cX7_aDay 165 = .ok (.iinc 1 1, 3) := dk_132 1 1 (dk_at dksX7_aDay_7 0 rfl rfl)
theorem dX7_aDay_168 : decode cX7_aDay 168 = .ok (.goto (-34), 3) := dk_167 255 222 (dk_at dksX7_aDay_7 3 rfl rfl)
theorem dX7_aDay_171 : decode cX7_aDay 171 = .ok (.iconst 0, 1) := dk_3 (dk_at dksX7_aDay_7 6 rfl rfl)
theorem dX7_aDay_172 : decode cX7_aDay 172 = .ok (.istore_n 1, 1) := dk_60 (dk_at dksX7_aDay_7 7 rfl rfl)
theorem dX7_aDay_173 : decode cX7_aDay 173 = .ok (.iload_n 1, 1) := dk_27 (dk_at dksX7_aDay_7 8 rfl rfl)
theorem dX7_aDay_174 : decode cX7_aDay 174 = .ok (.aload_n 0, 1) := dk_42 (dk_at dksX7_aDay_7 9 rfl rfl)
theorem dX7_aDay_175 : decode cX7_aDay 175 = .ok (.invokevirtual 153, 3) := dk_182 0 153 (dk_at dksX7_aDay_7 10 rfl rfl)
theorem dX7_aDay_178 : decode cX7_aDay 178 = .ok (.if_icmp .ge 20, 3) := dk_162 0 20 (dk_at dksX7_aDay_7 13 rfl rfl)
theorem dX7_aDay_181 : decode cX7_aDay 181 = .ok (.aload_n 0, 1) := dk_42 (dk_at dksX7_aDay_7 16 rfl rfl)
theorem dX7_aDay_182 : decode cX7_aDay 182 = .ok (.getfield 89, 3) := dk_180 0 89 (dk_at dksX7_aDay_7 17 rfl rfl)
theorem dX7_aDay_185 : decode cX7_aDay 185 = .ok (.iload_n 1, 1) := dk_27 (dk_at dksX7_aDay_7 20 rfl rfl)
theorem dX7_aDay_186 : decode cX7_aDay 186 = .ok (.aload_n 0, 1) := dk_42 (dk_at dksX7_aDay_7 21 rfl rfl)
theorem dX7_aDay_187 : decode cX7_aDay 187 = .ok (.iload_n 1, 1) := dk_27 (dk_at dksX7_aDay_7 22 rfl rfl)
theorem dX7_aDay_188 : decode cX7_aDay 188 = .ok (.invokevirtual 399, 3) := dk_182 1 143 (dk_at dksX7_aDay_8 0 rfl rfl)
theorem dX7_aDay_191 : decode cX7_aDay 191 = .ok (.iastore, 1) := dk_79 (dk_at dksX7_aDay_8 3 rfl rfl)
theorem dX7_aDay_192 : decode cX7_aDay 192 = .ok (.iinc 1 1, 3) := dk_132 1 1 (dk_at dksX7_aDay_8 4 rfl rfl)
theorem dX7_aDay_195 : decode cX7_aDay 195 = .ok (.goto (-22), 3) := dk_167 255 234 (dk_at dksX7_aDay_8 7 rfl rfl)
theorem dX7_aDay_198 : decode cX7_aDay 198 = .ok (.iconst 0, 1) := dk_3 (dk_at dksX7_aDay_8 10 rfl rfl)
theorem dX7_aDay_199 : decode cX7_aDay 199 = .ok (.istore_n 1, 1) := dk_60 (dk_at dksX7_aDay_8 11 rfl rfl)
theorem dX7_aDay_200 : decode cX7_aDay 200 = .ok (.iload_n 1, 1) := dk_27 (dk_at dksX7_aDay_8 12 rfl rfl)
theorem dX7_aDay_201 : decode cX7_aDay 201 = .ok (.aload_n 0, 1) := dk_42 (dk_at dksX7_aDay_8 13 rfl rfl)
theorem dX7_aDay_202 : decode cX7_aDay 202 = .ok (.invokevirtual 153, 3) := dk_182 0 153 (dk_at dksX7_aDay_8 14 rfl rfl)
theorem dX7_aDay_205 : decode cX7_aDay 205 = .ok (.if_icmp .ge 24, 3) := dk_162 0 24 (dk_at dksX7_aDay_8 17 rfl rfl)
theorem dX7_aDay_208 : decode cX7_aDay 208 = .ok (.aload_n 0, 1) := dk_42 (dk_at dksX7_aDay_8 20 rfl rfl)
theorem dX7_aDay_209 : decode cX7_aDay 209 = .ok (.getfield 75, 3) := dk_180 0 75 (dk_at dksX7_aDay_8 21 rfl rfl)
theorem dX7_aDay_212 : decode cX7_aDay 212 = .ok (.iload_n 1, 1) := dk_27 (dk_at dksX7_aDay_9 0 rfl rfl)
theorem dX7_aDay_213 : decode cX7_aDay 213 = .ok (.dup2, 1) := dk_92 (dk_at dksX7_aDay_9 1 rfl rfl)
theorem dX7_aDay_214 : decode cX7_aDay 214 = .ok (.iaload, 1) := dk_46 (dk_at dksX7_aDay_9 2 rfl rfl)
theorem dX7_aDay_215 : decode cX7_aDay 215 = .ok (.aload_n 0, 1) := dk_42 (dk_at dksX7_aDay_9 3 rfl rfl)
theorem dX7_aDay_216 : decode cX7_aDay 216 = .ok (.getfield 89, 3) := dk_180 0 89 (dk_at dksX7_aDay_9 4 rfl rfl)
theorem dX7_aDay_219 : decode cX7_aDay 219 = .ok (.iload_n 1, 1) := dk_27 (dk_at dksX7_aDay_9 7 rfl rfl)
theorem dX7_aDay_220 : decode cX7_aDay 220 = .ok (.iaload, 1) := dk_46 (dk_at dksX7_aDay_9 8 rfl rfl)
theorem dX7_aDay_221 : decode cX7_aDay 221 = .ok (.isub, 1) := dk_100 (dk_at dksX7_aDay_9 9 rfl rfl)
theorem dX7_aDay_222 : decode cX7_aDay 222 = .ok (.iastore, 1) := dk_79 (dk_at dksX7_aDay_9 10 rfl rfl)
theorem dX7_aDay_223 : decode cX7_aDay 223 = .ok (.iinc 1 1, 3) := dk_132 1 1 (dk_at dksX7_aDay_9 11 rfl rfl)
theorem dX7_aDay_226 : decode cX7_aDay 226 = .ok (.goto (-26), 3) := dk_167 255 230 (dk_at dksX7_aDay_9 14 rfl rfl)
theorem dX7_aDay_229 : decode cX7_aDay 229 = .ok (.aload_n 0, 1) := dk_42 (dk_at dksX7_aDay_9 17 rfl rfl)
theorem dX7_aDay_230 : decode cX7_aDay 230 = .ok (.dup, 1) := dk_89 (dk_at dksX7_aDay_9 18 rfl rfl)
theorem dX7_aDay_231 : decode cX7_aDay 231 = .ok (.getfield 331, 3) := dk_180 1 75 (dk_at dksX7_aDay_9 19 rfl rfl)
theorem dX7_aDay_234 : decode cX7_aDay 234 = .ok (.iconst 1, 1) := dk_4 (dk_at dksX7_aDay_9 22 rfl rfl)
theorem dX7_aDay_235 : decode cX7_aDay 235 = .ok (.iadd, 1) := dk_96 (dk_at dksX7_aDay_9 23 rfl rfl)
theorem dX7_aDay_236 : decode cX7_aDay 236 = .ok (.putfield 331, 3) := dk_181 1 75 (dk_at dksX7_aDay_10 0 rfl rfl)
theorem dX7_aDay_239 : decode cX7_aDay 239 = .ok (.return_, 1) := dk_177 (dk_at dksX7_aDay_10 3 rfl rfl)
abbrev cX7_swish : ByteArray := prog_18_method_57_code
def yX7_swish : MethodName := ⟨RX7, "swish", "(II)V"⟩
def dkwX7_swish_5 : List UInt8 := [153, 0, 12, 42, 21, 6, 29, 5, 108, 182, 1, 130, 132, 6, 1, 167, 255, 225, 177]
abbrev dktX7_swish_5 : List UInt8 := dkwX7_swish_5 ++ []
def dkwX7_swish_4 : List UInt8 := [182, 1, 107, 54, 5, 3, 54, 6, 21, 6, 42, 182, 0, 153, 162, 0, 28, 21, 5, 21, 6, 184, 0, 232]
abbrev dktX7_swish_4 : List UInt8 := dkwX7_swish_4 ++ dktX7_swish_5
def dkwX7_swish_3 : List UInt8 := [54, 5, 21, 6, 42, 180, 0, 40, 3, 46, 96, 54, 6, 167, 255, 222, 167, 0, 48, 42, 21, 4]
abbrev dktX7_swish_3 : List UInt8 := dkwX7_swish_3 ++ dktX7_swish_4
def dkwX7_swish_2 : List UInt8 := [54, 6, 21, 6, 42, 182, 0, 153, 162, 0, 31, 42, 21, 6, 21, 5, 182, 1, 130, 21, 5, 5, 108]
abbrev dktX7_swish_2 : List UInt8 := dkwX7_swish_2 ++ dktX7_swish_3
def dkwX7_swish_1 : List UInt8 := [180, 0, 47, 27, 46, 4, 160, 0, 59, 29, 5, 108, 54, 5, 21, 4, 42, 180, 0, 40, 3, 46, 96]
abbrev dktX7_swish_1 : List UInt8 := dkwX7_swish_1 ++ dktX7_swish_2
def dkwX7_swish_0 : List UInt8 := [42, 27, 28, 182, 1, 127, 62, 42, 180, 0, 77, 27, 46, 54, 4, 42, 21, 4, 29, 182, 1, 130, 42]
abbrev dktX7_swish_0 : List UInt8 := dkwX7_swish_0 ++ dktX7_swish_1
theorem dksX7_swish_0 : cX7_swish.data.toList.drop 0 = dktX7_swish_0 := by decide +kernel
theorem dksX7_swish_1 : cX7_swish.data.toList.drop 23 = dktX7_swish_1 := dk_seg dksX7_swish_0 23 rfl rfl
theorem dksX7_swish_2 : cX7_swish.data.toList.drop 46 = dktX7_swish_2 := dk_seg dksX7_swish_1 23 rfl rfl
theorem dksX7_swish_3 : cX7_swish.data.toList.drop 69 = dktX7_swish_3 := dk_seg dksX7_swish_2 23 rfl rfl
theorem dksX7_swish_4 : cX7_swish.data.toList.drop 91 = dktX7_swish_4 := dk_seg dksX7_swish_3 22 rfl rfl
theorem dksX7_swish_5 : cX7_swish.data.toList.drop 115 = dktX7_swish_5 := dk_seg dksX7_swish_4 24 rfl rfl
theorem dX7_swish_0 : decode cX7_swish 0 = .ok (.aload_n 0, 1) := dk_42 (dk_at dksX7_swish_0 0 rfl rfl)
theorem dX7_swish_1 : decode cX7_swish 1 = .ok (.iload_n 1, 1) := dk_27 (dk_at dksX7_swish_0 1 rfl rfl)
theorem dX7_swish_2 : decode cX7_swish 2 = .ok (.iload_n 2, 1) := dk_28 (dk_at dksX7_swish_0 2 rfl rfl)
theorem dX7_swish_3 : decode cX7_swish 3 = .ok (.invokevirtual 383, 3) := dk_182 1 127 (dk_at dksX7_swish_0 3 rfl rfl)
theorem dX7_swish_6 : decode cX7_swish 6 = .ok (.istore_n 3, 1) := dk_62 (dk_at dksX7_swish_0 6 rfl rfl)
theorem dX7_swish_7 : decode cX7_swish 7 = .ok (.aload_n 0, 1) := dk_42 (dk_at dksX7_swish_0 7 rfl rfl)
theorem dX7_swish_8 : decode cX7_swish 8 = .ok (.getfield 77, 3) := dk_180 0 77 (dk_at dksX7_swish_0 8 rfl rfl)
theorem dX7_swish_11 : decode cX7_swish 11 = .ok (.iload_n 1, 1) := dk_27 (dk_at dksX7_swish_0 11 rfl rfl)
theorem dX7_swish_12 : decode cX7_swish 12 = .ok (.iaload, 1) := dk_46 (dk_at dksX7_swish_0 12 rfl rfl)
theorem dX7_swish_13 : decode cX7_swish 13 = .ok (.istore 4, 2) := dk_54 4 (dk_at dksX7_swish_0 13 rfl rfl)
theorem dX7_swish_15 : decode cX7_swish 15 = .ok (.aload_n 0, 1) := dk_42 (dk_at dksX7_swish_0 15 rfl rfl)
theorem dX7_swish_16 : decode cX7_swish 16 = .ok (.iload 4, 2) := dk_21 4 (dk_at dksX7_swish_0 16 rfl rfl)
theorem dX7_swish_18 : decode cX7_swish 18 = .ok (.iload_n 3, 1) := dk_29 (dk_at dksX7_swish_0 18 rfl rfl)
theorem dX7_swish_19 : decode cX7_swish 19 = .ok (.invokevirtual 386, 3) := dk_182 1 130 (dk_at dksX7_swish_0 19 rfl rfl)
theorem dX7_swish_22 : decode cX7_swish 22 = .ok (.aload_n 0, 1) := dk_42 (dk_at dksX7_swish_0 22 rfl rfl)
theorem dX7_swish_23 : decode cX7_swish 23 = .ok (.getfield 47, 3) := dk_180 0 47 (dk_at dksX7_swish_1 0 rfl rfl)
theorem dX7_swish_26 : decode cX7_swish 26 = .ok (.iload_n 1, 1) := dk_27 (dk_at dksX7_swish_1 3 rfl rfl)
theorem dX7_swish_27 : decode cX7_swish 27 = .ok (.iaload, 1) := dk_46 (dk_at dksX7_swish_1 4 rfl rfl)
theorem dX7_swish_28 : decode cX7_swish 28 = .ok (.iconst 1, 1) := dk_4 (dk_at dksX7_swish_1 5 rfl rfl)
theorem dX7_swish_29 : decode cX7_swish 29 = .ok (.if_icmp .ne 59, 3) := dk_160 0 59 (dk_at dksX7_swish_1 6 rfl rfl)
theorem dX7_swish_32 : decode cX7_swish 32 = .ok (.iload_n 3, 1) := dk_29 (dk_at dksX7_swish_1 9 rfl rfl)
theorem dX7_swish_33 : decode cX7_swish 33 = .ok (.iconst 2, 1) := dk_5 (dk_at dksX7_swish_1 10 rfl rfl)
theorem dX7_swish_34 : decode cX7_swish 34 = .ok (.idiv, 1) := dk_108 (dk_at dksX7_swish_1 11 rfl rfl)
theorem dX7_swish_35 : decode cX7_swish 35 = .ok (.istore 5, 2) := dk_54 5 (dk_at dksX7_swish_1 12 rfl rfl)
theorem dX7_swish_37 : decode cX7_swish 37 = .ok (.iload 4, 2) := dk_21 4 (dk_at dksX7_swish_1 14 rfl rfl)
theorem dX7_swish_39 : decode cX7_swish 39 = .ok (.aload_n 0, 1) := dk_42 (dk_at dksX7_swish_1 16 rfl rfl)
theorem dX7_swish_40 : decode cX7_swish 40 = .ok (.getfield 40, 3) := dk_180 0 40 (dk_at dksX7_swish_1 17 rfl rfl)
theorem dX7_swish_43 : decode cX7_swish 43 = .ok (.iconst 0, 1) := dk_3 (dk_at dksX7_swish_1 20 rfl rfl)
theorem dX7_swish_44 : decode cX7_swish 44 = .ok (.iaload, 1) := dk_46 (dk_at dksX7_swish_1 21 rfl rfl)
theorem dX7_swish_45 : decode cX7_swish 45 = .ok (.iadd, 1) := dk_96 (dk_at dksX7_swish_1 22 rfl rfl)
theorem dX7_swish_46 : decode cX7_swish 46 = .ok (.istore 6, 2) := dk_54 6 (dk_at dksX7_swish_2 0 rfl rfl)
theorem dX7_swish_48 : decode cX7_swish 48 = .ok (.iload 6, 2) := dk_21 6 (dk_at dksX7_swish_2 2 rfl rfl)
theorem dX7_swish_50 : decode cX7_swish 50 = .ok (.aload_n 0, 1) := dk_42 (dk_at dksX7_swish_2 4 rfl rfl)
theorem dX7_swish_51 : decode cX7_swish 51 = .ok (.invokevirtual 153, 3) := dk_182 0 153 (dk_at dksX7_swish_2 5 rfl rfl)
theorem dX7_swish_54 : decode cX7_swish 54 = .ok (.if_icmp .ge 31, 3) := dk_162 0 31 (dk_at dksX7_swish_2 8 rfl rfl)
theorem dX7_swish_57 : decode cX7_swish 57 = .ok (.aload_n 0, 1) := dk_42 (dk_at dksX7_swish_2 11 rfl rfl)
theorem dX7_swish_58 : decode cX7_swish 58 = .ok (.iload 6, 2) := dk_21 6 (dk_at dksX7_swish_2 12 rfl rfl)
theorem dX7_swish_60 : decode cX7_swish 60 = .ok (.iload 5, 2) := dk_21 5 (dk_at dksX7_swish_2 14 rfl rfl)
theorem dX7_swish_62 : decode cX7_swish 62 = .ok (.invokevirtual 386, 3) := dk_182 1 130 (dk_at dksX7_swish_2 16 rfl rfl)
theorem dX7_swish_65 : decode cX7_swish 65 = .ok (.iload 5, 2) := dk_21 5 (dk_at dksX7_swish_2 19 rfl rfl)
theorem dX7_swish_67 : decode cX7_swish 67 = .ok (.iconst 2, 1) := dk_5 (dk_at dksX7_swish_2 21 rfl rfl)
theorem dX7_swish_68 : decode cX7_swish 68 = .ok (.idiv, 1) := dk_108 (dk_at dksX7_swish_2 22 rfl rfl)
theorem dX7_swish_69 : decode cX7_swish 69 = .ok (.istore 5, 2) := dk_54 5 (dk_at dksX7_swish_3 0 rfl rfl)
theorem dX7_swish_71 : decode cX7_swish 71 = .ok (.iload 6, 2) := dk_21 6 (dk_at dksX7_swish_3 2 rfl rfl)
theorem dX7_swish_73 : decode cX7_swish 73 = .ok (.aload_n 0, 1) := dk_42 (dk_at dksX7_swish_3 4 rfl rfl)
theorem dX7_swish_74 : decode cX7_swish 74 = .ok (.getfield 40, 3) := dk_180 0 40 (dk_at dksX7_swish_3 5 rfl rfl)
theorem dX7_swish_77 : decode cX7_swish 77 = .ok (.iconst 0, 1) := dk_3 (dk_at dksX7_swish_3 8 rfl rfl)
theorem dX7_swish_78 : decode cX7_swish 78 = .ok (.iaload, 1) := dk_46 (dk_at dksX7_swish_3 9 rfl rfl)
theorem dX7_swish_79 : decode cX7_swish 79 = .ok (.iadd, 1) := dk_96 (dk_at dksX7_swish_3 10 rfl rfl)
theorem dX7_swish_80 : decode cX7_swish 80 = .ok (.istore 6, 2) := dk_54 6 (dk_at dksX7_swish_3 11 rfl rfl)
theorem dX7_swish_82 : decode cX7_swish 82 = .ok (.goto (-34), 3) := dk_167 255 222 (dk_at dksX7_swish_3 13 rfl rfl)
theorem dX7_swish_85 : decode cX7_swish 85 = .ok (.goto 48, 3) := dk_167 0 48 (dk_at dksX7_swish_3 16 rfl rfl)
theorem dX7_swish_88 : decode cX7_swish 88 = .ok (.aload_n 0, 1) := dk_42 (dk_at dksX7_swish_3 19 rfl rfl)
theorem dX7_swish_89 : decode cX7_swish 89 = .ok (.iload 4, 2) := dk_21 4 (dk_at dksX7_swish_3 20 rfl rfl)
theorem dX7_swish_91 : decode cX7_swish 91 = .ok (.invokevirtual 363, 3) := dk_182 1 107 (dk_at dksX7_swish_4 0 rfl rfl)
theorem dX7_swish_94 : decode cX7_swish 94 = .ok (.istore 5, 2) := dk_54 5 (dk_at dksX7_swish_4 3 rfl rfl)
theorem dX7_swish_96 : decode cX7_swish 96 = .ok (.iconst 0, 1) := dk_3 (dk_at dksX7_swish_4 5 rfl rfl)
theorem dX7_swish_97 : decode cX7_swish 97 = .ok (.istore 6, 2) := dk_54 6 (dk_at dksX7_swish_4 6 rfl rfl)
theorem dX7_swish_99 : decode cX7_swish 99 = .ok (.iload 6, 2) := dk_21 6 (dk_at dksX7_swish_4 8 rfl rfl)
theorem dX7_swish_101 : decode cX7_swish 101 = .ok (.aload_n 0, 1) := dk_42 (dk_at dksX7_swish_4 10 rfl rfl)
theorem dX7_swish_102 : decode cX7_swish 102 = .ok (.invokevirtual 153, 3) := dk_182 0 153 (dk_at dksX7_swish_4 11 rfl rfl)
theorem dX7_swish_105 : decode cX7_swish 105 = .ok (.if_icmp .ge 28, 3) := dk_162 0 28 (dk_at dksX7_swish_4 14 rfl rfl)
theorem dX7_swish_108 : decode cX7_swish 108 = .ok (.iload 5, 2) := dk_21 5 (dk_at dksX7_swish_4 17 rfl rfl)
theorem dX7_swish_110 : decode cX7_swish 110 = .ok (.iload 6, 2) := dk_21 6 (dk_at dksX7_swish_4 19 rfl rfl)
theorem dX7_swish_112 : decode cX7_swish 112 = .ok (.invokestatic 232, 3) := dk_184 0 232 (dk_at dksX7_swish_4 21 rfl rfl)
theorem dX7_swish_115 : decode cX7_swish 115 = .ok (.ifCond .eq 12, 3) := dk_153 0 12 (dk_at dksX7_swish_5 0 rfl rfl)
theorem dX7_swish_118 : decode cX7_swish 118 = .ok (.aload_n 0, 1) := dk_42 (dk_at dksX7_swish_5 3 rfl rfl)
theorem dX7_swish_119 : decode cX7_swish 119 = .ok (.iload 6, 2) := dk_21 6 (dk_at dksX7_swish_5 4 rfl rfl)
theorem dX7_swish_121 : decode cX7_swish 121 = .ok (.iload_n 3, 1) := dk_29 (dk_at dksX7_swish_5 6 rfl rfl)
theorem dX7_swish_122 : decode cX7_swish 122 = .ok (.iconst 2, 1) := dk_5 (dk_at dksX7_swish_5 7 rfl rfl)
theorem dX7_swish_123 : decode cX7_swish 123 = .ok (.idiv, 1) := dk_108 (dk_at dksX7_swish_5 8 rfl rfl)
theorem dX7_swish_124 : decode cX7_swish 124 = .ok (.invokevirtual 386, 3) := dk_182 1 130 (dk_at dksX7_swish_5 9 rfl rfl)
theorem dX7_swish_127 : decode cX7_swish 127 = .ok (.iinc 6 1, 3) := dk_132 6 1 (dk_at dksX7_swish_5 12 rfl rfl)
theorem dX7_swish_130 : decode cX7_swish 130 = .ok (.goto (-31), 3) := dk_167 255 225 (dk_at dksX7_swish_5 15 rfl rfl)
theorem dX7_swish_133 : decode cX7_swish 133 = .ok (.return_, 1) := dk_177 (dk_at dksX7_swish_5 18 rfl rfl)
abbrev cX7_dye : ByteArray := prog_18_method_56_code
def yX7_dye : MethodName := ⟨RX7, "dye", "(II)V"⟩
def dkwX7_dye_1 : List UInt8 := [180, 0, 75, 27, 46, 28, 96, 184, 0, 191, 79, 177]
abbrev dktX7_dye_1 : List UInt8 := dkwX7_dye_1 ++ []
def dkwX7_dye_0 : List UInt8 := [42, 180, 0, 75, 27, 42, 180, 1, 80, 27, 184, 0, 232, 153, 0, 7, 3, 167, 0, 16, 16, 99, 42]
abbrev dktX7_dye_0 : List UInt8 := dkwX7_dye_0 ++ dktX7_dye_1
theorem dksX7_dye_0 : cX7_dye.data.toList.drop 0 = dktX7_dye_0 := by decide +kernel
theorem dksX7_dye_1 : cX7_dye.data.toList.drop 23 = dktX7_dye_1 := dk_seg dksX7_dye_0 23 rfl rfl
theorem dX7_dye_0 : decode cX7_dye 0 = .ok (.aload_n 0, 1) := dk_42 (dk_at dksX7_dye_0 0 rfl rfl)
theorem dX7_dye_1 : decode cX7_dye 1 = .ok (.getfield 75, 3) := dk_180 0 75 (dk_at dksX7_dye_0 1 rfl rfl)
theorem dX7_dye_4 : decode cX7_dye 4 = .ok (.iload_n 1, 1) := dk_27 (dk_at dksX7_dye_0 4 rfl rfl)
theorem dX7_dye_5 : decode cX7_dye 5 = .ok (.aload_n 0, 1) := dk_42 (dk_at dksX7_dye_0 5 rfl rfl)
theorem dX7_dye_6 : decode cX7_dye 6 = .ok (.getfield 336, 3) := dk_180 1 80 (dk_at dksX7_dye_0 6 rfl rfl)
theorem dX7_dye_9 : decode cX7_dye 9 = .ok (.iload_n 1, 1) := dk_27 (dk_at dksX7_dye_0 9 rfl rfl)
theorem dX7_dye_10 : decode cX7_dye 10 = .ok (.invokestatic 232, 3) := dk_184 0 232 (dk_at dksX7_dye_0 10 rfl rfl)
theorem dX7_dye_13 : decode cX7_dye 13 = .ok (.ifCond .eq 7, 3) := dk_153 0 7 (dk_at dksX7_dye_0 13 rfl rfl)
theorem dX7_dye_16 : decode cX7_dye 16 = .ok (.iconst 0, 1) := dk_3 (dk_at dksX7_dye_0 16 rfl rfl)
theorem dX7_dye_17 : decode cX7_dye 17 = .ok (.goto 16, 3) := dk_167 0 16 (dk_at dksX7_dye_0 17 rfl rfl)
theorem dX7_dye_20 : decode cX7_dye 20 = .ok (.bipush 99, 2) := dk_16 99 (dk_at dksX7_dye_0 20 rfl rfl)
theorem dX7_dye_22 : decode cX7_dye 22 = .ok (.aload_n 0, 1) := dk_42 (dk_at dksX7_dye_0 22 rfl rfl)
theorem dX7_dye_23 : decode cX7_dye 23 = .ok (.getfield 75, 3) := dk_180 0 75 (dk_at dksX7_dye_1 0 rfl rfl)
theorem dX7_dye_26 : decode cX7_dye 26 = .ok (.iload_n 1, 1) := dk_27 (dk_at dksX7_dye_1 3 rfl rfl)
theorem dX7_dye_27 : decode cX7_dye 27 = .ok (.iaload, 1) := dk_46 (dk_at dksX7_dye_1 4 rfl rfl)
theorem dX7_dye_28 : decode cX7_dye 28 = .ok (.iload_n 2, 1) := dk_28 (dk_at dksX7_dye_1 5 rfl rfl)
theorem dX7_dye_29 : decode cX7_dye 29 = .ok (.iadd, 1) := dk_96 (dk_at dksX7_dye_1 6 rfl rfl)
theorem dX7_dye_30 : decode cX7_dye 30 = .ok (.invokestatic 191, 3) := dk_184 0 191 (dk_at dksX7_dye_1 7 rfl rfl)
theorem dX7_dye_33 : decode cX7_dye 33 = .ok (.iastore, 1) := dk_79 (dk_at dksX7_dye_1 10 rfl rfl)
theorem dX7_dye_34 : decode cX7_dye 34 = .ok (.return_, 1) := dk_177 (dk_at dksX7_dye_1 11 rfl rfl)
abbrev cX7_bitsOf : ByteArray := prog_18_method_8_code
def yX7_bitsOf : MethodName := ⟨RX7, "bitsOf", "(I)I"⟩
def dkwX7_bitsOf_0 : List UInt8 := [3, 60, 26, 61, 28, 153, 0, 15, 132, 1, 1, 28, 28, 4, 100, 126, 61, 167, 255, 243, 27, 172]
abbrev dktX7_bitsOf_0 : List UInt8 := dkwX7_bitsOf_0 ++ []
theorem dksX7_bitsOf_0 : cX7_bitsOf.data.toList.drop 0 = dktX7_bitsOf_0 := by decide +kernel
theorem dX7_bitsOf_0 : decode cX7_bitsOf 0 = .ok (.iconst 0, 1) := dk_3 (dk_at dksX7_bitsOf_0 0 rfl rfl)
theorem dX7_bitsOf_1 : decode cX7_bitsOf 1 = .ok (.istore_n 1, 1) := dk_60 (dk_at dksX7_bitsOf_0 1 rfl rfl)
theorem dX7_bitsOf_2 : decode cX7_bitsOf 2 = .ok (.iload_n 0, 1) := dk_26 (dk_at dksX7_bitsOf_0 2 rfl rfl)
theorem dX7_bitsOf_3 : decode cX7_bitsOf 3 = .ok (.istore_n 2, 1) := dk_61 (dk_at dksX7_bitsOf_0 3 rfl rfl)
theorem dX7_bitsOf_4 : decode cX7_bitsOf 4 = .ok (.iload_n 2, 1) := dk_28 (dk_at dksX7_bitsOf_0 4 rfl rfl)
theorem dX7_bitsOf_5 : decode cX7_bitsOf 5 = .ok (.ifCond .eq 15, 3) := dk_153 0 15 (dk_at dksX7_bitsOf_0 5 rfl rfl)
theorem dX7_bitsOf_8 : decode cX7_bitsOf 8 = .ok (.iinc 1 1, 3) := dk_132 1 1 (dk_at dksX7_bitsOf_0 8 rfl rfl)
theorem dX7_bitsOf_11 : decode cX7_bitsOf 11 = .ok (.iload_n 2, 1) := dk_28 (dk_at dksX7_bitsOf_0 11 rfl rfl)
theorem dX7_bitsOf_12 : decode cX7_bitsOf 12 = .ok (.iload_n 2, 1) := dk_28 (dk_at dksX7_bitsOf_0 12 rfl rfl)
theorem dX7_bitsOf_13 : decode cX7_bitsOf 13 = .ok (.iconst 1, 1) := dk_4 (dk_at dksX7_bitsOf_0 13 rfl rfl)
theorem dX7_bitsOf_14 : decode cX7_bitsOf 14 = .ok (.isub, 1) := dk_100 (dk_at dksX7_bitsOf_0 14 rfl rfl)
theorem dX7_bitsOf_15 : decode cX7_bitsOf 15 = .ok (.iand, 1) := dk_126 (dk_at dksX7_bitsOf_0 15 rfl rfl)
theorem dX7_bitsOf_16 : decode cX7_bitsOf 16 = .ok (.istore_n 2, 1) := dk_61 (dk_at dksX7_bitsOf_0 16 rfl rfl)
theorem dX7_bitsOf_17 : decode cX7_bitsOf 17 = .ok (.goto (-13), 3) := dk_167 255 243 (dk_at dksX7_bitsOf_0 17 rfl rfl)
theorem dX7_bitsOf_20 : decode cX7_bitsOf 20 = .ok (.iload_n 1, 1) := dk_27 (dk_at dksX7_bitsOf_0 20 rfl rfl)
theorem dX7_bitsOf_21 : decode cX7_bitsOf 21 = .ok (.ireturn, 1) := dk_172 (dk_at dksX7_bitsOf_0 21 rfl rfl)
abbrev cX7_fadesOf : ByteArray := prog_18_method_55_code
def yX7_fadesOf : MethodName := ⟨RX7, "fadesOf", "(I)I"⟩
def dkwX7_fadesOf_2 : List UInt8 := [184, 0, 191, 184, 1, 124, 172]
abbrev dktX7_fadesOf_2 : List UInt8 := dkwX7_fadesOf_2 ++ []
def dkwX7_fadesOf_1 : List UInt8 := [42, 42, 180, 0, 59, 42, 180, 0, 40, 16, 7, 46, 182, 1, 120, 61, 3, 42, 180, 0, 75, 27, 46, 28]
abbrev dktX7_fadesOf_1 : List UInt8 := dkwX7_fadesOf_1 ++ dktX7_fadesOf_2
def dkwX7_fadesOf_0 : List UInt8 := [42, 180, 0, 75, 27, 46, 8, 108, 61, 42, 180, 0, 40, 16, 7, 46, 158, 0, 24, 42, 27, 182, 1, 117]
abbrev dktX7_fadesOf_0 : List UInt8 := dkwX7_fadesOf_0 ++ dktX7_fadesOf_1
theorem dksX7_fadesOf_0 : cX7_fadesOf.data.toList.drop 0 = dktX7_fadesOf_0 := by decide +kernel
theorem dksX7_fadesOf_1 : cX7_fadesOf.data.toList.drop 24 = dktX7_fadesOf_1 := dk_seg dksX7_fadesOf_0 24 rfl rfl
theorem dksX7_fadesOf_2 : cX7_fadesOf.data.toList.drop 48 = dktX7_fadesOf_2 := dk_seg dksX7_fadesOf_1 24 rfl rfl
theorem dX7_fadesOf_0 : decode cX7_fadesOf 0 = .ok (.aload_n 0, 1) := dk_42 (dk_at dksX7_fadesOf_0 0 rfl rfl)
theorem dX7_fadesOf_1 : decode cX7_fadesOf 1 = .ok (.getfield 75, 3) := dk_180 0 75 (dk_at dksX7_fadesOf_0 1 rfl rfl)
theorem dX7_fadesOf_4 : decode cX7_fadesOf 4 = .ok (.iload_n 1, 1) := dk_27 (dk_at dksX7_fadesOf_0 4 rfl rfl)
theorem dX7_fadesOf_5 : decode cX7_fadesOf 5 = .ok (.iaload, 1) := dk_46 (dk_at dksX7_fadesOf_0 5 rfl rfl)
theorem dX7_fadesOf_6 : decode cX7_fadesOf 6 = .ok (.iconst 5, 1) := dk_8 (dk_at dksX7_fadesOf_0 6 rfl rfl)
theorem dX7_fadesOf_7 : decode cX7_fadesOf 7 = .ok (.idiv, 1) := dk_108 (dk_at dksX7_fadesOf_0 7 rfl rfl)
theorem dX7_fadesOf_8 : decode cX7_fadesOf 8 = .ok (.istore_n 2, 1) := dk_61 (dk_at dksX7_fadesOf_0 8 rfl rfl)
theorem dX7_fadesOf_9 : decode cX7_fadesOf 9 = .ok (.aload_n 0, 1) := dk_42 (dk_at dksX7_fadesOf_0 9 rfl rfl)
theorem dX7_fadesOf_10 : decode cX7_fadesOf 10 = .ok (.getfield 40, 3) := dk_180 0 40 (dk_at dksX7_fadesOf_0 10 rfl rfl)
theorem dX7_fadesOf_13 : decode cX7_fadesOf 13 = .ok (.bipush 7, 2) := dk_16 7 (dk_at dksX7_fadesOf_0 13 rfl rfl)
theorem dX7_fadesOf_15 : decode cX7_fadesOf 15 = .ok (.iaload, 1) := dk_46 (dk_at dksX7_fadesOf_0 15 rfl rfl)
theorem dX7_fadesOf_16 : decode cX7_fadesOf 16 = .ok (.ifCond .le 24, 3) := dk_158 0 24 (dk_at dksX7_fadesOf_0 16 rfl rfl)
theorem dX7_fadesOf_19 : decode cX7_fadesOf 19 = .ok (.aload_n 0, 1) := dk_42 (dk_at dksX7_fadesOf_0 19 rfl rfl)
theorem dX7_fadesOf_20 : decode cX7_fadesOf 20 = .ok (.iload_n 1, 1) := dk_27 (dk_at dksX7_fadesOf_0 20 rfl rfl)
theorem dX7_fadesOf_21 : decode cX7_fadesOf 21 = .ok (.invokevirtual 373, 3) := dk_182 1 117 (dk_at dksX7_fadesOf_0 21 rfl rfl)
theorem dX7_fadesOf_24 : decode cX7_fadesOf 24 = .ok (.aload_n 0, 1) := dk_42 (dk_at dksX7_fadesOf_1 0 rfl rfl)
theorem dX7_fadesOf_25 : decode cX7_fadesOf 25 = .ok (.aload_n 0, 1) := dk_42 (dk_at dksX7_fadesOf_1 1 rfl rfl)
theorem dX7_fadesOf_26 : decode cX7_fadesOf 26 = .ok (.getfield 59, 3) := dk_180 0 59 (dk_at dksX7_fadesOf_1 2 rfl rfl)
theorem dX7_fadesOf_29 : decode cX7_fadesOf 29 = .ok (.aload_n 0, 1) := dk_42 (dk_at dksX7_fadesOf_1 5 rfl rfl)
theorem dX7_fadesOf_30 : decode cX7_fadesOf 30 = .ok (.getfield 40, 3) := dk_180 0 40 (dk_at dksX7_fadesOf_1 6 rfl rfl)
theorem dX7_fadesOf_33 : decode cX7_fadesOf 33 = .ok (.bipush 7, 2) := dk_16 7 (dk_at dksX7_fadesOf_1 9 rfl rfl)
theorem dX7_fadesOf_35 : decode cX7_fadesOf 35 = .ok (.iaload, 1) := dk_46 (dk_at dksX7_fadesOf_1 11 rfl rfl)
theorem dX7_fadesOf_36 : decode cX7_fadesOf 36 = .ok (.invokevirtual 376, 3) := dk_182 1 120 (dk_at dksX7_fadesOf_1 12 rfl rfl)
theorem dX7_fadesOf_39 : decode cX7_fadesOf 39 = .ok (.istore_n 2, 1) := dk_61 (dk_at dksX7_fadesOf_1 15 rfl rfl)
theorem dX7_fadesOf_40 : decode cX7_fadesOf 40 = .ok (.iconst 0, 1) := dk_3 (dk_at dksX7_fadesOf_1 16 rfl rfl)
theorem dX7_fadesOf_41 : decode cX7_fadesOf 41 = .ok (.aload_n 0, 1) := dk_42 (dk_at dksX7_fadesOf_1 17 rfl rfl)
theorem dX7_fadesOf_42 : decode cX7_fadesOf 42 = .ok (.getfield 75, 3) := dk_180 0 75 (dk_at dksX7_fadesOf_1 18 rfl rfl)
theorem dX7_fadesOf_45 : decode cX7_fadesOf 45 = .ok (.iload_n 1, 1) := dk_27 (dk_at dksX7_fadesOf_1 21 rfl rfl)
theorem dX7_fadesOf_46 : decode cX7_fadesOf 46 = .ok (.iaload, 1) := dk_46 (dk_at dksX7_fadesOf_1 22 rfl rfl)
theorem dX7_fadesOf_47 : decode cX7_fadesOf 47 = .ok (.iload_n 2, 1) := dk_28 (dk_at dksX7_fadesOf_1 23 rfl rfl)
theorem dX7_fadesOf_48 : decode cX7_fadesOf 48 = .ok (.invokestatic 191, 3) := dk_184 0 191 (dk_at dksX7_fadesOf_2 0 rfl rfl)
theorem dX7_fadesOf_51 : decode cX7_fadesOf 51 = .ok (.invokestatic 380, 3) := dk_184 1 124 (dk_at dksX7_fadesOf_2 3 rfl rfl)
theorem dX7_fadesOf_54 : decode cX7_fadesOf 54 = .ok (.ireturn, 1) := dk_172 (dk_at dksX7_fadesOf_2 6 rfl rfl)
abbrev cX7_rest : ByteArray := prog_18_method_69_code
def yX7_rest : MethodName := ⟨RX7, "rest", "(IZ)Z"⟩
def dkwX7_rest_2 : List UInt8 := [89, 180, 1, 83, 4, 27, 120, 130, 181, 1, 83, 4, 172]
abbrev dktX7_rest_2 : List UInt8 := dkwX7_rest_2 ++ []
def dkwX7_rest_1 : List UInt8 := [184, 0, 232, 28, 160, 0, 15, 42, 180, 0, 62, 4, 92, 46, 4, 96, 79, 3, 172, 42, 182, 1, 173, 42]
abbrev dktX7_rest_1 : List UInt8 := dkwX7_rest_1 ++ dktX7_rest_2
def dkwX7_rest_0 : List UInt8 := [42, 3, 181, 0, 150, 42, 27, 182, 1, 161, 154, 0, 9, 42, 4, 182, 1, 179, 172, 42, 180, 1, 83, 27]
abbrev dktX7_rest_0 : List UInt8 := dkwX7_rest_0 ++ dktX7_rest_1
theorem dksX7_rest_0 : cX7_rest.data.toList.drop 0 = dktX7_rest_0 := by decide +kernel
theorem dksX7_rest_1 : cX7_rest.data.toList.drop 24 = dktX7_rest_1 := dk_seg dksX7_rest_0 24 rfl rfl
theorem dksX7_rest_2 : cX7_rest.data.toList.drop 48 = dktX7_rest_2 := dk_seg dksX7_rest_1 24 rfl rfl
theorem dX7_rest_0 : decode cX7_rest 0 = .ok (.aload_n 0, 1) := dk_42 (dk_at dksX7_rest_0 0 rfl rfl)
theorem dX7_rest_1 : decode cX7_rest 1 = .ok (.iconst 0, 1) := dk_3 (dk_at dksX7_rest_0 1 rfl rfl)
theorem dX7_rest_2 : decode cX7_rest 2 = .ok (.putfield 150, 3) := dk_181 0 150 (dk_at dksX7_rest_0 2 rfl rfl)
theorem dX7_rest_5 : decode cX7_rest 5 = .ok (.aload_n 0, 1) := dk_42 (dk_at dksX7_rest_0 5 rfl rfl)
theorem dX7_rest_6 : decode cX7_rest 6 = .ok (.iload_n 1, 1) := dk_27 (dk_at dksX7_rest_0 6 rfl rfl)
theorem dX7_rest_7 : decode cX7_rest 7 = .ok (.invokevirtual 417, 3) := dk_182 1 161 (dk_at dksX7_rest_0 7 rfl rfl)
theorem dX7_rest_10 : decode cX7_rest 10 = .ok (.ifCond .ne 9, 3) := dk_154 0 9 (dk_at dksX7_rest_0 10 rfl rfl)
theorem dX7_rest_13 : decode cX7_rest 13 = .ok (.aload_n 0, 1) := dk_42 (dk_at dksX7_rest_0 13 rfl rfl)
theorem dX7_rest_14 : decode cX7_rest 14 = .ok (.iconst 1, 1) := dk_4 (dk_at dksX7_rest_0 14 rfl rfl)
theorem dX7_rest_15 : decode cX7_rest 15 = .ok (.invokevirtual 435, 3) := dk_182 1 179 (dk_at dksX7_rest_0 15 rfl rfl)
theorem dX7_rest_18 : decode cX7_rest 18 = .ok (.ireturn, 1) := dk_172 (dk_at dksX7_rest_0 18 rfl rfl)
theorem dX7_rest_19 : decode cX7_rest 19 = .ok (.aload_n 0, 1) := dk_42 (dk_at dksX7_rest_0 19 rfl rfl)
theorem dX7_rest_20 : decode cX7_rest 20 = .ok (.getfield 339, 3) := dk_180 1 83 (dk_at dksX7_rest_0 20 rfl rfl)
theorem dX7_rest_23 : decode cX7_rest 23 = .ok (.iload_n 1, 1) := dk_27 (dk_at dksX7_rest_0 23 rfl rfl)
theorem dX7_rest_24 : decode cX7_rest 24 = .ok (.invokestatic 232, 3) := dk_184 0 232 (dk_at dksX7_rest_1 0 rfl rfl)
theorem dX7_rest_27 : decode cX7_rest 27 = .ok (.iload_n 2, 1) := dk_28 (dk_at dksX7_rest_1 3 rfl rfl)
theorem dX7_rest_28 : decode cX7_rest 28 = .ok (.if_icmp .ne 15, 3) := dk_160 0 15 (dk_at dksX7_rest_1 4 rfl rfl)
theorem dX7_rest_31 : decode cX7_rest 31 = .ok (.aload_n 0, 1) := dk_42 (dk_at dksX7_rest_1 7 rfl rfl)
theorem dX7_rest_32 : decode cX7_rest 32 = .ok (.getfield 62, 3) := dk_180 0 62 (dk_at dksX7_rest_1 8 rfl rfl)
theorem dX7_rest_35 : decode cX7_rest 35 = .ok (.iconst 1, 1) := dk_4 (dk_at dksX7_rest_1 11 rfl rfl)
theorem dX7_rest_36 : decode cX7_rest 36 = .ok (.dup2, 1) := dk_92 (dk_at dksX7_rest_1 12 rfl rfl)
theorem dX7_rest_37 : decode cX7_rest 37 = .ok (.iaload, 1) := dk_46 (dk_at dksX7_rest_1 13 rfl rfl)
theorem dX7_rest_38 : decode cX7_rest 38 = .ok (.iconst 1, 1) := dk_4 (dk_at dksX7_rest_1 14 rfl rfl)
theorem dX7_rest_39 : decode cX7_rest 39 = .ok (.iadd, 1) := dk_96 (dk_at dksX7_rest_1 15 rfl rfl)
theorem dX7_rest_40 : decode cX7_rest 40 = .ok (.iastore, 1) := dk_79 (dk_at dksX7_rest_1 16 rfl rfl)
theorem dX7_rest_41 : decode cX7_rest 41 = .ok (.iconst 0, 1) := dk_3 (dk_at dksX7_rest_1 17 rfl rfl)
theorem dX7_rest_42 : decode cX7_rest 42 = .ok (.ireturn, 1) := dk_172 (dk_at dksX7_rest_1 18 rfl rfl)
theorem dX7_rest_43 : decode cX7_rest 43 = .ok (.aload_n 0, 1) := dk_42 (dk_at dksX7_rest_1 19 rfl rfl)
theorem dX7_rest_44 : decode cX7_rest 44 = .ok (.invokevirtual 429, 3) := dk_182 1 173 (dk_at dksX7_rest_1 20 rfl rfl)
theorem dX7_rest_47 : decode cX7_rest 47 = .ok (.aload_n 0, 1) := dk_42 (dk_at dksX7_rest_1 23 rfl rfl)
theorem dX7_rest_48 : decode cX7_rest 48 = .ok (.dup, 1) := dk_89 (dk_at dksX7_rest_2 0 rfl rfl)
theorem dX7_rest_49 : decode cX7_rest 49 = .ok (.getfield 339, 3) := dk_180 1 83 (dk_at dksX7_rest_2 1 rfl rfl)
theorem dX7_rest_52 : decode cX7_rest 52 = .ok (.iconst 1, 1) := dk_4 (dk_at dksX7_rest_2 4 rfl rfl)
theorem dX7_rest_53 : decode cX7_rest 53 = .ok (.iload_n 1, 1) := dk_27 (dk_at dksX7_rest_2 5 rfl rfl)
theorem dX7_rest_54 : decode cX7_rest 54 = .ok (.ishl, 1) := dk_120 (dk_at dksX7_rest_2 6 rfl rfl)
theorem dX7_rest_55 : decode cX7_rest 55 = .ok (.ixor, 1) := dk_130 (dk_at dksX7_rest_2 7 rfl rfl)
theorem dX7_rest_56 : decode cX7_rest 56 = .ok (.putfield 339, 3) := dk_181 1 83 (dk_at dksX7_rest_2 8 rfl rfl)
theorem dX7_rest_59 : decode cX7_rest 59 = .ok (.iconst 1, 1) := dk_4 (dk_at dksX7_rest_2 11 rfl rfl)
theorem dX7_rest_60 : decode cX7_rest 60 = .ok (.ireturn, 1) := dk_172 (dk_at dksX7_rest_2 12 rfl rfl)
abbrev cX7_failing : ByteArray := prog_18_method_5_code
def yX7_failing : MethodName := ⟨RX7, "failing", "(I)Z"⟩
def dkwX7_failing_0 : List UInt8 := [42, 27, 181, 0, 150, 3, 172]
abbrev dktX7_failing_0 : List UInt8 := dkwX7_failing_0 ++ []
theorem dksX7_failing_0 : cX7_failing.data.toList.drop 0 = dktX7_failing_0 := by decide +kernel
theorem dX7_failing_0 : decode cX7_failing 0 = .ok (.aload_n 0, 1) := dk_42 (dk_at dksX7_failing_0 0 rfl rfl)
theorem dX7_failing_1 : decode cX7_failing 1 = .ok (.iload_n 1, 1) := dk_27 (dk_at dksX7_failing_0 1 rfl rfl)
theorem dX7_failing_2 : decode cX7_failing 2 = .ok (.putfield 150, 3) := dk_181 0 150 (dk_at dksX7_failing_0 2 rfl rfl)
theorem dX7_failing_5 : decode cX7_failing 5 = .ok (.iconst 0, 1) := dk_3 (dk_at dksX7_failing_0 5 rfl rfl)
theorem dX7_failing_6 : decode cX7_failing 6 = .ok (.ireturn, 1) := dk_172 (dk_at dksX7_failing_0 6 rfl rfl)
abbrev cX7_go : ByteArray := prog_18_method_70_code
def yX7_go : MethodName := ⟨RX7, "go", "(II)I"⟩
def dkwX7_go_2 : List UInt8 := [42, 180, 0, 77, 27, 46, 62, 42, 180, 0, 77, 27, 28, 79, 29, 172]
abbrev dktX7_go_2 : List UInt8 := dkwX7_go_2 ++ []
def dkwX7_go_1 : List UInt8 := [182, 1, 62, 172, 42, 180, 0, 77, 27, 46, 28, 160, 0, 9, 42, 4, 182, 1, 170, 172, 42, 182, 1, 173]
abbrev dktX7_go_1 : List UInt8 := dkwX7_go_1 ++ dktX7_go_2
def dkwX7_go_0 : List UInt8 := [42, 3, 181, 0, 150, 42, 27, 182, 1, 161, 153, 0, 11, 42, 28, 182, 1, 152, 154, 0, 9, 42, 4]
abbrev dktX7_go_0 : List UInt8 := dkwX7_go_0 ++ dktX7_go_1
theorem dksX7_go_0 : cX7_go.data.toList.drop 0 = dktX7_go_0 := by decide +kernel
theorem dksX7_go_1 : cX7_go.data.toList.drop 23 = dktX7_go_1 := dk_seg dksX7_go_0 23 rfl rfl
theorem dksX7_go_2 : cX7_go.data.toList.drop 47 = dktX7_go_2 := dk_seg dksX7_go_1 24 rfl rfl
theorem dX7_go_0 : decode cX7_go 0 = .ok (.aload_n 0, 1) := dk_42 (dk_at dksX7_go_0 0 rfl rfl)
theorem dX7_go_1 : decode cX7_go 1 = .ok (.iconst 0, 1) := dk_3 (dk_at dksX7_go_0 1 rfl rfl)
theorem dX7_go_2 : decode cX7_go 2 = .ok (.putfield 150, 3) := dk_181 0 150 (dk_at dksX7_go_0 2 rfl rfl)
theorem dX7_go_5 : decode cX7_go 5 = .ok (.aload_n 0, 1) := dk_42 (dk_at dksX7_go_0 5 rfl rfl)
theorem dX7_go_6 : decode cX7_go 6 = .ok (.iload_n 1, 1) := dk_27 (dk_at dksX7_go_0 6 rfl rfl)
theorem dX7_go_7 : decode cX7_go 7 = .ok (.invokevirtual 417, 3) := dk_182 1 161 (dk_at dksX7_go_0 7 rfl rfl)
theorem dX7_go_10 : decode cX7_go 10 = .ok (.ifCond .eq 11, 3) := dk_153 0 11 (dk_at dksX7_go_0 10 rfl rfl)
theorem dX7_go_13 : decode cX7_go 13 = .ok (.aload_n 0, 1) := dk_42 (dk_at dksX7_go_0 13 rfl rfl)
theorem dX7_go_14 : decode cX7_go 14 = .ok (.iload_n 2, 1) := dk_28 (dk_at dksX7_go_0 14 rfl rfl)
theorem dX7_go_15 : decode cX7_go 15 = .ok (.invokevirtual 408, 3) := dk_182 1 152 (dk_at dksX7_go_0 15 rfl rfl)
theorem dX7_go_18 : decode cX7_go 18 = .ok (.ifCond .ne 9, 3) := dk_154 0 9 (dk_at dksX7_go_0 18 rfl rfl)
theorem dX7_go_21 : decode cX7_go 21 = .ok (.aload_n 0, 1) := dk_42 (dk_at dksX7_go_0 21 rfl rfl)
theorem dX7_go_22 : decode cX7_go 22 = .ok (.iconst 1, 1) := dk_4 (dk_at dksX7_go_0 22 rfl rfl)
theorem dX7_go_23 : decode cX7_go 23 = .ok (.invokevirtual 318, 3) := dk_182 1 62 (dk_at dksX7_go_1 0 rfl rfl)
theorem dX7_go_26 : decode cX7_go 26 = .ok (.ireturn, 1) := dk_172 (dk_at dksX7_go_1 3 rfl rfl)
theorem dX7_go_27 : decode cX7_go 27 = .ok (.aload_n 0, 1) := dk_42 (dk_at dksX7_go_1 4 rfl rfl)
theorem dX7_go_28 : decode cX7_go 28 = .ok (.getfield 77, 3) := dk_180 0 77 (dk_at dksX7_go_1 5 rfl rfl)
theorem dX7_go_31 : decode cX7_go 31 = .ok (.iload_n 1, 1) := dk_27 (dk_at dksX7_go_1 8 rfl rfl)
theorem dX7_go_32 : decode cX7_go 32 = .ok (.iaload, 1) := dk_46 (dk_at dksX7_go_1 9 rfl rfl)
theorem dX7_go_33 : decode cX7_go 33 = .ok (.iload_n 2, 1) := dk_28 (dk_at dksX7_go_1 10 rfl rfl)
theorem dX7_go_34 : decode cX7_go 34 = .ok (.if_icmp .ne 9, 3) := dk_160 0 9 (dk_at dksX7_go_1 11 rfl rfl)
theorem dX7_go_37 : decode cX7_go 37 = .ok (.aload_n 0, 1) := dk_42 (dk_at dksX7_go_1 14 rfl rfl)
theorem dX7_go_38 : decode cX7_go 38 = .ok (.iconst 1, 1) := dk_4 (dk_at dksX7_go_1 15 rfl rfl)
theorem dX7_go_39 : decode cX7_go 39 = .ok (.invokevirtual 426, 3) := dk_182 1 170 (dk_at dksX7_go_1 16 rfl rfl)
theorem dX7_go_42 : decode cX7_go 42 = .ok (.ireturn, 1) := dk_172 (dk_at dksX7_go_1 19 rfl rfl)
theorem dX7_go_43 : decode cX7_go 43 = .ok (.aload_n 0, 1) := dk_42 (dk_at dksX7_go_1 20 rfl rfl)
theorem dX7_go_44 : decode cX7_go 44 = .ok (.invokevirtual 429, 3) := dk_182 1 173 (dk_at dksX7_go_1 21 rfl rfl)
theorem dX7_go_47 : decode cX7_go 47 = .ok (.aload_n 0, 1) := dk_42 (dk_at dksX7_go_2 0 rfl rfl)
theorem dX7_go_48 : decode cX7_go 48 = .ok (.getfield 77, 3) := dk_180 0 77 (dk_at dksX7_go_2 1 rfl rfl)
theorem dX7_go_51 : decode cX7_go 51 = .ok (.iload_n 1, 1) := dk_27 (dk_at dksX7_go_2 4 rfl rfl)
theorem dX7_go_52 : decode cX7_go 52 = .ok (.iaload, 1) := dk_46 (dk_at dksX7_go_2 5 rfl rfl)
theorem dX7_go_53 : decode cX7_go 53 = .ok (.istore_n 3, 1) := dk_62 (dk_at dksX7_go_2 6 rfl rfl)
theorem dX7_go_54 : decode cX7_go 54 = .ok (.aload_n 0, 1) := dk_42 (dk_at dksX7_go_2 7 rfl rfl)
theorem dX7_go_55 : decode cX7_go 55 = .ok (.getfield 77, 3) := dk_180 0 77 (dk_at dksX7_go_2 8 rfl rfl)
theorem dX7_go_58 : decode cX7_go 58 = .ok (.iload_n 1, 1) := dk_27 (dk_at dksX7_go_2 11 rfl rfl)
theorem dX7_go_59 : decode cX7_go 59 = .ok (.iload_n 2, 1) := dk_28 (dk_at dksX7_go_2 12 rfl rfl)
theorem dX7_go_60 : decode cX7_go 60 = .ok (.iastore, 1) := dk_79 (dk_at dksX7_go_2 13 rfl rfl)
theorem dX7_go_61 : decode cX7_go 61 = .ok (.iload_n 3, 1) := dk_29 (dk_at dksX7_go_2 14 rfl rfl)
theorem dX7_go_62 : decode cX7_go 62 = .ok (.ireturn, 1) := dk_172 (dk_at dksX7_go_2 15 rfl rfl)
abbrev cX7_bag : ByteArray := prog_18_method_71_code
def yX7_bag : MethodName := ⟨RX7, "bag", "(I)I"⟩
def dkwX7_bag_1 : List UInt8 := [182, 1, 173, 42, 16, 99, 42, 180, 0, 147, 27, 96, 184, 0, 191, 181, 0, 147, 42, 180, 0, 147, 172]
abbrev dktX7_bag_1 : List UInt8 := dkwX7_bag_1 ++ []
def dkwX7_bag_0 : List UInt8 := [42, 3, 181, 0, 150, 27, 133, 10, 20, 1, 182, 184, 0, 157, 154, 0, 9, 42, 4, 182, 1, 170, 172, 42]
abbrev dktX7_bag_0 : List UInt8 := dkwX7_bag_0 ++ dktX7_bag_1
theorem dksX7_bag_0 : cX7_bag.data.toList.drop 0 = dktX7_bag_0 := by decide +kernel
theorem dksX7_bag_1 : cX7_bag.data.toList.drop 24 = dktX7_bag_1 := dk_seg dksX7_bag_0 24 rfl rfl
theorem dX7_bag_0 : decode cX7_bag 0 = .ok (.aload_n 0, 1) := dk_42 (dk_at dksX7_bag_0 0 rfl rfl)
theorem dX7_bag_1 : decode cX7_bag 1 = .ok (.iconst 0, 1) := dk_3 (dk_at dksX7_bag_0 1 rfl rfl)
theorem dX7_bag_2 : decode cX7_bag 2 = .ok (.putfield 150, 3) := dk_181 0 150 (dk_at dksX7_bag_0 2 rfl rfl)
theorem dX7_bag_5 : decode cX7_bag 5 = .ok (.iload_n 1, 1) := dk_27 (dk_at dksX7_bag_0 5 rfl rfl)
theorem dX7_bag_6 : decode cX7_bag 6 = .ok (.i2l, 1) := dk_133 (dk_at dksX7_bag_0 6 rfl rfl)
theorem dX7_bag_7 : decode cX7_bag 7 = .ok (.lconst 1, 1) := dk_10 (dk_at dksX7_bag_0 7 rfl rfl)
theorem dX7_bag_8 : decode cX7_bag 8 = .ok (.ldc2_w 438, 3) := dk_20 1 182 (dk_at dksX7_bag_0 8 rfl rfl)
theorem dX7_bag_11 : decode cX7_bag 11 = .ok (.invokestatic 157, 3) := dk_184 0 157 (dk_at dksX7_bag_0 11 rfl rfl)
theorem dX7_bag_14 : decode cX7_bag 14 = .ok (.ifCond .ne 9, 3) := dk_154 0 9 (dk_at dksX7_bag_0 14 rfl rfl)
theorem dX7_bag_17 : decode cX7_bag 17 = .ok (.aload_n 0, 1) := dk_42 (dk_at dksX7_bag_0 17 rfl rfl)
theorem dX7_bag_18 : decode cX7_bag 18 = .ok (.iconst 1, 1) := dk_4 (dk_at dksX7_bag_0 18 rfl rfl)
theorem dX7_bag_19 : decode cX7_bag 19 = .ok (.invokevirtual 426, 3) := dk_182 1 170 (dk_at dksX7_bag_0 19 rfl rfl)
theorem dX7_bag_22 : decode cX7_bag 22 = .ok (.ireturn, 1) := dk_172 (dk_at dksX7_bag_0 22 rfl rfl)
theorem dX7_bag_23 : decode cX7_bag 23 = .ok (.aload_n 0, 1) := dk_42 (dk_at dksX7_bag_0 23 rfl rfl)
theorem dX7_bag_24 : decode cX7_bag 24 = .ok (.invokevirtual 429, 3) := dk_182 1 173 (dk_at dksX7_bag_1 0 rfl rfl)
theorem dX7_bag_27 : decode cX7_bag 27 = .ok (.aload_n 0, 1) := dk_42 (dk_at dksX7_bag_1 3 rfl rfl)
theorem dX7_bag_28 : decode cX7_bag 28 = .ok (.bipush 99, 2) := dk_16 99 (dk_at dksX7_bag_1 4 rfl rfl)
theorem dX7_bag_30 : decode cX7_bag 30 = .ok (.aload_n 0, 1) := dk_42 (dk_at dksX7_bag_1 6 rfl rfl)
theorem dX7_bag_31 : decode cX7_bag 31 = .ok (.getfield 147, 3) := dk_180 0 147 (dk_at dksX7_bag_1 7 rfl rfl)
theorem dX7_bag_34 : decode cX7_bag 34 = .ok (.iload_n 1, 1) := dk_27 (dk_at dksX7_bag_1 10 rfl rfl)
theorem dX7_bag_35 : decode cX7_bag 35 = .ok (.iadd, 1) := dk_96 (dk_at dksX7_bag_1 11 rfl rfl)
theorem dX7_bag_36 : decode cX7_bag 36 = .ok (.invokestatic 191, 3) := dk_184 0 191 (dk_at dksX7_bag_1 12 rfl rfl)
theorem dX7_bag_39 : decode cX7_bag 39 = .ok (.putfield 147, 3) := dk_181 0 147 (dk_at dksX7_bag_1 15 rfl rfl)
theorem dX7_bag_42 : decode cX7_bag 42 = .ok (.aload_n 0, 1) := dk_42 (dk_at dksX7_bag_1 18 rfl rfl)
theorem dX7_bag_43 : decode cX7_bag 43 = .ok (.getfield 147, 3) := dk_180 0 147 (dk_at dksX7_bag_1 19 rfl rfl)
theorem dX7_bag_46 : decode cX7_bag 46 = .ok (.ireturn, 1) := dk_172 (dk_at dksX7_bag_1 22 rfl rfl)
abbrev cX7_peg : ByteArray := prog_18_method_72_code
def yX7_peg : MethodName := ⟨RX7, "peg", "(IZ)I"⟩
def dkwX7_peg_3 : List UInt8 := [172]
abbrev dktX7_peg_3 : List UInt8 := dkwX7_peg_3 ++ []
def dkwX7_peg_2 : List UInt8 := [42, 89, 180, 1, 80, 4, 27, 120, 130, 181, 1, 80, 28, 153, 0, 10, 42, 180, 0, 75, 27, 3, 79, 29]
abbrev dktX7_peg_2 : List UInt8 := dkwX7_peg_2 ++ dktX7_peg_3
def dkwX7_peg_1 : List UInt8 := [184, 0, 232, 28, 160, 0, 9, 42, 4, 182, 1, 170, 172, 42, 182, 1, 173, 42, 180, 0, 75, 27, 46, 62]
abbrev dktX7_peg_1 : List UInt8 := dkwX7_peg_1 ++ dktX7_peg_2
def dkwX7_peg_0 : List UInt8 := [42, 3, 181, 0, 150, 42, 27, 182, 1, 152, 154, 0, 9, 42, 4, 182, 1, 62, 172, 42, 180, 1, 80, 27]
abbrev dktX7_peg_0 : List UInt8 := dkwX7_peg_0 ++ dktX7_peg_1
theorem dksX7_peg_0 : cX7_peg.data.toList.drop 0 = dktX7_peg_0 := by decide +kernel
theorem dksX7_peg_1 : cX7_peg.data.toList.drop 24 = dktX7_peg_1 := dk_seg dksX7_peg_0 24 rfl rfl
theorem dksX7_peg_2 : cX7_peg.data.toList.drop 48 = dktX7_peg_2 := dk_seg dksX7_peg_1 24 rfl rfl
theorem dksX7_peg_3 : cX7_peg.data.toList.drop 72 = dktX7_peg_3 := dk_seg dksX7_peg_2 24 rfl rfl
theorem dX7_peg_0 : decode cX7_peg 0 = .ok (.aload_n 0, 1) := dk_42 (dk_at dksX7_peg_0 0 rfl rfl)
theorem dX7_peg_1 : decode cX7_peg 1 = .ok (.iconst 0, 1) := dk_3 (dk_at dksX7_peg_0 1 rfl rfl)
theorem dX7_peg_2 : decode cX7_peg 2 = .ok (.putfield 150, 3) := dk_181 0 150 (dk_at dksX7_peg_0 2 rfl rfl)
theorem dX7_peg_5 : decode cX7_peg 5 = .ok (.aload_n 0, 1) := dk_42 (dk_at dksX7_peg_0 5 rfl rfl)
theorem dX7_peg_6 : decode cX7_peg 6 = .ok (.iload_n 1, 1) := dk_27 (dk_at dksX7_peg_0 6 rfl rfl)
theorem dX7_peg_7 : decode cX7_peg 7 = .ok (.invokevirtual 408, 3) := dk_182 1 152 (dk_at dksX7_peg_0 7 rfl rfl)
theorem dX7_peg_10 : decode cX7_peg 10 = .ok (.ifCond .ne 9, 3) := dk_154 0 9 (dk_at dksX7_peg_0 10 rfl rfl)
theorem dX7_peg_13 : decode cX7_peg 13 = .ok (.aload_n 0, 1) := dk_42 (dk_at dksX7_peg_0 13 rfl rfl)
theorem dX7_peg_14 : decode cX7_peg 14 = .ok (.iconst 1, 1) := dk_4 (dk_at dksX7_peg_0 14 rfl rfl)
theorem dX7_peg_15 : decode cX7_peg 15 = .ok (.invokevirtual 318, 3) := dk_182 1 62 (dk_at dksX7_peg_0 15 rfl rfl)
theorem dX7_peg_18 : decode cX7_peg 18 = .ok (.ireturn, 1) := dk_172 (dk_at dksX7_peg_0 18 rfl rfl)
theorem dX7_peg_19 : decode cX7_peg 19 = .ok (.aload_n 0, 1) := dk_42 (dk_at dksX7_peg_0 19 rfl rfl)
theorem dX7_peg_20 : decode cX7_peg 20 = .ok (.getfield 336, 3) := dk_180 1 80 (dk_at dksX7_peg_0 20 rfl rfl)
theorem dX7_peg_23 : decode cX7_peg 23 = .ok (.iload_n 1, 1) := dk_27 (dk_at dksX7_peg_0 23 rfl rfl)
theorem dX7_peg_24 : decode cX7_peg 24 = .ok (.invokestatic 232, 3) := dk_184 0 232 (dk_at dksX7_peg_1 0 rfl rfl)
theorem dX7_peg_27 : decode cX7_peg 27 = .ok (.iload_n 2, 1) := dk_28 (dk_at dksX7_peg_1 3 rfl rfl)
theorem dX7_peg_28 : decode cX7_peg 28 = .ok (.if_icmp .ne 9, 3) := dk_160 0 9 (dk_at dksX7_peg_1 4 rfl rfl)
theorem dX7_peg_31 : decode cX7_peg 31 = .ok (.aload_n 0, 1) := dk_42 (dk_at dksX7_peg_1 7 rfl rfl)
theorem dX7_peg_32 : decode cX7_peg 32 = .ok (.iconst 1, 1) := dk_4 (dk_at dksX7_peg_1 8 rfl rfl)
theorem dX7_peg_33 : decode cX7_peg 33 = .ok (.invokevirtual 426, 3) := dk_182 1 170 (dk_at dksX7_peg_1 9 rfl rfl)
theorem dX7_peg_36 : decode cX7_peg 36 = .ok (.ireturn, 1) := dk_172 (dk_at dksX7_peg_1 12 rfl rfl)
theorem dX7_peg_37 : decode cX7_peg 37 = .ok (.aload_n 0, 1) := dk_42 (dk_at dksX7_peg_1 13 rfl rfl)
theorem dX7_peg_38 : decode cX7_peg 38 = .ok (.invokevirtual 429, 3) := dk_182 1 173 (dk_at dksX7_peg_1 14 rfl rfl)
theorem dX7_peg_41 : decode cX7_peg 41 = .ok (.aload_n 0, 1) := dk_42 (dk_at dksX7_peg_1 17 rfl rfl)
theorem dX7_peg_42 : decode cX7_peg 42 = .ok (.getfield 75, 3) := dk_180 0 75 (dk_at dksX7_peg_1 18 rfl rfl)
theorem dX7_peg_45 : decode cX7_peg 45 = .ok (.iload_n 1, 1) := dk_27 (dk_at dksX7_peg_1 21 rfl rfl)
theorem dX7_peg_46 : decode cX7_peg 46 = .ok (.iaload, 1) := dk_46 (dk_at dksX7_peg_1 22 rfl rfl)
theorem dX7_peg_47 : decode cX7_peg 47 = .ok (.istore_n 3, 1) := dk_62 (dk_at dksX7_peg_1 23 rfl rfl)
theorem dX7_peg_48 : decode cX7_peg 48 = .ok (.aload_n 0, 1) := dk_42 (dk_at dksX7_peg_2 0 rfl rfl)
theorem dX7_peg_49 : decode cX7_peg 49 = .ok (.dup, 1) := dk_89 (dk_at dksX7_peg_2 1 rfl rfl)
theorem dX7_peg_50 : decode cX7_peg 50 = .ok (.getfield 336, 3) := dk_180 1 80 (dk_at dksX7_peg_2 2 rfl rfl)
theorem dX7_peg_53 : decode cX7_peg 53 = .ok (.iconst 1, 1) := dk_4 (dk_at dksX7_peg_2 5 rfl rfl)
theorem dX7_peg_54 : decode cX7_peg 54 = .ok (.iload_n 1, 1) := dk_27 (dk_at dksX7_peg_2 6 rfl rfl)
theorem dX7_peg_55 : decode cX7_peg 55 = .ok (.ishl, 1) := dk_120 (dk_at dksX7_peg_2 7 rfl rfl)
theorem dX7_peg_56 : decode cX7_peg 56 = .ok (.ixor, 1) := dk_130 (dk_at dksX7_peg_2 8 rfl rfl)
theorem dX7_peg_57 : decode cX7_peg 57 = .ok (.putfield 336, 3) := dk_181 1 80 (dk_at dksX7_peg_2 9 rfl rfl)
theorem dX7_peg_60 : decode cX7_peg 60 = .ok (.iload_n 2, 1) := dk_28 (dk_at dksX7_peg_2 12 rfl rfl)
theorem dX7_peg_61 : decode cX7_peg 61 = .ok (.ifCond .eq 10, 3) := dk_153 0 10 (dk_at dksX7_peg_2 13 rfl rfl)
theorem dX7_peg_64 : decode cX7_peg 64 = .ok (.aload_n 0, 1) := dk_42 (dk_at dksX7_peg_2 16 rfl rfl)
theorem dX7_peg_65 : decode cX7_peg 65 = .ok (.getfield 75, 3) := dk_180 0 75 (dk_at dksX7_peg_2 17 rfl rfl)
theorem dX7_peg_68 : decode cX7_peg 68 = .ok (.iload_n 1, 1) := dk_27 (dk_at dksX7_peg_2 20 rfl rfl)
theorem dX7_peg_69 : decode cX7_peg 69 = .ok (.iconst 0, 1) := dk_3 (dk_at dksX7_peg_2 21 rfl rfl)
theorem dX7_peg_70 : decode cX7_peg 70 = .ok (.iastore, 1) := dk_79 (dk_at dksX7_peg_2 22 rfl rfl)
theorem dX7_peg_71 : decode cX7_peg 71 = .ok (.iload_n 3, 1) := dk_29 (dk_at dksX7_peg_2 23 rfl rfl)
theorem dX7_peg_72 : decode cX7_peg 72 = .ok (.ireturn, 1) := dk_172 (dk_at dksX7_peg_3 0 rfl rfl)
abbrev cX7_undo : ByteArray := prog_18_method_73_code
def yX7_undo : MethodName := ⟨RX7, "undo", "()I"⟩
def dkwX7_undo_1 : List UInt8 := [42, 42, 180, 0, 80, 16, 41, 42, 180, 1, 86, 104, 182, 1, 184, 42, 180, 1, 86, 172]
abbrev dktX7_undo_1 : List UInt8 := dkwX7_undo_1 ++ []
def dkwX7_undo_0 : List UInt8 := [42, 3, 181, 0, 150, 42, 180, 1, 86, 154, 0, 5, 2, 172, 42, 89, 180, 1, 86, 4, 100, 181, 1, 86]
abbrev dktX7_undo_0 : List UInt8 := dkwX7_undo_0 ++ dktX7_undo_1
theorem dksX7_undo_0 : cX7_undo.data.toList.drop 0 = dktX7_undo_0 := by decide +kernel
theorem dksX7_undo_1 : cX7_undo.data.toList.drop 24 = dktX7_undo_1 := dk_seg dksX7_undo_0 24 rfl rfl
theorem dX7_undo_0 : decode cX7_undo 0 = .ok (.aload_n 0, 1) := dk_42 (dk_at dksX7_undo_0 0 rfl rfl)
theorem dX7_undo_1 : decode cX7_undo 1 = .ok (.iconst 0, 1) := dk_3 (dk_at dksX7_undo_0 1 rfl rfl)
theorem dX7_undo_2 : decode cX7_undo 2 = .ok (.putfield 150, 3) := dk_181 0 150 (dk_at dksX7_undo_0 2 rfl rfl)
theorem dX7_undo_5 : decode cX7_undo 5 = .ok (.aload_n 0, 1) := dk_42 (dk_at dksX7_undo_0 5 rfl rfl)
theorem dX7_undo_6 : decode cX7_undo 6 = .ok (.getfield 342, 3) := dk_180 1 86 (dk_at dksX7_undo_0 6 rfl rfl)
theorem dX7_undo_9 : decode cX7_undo 9 = .ok (.ifCond .ne 5, 3) := dk_154 0 5 (dk_at dksX7_undo_0 9 rfl rfl)
theorem dX7_undo_12 : decode cX7_undo 12 = .ok (.iconst (-1), 1) := dk_2 (dk_at dksX7_undo_0 12 rfl rfl)
theorem dX7_undo_13 : decode cX7_undo 13 = .ok (.ireturn, 1) := dk_172 (dk_at dksX7_undo_0 13 rfl rfl)
theorem dX7_undo_14 : decode cX7_undo 14 = .ok (.aload_n 0, 1) := dk_42 (dk_at dksX7_undo_0 14 rfl rfl)
theorem dX7_undo_15 : decode cX7_undo 15 = .ok (.dup, 1) := dk_89 (dk_at dksX7_undo_0 15 rfl rfl)
theorem dX7_undo_16 : decode cX7_undo 16 = .ok (.getfield 342, 3) := dk_180 1 86 (dk_at dksX7_undo_0 16 rfl rfl)
theorem dX7_undo_19 : decode cX7_undo 19 = .ok (.iconst 1, 1) := dk_4 (dk_at dksX7_undo_0 19 rfl rfl)
theorem dX7_undo_20 : decode cX7_undo 20 = .ok (.isub, 1) := dk_100 (dk_at dksX7_undo_0 20 rfl rfl)
theorem dX7_undo_21 : decode cX7_undo 21 = .ok (.putfield 342, 3) := dk_181 1 86 (dk_at dksX7_undo_0 21 rfl rfl)
theorem dX7_undo_24 : decode cX7_undo 24 = .ok (.aload_n 0, 1) := dk_42 (dk_at dksX7_undo_1 0 rfl rfl)
theorem dX7_undo_25 : decode cX7_undo 25 = .ok (.aload_n 0, 1) := dk_42 (dk_at dksX7_undo_1 1 rfl rfl)
theorem dX7_undo_26 : decode cX7_undo 26 = .ok (.getfield 80, 3) := dk_180 0 80 (dk_at dksX7_undo_1 2 rfl rfl)
theorem dX7_undo_29 : decode cX7_undo 29 = .ok (.bipush 41, 2) := dk_16 41 (dk_at dksX7_undo_1 5 rfl rfl)
theorem dX7_undo_31 : decode cX7_undo 31 = .ok (.aload_n 0, 1) := dk_42 (dk_at dksX7_undo_1 7 rfl rfl)
theorem dX7_undo_32 : decode cX7_undo 32 = .ok (.getfield 342, 3) := dk_180 1 86 (dk_at dksX7_undo_1 8 rfl rfl)
theorem dX7_undo_35 : decode cX7_undo 35 = .ok (.imul, 1) := dk_104 (dk_at dksX7_undo_1 11 rfl rfl)
theorem dX7_undo_36 : decode cX7_undo 36 = .ok (.invokevirtual 440, 3) := dk_182 1 184 (dk_at dksX7_undo_1 12 rfl rfl)
theorem dX7_undo_39 : decode cX7_undo 39 = .ok (.aload_n 0, 1) := dk_42 (dk_at dksX7_undo_1 15 rfl rfl)
theorem dX7_undo_40 : decode cX7_undo 40 = .ok (.getfield 342, 3) := dk_180 1 86 (dk_at dksX7_undo_1 16 rfl rfl)
theorem dX7_undo_43 : decode cX7_undo 43 = .ok (.ireturn, 1) := dk_172 (dk_at dksX7_undo_1 19 rfl rfl)
abbrev cX7_unpack : ByteArray := prog_18_method_45_code
def yX7_unpack : MethodName := ⟨RX7, "unpack", "([II)V"⟩
def dkwX7_unpack_4 : List UInt8 := [132, 3, 1, 167, 255, 231, 177]
abbrev dktX7_unpack_4 : List UInt8 := dkwX7_unpack_4 ++ []
def dkwX7_unpack_3 : List UInt8 := [3, 62, 29, 16, 6, 162, 0, 25, 42, 180, 0, 77, 29, 43, 28, 8, 96, 16, 30, 96, 29, 96, 46, 79]
abbrev dktX7_unpack_3 : List UInt8 := dkwX7_unpack_3 ++ dktX7_unpack_4
def dkwX7_unpack_2 : List UInt8 := [16, 30, 162, 0, 22, 42, 180, 0, 75, 29, 43, 28, 8, 96, 29, 96, 46, 79, 132, 3, 1, 167, 255, 234]
abbrev dktX7_unpack_2 : List UInt8 := dkwX7_unpack_2 ++ dktX7_unpack_3
def dkwX7_unpack_1 : List UInt8 := [181, 1, 77, 42, 43, 28, 6, 96, 46, 181, 1, 80, 42, 43, 28, 7, 96, 46, 181, 1, 83, 3, 62, 29]
abbrev dktX7_unpack_1 : List UInt8 := dkwX7_unpack_1 ++ dktX7_unpack_2
def dkwX7_unpack_0 : List UInt8 := [42, 43, 28, 46, 181, 1, 75, 42, 43, 28, 4, 96, 46, 181, 0, 147, 42, 43, 28, 5, 96, 46]
abbrev dktX7_unpack_0 : List UInt8 := dkwX7_unpack_0 ++ dktX7_unpack_1
theorem dksX7_unpack_0 : cX7_unpack.data.toList.drop 0 = dktX7_unpack_0 := by decide +kernel
theorem dksX7_unpack_1 : cX7_unpack.data.toList.drop 22 = dktX7_unpack_1 := dk_seg dksX7_unpack_0 22 rfl rfl
theorem dksX7_unpack_2 : cX7_unpack.data.toList.drop 46 = dktX7_unpack_2 := dk_seg dksX7_unpack_1 24 rfl rfl
theorem dksX7_unpack_3 : cX7_unpack.data.toList.drop 70 = dktX7_unpack_3 := dk_seg dksX7_unpack_2 24 rfl rfl
theorem dksX7_unpack_4 : cX7_unpack.data.toList.drop 94 = dktX7_unpack_4 := dk_seg dksX7_unpack_3 24 rfl rfl
theorem dX7_unpack_0 : decode cX7_unpack 0 = .ok (.aload_n 0, 1) := dk_42 (dk_at dksX7_unpack_0 0 rfl rfl)
theorem dX7_unpack_1 : decode cX7_unpack 1 = .ok (.aload_n 1, 1) := dk_43 (dk_at dksX7_unpack_0 1 rfl rfl)
theorem dX7_unpack_2 : decode cX7_unpack 2 = .ok (.iload_n 2, 1) := dk_28 (dk_at dksX7_unpack_0 2 rfl rfl)
theorem dX7_unpack_3 : decode cX7_unpack 3 = .ok (.iaload, 1) := dk_46 (dk_at dksX7_unpack_0 3 rfl rfl)
theorem dX7_unpack_4 : decode cX7_unpack 4 = .ok (.putfield 331, 3) := dk_181 1 75 (dk_at dksX7_unpack_0 4 rfl rfl)
theorem dX7_unpack_7 : decode cX7_unpack 7 = .ok (.aload_n 0, 1) := dk_42 (dk_at dksX7_unpack_0 7 rfl rfl)
theorem dX7_unpack_8 : decode cX7_unpack 8 = .ok (.aload_n 1, 1) := dk_43 (dk_at dksX7_unpack_0 8 rfl rfl)
theorem dX7_unpack_9 : decode cX7_unpack 9 = .ok (.iload_n 2, 1) := dk_28 (dk_at dksX7_unpack_0 9 rfl rfl)
theorem dX7_unpack_10 : decode cX7_unpack 10 = .ok (.iconst 1, 1) := dk_4 (dk_at dksX7_unpack_0 10 rfl rfl)
theorem dX7_unpack_11 : decode cX7_unpack 11 = .ok (.iadd, 1) := dk_96 (dk_at dksX7_unpack_0 11 rfl rfl)
theorem dX7_unpack_12 : decode cX7_unpack 12 = .ok (.iaload, 1) := dk_46 (dk_at dksX7_unpack_0 12 rfl rfl)
theorem dX7_unpack_13 : decode cX7_unpack 13 = .ok (.putfield 147, 3) := dk_181 0 147 (dk_at dksX7_unpack_0 13 rfl rfl)
theorem dX7_unpack_16 : decode cX7_unpack 16 = .ok (.aload_n 0, 1) := dk_42 (dk_at dksX7_unpack_0 16 rfl rfl)
theorem dX7_unpack_17 : decode cX7_unpack 17 = .ok (.aload_n 1, 1) := dk_43 (dk_at dksX7_unpack_0 17 rfl rfl)
theorem dX7_unpack_18 : decode cX7_unpack 18 = .ok (.iload_n 2, 1) := dk_28 (dk_at dksX7_unpack_0 18 rfl rfl)
theorem dX7_unpack_19 : decode cX7_unpack 19 = .ok (.iconst 2, 1) := dk_5 (dk_at dksX7_unpack_0 19 rfl rfl)
theorem dX7_unpack_20 : decode cX7_unpack 20 = .ok (.iadd, 1) := dk_96 (dk_at dksX7_unpack_0 20 rfl rfl)
theorem dX7_unpack_21 : decode cX7_unpack 21 = .ok (.iaload, 1) := dk_46 (dk_at dksX7_unpack_0 21 rfl rfl)
theorem dX7_unpack_22 : decode cX7_unpack 22 = .ok (.putfield 333, 3) := dk_181 1 77 (dk_at dksX7_unpack_1 0 rfl rfl)
theorem dX7_unpack_25 : decode cX7_unpack 25 = .ok (.aload_n 0, 1) := dk_42 (dk_at dksX7_unpack_1 3 rfl rfl)
theorem dX7_unpack_26 : decode cX7_unpack 26 = .ok (.aload_n 1, 1) := dk_43 (dk_at dksX7_unpack_1 4 rfl rfl)
theorem dX7_unpack_27 : decode cX7_unpack 27 = .ok (.iload_n 2, 1) := dk_28 (dk_at dksX7_unpack_1 5 rfl rfl)
theorem dX7_unpack_28 : decode cX7_unpack 28 = .ok (.iconst 3, 1) := dk_6 (dk_at dksX7_unpack_1 6 rfl rfl)
theorem dX7_unpack_29 : decode cX7_unpack 29 = .ok (.iadd, 1) := dk_96 (dk_at dksX7_unpack_1 7 rfl rfl)
theorem dX7_unpack_30 : decode cX7_unpack 30 = .ok (.iaload, 1) := dk_46 (dk_at dksX7_unpack_1 8 rfl rfl)
theorem dX7_unpack_31 : decode cX7_unpack 31 = .ok (.putfield 336, 3) := dk_181 1 80 (dk_at dksX7_unpack_1 9 rfl rfl)
theorem dX7_unpack_34 : decode cX7_unpack 34 = .ok (.aload_n 0, 1) := dk_42 (dk_at dksX7_unpack_1 12 rfl rfl)
theorem dX7_unpack_35 : decode cX7_unpack 35 = .ok (.aload_n 1, 1) := dk_43 (dk_at dksX7_unpack_1 13 rfl rfl)
theorem dX7_unpack_36 : decode cX7_unpack 36 = .ok (.iload_n 2, 1) := dk_28 (dk_at dksX7_unpack_1 14 rfl rfl)
theorem dX7_unpack_37 : decode cX7_unpack 37 = .ok (.iconst 4, 1) := dk_7 (dk_at dksX7_unpack_1 15 rfl rfl)
theorem dX7_unpack_38 : decode cX7_unpack 38 = .ok (.iadd, 1) := dk_96 (dk_at dksX7_unpack_1 16 rfl rfl)
theorem dX7_unpack_39 : decode cX7_unpack 39 = .ok (.iaload, 1) := dk_46 (dk_at dksX7_unpack_1 17 rfl rfl)
theorem dX7_unpack_40 : decode cX7_unpack 40 = .ok (.putfield 339, 3) := dk_181 1 83 (dk_at dksX7_unpack_1 18 rfl rfl)
theorem dX7_unpack_43 : decode cX7_unpack 43 = .ok (.iconst 0, 1) := dk_3 (dk_at dksX7_unpack_1 21 rfl rfl)
theorem dX7_unpack_44 : decode cX7_unpack 44 = .ok (.istore_n 3, 1) := dk_62 (dk_at dksX7_unpack_1 22 rfl rfl)
theorem dX7_unpack_45 : decode cX7_unpack 45 = .ok (.iload_n 3, 1) := dk_29 (dk_at dksX7_unpack_1 23 rfl rfl)
theorem dX7_unpack_46 : decode cX7_unpack 46 = .ok (.bipush 30, 2) := dk_16 30 (dk_at dksX7_unpack_2 0 rfl rfl)
theorem dX7_unpack_48 : decode cX7_unpack 48 = .ok (.if_icmp .ge 22, 3) := dk_162 0 22 (dk_at dksX7_unpack_2 2 rfl rfl)
theorem dX7_unpack_51 : decode cX7_unpack 51 = .ok (.aload_n 0, 1) := dk_42 (dk_at dksX7_unpack_2 5 rfl rfl)
theorem dX7_unpack_52 : decode cX7_unpack 52 = .ok (.getfield 75, 3) := dk_180 0 75 (dk_at dksX7_unpack_2 6 rfl rfl)
theorem dX7_unpack_55 : decode cX7_unpack 55 = .ok (.iload_n 3, 1) := dk_29 (dk_at dksX7_unpack_2 9 rfl rfl)
theorem dX7_unpack_56 : decode cX7_unpack 56 = .ok (.aload_n 1, 1) := dk_43 (dk_at dksX7_unpack_2 10 rfl rfl)
theorem dX7_unpack_57 : decode cX7_unpack 57 = .ok (.iload_n 2, 1) := dk_28 (dk_at dksX7_unpack_2 11 rfl rfl)
theorem dX7_unpack_58 : decode cX7_unpack 58 = .ok (.iconst 5, 1) := dk_8 (dk_at dksX7_unpack_2 12 rfl rfl)
theorem dX7_unpack_59 : decode cX7_unpack 59 = .ok (.iadd, 1) := dk_96 (dk_at dksX7_unpack_2 13 rfl rfl)
theorem dX7_unpack_60 : decode cX7_unpack 60 = .ok (.iload_n 3, 1) := dk_29 (dk_at dksX7_unpack_2 14 rfl rfl)
theorem dX7_unpack_61 : decode cX7_unpack 61 = .ok (.iadd, 1) := dk_96 (dk_at dksX7_unpack_2 15 rfl rfl)
theorem dX7_unpack_62 : decode cX7_unpack 62 = .ok (.iaload, 1) := dk_46 (dk_at dksX7_unpack_2 16 rfl rfl)
theorem dX7_unpack_63 : decode cX7_unpack 63 = .ok (.iastore, 1) := dk_79 (dk_at dksX7_unpack_2 17 rfl rfl)
theorem dX7_unpack_64 : decode cX7_unpack 64 = .ok (.iinc 3 1, 3) := dk_132 3 1 (dk_at dksX7_unpack_2 18 rfl rfl)
theorem dX7_unpack_67 : decode cX7_unpack 67 = .ok (.goto (-22), 3) := dk_167 255 234 (dk_at dksX7_unpack_2 21 rfl rfl)
theorem dX7_unpack_70 : decode cX7_unpack 70 = .ok (.iconst 0, 1) := dk_3 (dk_at dksX7_unpack_3 0 rfl rfl)
theorem dX7_unpack_71 : decode cX7_unpack 71 = .ok (.istore_n 3, 1) := dk_62 (dk_at dksX7_unpack_3 1 rfl rfl)
theorem dX7_unpack_72 : decode cX7_unpack 72 = .ok (.iload_n 3, 1) := dk_29 (dk_at dksX7_unpack_3 2 rfl rfl)
theorem dX7_unpack_73 : decode cX7_unpack 73 = .ok (.bipush 6, 2) := dk_16 6 (dk_at dksX7_unpack_3 3 rfl rfl)
theorem dX7_unpack_75 : decode cX7_unpack 75 = .ok (.if_icmp .ge 25, 3) := dk_162 0 25 (dk_at dksX7_unpack_3 5 rfl rfl)
theorem dX7_unpack_78 : decode cX7_unpack 78 = .ok (.aload_n 0, 1) := dk_42 (dk_at dksX7_unpack_3 8 rfl rfl)
theorem dX7_unpack_79 : decode cX7_unpack 79 = .ok (.getfield 77, 3) := dk_180 0 77 (dk_at dksX7_unpack_3 9 rfl rfl)
theorem dX7_unpack_82 : decode cX7_unpack 82 = .ok (.iload_n 3, 1) := dk_29 (dk_at dksX7_unpack_3 12 rfl rfl)
theorem dX7_unpack_83 : decode cX7_unpack 83 = .ok (.aload_n 1, 1) := dk_43 (dk_at dksX7_unpack_3 13 rfl rfl)
theorem dX7_unpack_84 : decode cX7_unpack 84 = .ok (.iload_n 2, 1) := dk_28 (dk_at dksX7_unpack_3 14 rfl rfl)
theorem dX7_unpack_85 : decode cX7_unpack 85 = .ok (.iconst 5, 1) := dk_8 (dk_at dksX7_unpack_3 15 rfl rfl)
theorem dX7_unpack_86 : decode cX7_unpack 86 = .ok (.iadd, 1) := dk_96 (dk_at dksX7_unpack_3 16 rfl rfl)
theorem dX7_unpack_87 : decode cX7_unpack 87 = .ok (.bipush 30, 2) := dk_16 30 (dk_at dksX7_unpack_3 17 rfl rfl)
theorem dX7_unpack_89 : decode cX7_unpack 89 = .ok (.iadd, 1) := dk_96 (dk_at dksX7_unpack_3 19 rfl rfl)
theorem dX7_unpack_90 : decode cX7_unpack 90 = .ok (.iload_n 3, 1) := dk_29 (dk_at dksX7_unpack_3 20 rfl rfl)
theorem dX7_unpack_91 : decode cX7_unpack 91 = .ok (.iadd, 1) := dk_96 (dk_at dksX7_unpack_3 21 rfl rfl)
theorem dX7_unpack_92 : decode cX7_unpack 92 = .ok (.iaload, 1) := dk_46 (dk_at dksX7_unpack_3 22 rfl rfl)
theorem dX7_unpack_93 : decode cX7_unpack 93 = .ok (.iastore, 1) := dk_79 (dk_at dksX7_unpack_3 23 rfl rfl)
theorem dX7_unpack_94 : decode cX7_unpack 94 = .ok (.iinc 3 1, 3) := dk_132 3 1 (dk_at dksX7_unpack_4 0 rfl rfl)
theorem dX7_unpack_97 : decode cX7_unpack 97 = .ok (.goto (-25), 3) := dk_167 255 231 (dk_at dksX7_unpack_4 3 rfl rfl)
theorem dX7_unpack_100 : decode cX7_unpack 100 = .ok (.return_, 1) := dk_177 (dk_at dksX7_unpack_4 6 rfl rfl)
abbrev cX7_then : ByteArray := prog_18_method_74_code
def yX7_then : MethodName := ⟨RX7, "then", "(II)I"⟩
def dkwX7_then_2 : List UInt8 := [42, 28, 182, 1, 176, 42, 180, 0, 75, 27, 46, 62, 42, 42, 180, 0, 92, 3, 182, 1, 184, 29, 172]
abbrev dktX7_then_2 : List UInt8 := dkwX7_then_2 ++ []
def dkwX7_then_1 : List UInt8 := [20, 1, 187, 184, 0, 157, 154, 0, 9, 42, 5, 182, 1, 62, 172, 42, 42, 180, 0, 92, 3, 182, 1, 164]
abbrev dktX7_then_1 : List UInt8 := dkwX7_then_1 ++ dktX7_then_2
def dkwX7_then_0 : List UInt8 := [42, 3, 181, 0, 150, 42, 27, 182, 1, 152, 154, 0, 9, 42, 4, 182, 1, 62, 172, 28, 133, 9]
abbrev dktX7_then_0 : List UInt8 := dkwX7_then_0 ++ dktX7_then_1
theorem dksX7_then_0 : cX7_then.data.toList.drop 0 = dktX7_then_0 := by decide +kernel
theorem dksX7_then_1 : cX7_then.data.toList.drop 22 = dktX7_then_1 := dk_seg dksX7_then_0 22 rfl rfl
theorem dksX7_then_2 : cX7_then.data.toList.drop 46 = dktX7_then_2 := dk_seg dksX7_then_1 24 rfl rfl
theorem dX7_then_0 : decode cX7_then 0 = .ok (.aload_n 0, 1) := dk_42 (dk_at dksX7_then_0 0 rfl rfl)
theorem dX7_then_1 : decode cX7_then 1 = .ok (.iconst 0, 1) := dk_3 (dk_at dksX7_then_0 1 rfl rfl)
theorem dX7_then_2 : decode cX7_then 2 = .ok (.putfield 150, 3) := dk_181 0 150 (dk_at dksX7_then_0 2 rfl rfl)
theorem dX7_then_5 : decode cX7_then 5 = .ok (.aload_n 0, 1) := dk_42 (dk_at dksX7_then_0 5 rfl rfl)
theorem dX7_then_6 : decode cX7_then 6 = .ok (.iload_n 1, 1) := dk_27 (dk_at dksX7_then_0 6 rfl rfl)
theorem dX7_then_7 : decode cX7_then 7 = .ok (.invokevirtual 408, 3) := dk_182 1 152 (dk_at dksX7_then_0 7 rfl rfl)
theorem dX7_then_10 : decode cX7_then 10 = .ok (.ifCond .ne 9, 3) := dk_154 0 9 (dk_at dksX7_then_0 10 rfl rfl)
theorem dX7_then_13 : decode cX7_then 13 = .ok (.aload_n 0, 1) := dk_42 (dk_at dksX7_then_0 13 rfl rfl)
theorem dX7_then_14 : decode cX7_then 14 = .ok (.iconst 1, 1) := dk_4 (dk_at dksX7_then_0 14 rfl rfl)
theorem dX7_then_15 : decode cX7_then 15 = .ok (.invokevirtual 318, 3) := dk_182 1 62 (dk_at dksX7_then_0 15 rfl rfl)
theorem dX7_then_18 : decode cX7_then 18 = .ok (.ireturn, 1) := dk_172 (dk_at dksX7_then_0 18 rfl rfl)
theorem dX7_then_19 : decode cX7_then 19 = .ok (.iload_n 2, 1) := dk_28 (dk_at dksX7_then_0 19 rfl rfl)
theorem dX7_then_20 : decode cX7_then 20 = .ok (.i2l, 1) := dk_133 (dk_at dksX7_then_0 20 rfl rfl)
theorem dX7_then_21 : decode cX7_then 21 = .ok (.lconst 0, 1) := dk_9 (dk_at dksX7_then_0 21 rfl rfl)
theorem dX7_then_22 : decode cX7_then 22 = .ok (.ldc2_w 443, 3) := dk_20 1 187 (dk_at dksX7_then_1 0 rfl rfl)
theorem dX7_then_25 : decode cX7_then 25 = .ok (.invokestatic 157, 3) := dk_184 0 157 (dk_at dksX7_then_1 3 rfl rfl)
theorem dX7_then_28 : decode cX7_then 28 = .ok (.ifCond .ne 9, 3) := dk_154 0 9 (dk_at dksX7_then_1 6 rfl rfl)
theorem dX7_then_31 : decode cX7_then 31 = .ok (.aload_n 0, 1) := dk_42 (dk_at dksX7_then_1 9 rfl rfl)
theorem dX7_then_32 : decode cX7_then 32 = .ok (.iconst 2, 1) := dk_5 (dk_at dksX7_then_1 10 rfl rfl)
theorem dX7_then_33 : decode cX7_then 33 = .ok (.invokevirtual 318, 3) := dk_182 1 62 (dk_at dksX7_then_1 11 rfl rfl)
theorem dX7_then_36 : decode cX7_then 36 = .ok (.ireturn, 1) := dk_172 (dk_at dksX7_then_1 14 rfl rfl)
theorem dX7_then_37 : decode cX7_then 37 = .ok (.aload_n 0, 1) := dk_42 (dk_at dksX7_then_1 15 rfl rfl)
theorem dX7_then_38 : decode cX7_then 38 = .ok (.aload_n 0, 1) := dk_42 (dk_at dksX7_then_1 16 rfl rfl)
theorem dX7_then_39 : decode cX7_then 39 = .ok (.getfield 92, 3) := dk_180 0 92 (dk_at dksX7_then_1 17 rfl rfl)
theorem dX7_then_42 : decode cX7_then 42 = .ok (.iconst 0, 1) := dk_3 (dk_at dksX7_then_1 20 rfl rfl)
theorem dX7_then_43 : decode cX7_then 43 = .ok (.invokevirtual 420, 3) := dk_182 1 164 (dk_at dksX7_then_1 21 rfl rfl)
theorem dX7_then_46 : decode cX7_then 46 = .ok (.aload_n 0, 1) := dk_42 (dk_at dksX7_then_2 0 rfl rfl)
theorem dX7_then_47 : decode cX7_then 47 = .ok (.iload_n 2, 1) := dk_28 (dk_at dksX7_then_2 1 rfl rfl)
theorem dX7_then_48 : decode cX7_then 48 = .ok (.invokevirtual 432, 3) := dk_182 1 176 (dk_at dksX7_then_2 2 rfl rfl)
theorem dX7_then_51 : decode cX7_then 51 = .ok (.aload_n 0, 1) := dk_42 (dk_at dksX7_then_2 5 rfl rfl)
theorem dX7_then_52 : decode cX7_then 52 = .ok (.getfield 75, 3) := dk_180 0 75 (dk_at dksX7_then_2 6 rfl rfl)
theorem dX7_then_55 : decode cX7_then 55 = .ok (.iload_n 1, 1) := dk_27 (dk_at dksX7_then_2 9 rfl rfl)
theorem dX7_then_56 : decode cX7_then 56 = .ok (.iaload, 1) := dk_46 (dk_at dksX7_then_2 10 rfl rfl)
theorem dX7_then_57 : decode cX7_then 57 = .ok (.istore_n 3, 1) := dk_62 (dk_at dksX7_then_2 11 rfl rfl)
theorem dX7_then_58 : decode cX7_then 58 = .ok (.aload_n 0, 1) := dk_42 (dk_at dksX7_then_2 12 rfl rfl)
theorem dX7_then_59 : decode cX7_then 59 = .ok (.aload_n 0, 1) := dk_42 (dk_at dksX7_then_2 13 rfl rfl)
theorem dX7_then_60 : decode cX7_then 60 = .ok (.getfield 92, 3) := dk_180 0 92 (dk_at dksX7_then_2 14 rfl rfl)
theorem dX7_then_63 : decode cX7_then 63 = .ok (.iconst 0, 1) := dk_3 (dk_at dksX7_then_2 17 rfl rfl)
theorem dX7_then_64 : decode cX7_then 64 = .ok (.invokevirtual 440, 3) := dk_182 1 184 (dk_at dksX7_then_2 18 rfl rfl)
theorem dX7_then_67 : decode cX7_then 67 = .ok (.iload_n 3, 1) := dk_29 (dk_at dksX7_then_2 21 rfl rfl)
theorem dX7_then_68 : decode cX7_then 68 = .ok (.ireturn, 1) := dk_172 (dk_at dksX7_then_2 22 rfl rfl)
abbrev cX7_sky : ByteArray := prog_18_method_77_code
def yX7_sky : MethodName := ⟨RX7, "sky", "(II)I"⟩
def dkwX7_sky_4 : List UInt8 := [160, 0, 7, 4, 167, 0, 4, 3, 182, 1, 189, 62, 42, 42, 180, 0, 92, 3, 182, 1, 184, 29, 172]
abbrev dktX7_sky_4 : List UInt8 := dkwX7_sky_4 ++ []
def dkwX7_sky_3 : List UInt8 := [42, 180, 1, 77, 167, 0, 29, 28, 5, 160, 0, 10, 42, 182, 1, 195, 167, 0, 17, 42, 28, 6]
abbrev dktX7_sky_3 : List UInt8 := dkwX7_sky_3 ++ dktX7_sky_4
def dkwX7_sky_2 : List UInt8 := [182, 1, 164, 42, 27, 182, 1, 176, 28, 154, 0, 10, 42, 180, 0, 147, 167, 0, 41, 28, 4, 160, 0, 10]
abbrev dktX7_sky_2 : List UInt8 := dkwX7_sky_2 ++ dktX7_sky_3
def dkwX7_sky_1 : List UInt8 := [133, 9, 20, 1, 187, 184, 0, 157, 154, 0, 9, 42, 5, 182, 1, 62, 172, 42, 42, 180, 0, 92, 3]
abbrev dktX7_sky_1 : List UInt8 := dkwX7_sky_1 ++ dktX7_sky_2
def dkwX7_sky_0 : List UInt8 := [42, 3, 181, 0, 150, 28, 133, 9, 20, 1, 193, 184, 0, 157, 154, 0, 9, 42, 4, 182, 1, 62, 172, 27]
abbrev dktX7_sky_0 : List UInt8 := dkwX7_sky_0 ++ dktX7_sky_1
theorem dksX7_sky_0 : cX7_sky.data.toList.drop 0 = dktX7_sky_0 := by decide +kernel
theorem dksX7_sky_1 : cX7_sky.data.toList.drop 24 = dktX7_sky_1 := dk_seg dksX7_sky_0 24 rfl rfl
theorem dksX7_sky_2 : cX7_sky.data.toList.drop 47 = dktX7_sky_2 := dk_seg dksX7_sky_1 23 rfl rfl
theorem dksX7_sky_3 : cX7_sky.data.toList.drop 71 = dktX7_sky_3 := dk_seg dksX7_sky_2 24 rfl rfl
theorem dksX7_sky_4 : cX7_sky.data.toList.drop 93 = dktX7_sky_4 := dk_seg dksX7_sky_3 22 rfl rfl
theorem dX7_sky_0 : decode cX7_sky 0 = .ok (.aload_n 0, 1) := dk_42 (dk_at dksX7_sky_0 0 rfl rfl)
theorem dX7_sky_1 : decode cX7_sky 1 = .ok (.iconst 0, 1) := dk_3 (dk_at dksX7_sky_0 1 rfl rfl)
theorem dX7_sky_2 : decode cX7_sky 2 = .ok (.putfield 150, 3) := dk_181 0 150 (dk_at dksX7_sky_0 2 rfl rfl)
theorem dX7_sky_5 : decode cX7_sky 5 = .ok (.iload_n 2, 1) := dk_28 (dk_at dksX7_sky_0 5 rfl rfl)
theorem dX7_sky_6 : decode cX7_sky 6 = .ok (.i2l, 1) := dk_133 (dk_at dksX7_sky_0 6 rfl rfl)
theorem dX7_sky_7 : decode cX7_sky 7 = .ok (.lconst 0, 1) := dk_9 (dk_at dksX7_sky_0 7 rfl rfl)
theorem dX7_sky_8 : decode cX7_sky 8 = .ok (.ldc2_w 449, 3) := dk_20 1 193 (dk_at dksX7_sky_0 8 rfl rfl)
theorem dX7_sky_11 : decode cX7_sky 11 = .ok (.invokestatic 157, 3) := dk_184 0 157 (dk_at dksX7_sky_0 11 rfl rfl)
theorem dX7_sky_14 : decode cX7_sky 14 = .ok (.ifCond .ne 9, 3) := dk_154 0 9 (dk_at dksX7_sky_0 14 rfl rfl)
theorem dX7_sky_17 : decode cX7_sky 17 = .ok (.aload_n 0, 1) := dk_42 (dk_at dksX7_sky_0 17 rfl rfl)
theorem dX7_sky_18 : decode cX7_sky 18 = .ok (.iconst 1, 1) := dk_4 (dk_at dksX7_sky_0 18 rfl rfl)
theorem dX7_sky_19 : decode cX7_sky 19 = .ok (.invokevirtual 318, 3) := dk_182 1 62 (dk_at dksX7_sky_0 19 rfl rfl)
theorem dX7_sky_22 : decode cX7_sky 22 = .ok (.ireturn, 1) := dk_172 (dk_at dksX7_sky_0 22 rfl rfl)
theorem dX7_sky_23 : decode cX7_sky 23 = .ok (.iload_n 1, 1) := dk_27 (dk_at dksX7_sky_0 23 rfl rfl)
theorem dX7_sky_24 : decode cX7_sky 24 = .ok (.i2l, 1) := dk_133 (dk_at dksX7_sky_1 0 rfl rfl)
theorem dX7_sky_25 : decode cX7_sky 25 = .ok (.lconst 0, 1) := dk_9 (dk_at dksX7_sky_1 1 rfl rfl)
theorem dX7_sky_26 : decode cX7_sky 26 = .ok (.ldc2_w 443, 3) := dk_20 1 187 (dk_at dksX7_sky_1 2 rfl rfl)
theorem dX7_sky_29 : decode cX7_sky 29 = .ok (.invokestatic 157, 3) := dk_184 0 157 (dk_at dksX7_sky_1 5 rfl rfl)
theorem dX7_sky_32 : decode cX7_sky 32 = .ok (.ifCond .ne 9, 3) := dk_154 0 9 (dk_at dksX7_sky_1 8 rfl rfl)
theorem dX7_sky_35 : decode cX7_sky 35 = .ok (.aload_n 0, 1) := dk_42 (dk_at dksX7_sky_1 11 rfl rfl)
theorem dX7_sky_36 : decode cX7_sky 36 = .ok (.iconst 2, 1) := dk_5 (dk_at dksX7_sky_1 12 rfl rfl)
theorem dX7_sky_37 : decode cX7_sky 37 = .ok (.invokevirtual 318, 3) := dk_182 1 62 (dk_at dksX7_sky_1 13 rfl rfl)
theorem dX7_sky_40 : decode cX7_sky 40 = .ok (.ireturn, 1) := dk_172 (dk_at dksX7_sky_1 16 rfl rfl)
theorem dX7_sky_41 : decode cX7_sky 41 = .ok (.aload_n 0, 1) := dk_42 (dk_at dksX7_sky_1 17 rfl rfl)
theorem dX7_sky_42 : decode cX7_sky 42 = .ok (.aload_n 0, 1) := dk_42 (dk_at dksX7_sky_1 18 rfl rfl)
theorem dX7_sky_43 : decode cX7_sky 43 = .ok (.getfield 92, 3) := dk_180 0 92 (dk_at dksX7_sky_1 19 rfl rfl)
theorem dX7_sky_46 : decode cX7_sky 46 = .ok (.iconst 0, 1) := dk_3 (dk_at dksX7_sky_1 22 rfl rfl)
theorem dX7_sky_47 : decode cX7_sky 47 = .ok (.invokevirtual 420, 3) := dk_182 1 164 (dk_at dksX7_sky_2 0 rfl rfl)
theorem dX7_sky_50 : decode cX7_sky 50 = .ok (.aload_n 0, 1) := dk_42 (dk_at dksX7_sky_2 3 rfl rfl)
theorem dX7_sky_51 : decode cX7_sky 51 = .ok (.iload_n 1, 1) := dk_27 (dk_at dksX7_sky_2 4 rfl rfl)
theorem dX7_sky_52 : decode cX7_sky 52 = .ok (.invokevirtual 432, 3) := dk_182 1 176 (dk_at dksX7_sky_2 5 rfl rfl)
theorem dX7_sky_55 : decode cX7_sky 55 = .ok (.iload_n 2, 1) := dk_28 (dk_at dksX7_sky_2 8 rfl rfl)
theorem dX7_sky_56 : decode cX7_sky 56 = .ok (.ifCond .ne 10, 3) := dk_154 0 10 (dk_at dksX7_sky_2 9 rfl rfl)
theorem dX7_sky_59 : decode cX7_sky 59 = .ok (.aload_n 0, 1) := dk_42 (dk_at dksX7_sky_2 12 rfl rfl)
theorem dX7_sky_60 : decode cX7_sky 60 = .ok (.getfield 147, 3) := dk_180 0 147 (dk_at dksX7_sky_2 13 rfl rfl)
theorem dX7_sky_63 : decode cX7_sky 63 = .ok (.goto 41, 3) := dk_167 0 41 (dk_at dksX7_sky_2 16 rfl rfl)
theorem dX7_sky_66 : decode cX7_sky 66 = .ok (.iload_n 2, 1) := dk_28 (dk_at dksX7_sky_2 19 rfl rfl)
theorem dX7_sky_67 : decode cX7_sky 67 = .ok (.iconst 1, 1) := dk_4 (dk_at dksX7_sky_2 20 rfl rfl)
theorem dX7_sky_68 : decode cX7_sky 68 = .ok (.if_icmp .ne 10, 3) := dk_160 0 10 (dk_at dksX7_sky_2 21 rfl rfl)
theorem dX7_sky_71 : decode cX7_sky 71 = .ok (.aload_n 0, 1) := dk_42 (dk_at dksX7_sky_3 0 rfl rfl)
theorem dX7_sky_72 : decode cX7_sky 72 = .ok (.getfield 333, 3) := dk_180 1 77 (dk_at dksX7_sky_3 1 rfl rfl)
theorem dX7_sky_75 : decode cX7_sky 75 = .ok (.goto 29, 3) := dk_167 0 29 (dk_at dksX7_sky_3 4 rfl rfl)
theorem dX7_sky_78 : decode cX7_sky 78 = .ok (.iload_n 2, 1) := dk_28 (dk_at dksX7_sky_3 7 rfl rfl)
theorem dX7_sky_79 : decode cX7_sky 79 = .ok (.iconst 2, 1) := dk_5 (dk_at dksX7_sky_3 8 rfl rfl)
theorem dX7_sky_80 : decode cX7_sky 80 = .ok (.if_icmp .ne 10, 3) := dk_160 0 10 (dk_at dksX7_sky_3 9 rfl rfl)
theorem dX7_sky_83 : decode cX7_sky 83 = .ok (.aload_n 0, 1) := dk_42 (dk_at dksX7_sky_3 12 rfl rfl)
theorem dX7_sky_84 : decode cX7_sky 84 = .ok (.invokevirtual 451, 3) := dk_182 1 195 (dk_at dksX7_sky_3 13 rfl rfl)
theorem dX7_sky_87 : decode cX7_sky 87 = .ok (.goto 17, 3) := dk_167 0 17 (dk_at dksX7_sky_3 16 rfl rfl)
theorem dX7_sky_90 : decode cX7_sky 90 = .ok (.aload_n 0, 1) := dk_42 (dk_at dksX7_sky_3 19 rfl rfl)
theorem dX7_sky_91 : decode cX7_sky 91 = .ok (.iload_n 2, 1) := dk_28 (dk_at dksX7_sky_3 20 rfl rfl)
theorem dX7_sky_92 : decode cX7_sky 92 = .ok (.iconst 3, 1) := dk_6 (dk_at dksX7_sky_3 21 rfl rfl)
theorem dX7_sky_93 : decode cX7_sky 93 = .ok (.if_icmp .ne 7, 3) := dk_160 0 7 (dk_at dksX7_sky_4 0 rfl rfl)
theorem dX7_sky_96 : decode cX7_sky 96 = .ok (.iconst 1, 1) := dk_4 (dk_at dksX7_sky_4 3 rfl rfl)
theorem dX7_sky_97 : decode cX7_sky 97 = .ok (.goto 4, 3) := dk_167 0 4 (dk_at dksX7_sky_4 4 rfl rfl)
theorem dX7_sky_100 : decode cX7_sky 100 = .ok (.iconst 0, 1) := dk_3 (dk_at dksX7_sky_4 7 rfl rfl)
theorem dX7_sky_101 : decode cX7_sky 101 = .ok (.invokevirtual 445, 3) := dk_182 1 189 (dk_at dksX7_sky_4 8 rfl rfl)
theorem dX7_sky_104 : decode cX7_sky 104 = .ok (.istore_n 3, 1) := dk_62 (dk_at dksX7_sky_4 11 rfl rfl)
theorem dX7_sky_105 : decode cX7_sky 105 = .ok (.aload_n 0, 1) := dk_42 (dk_at dksX7_sky_4 12 rfl rfl)
theorem dX7_sky_106 : decode cX7_sky 106 = .ok (.aload_n 0, 1) := dk_42 (dk_at dksX7_sky_4 13 rfl rfl)
theorem dX7_sky_107 : decode cX7_sky 107 = .ok (.getfield 92, 3) := dk_180 0 92 (dk_at dksX7_sky_4 14 rfl rfl)
theorem dX7_sky_110 : decode cX7_sky 110 = .ok (.iconst 0, 1) := dk_3 (dk_at dksX7_sky_4 17 rfl rfl)
theorem dX7_sky_111 : decode cX7_sky 111 = .ok (.invokevirtual 440, 3) := dk_182 1 184 (dk_at dksX7_sky_4 18 rfl rfl)
theorem dX7_sky_114 : decode cX7_sky 114 = .ok (.iload_n 3, 1) := dk_29 (dk_at dksX7_sky_4 21 rfl rfl)
theorem dX7_sky_115 : decode cX7_sky 115 = .ok (.ireturn, 1) := dk_172 (dk_at dksX7_sky_4 22 rfl rfl)
abbrev cX7_uneven : ByteArray := prog_18_method_76_code
def yX7_uneven : MethodName := ⟨RX7, "uneven", "()I"⟩
def dkwX7_uneven_1 : List UInt8 := [180, 0, 75, 42, 3, 182, 1, 189, 46, 100, 172]
abbrev dktX7_uneven_1 : List UInt8 := dkwX7_uneven_1 ++ []
def dkwX7_uneven_0 : List UInt8 := [42, 4, 182, 1, 189, 2, 160, 0, 7, 2, 167, 0, 24, 42, 180, 0, 75, 42, 4, 182, 1, 189, 46, 42]
abbrev dktX7_uneven_0 : List UInt8 := dkwX7_uneven_0 ++ dktX7_uneven_1
theorem dksX7_uneven_0 : cX7_uneven.data.toList.drop 0 = dktX7_uneven_0 := by decide +kernel
theorem dksX7_uneven_1 : cX7_uneven.data.toList.drop 24 = dktX7_uneven_1 := dk_seg dksX7_uneven_0 24 rfl rfl
theorem dX7_uneven_0 : decode cX7_uneven 0 = .ok (.aload_n 0, 1) := dk_42 (dk_at dksX7_uneven_0 0 rfl rfl)
theorem dX7_uneven_1 : decode cX7_uneven 1 = .ok (.iconst 1, 1) := dk_4 (dk_at dksX7_uneven_0 1 rfl rfl)
theorem dX7_uneven_2 : decode cX7_uneven 2 = .ok (.invokevirtual 445, 3) := dk_182 1 189 (dk_at dksX7_uneven_0 2 rfl rfl)
theorem dX7_uneven_5 : decode cX7_uneven 5 = .ok (.iconst (-1), 1) := dk_2 (dk_at dksX7_uneven_0 5 rfl rfl)
theorem dX7_uneven_6 : decode cX7_uneven 6 = .ok (.if_icmp .ne 7, 3) := dk_160 0 7 (dk_at dksX7_uneven_0 6 rfl rfl)
theorem dX7_uneven_9 : decode cX7_uneven 9 = .ok (.iconst (-1), 1) := dk_2 (dk_at dksX7_uneven_0 9 rfl rfl)
theorem dX7_uneven_10 : decode cX7_uneven 10 = .ok (.goto 24, 3) := dk_167 0 24 (dk_at dksX7_uneven_0 10 rfl rfl)
theorem dX7_uneven_13 : decode cX7_uneven 13 = .ok (.aload_n 0, 1) := dk_42 (dk_at dksX7_uneven_0 13 rfl rfl)
theorem dX7_uneven_14 : decode cX7_uneven 14 = .ok (.getfield 75, 3) := dk_180 0 75 (dk_at dksX7_uneven_0 14 rfl rfl)
theorem dX7_uneven_17 : decode cX7_uneven 17 = .ok (.aload_n 0, 1) := dk_42 (dk_at dksX7_uneven_0 17 rfl rfl)
theorem dX7_uneven_18 : decode cX7_uneven 18 = .ok (.iconst 1, 1) := dk_4 (dk_at dksX7_uneven_0 18 rfl rfl)
theorem dX7_uneven_19 : decode cX7_uneven 19 = .ok (.invokevirtual 445, 3) := dk_182 1 189 (dk_at dksX7_uneven_0 19 rfl rfl)
theorem dX7_uneven_22 : decode cX7_uneven 22 = .ok (.iaload, 1) := dk_46 (dk_at dksX7_uneven_0 22 rfl rfl)
theorem dX7_uneven_23 : decode cX7_uneven 23 = .ok (.aload_n 0, 1) := dk_42 (dk_at dksX7_uneven_0 23 rfl rfl)
theorem dX7_uneven_24 : decode cX7_uneven 24 = .ok (.getfield 75, 3) := dk_180 0 75 (dk_at dksX7_uneven_1 0 rfl rfl)
theorem dX7_uneven_27 : decode cX7_uneven 27 = .ok (.aload_n 0, 1) := dk_42 (dk_at dksX7_uneven_1 3 rfl rfl)
theorem dX7_uneven_28 : decode cX7_uneven 28 = .ok (.iconst 0, 1) := dk_3 (dk_at dksX7_uneven_1 4 rfl rfl)
theorem dX7_uneven_29 : decode cX7_uneven 29 = .ok (.invokevirtual 445, 3) := dk_182 1 189 (dk_at dksX7_uneven_1 5 rfl rfl)
theorem dX7_uneven_32 : decode cX7_uneven 32 = .ok (.iaload, 1) := dk_46 (dk_at dksX7_uneven_1 8 rfl rfl)
theorem dX7_uneven_33 : decode cX7_uneven 33 = .ok (.isub, 1) := dk_100 (dk_at dksX7_uneven_1 9 rfl rfl)
theorem dX7_uneven_34 : decode cX7_uneven 34 = .ok (.ireturn, 1) := dk_172 (dk_at dksX7_uneven_1 10 rfl rfl)
abbrev cX7_extreme : ByteArray := prog_18_method_75_code
def yX7_extreme : MethodName := ⟨RX7, "extreme", "(Z)I"⟩
def dkwX7_extreme_3 : List UInt8 := [132, 3, 1, 167, 255, 187, 28, 172]
abbrev dktX7_extreme_3 : List UInt8 := dkwX7_extreme_3 ++ []
def dkwX7_extreme_2 : List UInt8 := [164, 0, 23, 167, 0, 18, 42, 180, 0, 75, 29, 46, 42, 180, 0, 75, 28, 46, 162, 0, 5, 29, 61]
abbrev dktX7_extreme_2 : List UInt8 := dkwX7_extreme_2 ++ dktX7_extreme_3
def dkwX7_extreme_1 : List UInt8 := [167, 0, 47, 28, 2, 159, 0, 40, 27, 153, 0, 21, 42, 180, 0, 75, 29, 46, 42, 180, 0, 75, 28, 46]
abbrev dktX7_extreme_1 : List UInt8 := dkwX7_extreme_1 ++ dktX7_extreme_2
def dkwX7_extreme_0 : List UInt8 := [2, 61, 3, 62, 29, 42, 182, 0, 153, 162, 0, 67, 42, 180, 1, 80, 29, 184, 0, 232, 153, 0, 6]
abbrev dktX7_extreme_0 : List UInt8 := dkwX7_extreme_0 ++ dktX7_extreme_1
theorem dksX7_extreme_0 : cX7_extreme.data.toList.drop 0 = dktX7_extreme_0 := by decide +kernel
theorem dksX7_extreme_1 : cX7_extreme.data.toList.drop 23 = dktX7_extreme_1 := dk_seg dksX7_extreme_0 23 rfl rfl
theorem dksX7_extreme_2 : cX7_extreme.data.toList.drop 47 = dktX7_extreme_2 := dk_seg dksX7_extreme_1 24 rfl rfl
theorem dksX7_extreme_3 : cX7_extreme.data.toList.drop 70 = dktX7_extreme_3 := dk_seg dksX7_extreme_2 23 rfl rfl
theorem dX7_extreme_0 : decode cX7_extreme 0 = .ok (.iconst (-1), 1) := dk_2 (dk_at dksX7_extreme_0 0 rfl rfl)
theorem dX7_extreme_1 : decode cX7_extreme 1 = .ok (.istore_n 2, 1) := dk_61 (dk_at dksX7_extreme_0 1 rfl rfl)
theorem dX7_extreme_2 : decode cX7_extreme 2 = .ok (.iconst 0, 1) := dk_3 (dk_at dksX7_extreme_0 2 rfl rfl)
theorem dX7_extreme_3 : decode cX7_extreme 3 = .ok (.istore_n 3, 1) := dk_62 (dk_at dksX7_extreme_0 3 rfl rfl)
theorem dX7_extreme_4 : decode cX7_extreme 4 = .ok (.iload_n 3, 1) := dk_29 (dk_at dksX7_extreme_0 4 rfl rfl)
theorem dX7_extreme_5 : decode cX7_extreme 5 = .ok (.aload_n 0, 1) := dk_42 (dk_at dksX7_extreme_0 5 rfl rfl)
theorem dX7_extreme_6 : decode cX7_extreme 6 = .ok (.invokevirtual 153, 3) := dk_182 0 153 (dk_at dksX7_extreme_0 6 rfl rfl)
theorem dX7_extreme_9 : decode cX7_extreme 9 = .ok (.if_icmp .ge 67, 3) := dk_162 0 67 (dk_at dksX7_extreme_0 9 rfl rfl)
theorem dX7_extreme_12 : decode cX7_extreme 12 = .ok (.aload_n 0, 1) := dk_42 (dk_at dksX7_extreme_0 12 rfl rfl)
theorem dX7_extreme_13 : decode cX7_extreme 13 = .ok (.getfield 336, 3) := dk_180 1 80 (dk_at dksX7_extreme_0 13 rfl rfl)
theorem dX7_extreme_16 : decode cX7_extreme 16 = .ok (.iload_n 3, 1) := dk_29 (dk_at dksX7_extreme_0 16 rfl rfl)
theorem dX7_extreme_17 : decode cX7_extreme 17 = .ok (.invokestatic 232, 3) := dk_184 0 232 (dk_at dksX7_extreme_0 17 rfl rfl)
theorem dX7_extreme_20 : decode cX7_extreme 20 = .ok (.ifCond .eq 6, 3) := dk_153 0 6 (dk_at dksX7_extreme_0 20 rfl rfl)
theorem dX7_extreme_23 : decode cX7_extreme 23 = .ok (.goto 47, 3) := dk_167 0 47 (dk_at dksX7_extreme_1 0 rfl rfl)
theorem dX7_extreme_26 : decode cX7_extreme 26 = .ok (.iload_n 2, 1) := dk_28 (dk_at dksX7_extreme_1 3 rfl rfl)
theorem dX7_extreme_27 : decode cX7_extreme 27 = .ok (.iconst (-1), 1) := dk_2 (dk_at dksX7_extreme_1 4 rfl rfl)
theorem dX7_extreme_28 : decode cX7_extreme 28 = .ok (.if_icmp .eq 40, 3) := dk_159 0 40 (dk_at dksX7_extreme_1 5 rfl rfl)
theorem dX7_extreme_31 : decode cX7_extreme 31 = .ok (.iload_n 1, 1) := dk_27 (dk_at dksX7_extreme_1 8 rfl rfl)
theorem dX7_extreme_32 : decode cX7_extreme 32 = .ok (.ifCond .eq 21, 3) := dk_153 0 21 (dk_at dksX7_extreme_1 9 rfl rfl)
theorem dX7_extreme_35 : decode cX7_extreme 35 = .ok (.aload_n 0, 1) := dk_42 (dk_at dksX7_extreme_1 12 rfl rfl)
theorem dX7_extreme_36 : decode cX7_extreme 36 = .ok (.getfield 75, 3) := dk_180 0 75 (dk_at dksX7_extreme_1 13 rfl rfl)
theorem dX7_extreme_39 : decode cX7_extreme 39 = .ok (.iload_n 3, 1) := dk_29 (dk_at dksX7_extreme_1 16 rfl rfl)
theorem dX7_extreme_40 : decode cX7_extreme 40 = .ok (.iaload, 1) := dk_46 (dk_at dksX7_extreme_1 17 rfl rfl)
theorem dX7_extreme_41 : decode cX7_extreme 41 = .ok (.aload_n 0, 1) := dk_42 (dk_at dksX7_extreme_1 18 rfl rfl)
theorem dX7_extreme_42 : decode cX7_extreme 42 = .ok (.getfield 75, 3) := dk_180 0 75 (dk_at dksX7_extreme_1 19 rfl rfl)
theorem dX7_extreme_45 : decode cX7_extreme 45 = .ok (.iload_n 2, 1) := dk_28 (dk_at dksX7_extreme_1 22 rfl rfl)
theorem dX7_extreme_46 : decode cX7_extreme 46 = .ok (.iaload, 1) := dk_46 (dk_at dksX7_extreme_1 23 rfl rfl)
theorem dX7_extreme_47 : decode cX7_extreme 47 = .ok (.if_icmp .le 23, 3) := dk_164 0 23 (dk_at dksX7_extreme_2 0 rfl rfl)
theorem dX7_extreme_50 : decode cX7_extreme 50 = .ok (.goto 18, 3) := dk_167 0 18 (dk_at dksX7_extreme_2 3 rfl rfl)
theorem dX7_extreme_53 : decode cX7_extreme 53 = .ok (.aload_n 0, 1) := dk_42 (dk_at dksX7_extreme_2 6 rfl rfl)
theorem dX7_extreme_54 : decode cX7_extreme 54 = .ok (.getfield 75, 3) := dk_180 0 75 (dk_at dksX7_extreme_2 7 rfl rfl)
theorem dX7_extreme_57 : decode cX7_extreme 57 = .ok (.iload_n 3, 1) := dk_29 (dk_at dksX7_extreme_2 10 rfl rfl)
theorem dX7_extreme_58 : decode cX7_extreme 58 = .ok (.iaload, 1) := dk_46 (dk_at dksX7_extreme_2 11 rfl rfl)
theorem dX7_extreme_59 : decode cX7_extreme 59 = .ok (.aload_n 0, 1) := dk_42 (dk_at dksX7_extreme_2 12 rfl rfl)
theorem dX7_extreme_60 : decode cX7_extreme 60 = .ok (.getfield 75, 3) := dk_180 0 75 (dk_at dksX7_extreme_2 13 rfl rfl)
theorem dX7_extreme_63 : decode cX7_extreme 63 = .ok (.iload_n 2, 1) := dk_28 (dk_at dksX7_extreme_2 16 rfl rfl)
theorem dX7_extreme_64 : decode cX7_extreme 64 = .ok (.iaload, 1) := dk_46 (dk_at dksX7_extreme_2 17 rfl rfl)
theorem dX7_extreme_65 : decode cX7_extreme 65 = .ok (.if_icmp .ge 5, 3) := dk_162 0 5 (dk_at dksX7_extreme_2 18 rfl rfl)
theorem dX7_extreme_68 : decode cX7_extreme 68 = .ok (.iload_n 3, 1) := dk_29 (dk_at dksX7_extreme_2 21 rfl rfl)
theorem dX7_extreme_69 : decode cX7_extreme 69 = .ok (.istore_n 2, 1) := dk_61 (dk_at dksX7_extreme_2 22 rfl rfl)
theorem dX7_extreme_70 : decode cX7_extreme 70 = .ok (.iinc 3 1, 3) := dk_132 3 1 (dk_at dksX7_extreme_3 0 rfl rfl)
theorem dX7_extreme_73 : decode cX7_extreme 73 = .ok (.goto (-69), 3) := dk_167 255 187 (dk_at dksX7_extreme_3 3 rfl rfl)
theorem dX7_extreme_76 : decode cX7_extreme 76 = .ok (.iload_n 2, 1) := dk_28 (dk_at dksX7_extreme_3 6 rfl rfl)
theorem dX7_extreme_77 : decode cX7_extreme 77 = .ok (.ireturn, 1) := dk_172 (dk_at dksX7_extreme_3 7 rfl rfl)
abbrev cX7_overdone : ByteArray := prog_18_method_78_code
def yX7_overdone : MethodName := ⟨RX7, "overdone", "(I)I"⟩
def dkwX7_overdone_2 : List UInt8 := [180, 1, 137, 172]
abbrev dktX7_overdone_2 : List UInt8 := dkwX7_overdone_2 ++ []
def dkwX7_overdone_1 : List UInt8 := [42, 180, 0, 92, 3, 182, 1, 164, 42, 27, 182, 1, 176, 42, 42, 180, 0, 92, 3, 182, 1, 184, 42]
abbrev dktX7_overdone_1 : List UInt8 := dkwX7_overdone_1 ++ dktX7_overdone_2
def dkwX7_overdone_0 : List UInt8 := [42, 3, 181, 0, 150, 27, 133, 10, 20, 1, 187, 184, 0, 157, 154, 0, 9, 42, 4, 182, 1, 62, 172, 42]
abbrev dktX7_overdone_0 : List UInt8 := dkwX7_overdone_0 ++ dktX7_overdone_1
theorem dksX7_overdone_0 : cX7_overdone.data.toList.drop 0 = dktX7_overdone_0 := by decide +kernel
theorem dksX7_overdone_1 : cX7_overdone.data.toList.drop 24 = dktX7_overdone_1 := dk_seg dksX7_overdone_0 24 rfl rfl
theorem dksX7_overdone_2 : cX7_overdone.data.toList.drop 47 = dktX7_overdone_2 := dk_seg dksX7_overdone_1 23 rfl rfl
theorem dX7_overdone_0 : decode cX7_overdone 0 = .ok (.aload_n 0, 1) := dk_42 (dk_at dksX7_overdone_0 0 rfl rfl)
theorem dX7_overdone_1 : decode cX7_overdone 1 = .ok (.iconst 0, 1) := dk_3 (dk_at dksX7_overdone_0 1 rfl rfl)
theorem dX7_overdone_2 : decode cX7_overdone 2 = .ok (.putfield 150, 3) := dk_181 0 150 (dk_at dksX7_overdone_0 2 rfl rfl)
theorem dX7_overdone_5 : decode cX7_overdone 5 = .ok (.iload_n 1, 1) := dk_27 (dk_at dksX7_overdone_0 5 rfl rfl)
theorem dX7_overdone_6 : decode cX7_overdone 6 = .ok (.i2l, 1) := dk_133 (dk_at dksX7_overdone_0 6 rfl rfl)
theorem dX7_overdone_7 : decode cX7_overdone 7 = .ok (.lconst 1, 1) := dk_10 (dk_at dksX7_overdone_0 7 rfl rfl)
theorem dX7_overdone_8 : decode cX7_overdone 8 = .ok (.ldc2_w 443, 3) := dk_20 1 187 (dk_at dksX7_overdone_0 8 rfl rfl)
theorem dX7_overdone_11 : decode cX7_overdone 11 = .ok (.invokestatic 157, 3) := dk_184 0 157 (dk_at dksX7_overdone_0 11 rfl rfl)
theorem dX7_overdone_14 : decode cX7_overdone 14 = .ok (.ifCond .ne 9, 3) := dk_154 0 9 (dk_at dksX7_overdone_0 14 rfl rfl)
theorem dX7_overdone_17 : decode cX7_overdone 17 = .ok (.aload_n 0, 1) := dk_42 (dk_at dksX7_overdone_0 17 rfl rfl)
theorem dX7_overdone_18 : decode cX7_overdone 18 = .ok (.iconst 1, 1) := dk_4 (dk_at dksX7_overdone_0 18 rfl rfl)
theorem dX7_overdone_19 : decode cX7_overdone 19 = .ok (.invokevirtual 318, 3) := dk_182 1 62 (dk_at dksX7_overdone_0 19 rfl rfl)
theorem dX7_overdone_22 : decode cX7_overdone 22 = .ok (.ireturn, 1) := dk_172 (dk_at dksX7_overdone_0 22 rfl rfl)
theorem dX7_overdone_23 : decode cX7_overdone 23 = .ok (.aload_n 0, 1) := dk_42 (dk_at dksX7_overdone_0 23 rfl rfl)
theorem dX7_overdone_24 : decode cX7_overdone 24 = .ok (.aload_n 0, 1) := dk_42 (dk_at dksX7_overdone_1 0 rfl rfl)
theorem dX7_overdone_25 : decode cX7_overdone 25 = .ok (.getfield 92, 3) := dk_180 0 92 (dk_at dksX7_overdone_1 1 rfl rfl)
theorem dX7_overdone_28 : decode cX7_overdone 28 = .ok (.iconst 0, 1) := dk_3 (dk_at dksX7_overdone_1 4 rfl rfl)
theorem dX7_overdone_29 : decode cX7_overdone 29 = .ok (.invokevirtual 420, 3) := dk_182 1 164 (dk_at dksX7_overdone_1 5 rfl rfl)
theorem dX7_overdone_32 : decode cX7_overdone 32 = .ok (.aload_n 0, 1) := dk_42 (dk_at dksX7_overdone_1 8 rfl rfl)
theorem dX7_overdone_33 : decode cX7_overdone 33 = .ok (.iload_n 1, 1) := dk_27 (dk_at dksX7_overdone_1 9 rfl rfl)
theorem dX7_overdone_34 : decode cX7_overdone 34 = .ok (.invokevirtual 432, 3) := dk_182 1 176 (dk_at dksX7_overdone_1 10 rfl rfl)
theorem dX7_overdone_37 : decode cX7_overdone 37 = .ok (.aload_n 0, 1) := dk_42 (dk_at dksX7_overdone_1 13 rfl rfl)
theorem dX7_overdone_38 : decode cX7_overdone 38 = .ok (.aload_n 0, 1) := dk_42 (dk_at dksX7_overdone_1 14 rfl rfl)
theorem dX7_overdone_39 : decode cX7_overdone 39 = .ok (.getfield 92, 3) := dk_180 0 92 (dk_at dksX7_overdone_1 15 rfl rfl)
theorem dX7_overdone_42 : decode cX7_overdone 42 = .ok (.iconst 0, 1) := dk_3 (dk_at dksX7_overdone_1 18 rfl rfl)
theorem dX7_overdone_43 : decode cX7_overdone 43 = .ok (.invokevirtual 440, 3) := dk_182 1 184 (dk_at dksX7_overdone_1 19 rfl rfl)
theorem dX7_overdone_46 : decode cX7_overdone 46 = .ok (.aload_n 0, 1) := dk_42 (dk_at dksX7_overdone_1 22 rfl rfl)
theorem dX7_overdone_47 : decode cX7_overdone 47 = .ok (.getfield 393, 3) := dk_180 1 137 (dk_at dksX7_overdone_2 0 rfl rfl)
theorem dX7_overdone_50 : decode cX7_overdone 50 = .ok (.ireturn, 1) := dk_172 (dk_at dksX7_overdone_2 3 rfl rfl)
abbrev cX7_first : ByteArray := prog_18_method_79_code
def yX7_first : MethodName := ⟨RX7, "first", "(I)I"⟩
def dkwX7_first_3 : List UInt8 := [182, 1, 184, 28, 172]
abbrev dktX7_first_3 : List UInt8 := dkwX7_first_3 ++ []
def dkwX7_first_2 : List UInt8 := [180, 1, 137, 27, 184, 0, 232, 153, 0, 5, 29, 61, 132, 3, 1, 167, 255, 225, 42, 42, 180, 0, 92, 3]
abbrev dktX7_first_2 : List UInt8 := dkwX7_first_2 ++ dktX7_first_3
def dkwX7_first_1 : List UInt8 := [3, 182, 1, 164, 2, 61, 4, 62, 29, 16, 40, 163, 0, 31, 28, 2, 160, 0, 26, 42, 182, 1, 146, 42]
abbrev dktX7_first_1 : List UInt8 := dkwX7_first_1 ++ dktX7_first_2
def dkwX7_first_0 : List UInt8 := [42, 3, 181, 0, 150, 42, 27, 182, 1, 152, 154, 0, 9, 42, 4, 182, 1, 62, 172, 42, 42, 180, 0, 92]
abbrev dktX7_first_0 : List UInt8 := dkwX7_first_0 ++ dktX7_first_1
theorem dksX7_first_0 : cX7_first.data.toList.drop 0 = dktX7_first_0 := by decide +kernel
theorem dksX7_first_1 : cX7_first.data.toList.drop 24 = dktX7_first_1 := dk_seg dksX7_first_0 24 rfl rfl
theorem dksX7_first_2 : cX7_first.data.toList.drop 48 = dktX7_first_2 := dk_seg dksX7_first_1 24 rfl rfl
theorem dksX7_first_3 : cX7_first.data.toList.drop 72 = dktX7_first_3 := dk_seg dksX7_first_2 24 rfl rfl
theorem dX7_first_0 : decode cX7_first 0 = .ok (.aload_n 0, 1) := dk_42 (dk_at dksX7_first_0 0 rfl rfl)
theorem dX7_first_1 : decode cX7_first 1 = .ok (.iconst 0, 1) := dk_3 (dk_at dksX7_first_0 1 rfl rfl)
theorem dX7_first_2 : decode cX7_first 2 = .ok (.putfield 150, 3) := dk_181 0 150 (dk_at dksX7_first_0 2 rfl rfl)
theorem dX7_first_5 : decode cX7_first 5 = .ok (.aload_n 0, 1) := dk_42 (dk_at dksX7_first_0 5 rfl rfl)
theorem dX7_first_6 : decode cX7_first 6 = .ok (.iload_n 1, 1) := dk_27 (dk_at dksX7_first_0 6 rfl rfl)
theorem dX7_first_7 : decode cX7_first 7 = .ok (.invokevirtual 408, 3) := dk_182 1 152 (dk_at dksX7_first_0 7 rfl rfl)
theorem dX7_first_10 : decode cX7_first 10 = .ok (.ifCond .ne 9, 3) := dk_154 0 9 (dk_at dksX7_first_0 10 rfl rfl)
theorem dX7_first_13 : decode cX7_first 13 = .ok (.aload_n 0, 1) := dk_42 (dk_at dksX7_first_0 13 rfl rfl)
theorem dX7_first_14 : decode cX7_first 14 = .ok (.iconst 1, 1) := dk_4 (dk_at dksX7_first_0 14 rfl rfl)
theorem dX7_first_15 : decode cX7_first 15 = .ok (.invokevirtual 318, 3) := dk_182 1 62 (dk_at dksX7_first_0 15 rfl rfl)
theorem dX7_first_18 : decode cX7_first 18 = .ok (.ireturn, 1) := dk_172 (dk_at dksX7_first_0 18 rfl rfl)
theorem dX7_first_19 : decode cX7_first 19 = .ok (.aload_n 0, 1) := dk_42 (dk_at dksX7_first_0 19 rfl rfl)
theorem dX7_first_20 : decode cX7_first 20 = .ok (.aload_n 0, 1) := dk_42 (dk_at dksX7_first_0 20 rfl rfl)
theorem dX7_first_21 : decode cX7_first 21 = .ok (.getfield 92, 3) := dk_180 0 92 (dk_at dksX7_first_0 21 rfl rfl)
theorem dX7_first_24 : decode cX7_first 24 = .ok (.iconst 0, 1) := dk_3 (dk_at dksX7_first_1 0 rfl rfl)
theorem dX7_first_25 : decode cX7_first 25 = .ok (.invokevirtual 420, 3) := dk_182 1 164 (dk_at dksX7_first_1 1 rfl rfl)
theorem dX7_first_28 : decode cX7_first 28 = .ok (.iconst (-1), 1) := dk_2 (dk_at dksX7_first_1 4 rfl rfl)
theorem dX7_first_29 : decode cX7_first 29 = .ok (.istore_n 2, 1) := dk_61 (dk_at dksX7_first_1 5 rfl rfl)
theorem dX7_first_30 : decode cX7_first 30 = .ok (.iconst 1, 1) := dk_4 (dk_at dksX7_first_1 6 rfl rfl)
theorem dX7_first_31 : decode cX7_first 31 = .ok (.istore_n 3, 1) := dk_62 (dk_at dksX7_first_1 7 rfl rfl)
theorem dX7_first_32 : decode cX7_first 32 = .ok (.iload_n 3, 1) := dk_29 (dk_at dksX7_first_1 8 rfl rfl)
theorem dX7_first_33 : decode cX7_first 33 = .ok (.bipush 40, 2) := dk_16 40 (dk_at dksX7_first_1 9 rfl rfl)
theorem dX7_first_35 : decode cX7_first 35 = .ok (.if_icmp .gt 31, 3) := dk_163 0 31 (dk_at dksX7_first_1 11 rfl rfl)
theorem dX7_first_38 : decode cX7_first 38 = .ok (.iload_n 2, 1) := dk_28 (dk_at dksX7_first_1 14 rfl rfl)
theorem dX7_first_39 : decode cX7_first 39 = .ok (.iconst (-1), 1) := dk_2 (dk_at dksX7_first_1 15 rfl rfl)
theorem dX7_first_40 : decode cX7_first 40 = .ok (.if_icmp .ne 26, 3) := dk_160 0 26 (dk_at dksX7_first_1 16 rfl rfl)
theorem dX7_first_43 : decode cX7_first 43 = .ok (.aload_n 0, 1) := dk_42 (dk_at dksX7_first_1 19 rfl rfl)
theorem dX7_first_44 : decode cX7_first 44 = .ok (.invokevirtual 402, 3) := dk_182 1 146 (dk_at dksX7_first_1 20 rfl rfl)
theorem dX7_first_47 : decode cX7_first 47 = .ok (.aload_n 0, 1) := dk_42 (dk_at dksX7_first_1 23 rfl rfl)
theorem dX7_first_48 : decode cX7_first 48 = .ok (.getfield 393, 3) := dk_180 1 137 (dk_at dksX7_first_2 0 rfl rfl)
theorem dX7_first_51 : decode cX7_first 51 = .ok (.iload_n 1, 1) := dk_27 (dk_at dksX7_first_2 3 rfl rfl)
theorem dX7_first_52 : decode cX7_first 52 = .ok (.invokestatic 232, 3) := dk_184 0 232 (dk_at dksX7_first_2 4 rfl rfl)
theorem dX7_first_55 : decode cX7_first 55 = .ok (.ifCond .eq 5, 3) := dk_153 0 5 (dk_at dksX7_first_2 7 rfl rfl)
theorem dX7_first_58 : decode cX7_first 58 = .ok (.iload_n 3, 1) := dk_29 (dk_at dksX7_first_2 10 rfl rfl)
theorem dX7_first_59 : decode cX7_first 59 = .ok (.istore_n 2, 1) := dk_61 (dk_at dksX7_first_2 11 rfl rfl)
theorem dX7_first_60 : decode cX7_first 60 = .ok (.iinc 3 1, 3) := dk_132 3 1 (dk_at dksX7_first_2 12 rfl rfl)
theorem dX7_first_63 : decode cX7_first 63 = .ok (.goto (-31), 3) := dk_167 255 225 (dk_at dksX7_first_2 15 rfl rfl)
theorem dX7_first_66 : decode cX7_first 66 = .ok (.aload_n 0, 1) := dk_42 (dk_at dksX7_first_2 18 rfl rfl)
theorem dX7_first_67 : decode cX7_first 67 = .ok (.aload_n 0, 1) := dk_42 (dk_at dksX7_first_2 19 rfl rfl)
theorem dX7_first_68 : decode cX7_first 68 = .ok (.getfield 92, 3) := dk_180 0 92 (dk_at dksX7_first_2 20 rfl rfl)
theorem dX7_first_71 : decode cX7_first 71 = .ok (.iconst 0, 1) := dk_3 (dk_at dksX7_first_2 23 rfl rfl)
theorem dX7_first_72 : decode cX7_first 72 = .ok (.invokevirtual 440, 3) := dk_182 1 184 (dk_at dksX7_first_3 0 rfl rfl)
theorem dX7_first_75 : decode cX7_first 75 = .ok (.iload_n 2, 1) := dk_28 (dk_at dksX7_first_3 3 rfl rfl)
theorem dX7_first_76 : decode cX7_first 76 = .ok (.ireturn, 1) := dk_172 (dk_at dksX7_first_3 4 rfl rfl)
abbrev cX7_spent : ByteArray := prog_18_method_80_code
def yX7_spent : MethodName := ⟨RX7, "spent", "()I"⟩
def dkwX7_spent_2 : List UInt8 := [42, 42, 180, 0, 92, 3, 182, 1, 184, 27, 172]
abbrev dktX7_spent_2 : List UInt8 := dkwX7_spent_2 ++ []
def dkwX7_spent_1 : List UInt8 := [27, 2, 160, 0, 22, 42, 180, 0, 147, 154, 0, 5, 28, 60, 42, 182, 1, 146, 132, 2, 1, 167, 255, 229]
abbrev dktX7_spent_1 : List UInt8 := dkwX7_spent_1 ++ dktX7_spent_2
def dkwX7_spent_0 : List UInt8 := [42, 3, 181, 0, 150, 42, 42, 180, 0, 92, 3, 182, 1, 164, 2, 60, 3, 61, 28, 16, 40, 163, 0, 27]
abbrev dktX7_spent_0 : List UInt8 := dkwX7_spent_0 ++ dktX7_spent_1
theorem dksX7_spent_0 : cX7_spent.data.toList.drop 0 = dktX7_spent_0 := by decide +kernel
theorem dksX7_spent_1 : cX7_spent.data.toList.drop 24 = dktX7_spent_1 := dk_seg dksX7_spent_0 24 rfl rfl
theorem dksX7_spent_2 : cX7_spent.data.toList.drop 48 = dktX7_spent_2 := dk_seg dksX7_spent_1 24 rfl rfl
theorem dX7_spent_0 : decode cX7_spent 0 = .ok (.aload_n 0, 1) := dk_42 (dk_at dksX7_spent_0 0 rfl rfl)
theorem dX7_spent_1 : decode cX7_spent 1 = .ok (.iconst 0, 1) := dk_3 (dk_at dksX7_spent_0 1 rfl rfl)
theorem dX7_spent_2 : decode cX7_spent 2 = .ok (.putfield 150, 3) := dk_181 0 150 (dk_at dksX7_spent_0 2 rfl rfl)
theorem dX7_spent_5 : decode cX7_spent 5 = .ok (.aload_n 0, 1) := dk_42 (dk_at dksX7_spent_0 5 rfl rfl)
theorem dX7_spent_6 : decode cX7_spent 6 = .ok (.aload_n 0, 1) := dk_42 (dk_at dksX7_spent_0 6 rfl rfl)
theorem dX7_spent_7 : decode cX7_spent 7 = .ok (.getfield 92, 3) := dk_180 0 92 (dk_at dksX7_spent_0 7 rfl rfl)
theorem dX7_spent_10 : decode cX7_spent 10 = .ok (.iconst 0, 1) := dk_3 (dk_at dksX7_spent_0 10 rfl rfl)
theorem dX7_spent_11 : decode cX7_spent 11 = .ok (.invokevirtual 420, 3) := dk_182 1 164 (dk_at dksX7_spent_0 11 rfl rfl)
theorem dX7_spent_14 : decode cX7_spent 14 = .ok (.iconst (-1), 1) := dk_2 (dk_at dksX7_spent_0 14 rfl rfl)
theorem dX7_spent_15 : decode cX7_spent 15 = .ok (.istore_n 1, 1) := dk_60 (dk_at dksX7_spent_0 15 rfl rfl)
theorem dX7_spent_16 : decode cX7_spent 16 = .ok (.iconst 0, 1) := dk_3 (dk_at dksX7_spent_0 16 rfl rfl)
theorem dX7_spent_17 : decode cX7_spent 17 = .ok (.istore_n 2, 1) := dk_61 (dk_at dksX7_spent_0 17 rfl rfl)
theorem dX7_spent_18 : decode cX7_spent 18 = .ok (.iload_n 2, 1) := dk_28 (dk_at dksX7_spent_0 18 rfl rfl)
theorem dX7_spent_19 : decode cX7_spent 19 = .ok (.bipush 40, 2) := dk_16 40 (dk_at dksX7_spent_0 19 rfl rfl)
theorem dX7_spent_21 : decode cX7_spent 21 = .ok (.if_icmp .gt 27, 3) := dk_163 0 27 (dk_at dksX7_spent_0 21 rfl rfl)
theorem dX7_spent_24 : decode cX7_spent 24 = .ok (.iload_n 1, 1) := dk_27 (dk_at dksX7_spent_1 0 rfl rfl)
theorem dX7_spent_25 : decode cX7_spent 25 = .ok (.iconst (-1), 1) := dk_2 (dk_at dksX7_spent_1 1 rfl rfl)
theorem dX7_spent_26 : decode cX7_spent 26 = .ok (.if_icmp .ne 22, 3) := dk_160 0 22 (dk_at dksX7_spent_1 2 rfl rfl)
theorem dX7_spent_29 : decode cX7_spent 29 = .ok (.aload_n 0, 1) := dk_42 (dk_at dksX7_spent_1 5 rfl rfl)
theorem dX7_spent_30 : decode cX7_spent 30 = .ok (.getfield 147, 3) := dk_180 0 147 (dk_at dksX7_spent_1 6 rfl rfl)
theorem dX7_spent_33 : decode cX7_spent 33 = .ok (.ifCond .ne 5, 3) := dk_154 0 5 (dk_at dksX7_spent_1 9 rfl rfl)
theorem dX7_spent_36 : decode cX7_spent 36 = .ok (.iload_n 2, 1) := dk_28 (dk_at dksX7_spent_1 12 rfl rfl)
theorem dX7_spent_37 : decode cX7_spent 37 = .ok (.istore_n 1, 1) := dk_60 (dk_at dksX7_spent_1 13 rfl rfl)
theorem dX7_spent_38 : decode cX7_spent 38 = .ok (.aload_n 0, 1) := dk_42 (dk_at dksX7_spent_1 14 rfl rfl)
theorem dX7_spent_39 : decode cX7_spent 39 = .ok (.invokevirtual 402, 3) := dk_182 1 146 (dk_at dksX7_spent_1 15 rfl rfl)
theorem dX7_spent_42 : decode cX7_spent 42 = .ok (.iinc 2 1, 3) := dk_132 2 1 (dk_at dksX7_spent_1 18 rfl rfl)
theorem dX7_spent_45 : decode cX7_spent 45 = .ok (.goto (-27), 3) := dk_167 255 229 (dk_at dksX7_spent_1 21 rfl rfl)
theorem dX7_spent_48 : decode cX7_spent 48 = .ok (.aload_n 0, 1) := dk_42 (dk_at dksX7_spent_2 0 rfl rfl)
theorem dX7_spent_49 : decode cX7_spent 49 = .ok (.aload_n 0, 1) := dk_42 (dk_at dksX7_spent_2 1 rfl rfl)
theorem dX7_spent_50 : decode cX7_spent 50 = .ok (.getfield 92, 3) := dk_180 0 92 (dk_at dksX7_spent_2 2 rfl rfl)
theorem dX7_spent_53 : decode cX7_spent 53 = .ok (.iconst 0, 1) := dk_3 (dk_at dksX7_spent_2 5 rfl rfl)
theorem dX7_spent_54 : decode cX7_spent 54 = .ok (.invokevirtual 440, 3) := dk_182 1 184 (dk_at dksX7_spent_2 6 rfl rfl)
theorem dX7_spent_57 : decode cX7_spent 57 = .ok (.iload_n 1, 1) := dk_27 (dk_at dksX7_spent_2 9 rfl rfl)
theorem dX7_spent_58 : decode cX7_spent 58 = .ok (.ireturn, 1) := dk_172 (dk_at dksX7_spent_2 10 rfl rfl)
abbrev cX7_band : ByteArray := prog_18_method_81_code
def yX7_band : MethodName := ⟨RX7, "band", "(I)I"⟩
def dkwX7_band_5 : List UInt8 := [132, 4, 1, 167, 255, 182, 42, 42, 180, 0, 92, 3, 182, 1, 184, 28, 172]
abbrev dktX7_band_5 : List UInt8 := dkwX7_band_5 ++ []
def dkwX7_band_4 : List UInt8 := [54, 5, 132, 6, 1, 167, 255, 220, 21, 5, 29, 163, 0, 6, 167, 0, 9, 21, 4, 61, 21, 5, 62]
abbrev dktX7_band_4 : List UInt8 := dkwX7_band_4 ++ dktX7_band_5
def dkwX7_band_3 : List UInt8 := [162, 0, 31, 21, 5, 42, 180, 0, 75, 42, 180, 0, 40, 3, 46, 21, 4, 104, 21, 6, 96, 46, 96]
abbrev dktX7_band_3 : List UInt8 := dkwX7_band_3 ++ dktX7_band_4
def dkwX7_band_2 : List UInt8 := [180, 0, 40, 4, 46, 162, 0, 69, 3, 54, 5, 3, 54, 6, 21, 6, 42, 180, 0, 40, 3, 46]
abbrev dktX7_band_2 : List UInt8 := dkwX7_band_2 ++ dktX7_band_3
def dkwX7_band_1 : List UInt8 := [42, 180, 0, 92, 3, 182, 1, 164, 42, 27, 182, 1, 176, 3, 61, 2, 62, 3, 54, 4, 21, 4, 42]
abbrev dktX7_band_1 : List UInt8 := dkwX7_band_1 ++ dktX7_band_2
def dkwX7_band_0 : List UInt8 := [42, 3, 181, 0, 150, 27, 133, 9, 20, 1, 187, 184, 0, 157, 154, 0, 9, 42, 4, 182, 1, 62, 172, 42]
abbrev dktX7_band_0 : List UInt8 := dkwX7_band_0 ++ dktX7_band_1
theorem dksX7_band_0 : cX7_band.data.toList.drop 0 = dktX7_band_0 := by decide +kernel
theorem dksX7_band_1 : cX7_band.data.toList.drop 24 = dktX7_band_1 := dk_seg dksX7_band_0 24 rfl rfl
theorem dksX7_band_2 : cX7_band.data.toList.drop 47 = dktX7_band_2 := dk_seg dksX7_band_1 23 rfl rfl
theorem dksX7_band_3 : cX7_band.data.toList.drop 69 = dktX7_band_3 := dk_seg dksX7_band_2 22 rfl rfl
theorem dksX7_band_4 : cX7_band.data.toList.drop 92 = dktX7_band_4 := dk_seg dksX7_band_3 23 rfl rfl
theorem dksX7_band_5 : cX7_band.data.toList.drop 115 = dktX7_band_5 := dk_seg dksX7_band_4 23 rfl rfl
theorem dX7_band_0 : decode cX7_band 0 = .ok (.aload_n 0, 1) := dk_42 (dk_at dksX7_band_0 0 rfl rfl)
theorem dX7_band_1 : decode cX7_band 1 = .ok (.iconst 0, 1) := dk_3 (dk_at dksX7_band_0 1 rfl rfl)
theorem dX7_band_2 : decode cX7_band 2 = .ok (.putfield 150, 3) := dk_181 0 150 (dk_at dksX7_band_0 2 rfl rfl)
theorem dX7_band_5 : decode cX7_band 5 = .ok (.iload_n 1, 1) := dk_27 (dk_at dksX7_band_0 5 rfl rfl)
theorem dX7_band_6 : decode cX7_band 6 = .ok (.i2l, 1) := dk_133 (dk_at dksX7_band_0 6 rfl rfl)
theorem dX7_band_7 : decode cX7_band 7 = .ok (.lconst 0, 1) := dk_9 (dk_at dksX7_band_0 7 rfl rfl)
theorem dX7_band_8 : decode cX7_band 8 = .ok (.ldc2_w 443, 3) := dk_20 1 187 (dk_at dksX7_band_0 8 rfl rfl)
theorem dX7_band_11 : decode cX7_band 11 = .ok (.invokestatic 157, 3) := dk_184 0 157 (dk_at dksX7_band_0 11 rfl rfl)
theorem dX7_band_14 : decode cX7_band 14 = .ok (.ifCond .ne 9, 3) := dk_154 0 9 (dk_at dksX7_band_0 14 rfl rfl)
theorem dX7_band_17 : decode cX7_band 17 = .ok (.aload_n 0, 1) := dk_42 (dk_at dksX7_band_0 17 rfl rfl)
theorem dX7_band_18 : decode cX7_band 18 = .ok (.iconst 1, 1) := dk_4 (dk_at dksX7_band_0 18 rfl rfl)
theorem dX7_band_19 : decode cX7_band 19 = .ok (.invokevirtual 318, 3) := dk_182 1 62 (dk_at dksX7_band_0 19 rfl rfl)
theorem dX7_band_22 : decode cX7_band 22 = .ok (.ireturn, 1) := dk_172 (dk_at dksX7_band_0 22 rfl rfl)
theorem dX7_band_23 : decode cX7_band 23 = .ok (.aload_n 0, 1) := dk_42 (dk_at dksX7_band_0 23 rfl rfl)
theorem dX7_band_24 : decode cX7_band 24 = .ok (.aload_n 0, 1) := dk_42 (dk_at dksX7_band_1 0 rfl rfl)
theorem dX7_band_25 : decode cX7_band 25 = .ok (.getfield 92, 3) := dk_180 0 92 (dk_at dksX7_band_1 1 rfl rfl)
theorem dX7_band_28 : decode cX7_band 28 = .ok (.iconst 0, 1) := dk_3 (dk_at dksX7_band_1 4 rfl rfl)
theorem dX7_band_29 : decode cX7_band 29 = .ok (.invokevirtual 420, 3) := dk_182 1 164 (dk_at dksX7_band_1 5 rfl rfl)
theorem dX7_band_32 : decode cX7_band 32 = .ok (.aload_n 0, 1) := dk_42 (dk_at dksX7_band_1 8 rfl rfl)
theorem dX7_band_33 : decode cX7_band 33 = .ok (.iload_n 1, 1) := dk_27 (dk_at dksX7_band_1 9 rfl rfl)
theorem dX7_band_34 : decode cX7_band 34 = .ok (.invokevirtual 432, 3) := dk_182 1 176 (dk_at dksX7_band_1 10 rfl rfl)
theorem dX7_band_37 : decode cX7_band 37 = .ok (.iconst 0, 1) := dk_3 (dk_at dksX7_band_1 13 rfl rfl)
theorem dX7_band_38 : decode cX7_band 38 = .ok (.istore_n 2, 1) := dk_61 (dk_at dksX7_band_1 14 rfl rfl)
theorem dX7_band_39 : decode cX7_band 39 = .ok (.iconst (-1), 1) := dk_2 (dk_at dksX7_band_1 15 rfl rfl)
theorem dX7_band_40 : decode cX7_band 40 = .ok (.istore_n 3, 1) := dk_62 (dk_at dksX7_band_1 16 rfl rfl)
theorem dX7_band_41 : decode cX7_band 41 = .ok (.iconst 0, 1) := dk_3 (dk_at dksX7_band_1 17 rfl rfl)
theorem dX7_band_42 : decode cX7_band 42 = .ok (.istore 4, 2) := dk_54 4 (dk_at dksX7_band_1 18 rfl rfl)
theorem dX7_band_44 : decode cX7_band 44 = .ok (.iload 4, 2) := dk_21 4 (dk_at dksX7_band_1 20 rfl rfl)
theorem dX7_band_46 : decode cX7_band 46 = .ok (.aload_n 0, 1) := dk_42 (dk_at dksX7_band_1 22 rfl rfl)
theorem dX7_band_47 : decode cX7_band 47 = .ok (.getfield 40, 3) := dk_180 0 40 (dk_at dksX7_band_2 0 rfl rfl)
theorem dX7_band_50 : decode cX7_band 50 = .ok (.iconst 1, 1) := dk_4 (dk_at dksX7_band_2 3 rfl rfl)
theorem dX7_band_51 : decode cX7_band 51 = .ok (.iaload, 1) := dk_46 (dk_at dksX7_band_2 4 rfl rfl)
theorem dX7_band_52 : decode cX7_band 52 = .ok (.if_icmp .ge 69, 3) := dk_162 0 69 (dk_at dksX7_band_2 5 rfl rfl)
theorem dX7_band_55 : decode cX7_band 55 = .ok (.iconst 0, 1) := dk_3 (dk_at dksX7_band_2 8 rfl rfl)
theorem dX7_band_56 : decode cX7_band 56 = .ok (.istore 5, 2) := dk_54 5 (dk_at dksX7_band_2 9 rfl rfl)
theorem dX7_band_58 : decode cX7_band 58 = .ok (.iconst 0, 1) := dk_3 (dk_at dksX7_band_2 11 rfl rfl)
theorem dX7_band_59 : decode cX7_band 59 = .ok (.istore 6, 2) := dk_54 6 (dk_at dksX7_band_2 12 rfl rfl)
theorem dX7_band_61 : decode cX7_band 61 = .ok (.iload 6, 2) := dk_21 6 (dk_at dksX7_band_2 14 rfl rfl)
theorem dX7_band_63 : decode cX7_band 63 = .ok (.aload_n 0, 1) := dk_42 (dk_at dksX7_band_2 16 rfl rfl)
theorem dX7_band_64 : decode cX7_band 64 = .ok (.getfield 40, 3) := dk_180 0 40 (dk_at dksX7_band_2 17 rfl rfl)
theorem dX7_band_67 : decode cX7_band 67 = .ok (.iconst 0, 1) := dk_3 (dk_at dksX7_band_2 20 rfl rfl)
theorem dX7_band_68 : decode cX7_band 68 = .ok (.iaload, 1) := dk_46 (dk_at dksX7_band_2 21 rfl rfl)
theorem dX7_band_69 : decode cX7_band 69 = .ok (.if_icmp .ge 31, 3) := dk_162 0 31 (dk_at dksX7_band_3 0 rfl rfl)
theorem dX7_band_72 : decode cX7_band 72 = .ok (.iload 5, 2) := dk_21 5 (dk_at dksX7_band_3 3 rfl rfl)
theorem dX7_band_74 : decode cX7_band 74 = .ok (.aload_n 0, 1) := dk_42 (dk_at dksX7_band_3 5 rfl rfl)
theorem dX7_band_75 : decode cX7_band 75 = .ok (.getfield 75, 3) := dk_180 0 75 (dk_at dksX7_band_3 6 rfl rfl)
theorem dX7_band_78 : decode cX7_band 78 = .ok (.aload_n 0, 1) := dk_42 (dk_at dksX7_band_3 9 rfl rfl)
theorem dX7_band_79 : decode cX7_band 79 = .ok (.getfield 40, 3) := dk_180 0 40 (dk_at dksX7_band_3 10 rfl rfl)
theorem dX7_band_82 : decode cX7_band 82 = .ok (.iconst 0, 1) := dk_3 (dk_at dksX7_band_3 13 rfl rfl)
theorem dX7_band_83 : decode cX7_band 83 = .ok (.iaload, 1) := dk_46 (dk_at dksX7_band_3 14 rfl rfl)
theorem dX7_band_84 : decode cX7_band 84 = .ok (.iload 4, 2) := dk_21 4 (dk_at dksX7_band_3 15 rfl rfl)
theorem dX7_band_86 : decode cX7_band 86 = .ok (.imul, 1) := dk_104 (dk_at dksX7_band_3 17 rfl rfl)
theorem dX7_band_87 : decode cX7_band 87 = .ok (.iload 6, 2) := dk_21 6 (dk_at dksX7_band_3 18 rfl rfl)
theorem dX7_band_89 : decode cX7_band 89 = .ok (.iadd, 1) := dk_96 (dk_at dksX7_band_3 20 rfl rfl)
theorem dX7_band_90 : decode cX7_band 90 = .ok (.iaload, 1) := dk_46 (dk_at dksX7_band_3 21 rfl rfl)
theorem dX7_band_91 : decode cX7_band 91 = .ok (.iadd, 1) := dk_96 (dk_at dksX7_band_3 22 rfl rfl)
theorem dX7_band_92 : decode cX7_band 92 = .ok (.istore 5, 2) := dk_54 5 (dk_at dksX7_band_4 0 rfl rfl)
theorem dX7_band_94 : decode cX7_band 94 = .ok (.iinc 6 1, 3) := dk_132 6 1 (dk_at dksX7_band_4 2 rfl rfl)
theorem dX7_band_97 : decode cX7_band 97 = .ok (.goto (-36), 3) := dk_167 255 220 (dk_at dksX7_band_4 5 rfl rfl)
theorem dX7_band_100 : decode cX7_band 100 = .ok (.iload 5, 2) := dk_21 5 (dk_at dksX7_band_4 8 rfl rfl)
theorem dX7_band_102 : decode cX7_band 102 = .ok (.iload_n 3, 1) := dk_29 (dk_at dksX7_band_4 10 rfl rfl)
theorem dX7_band_103 : decode cX7_band 103 = .ok (.if_icmp .gt 6, 3) := dk_163 0 6 (dk_at dksX7_band_4 11 rfl rfl)
theorem dX7_band_106 : decode cX7_band 106 = .ok (.goto 9, 3) := dk_167 0 9 (dk_at dksX7_band_4 14 rfl rfl)
theorem dX7_band_109 : decode cX7_band 109 = .ok (.iload 4, 2) := dk_21 4 (dk_at dksX7_band_4 17 rfl rfl)
theorem dX7_band_111 : decode cX7_band 111 = .ok (.istore_n 2, 1) := dk_61 (dk_at dksX7_band_4 19 rfl rfl)
theorem dX7_band_112 : decode cX7_band 112 = .ok (.iload 5, 2) := dk_21 5 (dk_at dksX7_band_4 20 rfl rfl)
theorem dX7_band_114 : decode cX7_band 114 = .ok (.istore_n 3, 1) := dk_62 (dk_at dksX7_band_4 22 rfl rfl)
theorem dX7_band_115 : decode cX7_band 115 = .ok (.iinc 4 1, 3) := dk_132 4 1 (dk_at dksX7_band_5 0 rfl rfl)
theorem dX7_band_118 : decode cX7_band 118 = .ok (.goto (-74), 3) := dk_167 255 182 (dk_at dksX7_band_5 3 rfl rfl)
theorem dX7_band_121 : decode cX7_band 121 = .ok (.aload_n 0, 1) := dk_42 (dk_at dksX7_band_5 6 rfl rfl)
theorem dX7_band_122 : decode cX7_band 122 = .ok (.aload_n 0, 1) := dk_42 (dk_at dksX7_band_5 7 rfl rfl)
theorem dX7_band_123 : decode cX7_band 123 = .ok (.getfield 92, 3) := dk_180 0 92 (dk_at dksX7_band_5 8 rfl rfl)
theorem dX7_band_126 : decode cX7_band 126 = .ok (.iconst 0, 1) := dk_3 (dk_at dksX7_band_5 11 rfl rfl)
theorem dX7_band_127 : decode cX7_band 127 = .ok (.invokevirtual 440, 3) := dk_182 1 184 (dk_at dksX7_band_5 12 rfl rfl)
theorem dX7_band_130 : decode cX7_band 130 = .ok (.iload_n 2, 1) := dk_28 (dk_at dksX7_band_5 15 rfl rfl)
theorem dX7_band_131 : decode cX7_band 131 = .ok (.ireturn, 1) := dk_172 (dk_at dksX7_band_5 16 rfl rfl)
abbrev cX7_steady : ByteArray := prog_18_method_82_code
def yX7_steady : MethodName := ⟨RX7, "steady", "()I"⟩
def dkwX7_steady_4 : List UInt8 := [153, 0, 5, 28, 60, 132, 2, 1, 167, 255, 174, 42, 42, 180, 0, 92, 3, 182, 1, 184, 27, 172]
abbrev dktX7_steady_4 : List UInt8 := dkwX7_steady_4 ++ []
def dkwX7_steady_3 : List UInt8 := [180, 0, 95, 21, 4, 46, 160, 0, 7, 4, 167, 0, 4, 3, 62, 132, 4, 1, 167, 255, 217, 29]
abbrev dktX7_steady_3 : List UInt8 := dkwX7_steady_3 ++ dktX7_steady_4
def dkwX7_steady_2 : List UInt8 := [54, 4, 21, 4, 42, 182, 0, 153, 162, 0, 36, 29, 153, 0, 24, 42, 180, 0, 75, 21, 4, 46, 42]
abbrev dktX7_steady_2 : List UInt8 := dkwX7_steady_2 ++ dktX7_steady_3
def dkwX7_steady_1 : List UInt8 := [27, 2, 160, 0, 77, 42, 180, 0, 95, 42, 180, 0, 75, 184, 1, 198, 42, 182, 1, 146, 4, 62, 3]
abbrev dktX7_steady_1 : List UInt8 := dkwX7_steady_1 ++ dktX7_steady_2
def dkwX7_steady_0 : List UInt8 := [42, 3, 181, 0, 150, 42, 42, 180, 0, 92, 3, 182, 1, 164, 2, 60, 4, 61, 28, 16, 40, 163, 0, 82]
abbrev dktX7_steady_0 : List UInt8 := dkwX7_steady_0 ++ dktX7_steady_1
theorem dksX7_steady_0 : cX7_steady.data.toList.drop 0 = dktX7_steady_0 := by decide +kernel
theorem dksX7_steady_1 : cX7_steady.data.toList.drop 24 = dktX7_steady_1 := dk_seg dksX7_steady_0 24 rfl rfl
theorem dksX7_steady_2 : cX7_steady.data.toList.drop 47 = dktX7_steady_2 := dk_seg dksX7_steady_1 23 rfl rfl
theorem dksX7_steady_3 : cX7_steady.data.toList.drop 70 = dktX7_steady_3 := dk_seg dksX7_steady_2 23 rfl rfl
theorem dksX7_steady_4 : cX7_steady.data.toList.drop 92 = dktX7_steady_4 := dk_seg dksX7_steady_3 22 rfl rfl
theorem dX7_steady_0 : decode cX7_steady 0 = .ok (.aload_n 0, 1) := dk_42 (dk_at dksX7_steady_0 0 rfl rfl)
theorem dX7_steady_1 : decode cX7_steady 1 = .ok (.iconst 0, 1) := dk_3 (dk_at dksX7_steady_0 1 rfl rfl)
theorem dX7_steady_2 : decode cX7_steady 2 = .ok (.putfield 150, 3) := dk_181 0 150 (dk_at dksX7_steady_0 2 rfl rfl)
theorem dX7_steady_5 : decode cX7_steady 5 = .ok (.aload_n 0, 1) := dk_42 (dk_at dksX7_steady_0 5 rfl rfl)
theorem dX7_steady_6 : decode cX7_steady 6 = .ok (.aload_n 0, 1) := dk_42 (dk_at dksX7_steady_0 6 rfl rfl)
theorem dX7_steady_7 : decode cX7_steady 7 = .ok (.getfield 92, 3) := dk_180 0 92 (dk_at dksX7_steady_0 7 rfl rfl)
theorem dX7_steady_10 : decode cX7_steady 10 = .ok (.iconst 0, 1) := dk_3 (dk_at dksX7_steady_0 10 rfl rfl)
theorem dX7_steady_11 : decode cX7_steady 11 = .ok (.invokevirtual 420, 3) := dk_182 1 164 (dk_at dksX7_steady_0 11 rfl rfl)
theorem dX7_steady_14 : decode cX7_steady 14 = .ok (.iconst (-1), 1) := dk_2 (dk_at dksX7_steady_0 14 rfl rfl)
theorem dX7_steady_15 : decode cX7_steady 15 = .ok (.istore_n 1, 1) := dk_60 (dk_at dksX7_steady_0 15 rfl rfl)
theorem dX7_steady_16 : decode cX7_steady 16 = .ok (.iconst 1, 1) := dk_4 (dk_at dksX7_steady_0 16 rfl rfl)
theorem dX7_steady_17 : decode cX7_steady 17 = .ok (.istore_n 2, 1) := dk_61 (dk_at dksX7_steady_0 17 rfl rfl)
theorem dX7_steady_18 : decode cX7_steady 18 = .ok (.iload_n 2, 1) := dk_28 (dk_at dksX7_steady_0 18 rfl rfl)
theorem dX7_steady_19 : decode cX7_steady 19 = .ok (.bipush 40, 2) := dk_16 40 (dk_at dksX7_steady_0 19 rfl rfl)
theorem dX7_steady_21 : decode cX7_steady 21 = .ok (.if_icmp .gt 82, 3) := dk_163 0 82 (dk_at dksX7_steady_0 21 rfl rfl)
theorem dX7_steady_24 : decode cX7_steady 24 = .ok (.iload_n 1, 1) := dk_27 (dk_at dksX7_steady_1 0 rfl rfl)
theorem dX7_steady_25 : decode cX7_steady 25 = .ok (.iconst (-1), 1) := dk_2 (dk_at dksX7_steady_1 1 rfl rfl)
theorem dX7_steady_26 : decode cX7_steady 26 = .ok (.if_icmp .ne 77, 3) := dk_160 0 77 (dk_at dksX7_steady_1 2 rfl rfl)
theorem dX7_steady_29 : decode cX7_steady 29 = .ok (.aload_n 0, 1) := dk_42 (dk_at dksX7_steady_1 5 rfl rfl)
theorem dX7_steady_30 : decode cX7_steady 30 = .ok (.getfield 95, 3) := dk_180 0 95 (dk_at dksX7_steady_1 6 rfl rfl)
theorem dX7_steady_33 : decode cX7_steady 33 = .ok (.aload_n 0, 1) := dk_42 (dk_at dksX7_steady_1 9 rfl rfl)
theorem dX7_steady_34 : decode cX7_steady 34 = .ok (.getfield 75, 3) := dk_180 0 75 (dk_at dksX7_steady_1 10 rfl rfl)
theorem dX7_steady_37 : decode cX7_steady 37 = .ok (.invokestatic 454, 3) := dk_184 1 198 (dk_at dksX7_steady_1 13 rfl rfl)
theorem dX7_steady_40 : decode cX7_steady 40 = .ok (.aload_n 0, 1) := dk_42 (dk_at dksX7_steady_1 16 rfl rfl)
theorem dX7_steady_41 : decode cX7_steady 41 = .ok (.invokevirtual 402, 3) := dk_182 1 146 (dk_at dksX7_steady_1 17 rfl rfl)
theorem dX7_steady_44 : decode cX7_steady 44 = .ok (.iconst 1, 1) := dk_4 (dk_at dksX7_steady_1 20 rfl rfl)
theorem dX7_steady_45 : decode cX7_steady 45 = .ok (.istore_n 3, 1) := dk_62 (dk_at dksX7_steady_1 21 rfl rfl)
theorem dX7_steady_46 : decode cX7_steady 46 = .ok (.iconst 0, 1) := dk_3 (dk_at dksX7_steady_1 22 rfl rfl)
theorem dX7_steady_47 : decode cX7_steady 47 = .ok (.istore 4, 2) := dk_54 4 (dk_at dksX7_steady_2 0 rfl rfl)
theorem dX7_steady_49 : decode cX7_steady 49 = .ok (.iload 4, 2) := dk_21 4 (dk_at dksX7_steady_2 2 rfl rfl)
theorem dX7_steady_51 : decode cX7_steady 51 = .ok (.aload_n 0, 1) := dk_42 (dk_at dksX7_steady_2 4 rfl rfl)
theorem dX7_steady_52 : decode cX7_steady 52 = .ok (.invokevirtual 153, 3) := dk_182 0 153 (dk_at dksX7_steady_2 5 rfl rfl)
theorem dX7_steady_55 : decode cX7_steady 55 = .ok (.if_icmp .ge 36, 3) := dk_162 0 36 (dk_at dksX7_steady_2 8 rfl rfl)
theorem dX7_steady_58 : decode cX7_steady 58 = .ok (.iload_n 3, 1) := dk_29 (dk_at dksX7_steady_2 11 rfl rfl)
theorem dX7_steady_59 : decode cX7_steady 59 = .ok (.ifCond .eq 24, 3) := dk_153 0 24 (dk_at dksX7_steady_2 12 rfl rfl)
theorem dX7_steady_62 : decode cX7_steady 62 = .ok (.aload_n 0, 1) := dk_42 (dk_at dksX7_steady_2 15 rfl rfl)
theorem dX7_steady_63 : decode cX7_steady 63 = .ok (.getfield 75, 3) := dk_180 0 75 (dk_at dksX7_steady_2 16 rfl rfl)
theorem dX7_steady_66 : decode cX7_steady 66 = .ok (.iload 4, 2) := dk_21 4 (dk_at dksX7_steady_2 19 rfl rfl)
theorem dX7_steady_68 : decode cX7_steady 68 = .ok (.iaload, 1) := dk_46 (dk_at dksX7_steady_2 21 rfl rfl)
theorem dX7_steady_69 : decode cX7_steady 69 = .ok (.aload_n 0, 1) := dk_42 (dk_at dksX7_steady_2 22 rfl rfl)
theorem dX7_steady_70 : decode cX7_steady 70 = .ok (.getfield 95, 3) := dk_180 0 95 (dk_at dksX7_steady_3 0 rfl rfl)
theorem dX7_steady_73 : decode cX7_steady 73 = .ok (.iload 4, 2) := dk_21 4 (dk_at dksX7_steady_3 3 rfl rfl)
theorem dX7_steady_75 : decode cX7_steady 75 = .ok (.iaload, 1) := dk_46 (dk_at dksX7_steady_3 5 rfl rfl)
theorem dX7_steady_76 : decode cX7_steady 76 = .ok (.if_icmp .ne 7, 3) := dk_160 0 7 (dk_at dksX7_steady_3 6 rfl rfl)
theorem dX7_steady_79 : decode cX7_steady 79 = .ok (.iconst 1, 1) := dk_4 (dk_at dksX7_steady_3 9 rfl rfl)
theorem dX7_steady_80 : decode cX7_steady 80 = .ok (.goto 4, 3) := dk_167 0 4 (dk_at dksX7_steady_3 10 rfl rfl)
theorem dX7_steady_83 : decode cX7_steady 83 = .ok (.iconst 0, 1) := dk_3 (dk_at dksX7_steady_3 13 rfl rfl)
theorem dX7_steady_84 : decode cX7_steady 84 = .ok (.istore_n 3, 1) := dk_62 (dk_at dksX7_steady_3 14 rfl rfl)
theorem dX7_steady_85 : decode cX7_steady 85 = .ok (.iinc 4 1, 3) := dk_132 4 1 (dk_at dksX7_steady_3 15 rfl rfl)
theorem dX7_steady_88 : decode cX7_steady 88 = .ok (.goto (-39), 3) := dk_167 255 217 (dk_at dksX7_steady_3 18 rfl rfl)
theorem dX7_steady_91 : decode cX7_steady 91 = .ok (.iload_n 3, 1) := dk_29 (dk_at dksX7_steady_3 21 rfl rfl)
theorem dX7_steady_92 : decode cX7_steady 92 = .ok (.ifCond .eq 5, 3) := dk_153 0 5 (dk_at dksX7_steady_4 0 rfl rfl)
theorem dX7_steady_95 : decode cX7_steady 95 = .ok (.iload_n 2, 1) := dk_28 (dk_at dksX7_steady_4 3 rfl rfl)
theorem dX7_steady_96 : decode cX7_steady 96 = .ok (.istore_n 1, 1) := dk_60 (dk_at dksX7_steady_4 4 rfl rfl)
theorem dX7_steady_97 : decode cX7_steady 97 = .ok (.iinc 2 1, 3) := dk_132 2 1 (dk_at dksX7_steady_4 5 rfl rfl)
theorem dX7_steady_100 : decode cX7_steady 100 = .ok (.goto (-82), 3) := dk_167 255 174 (dk_at dksX7_steady_4 8 rfl rfl)
theorem dX7_steady_103 : decode cX7_steady 103 = .ok (.aload_n 0, 1) := dk_42 (dk_at dksX7_steady_4 11 rfl rfl)
theorem dX7_steady_104 : decode cX7_steady 104 = .ok (.aload_n 0, 1) := dk_42 (dk_at dksX7_steady_4 12 rfl rfl)
theorem dX7_steady_105 : decode cX7_steady 105 = .ok (.getfield 92, 3) := dk_180 0 92 (dk_at dksX7_steady_4 13 rfl rfl)
theorem dX7_steady_108 : decode cX7_steady 108 = .ok (.iconst 0, 1) := dk_3 (dk_at dksX7_steady_4 16 rfl rfl)
theorem dX7_steady_109 : decode cX7_steady 109 = .ok (.invokevirtual 440, 3) := dk_182 1 184 (dk_at dksX7_steady_4 17 rfl rfl)
theorem dX7_steady_112 : decode cX7_steady 112 = .ok (.iload_n 1, 1) := dk_27 (dk_at dksX7_steady_4 20 rfl rfl)
theorem dX7_steady_113 : decode cX7_steady 113 = .ok (.ireturn, 1) := dk_172 (dk_at dksX7_steady_4 21 rfl rfl)
abbrev cX7_copyTo : ByteArray := prog_18_method_110_code
def yX7_copyTo : MethodName := ⟨RX7, "copyTo", "([I[I)V"⟩
def dkwX7_copyTo_0 : List UInt8 := [3, 61, 28, 42, 190, 162, 0, 15, 42, 28, 43, 28, 46, 79, 132, 2, 1, 167, 255, 241, 177]
abbrev dktX7_copyTo_0 : List UInt8 := dkwX7_copyTo_0 ++ []
theorem dksX7_copyTo_0 : cX7_copyTo.data.toList.drop 0 = dktX7_copyTo_0 := by decide +kernel
theorem dX7_copyTo_0 : decode cX7_copyTo 0 = .ok (.iconst 0, 1) := dk_3 (dk_at dksX7_copyTo_0 0 rfl rfl)
theorem dX7_copyTo_1 : decode cX7_copyTo 1 = .ok (.istore_n 2, 1) := dk_61 (dk_at dksX7_copyTo_0 1 rfl rfl)
theorem dX7_copyTo_2 : decode cX7_copyTo 2 = .ok (.iload_n 2, 1) := dk_28 (dk_at dksX7_copyTo_0 2 rfl rfl)
theorem dX7_copyTo_3 : decode cX7_copyTo 3 = .ok (.aload_n 0, 1) := dk_42 (dk_at dksX7_copyTo_0 3 rfl rfl)
theorem dX7_copyTo_4 : decode cX7_copyTo 4 = .ok (.arraylength, 1) := dk_190 (dk_at dksX7_copyTo_0 4 rfl rfl)
theorem dX7_copyTo_5 : decode cX7_copyTo 5 = .ok (.if_icmp .ge 15, 3) := dk_162 0 15 (dk_at dksX7_copyTo_0 5 rfl rfl)
theorem dX7_copyTo_8 : decode cX7_copyTo 8 = .ok (.aload_n 0, 1) := dk_42 (dk_at dksX7_copyTo_0 8 rfl rfl)
theorem dX7_copyTo_9 : decode cX7_copyTo 9 = .ok (.iload_n 2, 1) := dk_28 (dk_at dksX7_copyTo_0 9 rfl rfl)
theorem dX7_copyTo_10 : decode cX7_copyTo 10 = .ok (.aload_n 1, 1) := dk_43 (dk_at dksX7_copyTo_0 10 rfl rfl)
theorem dX7_copyTo_11 : decode cX7_copyTo 11 = .ok (.iload_n 2, 1) := dk_28 (dk_at dksX7_copyTo_0 11 rfl rfl)
theorem dX7_copyTo_12 : decode cX7_copyTo 12 = .ok (.iaload, 1) := dk_46 (dk_at dksX7_copyTo_0 12 rfl rfl)
theorem dX7_copyTo_13 : decode cX7_copyTo 13 = .ok (.iastore, 1) := dk_79 (dk_at dksX7_copyTo_0 13 rfl rfl)
theorem dX7_copyTo_14 : decode cX7_copyTo 14 = .ok (.iinc 2 1, 3) := dk_132 2 1 (dk_at dksX7_copyTo_0 14 rfl rfl)
theorem dX7_copyTo_17 : decode cX7_copyTo 17 = .ok (.goto (-15), 3) := dk_167 255 241 (dk_at dksX7_copyTo_0 17 rfl rfl)
theorem dX7_copyTo_20 : decode cX7_copyTo 20 = .ok (.return_, 1) := dk_177 (dk_at dksX7_copyTo_0 20 rfl rfl)
abbrev cX7_streak : ByteArray := prog_18_method_84_code
def yX7_streak : MethodName := ⟨RX7, "streak", "(I)I"⟩
def dkwX7_streak_2 : List UInt8 := [132, 3, 1, 167, 255, 230, 27, 154, 0, 11, 42, 28, 182, 1, 202, 167, 0, 4, 28, 172]
abbrev dktX7_streak_2 : List UInt8 := dkwX7_streak_2 ++ []
def dkwX7_streak_1 : List UInt8 := [29, 42, 182, 0, 153, 162, 0, 24, 42, 29, 182, 1, 202, 42, 28, 182, 1, 202, 164, 0, 5, 29, 61]
abbrev dktX7_streak_1 : List UInt8 := dkwX7_streak_1 ++ dktX7_streak_2
def dkwX7_streak_0 : List UInt8 := [42, 3, 181, 0, 150, 27, 155, 0, 8, 27, 4, 164, 0, 9, 42, 4, 182, 1, 62, 172, 3, 61, 4, 62]
abbrev dktX7_streak_0 : List UInt8 := dkwX7_streak_0 ++ dktX7_streak_1
theorem dksX7_streak_0 : cX7_streak.data.toList.drop 0 = dktX7_streak_0 := by decide +kernel
theorem dksX7_streak_1 : cX7_streak.data.toList.drop 24 = dktX7_streak_1 := dk_seg dksX7_streak_0 24 rfl rfl
theorem dksX7_streak_2 : cX7_streak.data.toList.drop 47 = dktX7_streak_2 := dk_seg dksX7_streak_1 23 rfl rfl
theorem dX7_streak_0 : decode cX7_streak 0 = .ok (.aload_n 0, 1) := dk_42 (dk_at dksX7_streak_0 0 rfl rfl)
theorem dX7_streak_1 : decode cX7_streak 1 = .ok (.iconst 0, 1) := dk_3 (dk_at dksX7_streak_0 1 rfl rfl)
theorem dX7_streak_2 : decode cX7_streak 2 = .ok (.putfield 150, 3) := dk_181 0 150 (dk_at dksX7_streak_0 2 rfl rfl)
theorem dX7_streak_5 : decode cX7_streak 5 = .ok (.iload_n 1, 1) := dk_27 (dk_at dksX7_streak_0 5 rfl rfl)
theorem dX7_streak_6 : decode cX7_streak 6 = .ok (.ifCond .lt 8, 3) := dk_155 0 8 (dk_at dksX7_streak_0 6 rfl rfl)
theorem dX7_streak_9 : decode cX7_streak 9 = .ok (.iload_n 1, 1) := dk_27 (dk_at dksX7_streak_0 9 rfl rfl)
theorem dX7_streak_10 : decode cX7_streak 10 = .ok (.iconst 1, 1) := dk_4 (dk_at dksX7_streak_0 10 rfl rfl)
theorem dX7_streak_11 : decode cX7_streak 11 = .ok (.if_icmp .le 9, 3) := dk_164 0 9 (dk_at dksX7_streak_0 11 rfl rfl)
theorem dX7_streak_14 : decode cX7_streak 14 = .ok (.aload_n 0, 1) := dk_42 (dk_at dksX7_streak_0 14 rfl rfl)
theorem dX7_streak_15 : decode cX7_streak 15 = .ok (.iconst 1, 1) := dk_4 (dk_at dksX7_streak_0 15 rfl rfl)
theorem dX7_streak_16 : decode cX7_streak 16 = .ok (.invokevirtual 318, 3) := dk_182 1 62 (dk_at dksX7_streak_0 16 rfl rfl)
theorem dX7_streak_19 : decode cX7_streak 19 = .ok (.ireturn, 1) := dk_172 (dk_at dksX7_streak_0 19 rfl rfl)
theorem dX7_streak_20 : decode cX7_streak 20 = .ok (.iconst 0, 1) := dk_3 (dk_at dksX7_streak_0 20 rfl rfl)
theorem dX7_streak_21 : decode cX7_streak 21 = .ok (.istore_n 2, 1) := dk_61 (dk_at dksX7_streak_0 21 rfl rfl)
theorem dX7_streak_22 : decode cX7_streak 22 = .ok (.iconst 1, 1) := dk_4 (dk_at dksX7_streak_0 22 rfl rfl)
theorem dX7_streak_23 : decode cX7_streak 23 = .ok (.istore_n 3, 1) := dk_62 (dk_at dksX7_streak_0 23 rfl rfl)
theorem dX7_streak_24 : decode cX7_streak 24 = .ok (.iload_n 3, 1) := dk_29 (dk_at dksX7_streak_1 0 rfl rfl)
theorem dX7_streak_25 : decode cX7_streak 25 = .ok (.aload_n 0, 1) := dk_42 (dk_at dksX7_streak_1 1 rfl rfl)
theorem dX7_streak_26 : decode cX7_streak 26 = .ok (.invokevirtual 153, 3) := dk_182 0 153 (dk_at dksX7_streak_1 2 rfl rfl)
theorem dX7_streak_29 : decode cX7_streak 29 = .ok (.if_icmp .ge 24, 3) := dk_162 0 24 (dk_at dksX7_streak_1 5 rfl rfl)
theorem dX7_streak_32 : decode cX7_streak 32 = .ok (.aload_n 0, 1) := dk_42 (dk_at dksX7_streak_1 8 rfl rfl)
theorem dX7_streak_33 : decode cX7_streak 33 = .ok (.iload_n 3, 1) := dk_29 (dk_at dksX7_streak_1 9 rfl rfl)
theorem dX7_streak_34 : decode cX7_streak 34 = .ok (.invokevirtual 458, 3) := dk_182 1 202 (dk_at dksX7_streak_1 10 rfl rfl)
theorem dX7_streak_37 : decode cX7_streak 37 = .ok (.aload_n 0, 1) := dk_42 (dk_at dksX7_streak_1 13 rfl rfl)
theorem dX7_streak_38 : decode cX7_streak 38 = .ok (.iload_n 2, 1) := dk_28 (dk_at dksX7_streak_1 14 rfl rfl)
theorem dX7_streak_39 : decode cX7_streak 39 = .ok (.invokevirtual 458, 3) := dk_182 1 202 (dk_at dksX7_streak_1 15 rfl rfl)
theorem dX7_streak_42 : decode cX7_streak 42 = .ok (.if_icmp .le 5, 3) := dk_164 0 5 (dk_at dksX7_streak_1 18 rfl rfl)
theorem dX7_streak_45 : decode cX7_streak 45 = .ok (.iload_n 3, 1) := dk_29 (dk_at dksX7_streak_1 21 rfl rfl)
theorem dX7_streak_46 : decode cX7_streak 46 = .ok (.istore_n 2, 1) := dk_61 (dk_at dksX7_streak_1 22 rfl rfl)
theorem dX7_streak_47 : decode cX7_streak 47 = .ok (.iinc 3 1, 3) := dk_132 3 1 (dk_at dksX7_streak_2 0 rfl rfl)
theorem dX7_streak_50 : decode cX7_streak 50 = .ok (.goto (-26), 3) := dk_167 255 230 (dk_at dksX7_streak_2 3 rfl rfl)
theorem dX7_streak_53 : decode cX7_streak 53 = .ok (.iload_n 1, 1) := dk_27 (dk_at dksX7_streak_2 6 rfl rfl)
theorem dX7_streak_54 : decode cX7_streak 54 = .ok (.ifCond .ne 11, 3) := dk_154 0 11 (dk_at dksX7_streak_2 7 rfl rfl)
theorem dX7_streak_57 : decode cX7_streak 57 = .ok (.aload_n 0, 1) := dk_42 (dk_at dksX7_streak_2 10 rfl rfl)
theorem dX7_streak_58 : decode cX7_streak 58 = .ok (.iload_n 2, 1) := dk_28 (dk_at dksX7_streak_2 11 rfl rfl)
theorem dX7_streak_59 : decode cX7_streak 59 = .ok (.invokevirtual 458, 3) := dk_182 1 202 (dk_at dksX7_streak_2 12 rfl rfl)
theorem dX7_streak_62 : decode cX7_streak 62 = .ok (.goto 4, 3) := dk_167 0 4 (dk_at dksX7_streak_2 15 rfl rfl)
theorem dX7_streak_65 : decode cX7_streak 65 = .ok (.iload_n 2, 1) := dk_28 (dk_at dksX7_streak_2 18 rfl rfl)
theorem dX7_streak_66 : decode cX7_streak 66 = .ok (.ireturn, 1) := dk_172 (dk_at dksX7_streak_2 19 rfl rfl)
abbrev cX7_streakFrom : ByteArray := prog_18_method_83_code
def yX7_streakFrom : MethodName := ⟨RX7, "streakFrom", "(I)I"⟩
def dkwX7_streakFrom_1 : List UInt8 := [96, 46, 42, 180, 0, 75, 27, 46, 160, 0, 9, 132, 2, 1, 167, 255, 220, 28, 172]
abbrev dktX7_streakFrom_1 : List UInt8 := dkwX7_streakFrom_1 ++ []
def dkwX7_streakFrom_0 : List UInt8 := [4, 61, 42, 27, 182, 1, 95, 28, 96, 42, 180, 0, 40, 3, 46, 162, 0, 26, 42, 180, 0, 75, 27, 28]
abbrev dktX7_streakFrom_0 : List UInt8 := dkwX7_streakFrom_0 ++ dktX7_streakFrom_1
theorem dksX7_streakFrom_0 : cX7_streakFrom.data.toList.drop 0 = dktX7_streakFrom_0 := by decide +kernel
theorem dksX7_streakFrom_1 : cX7_streakFrom.data.toList.drop 24 = dktX7_streakFrom_1 := dk_seg dksX7_streakFrom_0 24 rfl rfl
theorem dX7_streakFrom_0 : decode cX7_streakFrom 0 = .ok (.iconst 1, 1) := dk_4 (dk_at dksX7_streakFrom_0 0 rfl rfl)
theorem dX7_streakFrom_1 : decode cX7_streakFrom 1 = .ok (.istore_n 2, 1) := dk_61 (dk_at dksX7_streakFrom_0 1 rfl rfl)
theorem dX7_streakFrom_2 : decode cX7_streakFrom 2 = .ok (.aload_n 0, 1) := dk_42 (dk_at dksX7_streakFrom_0 2 rfl rfl)
theorem dX7_streakFrom_3 : decode cX7_streakFrom 3 = .ok (.iload_n 1, 1) := dk_27 (dk_at dksX7_streakFrom_0 3 rfl rfl)
theorem dX7_streakFrom_4 : decode cX7_streakFrom 4 = .ok (.invokevirtual 351, 3) := dk_182 1 95 (dk_at dksX7_streakFrom_0 4 rfl rfl)
theorem dX7_streakFrom_7 : decode cX7_streakFrom 7 = .ok (.iload_n 2, 1) := dk_28 (dk_at dksX7_streakFrom_0 7 rfl rfl)
theorem dX7_streakFrom_8 : decode cX7_streakFrom 8 = .ok (.iadd, 1) := dk_96 (dk_at dksX7_streakFrom_0 8 rfl rfl)
theorem dX7_streakFrom_9 : decode cX7_streakFrom 9 = .ok (.aload_n 0, 1) := dk_42 (dk_at dksX7_streakFrom_0 9 rfl rfl)
theorem dX7_streakFrom_10 : decode cX7_streakFrom 10 = .ok (.getfield 40, 3) := dk_180 0 40 (dk_at dksX7_streakFrom_0 10 rfl rfl)
theorem dX7_streakFrom_13 : decode cX7_streakFrom 13 = .ok (.iconst 0, 1) := dk_3 (dk_at dksX7_streakFrom_0 13 rfl rfl)
theorem dX7_streakFrom_14 : decode cX7_streakFrom 14 = .ok (.iaload, 1) := dk_46 (dk_at dksX7_streakFrom_0 14 rfl rfl)
theorem dX7_streakFrom_15 : decode cX7_streakFrom 15 = .ok (.if_icmp .ge 26, 3) := dk_162 0 26 (dk_at dksX7_streakFrom_0 15 rfl rfl)
theorem dX7_streakFrom_18 : decode cX7_streakFrom 18 = .ok (.aload_n 0, 1) := dk_42 (dk_at dksX7_streakFrom_0 18 rfl rfl)
theorem dX7_streakFrom_19 : decode cX7_streakFrom 19 = .ok (.getfield 75, 3) := dk_180 0 75 (dk_at dksX7_streakFrom_0 19 rfl rfl)
theorem dX7_streakFrom_22 : decode cX7_streakFrom 22 = .ok (.iload_n 1, 1) := dk_27 (dk_at dksX7_streakFrom_0 22 rfl rfl)
theorem dX7_streakFrom_23 : decode cX7_streakFrom 23 = .ok (.iload_n 2, 1) := dk_28 (dk_at dksX7_streakFrom_0 23 rfl rfl)
theorem dX7_streakFrom_24 : decode cX7_streakFrom 24 = .ok (.iadd, 1) := dk_96 (dk_at dksX7_streakFrom_1 0 rfl rfl)
theorem dX7_streakFrom_25 : decode cX7_streakFrom 25 = .ok (.iaload, 1) := dk_46 (dk_at dksX7_streakFrom_1 1 rfl rfl)
theorem dX7_streakFrom_26 : decode cX7_streakFrom 26 = .ok (.aload_n 0, 1) := dk_42 (dk_at dksX7_streakFrom_1 2 rfl rfl)
theorem dX7_streakFrom_27 : decode cX7_streakFrom 27 = .ok (.getfield 75, 3) := dk_180 0 75 (dk_at dksX7_streakFrom_1 3 rfl rfl)
theorem dX7_streakFrom_30 : decode cX7_streakFrom 30 = .ok (.iload_n 1, 1) := dk_27 (dk_at dksX7_streakFrom_1 6 rfl rfl)
theorem dX7_streakFrom_31 : decode cX7_streakFrom 31 = .ok (.iaload, 1) := dk_46 (dk_at dksX7_streakFrom_1 7 rfl rfl)
theorem dX7_streakFrom_32 : decode cX7_streakFrom 32 = .ok (.if_icmp .ne 9, 3) := dk_160 0 9 (dk_at dksX7_streakFrom_1 8 rfl rfl)
theorem dX7_streakFrom_35 : decode cX7_streakFrom 35 = .ok (.iinc 2 1, 3) := dk_132 2 1 (dk_at dksX7_streakFrom_1 11 rfl rfl)
theorem dX7_streakFrom_38 : decode cX7_streakFrom 38 = .ok (.goto (-36), 3) := dk_167 255 220 (dk_at dksX7_streakFrom_1 14 rfl rfl)
theorem dX7_streakFrom_41 : decode cX7_streakFrom 41 = .ok (.iload_n 2, 1) := dk_28 (dk_at dksX7_streakFrom_1 17 rfl rfl)
theorem dX7_streakFrom_42 : decode cX7_streakFrom 42 = .ok (.ireturn, 1) := dk_172 (dk_at dksX7_streakFrom_1 18 rfl rfl)
abbrev cX7_patch : ByteArray := prog_18_method_85_code
def yX7_patch : MethodName := ⟨RX7, "patch", "(II)I"⟩
def dkwX7_patch_1 : List UInt8 := [20, 1, 205, 184, 0, 157, 153, 0, 12, 42, 27, 28, 182, 1, 158, 167, 0, 8, 42, 5, 182, 1, 62, 172]
abbrev dktX7_patch_1 : List UInt8 := dkwX7_patch_1 ++ []
def dkwX7_patch_0 : List UInt8 := [42, 3, 181, 0, 150, 42, 27, 182, 1, 152, 154, 0, 9, 42, 4, 182, 1, 62, 172, 28, 133, 9]
abbrev dktX7_patch_0 : List UInt8 := dkwX7_patch_0 ++ dktX7_patch_1
theorem dksX7_patch_0 : cX7_patch.data.toList.drop 0 = dktX7_patch_0 := by decide +kernel
theorem dksX7_patch_1 : cX7_patch.data.toList.drop 22 = dktX7_patch_1 := dk_seg dksX7_patch_0 22 rfl rfl
theorem dX7_patch_0 : decode cX7_patch 0 = .ok (.aload_n 0, 1) := dk_42 (dk_at dksX7_patch_0 0 rfl rfl)
theorem dX7_patch_1 : decode cX7_patch 1 = .ok (.iconst 0, 1) := dk_3 (dk_at dksX7_patch_0 1 rfl rfl)
theorem dX7_patch_2 : decode cX7_patch 2 = .ok (.putfield 150, 3) := dk_181 0 150 (dk_at dksX7_patch_0 2 rfl rfl)
theorem dX7_patch_5 : decode cX7_patch 5 = .ok (.aload_n 0, 1) := dk_42 (dk_at dksX7_patch_0 5 rfl rfl)
theorem dX7_patch_6 : decode cX7_patch 6 = .ok (.iload_n 1, 1) := dk_27 (dk_at dksX7_patch_0 6 rfl rfl)
theorem dX7_patch_7 : decode cX7_patch 7 = .ok (.invokevirtual 408, 3) := dk_182 1 152 (dk_at dksX7_patch_0 7 rfl rfl)
theorem dX7_patch_10 : decode cX7_patch 10 = .ok (.ifCond .ne 9, 3) := dk_154 0 9 (dk_at dksX7_patch_0 10 rfl rfl)
theorem dX7_patch_13 : decode cX7_patch 13 = .ok (.aload_n 0, 1) := dk_42 (dk_at dksX7_patch_0 13 rfl rfl)
theorem dX7_patch_14 : decode cX7_patch 14 = .ok (.iconst 1, 1) := dk_4 (dk_at dksX7_patch_0 14 rfl rfl)
theorem dX7_patch_15 : decode cX7_patch 15 = .ok (.invokevirtual 318, 3) := dk_182 1 62 (dk_at dksX7_patch_0 15 rfl rfl)
theorem dX7_patch_18 : decode cX7_patch 18 = .ok (.ireturn, 1) := dk_172 (dk_at dksX7_patch_0 18 rfl rfl)
theorem dX7_patch_19 : decode cX7_patch 19 = .ok (.iload_n 2, 1) := dk_28 (dk_at dksX7_patch_0 19 rfl rfl)
theorem dX7_patch_20 : decode cX7_patch 20 = .ok (.i2l, 1) := dk_133 (dk_at dksX7_patch_0 20 rfl rfl)
theorem dX7_patch_21 : decode cX7_patch 21 = .ok (.lconst 0, 1) := dk_9 (dk_at dksX7_patch_0 21 rfl rfl)
theorem dX7_patch_22 : decode cX7_patch 22 = .ok (.ldc2_w 461, 3) := dk_20 1 205 (dk_at dksX7_patch_1 0 rfl rfl)
theorem dX7_patch_25 : decode cX7_patch 25 = .ok (.invokestatic 157, 3) := dk_184 0 157 (dk_at dksX7_patch_1 3 rfl rfl)
theorem dX7_patch_28 : decode cX7_patch 28 = .ok (.ifCond .eq 12, 3) := dk_153 0 12 (dk_at dksX7_patch_1 6 rfl rfl)
theorem dX7_patch_31 : decode cX7_patch 31 = .ok (.aload_n 0, 1) := dk_42 (dk_at dksX7_patch_1 9 rfl rfl)
theorem dX7_patch_32 : decode cX7_patch 32 = .ok (.iload_n 1, 1) := dk_27 (dk_at dksX7_patch_1 10 rfl rfl)
theorem dX7_patch_33 : decode cX7_patch 33 = .ok (.iload_n 2, 1) := dk_28 (dk_at dksX7_patch_1 11 rfl rfl)
theorem dX7_patch_34 : decode cX7_patch 34 = .ok (.invokevirtual 414, 3) := dk_182 1 158 (dk_at dksX7_patch_1 12 rfl rfl)
theorem dX7_patch_37 : decode cX7_patch 37 = .ok (.goto 8, 3) := dk_167 0 8 (dk_at dksX7_patch_1 15 rfl rfl)
theorem dX7_patch_40 : decode cX7_patch 40 = .ok (.aload_n 0, 1) := dk_42 (dk_at dksX7_patch_1 18 rfl rfl)
theorem dX7_patch_41 : decode cX7_patch 41 = .ok (.iconst 2, 1) := dk_5 (dk_at dksX7_patch_1 19 rfl rfl)
theorem dX7_patch_42 : decode cX7_patch 42 = .ok (.invokevirtual 318, 3) := dk_182 1 62 (dk_at dksX7_patch_1 20 rfl rfl)
theorem dX7_patch_45 : decode cX7_patch 45 = .ok (.ireturn, 1) := dk_172 (dk_at dksX7_patch_1 23 rfl rfl)
abbrev cX7_patches : ByteArray := prog_18_method_86_code
def yX7_patches : MethodName := ⟨RX7, "patches", "(I)I"⟩
def dkwX7_patches_2 : List UInt8 := [167, 0, 16, 29, 42, 21, 4, 27, 182, 1, 158, 128, 62, 132, 2, 1, 132, 4, 1, 167, 255, 219, 28, 172]
abbrev dktX7_patches_2 : List UInt8 := dkwX7_patches_2 ++ []
def dkwX7_patches_1 : List UInt8 := [61, 3, 62, 3, 54, 4, 21, 4, 42, 182, 0, 153, 162, 0, 34, 29, 21, 4, 184, 0, 232, 153, 0, 6]
abbrev dktX7_patches_1 : List UInt8 := dkwX7_patches_1 ++ dktX7_patches_2
def dkwX7_patches_0 : List UInt8 := [42, 3, 181, 0, 150, 27, 133, 9, 20, 1, 205, 184, 0, 157, 154, 0, 9, 42, 4, 182, 1, 62, 172, 3]
abbrev dktX7_patches_0 : List UInt8 := dkwX7_patches_0 ++ dktX7_patches_1
theorem dksX7_patches_0 : cX7_patches.data.toList.drop 0 = dktX7_patches_0 := by decide +kernel
theorem dksX7_patches_1 : cX7_patches.data.toList.drop 24 = dktX7_patches_1 := dk_seg dksX7_patches_0 24 rfl rfl
theorem dksX7_patches_2 : cX7_patches.data.toList.drop 48 = dktX7_patches_2 := dk_seg dksX7_patches_1 24 rfl rfl
theorem dX7_patches_0 : decode cX7_patches 0 = .ok (.aload_n 0, 1) := dk_42 (dk_at dksX7_patches_0 0 rfl rfl)
theorem dX7_patches_1 : decode cX7_patches 1 = .ok (.iconst 0, 1) := dk_3 (dk_at dksX7_patches_0 1 rfl rfl)
theorem dX7_patches_2 : decode cX7_patches 2 = .ok (.putfield 150, 3) := dk_181 0 150 (dk_at dksX7_patches_0 2 rfl rfl)
theorem dX7_patches_5 : decode cX7_patches 5 = .ok (.iload_n 1, 1) := dk_27 (dk_at dksX7_patches_0 5 rfl rfl)
theorem dX7_patches_6 : decode cX7_patches 6 = .ok (.i2l, 1) := dk_133 (dk_at dksX7_patches_0 6 rfl rfl)
theorem dX7_patches_7 : decode cX7_patches 7 = .ok (.lconst 0, 1) := dk_9 (dk_at dksX7_patches_0 7 rfl rfl)
theorem dX7_patches_8 : decode cX7_patches 8 = .ok (.ldc2_w 461, 3) := dk_20 1 205 (dk_at dksX7_patches_0 8 rfl rfl)
theorem dX7_patches_11 : decode cX7_patches 11 = .ok (.invokestatic 157, 3) := dk_184 0 157 (dk_at dksX7_patches_0 11 rfl rfl)
theorem dX7_patches_14 : decode cX7_patches 14 = .ok (.ifCond .ne 9, 3) := dk_154 0 9 (dk_at dksX7_patches_0 14 rfl rfl)
theorem dX7_patches_17 : decode cX7_patches 17 = .ok (.aload_n 0, 1) := dk_42 (dk_at dksX7_patches_0 17 rfl rfl)
theorem dX7_patches_18 : decode cX7_patches 18 = .ok (.iconst 1, 1) := dk_4 (dk_at dksX7_patches_0 18 rfl rfl)
theorem dX7_patches_19 : decode cX7_patches 19 = .ok (.invokevirtual 318, 3) := dk_182 1 62 (dk_at dksX7_patches_0 19 rfl rfl)
theorem dX7_patches_22 : decode cX7_patches 22 = .ok (.ireturn, 1) := dk_172 (dk_at dksX7_patches_0 22 rfl rfl)
theorem dX7_patches_23 : decode cX7_patches 23 = .ok (.iconst 0, 1) := dk_3 (dk_at dksX7_patches_0 23 rfl rfl)
theorem dX7_patches_24 : decode cX7_patches 24 = .ok (.istore_n 2, 1) := dk_61 (dk_at dksX7_patches_1 0 rfl rfl)
theorem dX7_patches_25 : decode cX7_patches 25 = .ok (.iconst 0, 1) := dk_3 (dk_at dksX7_patches_1 1 rfl rfl)
theorem dX7_patches_26 : decode cX7_patches 26 = .ok (.istore_n 3, 1) := dk_62 (dk_at dksX7_patches_1 2 rfl rfl)
theorem dX7_patches_27 : decode cX7_patches 27 = .ok (.iconst 0, 1) := dk_3 (dk_at dksX7_patches_1 3 rfl rfl)
theorem dX7_patches_28 : decode cX7_patches 28 = .ok (.istore 4, 2) := dk_54 4 (dk_at dksX7_patches_1 4 rfl rfl)
theorem dX7_patches_30 : decode cX7_patches 30 = .ok (.iload 4, 2) := dk_21 4 (dk_at dksX7_patches_1 6 rfl rfl)
theorem dX7_patches_32 : decode cX7_patches 32 = .ok (.aload_n 0, 1) := dk_42 (dk_at dksX7_patches_1 8 rfl rfl)
theorem dX7_patches_33 : decode cX7_patches 33 = .ok (.invokevirtual 153, 3) := dk_182 0 153 (dk_at dksX7_patches_1 9 rfl rfl)
theorem dX7_patches_36 : decode cX7_patches 36 = .ok (.if_icmp .ge 34, 3) := dk_162 0 34 (dk_at dksX7_patches_1 12 rfl rfl)
theorem dX7_patches_39 : decode cX7_patches 39 = .ok (.iload_n 3, 1) := dk_29 (dk_at dksX7_patches_1 15 rfl rfl)
theorem dX7_patches_40 : decode cX7_patches 40 = .ok (.iload 4, 2) := dk_21 4 (dk_at dksX7_patches_1 16 rfl rfl)
theorem dX7_patches_42 : decode cX7_patches 42 = .ok (.invokestatic 232, 3) := dk_184 0 232 (dk_at dksX7_patches_1 18 rfl rfl)
theorem dX7_patches_45 : decode cX7_patches 45 = .ok (.ifCond .eq 6, 3) := dk_153 0 6 (dk_at dksX7_patches_1 21 rfl rfl)
theorem dX7_patches_48 : decode cX7_patches 48 = .ok (.goto 16, 3) := dk_167 0 16 (dk_at dksX7_patches_2 0 rfl rfl)
theorem dX7_patches_51 : decode cX7_patches 51 = .ok (.iload_n 3, 1) := dk_29 (dk_at dksX7_patches_2 3 rfl rfl)
theorem dX7_patches_52 : decode cX7_patches 52 = .ok (.aload_n 0, 1) := dk_42 (dk_at dksX7_patches_2 4 rfl rfl)
theorem dX7_patches_53 : decode cX7_patches 53 = .ok (.iload 4, 2) := dk_21 4 (dk_at dksX7_patches_2 5 rfl rfl)
theorem dX7_patches_55 : decode cX7_patches 55 = .ok (.iload_n 1, 1) := dk_27 (dk_at dksX7_patches_2 7 rfl rfl)
theorem dX7_patches_56 : decode cX7_patches 56 = .ok (.invokevirtual 414, 3) := dk_182 1 158 (dk_at dksX7_patches_2 8 rfl rfl)
theorem dX7_patches_59 : decode cX7_patches 59 = .ok (.ior, 1) := dk_128 (dk_at dksX7_patches_2 11 rfl rfl)
theorem dX7_patches_60 : decode cX7_patches 60 = .ok (.istore_n 3, 1) := dk_62 (dk_at dksX7_patches_2 12 rfl rfl)
theorem dX7_patches_61 : decode cX7_patches 61 = .ok (.iinc 2 1, 3) := dk_132 2 1 (dk_at dksX7_patches_2 13 rfl rfl)
theorem dX7_patches_64 : decode cX7_patches 64 = .ok (.iinc 4 1, 3) := dk_132 4 1 (dk_at dksX7_patches_2 16 rfl rfl)
theorem dX7_patches_67 : decode cX7_patches 67 = .ok (.goto (-37), 3) := dk_167 255 219 (dk_at dksX7_patches_2 19 rfl rfl)
theorem dX7_patches_70 : decode cX7_patches 70 = .ok (.iload_n 2, 1) := dk_28 (dk_at dksX7_patches_2 22 rfl rfl)
theorem dX7_patches_71 : decode cX7_patches 71 = .ok (.ireturn, 1) := dk_172 (dk_at dksX7_patches_2 23 rfl rfl)
abbrev cX7_way : ByteArray := prog_18_method_87_code
def yX7_way : MethodName := ⟨RX7, "way", "(II)I"⟩
def dkwX7_way_5 : List UInt8 := [132, 4, 1, 167, 255, 180, 2, 172]
abbrev dktX7_way_5 : List UInt8 := dkwX7_way_5 ++ []
def dkwX7_way_4 : List UInt8 := [167, 0, 4, 3, 128, 54, 5, 132, 6, 1, 167, 255, 220, 21, 5, 42, 180, 1, 80, 2, 130, 126, 62]
abbrev dktX7_way_4 : List UInt8 := dkwX7_way_4 ++ dktX7_way_5
def dkwX7_way_3 : List UInt8 := [182, 0, 153, 162, 0, 33, 21, 5, 29, 21, 6, 184, 0, 232, 153, 0, 12, 42, 21, 6, 182, 1, 107]
abbrev dktX7_way_3 : List UInt8 := dkwX7_way_3 ++ dktX7_way_4
def dkwX7_way_2 : List UInt8 := [162, 0, 75, 29, 28, 184, 0, 232, 153, 0, 6, 21, 4, 172, 29, 54, 5, 3, 54, 6, 21, 6, 42]
abbrev dktX7_way_2 : List UInt8 := dkwX7_way_2 ++ dktX7_way_3
def dkwX7_way_1 : List UInt8 := [182, 1, 62, 172, 4, 27, 120, 42, 180, 1, 80, 2, 130, 126, 62, 3, 54, 4, 21, 4, 16, 30]
abbrev dktX7_way_1 : List UInt8 := dkwX7_way_1 ++ dktX7_way_2
def dkwX7_way_0 : List UInt8 := [42, 3, 181, 0, 150, 42, 27, 182, 1, 152, 153, 0, 11, 42, 28, 182, 1, 152, 154, 0, 9, 42, 4]
abbrev dktX7_way_0 : List UInt8 := dkwX7_way_0 ++ dktX7_way_1
theorem dksX7_way_0 : cX7_way.data.toList.drop 0 = dktX7_way_0 := by decide +kernel
theorem dksX7_way_1 : cX7_way.data.toList.drop 23 = dktX7_way_1 := dk_seg dksX7_way_0 23 rfl rfl
theorem dksX7_way_2 : cX7_way.data.toList.drop 45 = dktX7_way_2 := dk_seg dksX7_way_1 22 rfl rfl
theorem dksX7_way_3 : cX7_way.data.toList.drop 68 = dktX7_way_3 := dk_seg dksX7_way_2 23 rfl rfl
theorem dksX7_way_4 : cX7_way.data.toList.drop 91 = dktX7_way_4 := dk_seg dksX7_way_3 23 rfl rfl
theorem dksX7_way_5 : cX7_way.data.toList.drop 114 = dktX7_way_5 := dk_seg dksX7_way_4 23 rfl rfl
theorem dX7_way_0 : decode cX7_way 0 = .ok (.aload_n 0, 1) := dk_42 (dk_at dksX7_way_0 0 rfl rfl)
theorem dX7_way_1 : decode cX7_way 1 = .ok (.iconst 0, 1) := dk_3 (dk_at dksX7_way_0 1 rfl rfl)
theorem dX7_way_2 : decode cX7_way 2 = .ok (.putfield 150, 3) := dk_181 0 150 (dk_at dksX7_way_0 2 rfl rfl)
theorem dX7_way_5 : decode cX7_way 5 = .ok (.aload_n 0, 1) := dk_42 (dk_at dksX7_way_0 5 rfl rfl)
theorem dX7_way_6 : decode cX7_way 6 = .ok (.iload_n 1, 1) := dk_27 (dk_at dksX7_way_0 6 rfl rfl)
theorem dX7_way_7 : decode cX7_way 7 = .ok (.invokevirtual 408, 3) := dk_182 1 152 (dk_at dksX7_way_0 7 rfl rfl)
theorem dX7_way_10 : decode cX7_way 10 = .ok (.ifCond .eq 11, 3) := dk_153 0 11 (dk_at dksX7_way_0 10 rfl rfl)
theorem dX7_way_13 : decode cX7_way 13 = .ok (.aload_n 0, 1) := dk_42 (dk_at dksX7_way_0 13 rfl rfl)
theorem dX7_way_14 : decode cX7_way 14 = .ok (.iload_n 2, 1) := dk_28 (dk_at dksX7_way_0 14 rfl rfl)
theorem dX7_way_15 : decode cX7_way 15 = .ok (.invokevirtual 408, 3) := dk_182 1 152 (dk_at dksX7_way_0 15 rfl rfl)
theorem dX7_way_18 : decode cX7_way 18 = .ok (.ifCond .ne 9, 3) := dk_154 0 9 (dk_at dksX7_way_0 18 rfl rfl)
theorem dX7_way_21 : decode cX7_way 21 = .ok (.aload_n 0, 1) := dk_42 (dk_at dksX7_way_0 21 rfl rfl)
theorem dX7_way_22 : decode cX7_way 22 = .ok (.iconst 1, 1) := dk_4 (dk_at dksX7_way_0 22 rfl rfl)
theorem dX7_way_23 : decode cX7_way 23 = .ok (.invokevirtual 318, 3) := dk_182 1 62 (dk_at dksX7_way_1 0 rfl rfl)
theorem dX7_way_26 : decode cX7_way 26 = .ok (.ireturn, 1) := dk_172 (dk_at dksX7_way_1 3 rfl rfl)
theorem dX7_way_27 : decode cX7_way 27 = .ok (.iconst 1, 1) := dk_4 (dk_at dksX7_way_1 4 rfl rfl)
theorem dX7_way_28 : decode cX7_way 28 = .ok (.iload_n 1, 1) := dk_27 (dk_at dksX7_way_1 5 rfl rfl)
theorem dX7_way_29 : decode cX7_way 29 = .ok (.ishl, 1) := dk_120 (dk_at dksX7_way_1 6 rfl rfl)
theorem dX7_way_30 : decode cX7_way 30 = .ok (.aload_n 0, 1) := dk_42 (dk_at dksX7_way_1 7 rfl rfl)
theorem dX7_way_31 : decode cX7_way 31 = .ok (.getfield 336, 3) := dk_180 1 80 (dk_at dksX7_way_1 8 rfl rfl)
theorem dX7_way_34 : decode cX7_way 34 = .ok (.iconst (-1), 1) := dk_2 (dk_at dksX7_way_1 11 rfl rfl)
theorem dX7_way_35 : decode cX7_way 35 = .ok (.ixor, 1) := dk_130 (dk_at dksX7_way_1 12 rfl rfl)
theorem dX7_way_36 : decode cX7_way 36 = .ok (.iand, 1) := dk_126 (dk_at dksX7_way_1 13 rfl rfl)
theorem dX7_way_37 : decode cX7_way 37 = .ok (.istore_n 3, 1) := dk_62 (dk_at dksX7_way_1 14 rfl rfl)
theorem dX7_way_38 : decode cX7_way 38 = .ok (.iconst 0, 1) := dk_3 (dk_at dksX7_way_1 15 rfl rfl)
theorem dX7_way_39 : decode cX7_way 39 = .ok (.istore 4, 2) := dk_54 4 (dk_at dksX7_way_1 16 rfl rfl)
theorem dX7_way_41 : decode cX7_way 41 = .ok (.iload 4, 2) := dk_21 4 (dk_at dksX7_way_1 18 rfl rfl)
theorem dX7_way_43 : decode cX7_way 43 = .ok (.bipush 30, 2) := dk_16 30 (dk_at dksX7_way_1 20 rfl rfl)
theorem dX7_way_45 : decode cX7_way 45 = .ok (.if_icmp .ge 75, 3) := dk_162 0 75 (dk_at dksX7_way_2 0 rfl rfl)
theorem dX7_way_48 : decode cX7_way 48 = .ok (.iload_n 3, 1) := dk_29 (dk_at dksX7_way_2 3 rfl rfl)
theorem dX7_way_49 : decode cX7_way 49 = .ok (.iload_n 2, 1) := dk_28 (dk_at dksX7_way_2 4 rfl rfl)
theorem dX7_way_50 : decode cX7_way 50 = .ok (.invokestatic 232, 3) := dk_184 0 232 (dk_at dksX7_way_2 5 rfl rfl)
theorem dX7_way_53 : decode cX7_way 53 = .ok (.ifCond .eq 6, 3) := dk_153 0 6 (dk_at dksX7_way_2 8 rfl rfl)
theorem dX7_way_56 : decode cX7_way 56 = .ok (.iload 4, 2) := dk_21 4 (dk_at dksX7_way_2 11 rfl rfl)
theorem dX7_way_58 : decode cX7_way 58 = .ok (.ireturn, 1) := dk_172 (dk_at dksX7_way_2 13 rfl rfl)
theorem dX7_way_59 : decode cX7_way 59 = .ok (.iload_n 3, 1) := dk_29 (dk_at dksX7_way_2 14 rfl rfl)
theorem dX7_way_60 : decode cX7_way 60 = .ok (.istore 5, 2) := dk_54 5 (dk_at dksX7_way_2 15 rfl rfl)
theorem dX7_way_62 : decode cX7_way 62 = .ok (.iconst 0, 1) := dk_3 (dk_at dksX7_way_2 17 rfl rfl)
theorem dX7_way_63 : decode cX7_way 63 = .ok (.istore 6, 2) := dk_54 6 (dk_at dksX7_way_2 18 rfl rfl)
theorem dX7_way_65 : decode cX7_way 65 = .ok (.iload 6, 2) := dk_21 6 (dk_at dksX7_way_2 20 rfl rfl)
theorem dX7_way_67 : decode cX7_way 67 = .ok (.aload_n 0, 1) := dk_42 (dk_at dksX7_way_2 22 rfl rfl)
theorem dX7_way_68 : decode cX7_way 68 = .ok (.invokevirtual 153, 3) := dk_182 0 153 (dk_at dksX7_way_3 0 rfl rfl)
theorem dX7_way_71 : decode cX7_way 71 = .ok (.if_icmp .ge 33, 3) := dk_162 0 33 (dk_at dksX7_way_3 3 rfl rfl)
theorem dX7_way_74 : decode cX7_way 74 = .ok (.iload 5, 2) := dk_21 5 (dk_at dksX7_way_3 6 rfl rfl)
theorem dX7_way_76 : decode cX7_way 76 = .ok (.iload_n 3, 1) := dk_29 (dk_at dksX7_way_3 8 rfl rfl)
theorem dX7_way_77 : decode cX7_way 77 = .ok (.iload 6, 2) := dk_21 6 (dk_at dksX7_way_3 9 rfl rfl)
theorem dX7_way_79 : decode cX7_way 79 = .ok (.invokestatic 232, 3) := dk_184 0 232 (dk_at dksX7_way_3 11 rfl rfl)
theorem dX7_way_82 : decode cX7_way 82 = .ok (.ifCond .eq 12, 3) := dk_153 0 12 (dk_at dksX7_way_3 14 rfl rfl)
theorem dX7_way_85 : decode cX7_way 85 = .ok (.aload_n 0, 1) := dk_42 (dk_at dksX7_way_3 17 rfl rfl)
theorem dX7_way_86 : decode cX7_way 86 = .ok (.iload 6, 2) := dk_21 6 (dk_at dksX7_way_3 18 rfl rfl)
theorem dX7_way_88 : decode cX7_way 88 = .ok (.invokevirtual 363, 3) := dk_182 1 107 (dk_at dksX7_way_3 20 rfl rfl)
theorem dX7_way_91 : decode cX7_way 91 = .ok (.goto 4, 3) := dk_167 0 4 (dk_at dksX7_way_4 0 rfl rfl)
theorem dX7_way_94 : decode cX7_way 94 = .ok (.iconst 0, 1) := dk_3 (dk_at dksX7_way_4 3 rfl rfl)
theorem dX7_way_95 : decode cX7_way 95 = .ok (.ior, 1) := dk_128 (dk_at dksX7_way_4 4 rfl rfl)
theorem dX7_way_96 : decode cX7_way 96 = .ok (.istore 5, 2) := dk_54 5 (dk_at dksX7_way_4 5 rfl rfl)
theorem dX7_way_98 : decode cX7_way 98 = .ok (.iinc 6 1, 3) := dk_132 6 1 (dk_at dksX7_way_4 7 rfl rfl)
theorem dX7_way_101 : decode cX7_way 101 = .ok (.goto (-36), 3) := dk_167 255 220 (dk_at dksX7_way_4 10 rfl rfl)
theorem dX7_way_104 : decode cX7_way 104 = .ok (.iload 5, 2) := dk_21 5 (dk_at dksX7_way_4 13 rfl rfl)
theorem dX7_way_106 : decode cX7_way 106 = .ok (.aload_n 0, 1) := dk_42 (dk_at dksX7_way_4 15 rfl rfl)
theorem dX7_way_107 : decode cX7_way 107 = .ok (.getfield 336, 3) := dk_180 1 80 (dk_at dksX7_way_4 16 rfl rfl)
theorem dX7_way_110 : decode cX7_way 110 = .ok (.iconst (-1), 1) := dk_2 (dk_at dksX7_way_4 19 rfl rfl)
theorem dX7_way_111 : decode cX7_way 111 = .ok (.ixor, 1) := dk_130 (dk_at dksX7_way_4 20 rfl rfl)
theorem dX7_way_112 : decode cX7_way 112 = .ok (.iand, 1) := dk_126 (dk_at dksX7_way_4 21 rfl rfl)
theorem dX7_way_113 : decode cX7_way 113 = .ok (.istore_n 3, 1) := dk_62 (dk_at dksX7_way_4 22 rfl rfl)
theorem dX7_way_114 : decode cX7_way 114 = .ok (.iinc 4 1, 3) := dk_132 4 1 (dk_at dksX7_way_5 0 rfl rfl)
theorem dX7_way_117 : decode cX7_way 117 = .ok (.goto (-76), 3) := dk_167 255 180 (dk_at dksX7_way_5 3 rfl rfl)
theorem dX7_way_120 : decode cX7_way 120 = .ok (.iconst (-1), 1) := dk_2 (dk_at dksX7_way_5 6 rfl rfl)
theorem dX7_way_121 : decode cX7_way 121 = .ok (.ireturn, 1) := dk_172 (dk_at dksX7_way_5 7 rfl rfl)
abbrev cX7_toRest : ByteArray := prog_18_method_89_code
def yX7_toRest : MethodName := ⟨RX7, "toRest", "()I"⟩
def dkwX7_toRest_3 : List UInt8 := [167, 0, 9, 21, 4, 60, 21, 5, 61, 132, 4, 1, 167, 255, 194, 27, 172]
abbrev dktX7_toRest_3 : List UInt8 := dkwX7_toRest_3 ++ []
def dkwX7_toRest_2 : List UInt8 := [21, 4, 120, 128, 181, 1, 83, 42, 182, 1, 207, 54, 5, 42, 29, 181, 1, 83, 21, 5, 28, 161, 0, 6]
abbrev dktX7_toRest_2 : List UInt8 := dkwX7_toRest_2 ++ dktX7_toRest_3
def dkwX7_toRest_1 : List UInt8 := [180, 0, 40, 5, 46, 162, 0, 57, 29, 21, 4, 184, 0, 232, 153, 0, 6, 167, 0, 39, 42, 29, 4]
abbrev dktX7_toRest_1 : List UInt8 := dkwX7_toRest_1 ++ dktX7_toRest_2
def dkwX7_toRest_0 : List UInt8 := [42, 3, 181, 0, 150, 2, 60, 42, 182, 1, 207, 61, 42, 180, 1, 83, 62, 3, 54, 4, 21, 4, 42]
abbrev dktX7_toRest_0 : List UInt8 := dkwX7_toRest_0 ++ dktX7_toRest_1
theorem dksX7_toRest_0 : cX7_toRest.data.toList.drop 0 = dktX7_toRest_0 := by decide +kernel
theorem dksX7_toRest_1 : cX7_toRest.data.toList.drop 23 = dktX7_toRest_1 := dk_seg dksX7_toRest_0 23 rfl rfl
theorem dksX7_toRest_2 : cX7_toRest.data.toList.drop 46 = dktX7_toRest_2 := dk_seg dksX7_toRest_1 23 rfl rfl
theorem dksX7_toRest_3 : cX7_toRest.data.toList.drop 70 = dktX7_toRest_3 := dk_seg dksX7_toRest_2 24 rfl rfl
theorem dX7_toRest_0 : decode cX7_toRest 0 = .ok (.aload_n 0, 1) := dk_42 (dk_at dksX7_toRest_0 0 rfl rfl)
theorem dX7_toRest_1 : decode cX7_toRest 1 = .ok (.iconst 0, 1) := dk_3 (dk_at dksX7_toRest_0 1 rfl rfl)
theorem dX7_toRest_2 : decode cX7_toRest 2 = .ok (.putfield 150, 3) := dk_181 0 150 (dk_at dksX7_toRest_0 2 rfl rfl)
theorem dX7_toRest_5 : decode cX7_toRest 5 = .ok (.iconst (-1), 1) := dk_2 (dk_at dksX7_toRest_0 5 rfl rfl)
theorem dX7_toRest_6 : decode cX7_toRest 6 = .ok (.istore_n 1, 1) := dk_60 (dk_at dksX7_toRest_0 6 rfl rfl)
theorem dX7_toRest_7 : decode cX7_toRest 7 = .ok (.aload_n 0, 1) := dk_42 (dk_at dksX7_toRest_0 7 rfl rfl)
theorem dX7_toRest_8 : decode cX7_toRest 8 = .ok (.invokevirtual 463, 3) := dk_182 1 207 (dk_at dksX7_toRest_0 8 rfl rfl)
theorem dX7_toRest_11 : decode cX7_toRest 11 = .ok (.istore_n 2, 1) := dk_61 (dk_at dksX7_toRest_0 11 rfl rfl)
theorem dX7_toRest_12 : decode cX7_toRest 12 = .ok (.aload_n 0, 1) := dk_42 (dk_at dksX7_toRest_0 12 rfl rfl)
theorem dX7_toRest_13 : decode cX7_toRest 13 = .ok (.getfield 339, 3) := dk_180 1 83 (dk_at dksX7_toRest_0 13 rfl rfl)
theorem dX7_toRest_16 : decode cX7_toRest 16 = .ok (.istore_n 3, 1) := dk_62 (dk_at dksX7_toRest_0 16 rfl rfl)
theorem dX7_toRest_17 : decode cX7_toRest 17 = .ok (.iconst 0, 1) := dk_3 (dk_at dksX7_toRest_0 17 rfl rfl)
theorem dX7_toRest_18 : decode cX7_toRest 18 = .ok (.istore 4, 2) := dk_54 4 (dk_at dksX7_toRest_0 18 rfl rfl)
theorem dX7_toRest_20 : decode cX7_toRest 20 = .ok (.iload 4, 2) := dk_21 4 (dk_at dksX7_toRest_0 20 rfl rfl)
theorem dX7_toRest_22 : decode cX7_toRest 22 = .ok (.aload_n 0, 1) := dk_42 (dk_at dksX7_toRest_0 22 rfl rfl)
theorem dX7_toRest_23 : decode cX7_toRest 23 = .ok (.getfield 40, 3) := dk_180 0 40 (dk_at dksX7_toRest_1 0 rfl rfl)
theorem dX7_toRest_26 : decode cX7_toRest 26 = .ok (.iconst 2, 1) := dk_5 (dk_at dksX7_toRest_1 3 rfl rfl)
theorem dX7_toRest_27 : decode cX7_toRest 27 = .ok (.iaload, 1) := dk_46 (dk_at dksX7_toRest_1 4 rfl rfl)
theorem dX7_toRest_28 : decode cX7_toRest 28 = .ok (.if_icmp .ge 57, 3) := dk_162 0 57 (dk_at dksX7_toRest_1 5 rfl rfl)
theorem dX7_toRest_31 : decode cX7_toRest 31 = .ok (.iload_n 3, 1) := dk_29 (dk_at dksX7_toRest_1 8 rfl rfl)
theorem dX7_toRest_32 : decode cX7_toRest 32 = .ok (.iload 4, 2) := dk_21 4 (dk_at dksX7_toRest_1 9 rfl rfl)
theorem dX7_toRest_34 : decode cX7_toRest 34 = .ok (.invokestatic 232, 3) := dk_184 0 232 (dk_at dksX7_toRest_1 11 rfl rfl)
theorem dX7_toRest_37 : decode cX7_toRest 37 = .ok (.ifCond .eq 6, 3) := dk_153 0 6 (dk_at dksX7_toRest_1 14 rfl rfl)
theorem dX7_toRest_40 : decode cX7_toRest 40 = .ok (.goto 39, 3) := dk_167 0 39 (dk_at dksX7_toRest_1 17 rfl rfl)
theorem dX7_toRest_43 : decode cX7_toRest 43 = .ok (.aload_n 0, 1) := dk_42 (dk_at dksX7_toRest_1 20 rfl rfl)
theorem dX7_toRest_44 : decode cX7_toRest 44 = .ok (.iload_n 3, 1) := dk_29 (dk_at dksX7_toRest_1 21 rfl rfl)
theorem dX7_toRest_45 : decode cX7_toRest 45 = .ok (.iconst 1, 1) := dk_4 (dk_at dksX7_toRest_1 22 rfl rfl)
theorem dX7_toRest_46 : decode cX7_toRest 46 = .ok (.iload 4, 2) := dk_21 4 (dk_at dksX7_toRest_2 0 rfl rfl)
theorem dX7_toRest_48 : decode cX7_toRest 48 = .ok (.ishl, 1) := dk_120 (dk_at dksX7_toRest_2 2 rfl rfl)
theorem dX7_toRest_49 : decode cX7_toRest 49 = .ok (.ior, 1) := dk_128 (dk_at dksX7_toRest_2 3 rfl rfl)
theorem dX7_toRest_50 : decode cX7_toRest 50 = .ok (.putfield 339, 3) := dk_181 1 83 (dk_at dksX7_toRest_2 4 rfl rfl)
theorem dX7_toRest_53 : decode cX7_toRest 53 = .ok (.aload_n 0, 1) := dk_42 (dk_at dksX7_toRest_2 7 rfl rfl)
theorem dX7_toRest_54 : decode cX7_toRest 54 = .ok (.invokevirtual 463, 3) := dk_182 1 207 (dk_at dksX7_toRest_2 8 rfl rfl)
theorem dX7_toRest_57 : decode cX7_toRest 57 = .ok (.istore 5, 2) := dk_54 5 (dk_at dksX7_toRest_2 11 rfl rfl)
theorem dX7_toRest_59 : decode cX7_toRest 59 = .ok (.aload_n 0, 1) := dk_42 (dk_at dksX7_toRest_2 13 rfl rfl)
theorem dX7_toRest_60 : decode cX7_toRest 60 = .ok (.iload_n 3, 1) := dk_29 (dk_at dksX7_toRest_2 14 rfl rfl)
theorem dX7_toRest_61 : decode cX7_toRest 61 = .ok (.putfield 339, 3) := dk_181 1 83 (dk_at dksX7_toRest_2 15 rfl rfl)
theorem dX7_toRest_64 : decode cX7_toRest 64 = .ok (.iload 5, 2) := dk_21 5 (dk_at dksX7_toRest_2 18 rfl rfl)
theorem dX7_toRest_66 : decode cX7_toRest 66 = .ok (.iload_n 2, 1) := dk_28 (dk_at dksX7_toRest_2 20 rfl rfl)
theorem dX7_toRest_67 : decode cX7_toRest 67 = .ok (.if_icmp .lt 6, 3) := dk_161 0 6 (dk_at dksX7_toRest_2 21 rfl rfl)
theorem dX7_toRest_70 : decode cX7_toRest 70 = .ok (.goto 9, 3) := dk_167 0 9 (dk_at dksX7_toRest_3 0 rfl rfl)
theorem dX7_toRest_73 : decode cX7_toRest 73 = .ok (.iload 4, 2) := dk_21 4 (dk_at dksX7_toRest_3 3 rfl rfl)
theorem dX7_toRest_75 : decode cX7_toRest 75 = .ok (.istore_n 1, 1) := dk_60 (dk_at dksX7_toRest_3 5 rfl rfl)
theorem dX7_toRest_76 : decode cX7_toRest 76 = .ok (.iload 5, 2) := dk_21 5 (dk_at dksX7_toRest_3 6 rfl rfl)
theorem dX7_toRest_78 : decode cX7_toRest 78 = .ok (.istore_n 2, 1) := dk_61 (dk_at dksX7_toRest_3 8 rfl rfl)
theorem dX7_toRest_79 : decode cX7_toRest 79 = .ok (.iinc 4 1, 3) := dk_132 4 1 (dk_at dksX7_toRest_3 9 rfl rfl)
theorem dX7_toRest_82 : decode cX7_toRest 82 = .ok (.goto (-62), 3) := dk_167 255 194 (dk_at dksX7_toRest_3 12 rfl rfl)
theorem dX7_toRest_85 : decode cX7_toRest 85 = .ok (.iload_n 1, 1) := dk_27 (dk_at dksX7_toRest_3 15 rfl rfl)
theorem dX7_toRest_86 : decode cX7_toRest 86 = .ok (.ireturn, 1) := dk_172 (dk_at dksX7_toRest_3 16 rfl rfl)
abbrev cX7_unevenNext : ByteArray := prog_18_method_88_code
def yX7_unevenNext : MethodName := ⟨RX7, "unevenNext", "()I"⟩
def dkwX7_unevenNext_1 : List UInt8 := [182, 1, 184, 27, 172]
abbrev dktX7_unevenNext_1 : List UInt8 := dkwX7_unevenNext_1 ++ []
def dkwX7_unevenNext_0 : List UInt8 := [42, 42, 180, 0, 92, 3, 182, 1, 164, 42, 182, 1, 146, 42, 182, 1, 195, 60, 42, 42, 180, 0, 92, 3]
abbrev dktX7_unevenNext_0 : List UInt8 := dkwX7_unevenNext_0 ++ dktX7_unevenNext_1
theorem dksX7_unevenNext_0 : cX7_unevenNext.data.toList.drop 0 = dktX7_unevenNext_0 := by decide +kernel
theorem dksX7_unevenNext_1 : cX7_unevenNext.data.toList.drop 24 = dktX7_unevenNext_1 := dk_seg dksX7_unevenNext_0 24 rfl rfl
theorem dX7_unevenNext_0 : decode cX7_unevenNext 0 = .ok (.aload_n 0, 1) := dk_42 (dk_at dksX7_unevenNext_0 0 rfl rfl)
theorem dX7_unevenNext_1 : decode cX7_unevenNext 1 = .ok (.aload_n 0, 1) := dk_42 (dk_at dksX7_unevenNext_0 1 rfl rfl)
theorem dX7_unevenNext_2 : decode cX7_unevenNext 2 = .ok (.getfield 92, 3) := dk_180 0 92 (dk_at dksX7_unevenNext_0 2 rfl rfl)
theorem dX7_unevenNext_5 : decode cX7_unevenNext 5 = .ok (.iconst 0, 1) := dk_3 (dk_at dksX7_unevenNext_0 5 rfl rfl)
theorem dX7_unevenNext_6 : decode cX7_unevenNext 6 = .ok (.invokevirtual 420, 3) := dk_182 1 164 (dk_at dksX7_unevenNext_0 6 rfl rfl)
theorem dX7_unevenNext_9 : decode cX7_unevenNext 9 = .ok (.aload_n 0, 1) := dk_42 (dk_at dksX7_unevenNext_0 9 rfl rfl)
theorem dX7_unevenNext_10 : decode cX7_unevenNext 10 = .ok (.invokevirtual 402, 3) := dk_182 1 146 (dk_at dksX7_unevenNext_0 10 rfl rfl)
theorem dX7_unevenNext_13 : decode cX7_unevenNext 13 = .ok (.aload_n 0, 1) := dk_42 (dk_at dksX7_unevenNext_0 13 rfl rfl)
theorem dX7_unevenNext_14 : decode cX7_unevenNext 14 = .ok (.invokevirtual 451, 3) := dk_182 1 195 (dk_at dksX7_unevenNext_0 14 rfl rfl)
theorem dX7_unevenNext_17 : decode cX7_unevenNext 17 = .ok (.istore_n 1, 1) := dk_60 (dk_at dksX7_unevenNext_0 17 rfl rfl)
theorem dX7_unevenNext_18 : decode cX7_unevenNext 18 = .ok (.aload_n 0, 1) := dk_42 (dk_at dksX7_unevenNext_0 18 rfl rfl)
theorem dX7_unevenNext_19 : decode cX7_unevenNext 19 = .ok (.aload_n 0, 1) := dk_42 (dk_at dksX7_unevenNext_0 19 rfl rfl)
theorem dX7_unevenNext_20 : decode cX7_unevenNext 20 = .ok (.getfield 92, 3) := dk_180 0 92 (dk_at dksX7_unevenNext_0 20 rfl rfl)
theorem dX7_unevenNext_23 : decode cX7_unevenNext 23 = .ok (.iconst 0, 1) := dk_3 (dk_at dksX7_unevenNext_0 23 rfl rfl)
theorem dX7_unevenNext_24 : decode cX7_unevenNext 24 = .ok (.invokevirtual 440, 3) := dk_182 1 184 (dk_at dksX7_unevenNext_1 0 rfl rfl)
theorem dX7_unevenNext_27 : decode cX7_unevenNext 27 = .ok (.iload_n 1, 1) := dk_27 (dk_at dksX7_unevenNext_1 3 rfl rfl)
theorem dX7_unevenNext_28 : decode cX7_unevenNext 28 = .ok (.ireturn, 1) := dk_172 (dk_at dksX7_unevenNext_1 4 rfl rfl)
abbrev cX7_toStand : ByteArray := prog_18_method_90_code
def yX7_toStand : MethodName := ⟨RX7, "toStand", "(II)I"⟩
def dkwX7_toStand_4 : List UInt8 := [167, 255, 206, 42, 180, 0, 77, 27, 29, 79, 28, 154, 0, 8, 21, 4, 167, 0, 5, 21, 5, 172]
abbrev dktX7_toStand_4 : List UInt8 := dkwX7_toStand_4 ++ []
def dkwX7_toStand_3 : List UInt8 := [159, 0, 13, 21, 7, 21, 5, 161, 0, 6, 167, 0, 11, 21, 6, 54, 4, 21, 7, 54, 5, 132, 6, 1]
abbrev dktX7_toStand_3 : List UInt8 := dkwX7_toStand_3 ++ dktX7_toStand_4
def dkwX7_toStand_2 : List UInt8 := [182, 0, 153, 162, 0, 47, 42, 180, 0, 77, 27, 21, 6, 79, 42, 182, 1, 207, 54, 7, 21, 4, 2]
abbrev dktX7_toStand_2 : List UInt8 := dkwX7_toStand_2 ++ dktX7_toStand_3
def dkwX7_toStand_1 : List UInt8 := [182, 1, 62, 172, 42, 180, 0, 77, 27, 46, 62, 2, 54, 4, 3, 54, 5, 3, 54, 6, 21, 6, 42]
abbrev dktX7_toStand_1 : List UInt8 := dkwX7_toStand_1 ++ dktX7_toStand_2
def dkwX7_toStand_0 : List UInt8 := [42, 3, 181, 0, 150, 42, 27, 182, 1, 161, 153, 0, 12, 28, 155, 0, 8, 28, 4, 164, 0, 9, 42, 4]
abbrev dktX7_toStand_0 : List UInt8 := dkwX7_toStand_0 ++ dktX7_toStand_1
theorem dksX7_toStand_0 : cX7_toStand.data.toList.drop 0 = dktX7_toStand_0 := by decide +kernel
theorem dksX7_toStand_1 : cX7_toStand.data.toList.drop 24 = dktX7_toStand_1 := dk_seg dksX7_toStand_0 24 rfl rfl
theorem dksX7_toStand_2 : cX7_toStand.data.toList.drop 47 = dktX7_toStand_2 := dk_seg dksX7_toStand_1 23 rfl rfl
theorem dksX7_toStand_3 : cX7_toStand.data.toList.drop 70 = dktX7_toStand_3 := dk_seg dksX7_toStand_2 23 rfl rfl
theorem dksX7_toStand_4 : cX7_toStand.data.toList.drop 94 = dktX7_toStand_4 := dk_seg dksX7_toStand_3 24 rfl rfl
theorem dX7_toStand_0 : decode cX7_toStand 0 = .ok (.aload_n 0, 1) := dk_42 (dk_at dksX7_toStand_0 0 rfl rfl)
theorem dX7_toStand_1 : decode cX7_toStand 1 = .ok (.iconst 0, 1) := dk_3 (dk_at dksX7_toStand_0 1 rfl rfl)
theorem dX7_toStand_2 : decode cX7_toStand 2 = .ok (.putfield 150, 3) := dk_181 0 150 (dk_at dksX7_toStand_0 2 rfl rfl)
theorem dX7_toStand_5 : decode cX7_toStand 5 = .ok (.aload_n 0, 1) := dk_42 (dk_at dksX7_toStand_0 5 rfl rfl)
theorem dX7_toStand_6 : decode cX7_toStand 6 = .ok (.iload_n 1, 1) := dk_27 (dk_at dksX7_toStand_0 6 rfl rfl)
theorem dX7_toStand_7 : decode cX7_toStand 7 = .ok (.invokevirtual 417, 3) := dk_182 1 161 (dk_at dksX7_toStand_0 7 rfl rfl)
theorem dX7_toStand_10 : decode cX7_toStand 10 = .ok (.ifCond .eq 12, 3) := dk_153 0 12 (dk_at dksX7_toStand_0 10 rfl rfl)
theorem dX7_toStand_13 : decode cX7_toStand 13 = .ok (.iload_n 2, 1) := dk_28 (dk_at dksX7_toStand_0 13 rfl rfl)
theorem dX7_toStand_14 : decode cX7_toStand 14 = .ok (.ifCond .lt 8, 3) := dk_155 0 8 (dk_at dksX7_toStand_0 14 rfl rfl)
theorem dX7_toStand_17 : decode cX7_toStand 17 = .ok (.iload_n 2, 1) := dk_28 (dk_at dksX7_toStand_0 17 rfl rfl)
theorem dX7_toStand_18 : decode cX7_toStand 18 = .ok (.iconst 1, 1) := dk_4 (dk_at dksX7_toStand_0 18 rfl rfl)
theorem dX7_toStand_19 : decode cX7_toStand 19 = .ok (.if_icmp .le 9, 3) := dk_164 0 9 (dk_at dksX7_toStand_0 19 rfl rfl)
theorem dX7_toStand_22 : decode cX7_toStand 22 = .ok (.aload_n 0, 1) := dk_42 (dk_at dksX7_toStand_0 22 rfl rfl)
theorem dX7_toStand_23 : decode cX7_toStand 23 = .ok (.iconst 1, 1) := dk_4 (dk_at dksX7_toStand_0 23 rfl rfl)
theorem dX7_toStand_24 : decode cX7_toStand 24 = .ok (.invokevirtual 318, 3) := dk_182 1 62 (dk_at dksX7_toStand_1 0 rfl rfl)
theorem dX7_toStand_27 : decode cX7_toStand 27 = .ok (.ireturn, 1) := dk_172 (dk_at dksX7_toStand_1 3 rfl rfl)
theorem dX7_toStand_28 : decode cX7_toStand 28 = .ok (.aload_n 0, 1) := dk_42 (dk_at dksX7_toStand_1 4 rfl rfl)
theorem dX7_toStand_29 : decode cX7_toStand 29 = .ok (.getfield 77, 3) := dk_180 0 77 (dk_at dksX7_toStand_1 5 rfl rfl)
theorem dX7_toStand_32 : decode cX7_toStand 32 = .ok (.iload_n 1, 1) := dk_27 (dk_at dksX7_toStand_1 8 rfl rfl)
theorem dX7_toStand_33 : decode cX7_toStand 33 = .ok (.iaload, 1) := dk_46 (dk_at dksX7_toStand_1 9 rfl rfl)
theorem dX7_toStand_34 : decode cX7_toStand 34 = .ok (.istore_n 3, 1) := dk_62 (dk_at dksX7_toStand_1 10 rfl rfl)
theorem dX7_toStand_35 : decode cX7_toStand 35 = .ok (.iconst (-1), 1) := dk_2 (dk_at dksX7_toStand_1 11 rfl rfl)
theorem dX7_toStand_36 : decode cX7_toStand 36 = .ok (.istore 4, 2) := dk_54 4 (dk_at dksX7_toStand_1 12 rfl rfl)
theorem dX7_toStand_38 : decode cX7_toStand 38 = .ok (.iconst 0, 1) := dk_3 (dk_at dksX7_toStand_1 14 rfl rfl)
theorem dX7_toStand_39 : decode cX7_toStand 39 = .ok (.istore 5, 2) := dk_54 5 (dk_at dksX7_toStand_1 15 rfl rfl)
theorem dX7_toStand_41 : decode cX7_toStand 41 = .ok (.iconst 0, 1) := dk_3 (dk_at dksX7_toStand_1 17 rfl rfl)
theorem dX7_toStand_42 : decode cX7_toStand 42 = .ok (.istore 6, 2) := dk_54 6 (dk_at dksX7_toStand_1 18 rfl rfl)
theorem dX7_toStand_44 : decode cX7_toStand 44 = .ok (.iload 6, 2) := dk_21 6 (dk_at dksX7_toStand_1 20 rfl rfl)
theorem dX7_toStand_46 : decode cX7_toStand 46 = .ok (.aload_n 0, 1) := dk_42 (dk_at dksX7_toStand_1 22 rfl rfl)
theorem dX7_toStand_47 : decode cX7_toStand 47 = .ok (.invokevirtual 153, 3) := dk_182 0 153 (dk_at dksX7_toStand_2 0 rfl rfl)
theorem dX7_toStand_50 : decode cX7_toStand 50 = .ok (.if_icmp .ge 47, 3) := dk_162 0 47 (dk_at dksX7_toStand_2 3 rfl rfl)
theorem dX7_toStand_53 : decode cX7_toStand 53 = .ok (.aload_n 0, 1) := dk_42 (dk_at dksX7_toStand_2 6 rfl rfl)
theorem dX7_toStand_54 : decode cX7_toStand 54 = .ok (.getfield 77, 3) := dk_180 0 77 (dk_at dksX7_toStand_2 7 rfl rfl)
theorem dX7_toStand_57 : decode cX7_toStand 57 = .ok (.iload_n 1, 1) := dk_27 (dk_at dksX7_toStand_2 10 rfl rfl)
theorem dX7_toStand_58 : decode cX7_toStand 58 = .ok (.iload 6, 2) := dk_21 6 (dk_at dksX7_toStand_2 11 rfl rfl)
theorem dX7_toStand_60 : decode cX7_toStand 60 = .ok (.iastore, 1) := dk_79 (dk_at dksX7_toStand_2 13 rfl rfl)
theorem dX7_toStand_61 : decode cX7_toStand 61 = .ok (.aload_n 0, 1) := dk_42 (dk_at dksX7_toStand_2 14 rfl rfl)
theorem dX7_toStand_62 : decode cX7_toStand 62 = .ok (.invokevirtual 463, 3) := dk_182 1 207 (dk_at dksX7_toStand_2 15 rfl rfl)
theorem dX7_toStand_65 : decode cX7_toStand 65 = .ok (.istore 7, 2) := dk_54 7 (dk_at dksX7_toStand_2 18 rfl rfl)
theorem dX7_toStand_67 : decode cX7_toStand 67 = .ok (.iload 4, 2) := dk_21 4 (dk_at dksX7_toStand_2 20 rfl rfl)
theorem dX7_toStand_69 : decode cX7_toStand 69 = .ok (.iconst (-1), 1) := dk_2 (dk_at dksX7_toStand_2 22 rfl rfl)
theorem dX7_toStand_70 : decode cX7_toStand 70 = .ok (.if_icmp .eq 13, 3) := dk_159 0 13 (dk_at dksX7_toStand_3 0 rfl rfl)
theorem dX7_toStand_73 : decode cX7_toStand 73 = .ok (.iload 7, 2) := dk_21 7 (dk_at dksX7_toStand_3 3 rfl rfl)
theorem dX7_toStand_75 : decode cX7_toStand 75 = .ok (.iload 5, 2) := dk_21 5 (dk_at dksX7_toStand_3 5 rfl rfl)
theorem dX7_toStand_77 : decode cX7_toStand 77 = .ok (.if_icmp .lt 6, 3) := dk_161 0 6 (dk_at dksX7_toStand_3 7 rfl rfl)
theorem dX7_toStand_80 : decode cX7_toStand 80 = .ok (.goto 11, 3) := dk_167 0 11 (dk_at dksX7_toStand_3 10 rfl rfl)
theorem dX7_toStand_83 : decode cX7_toStand 83 = .ok (.iload 6, 2) := dk_21 6 (dk_at dksX7_toStand_3 13 rfl rfl)
theorem dX7_toStand_85 : decode cX7_toStand 85 = .ok (.istore 4, 2) := dk_54 4 (dk_at dksX7_toStand_3 15 rfl rfl)
theorem dX7_toStand_87 : decode cX7_toStand 87 = .ok (.iload 7, 2) := dk_21 7 (dk_at dksX7_toStand_3 17 rfl rfl)
theorem dX7_toStand_89 : decode cX7_toStand 89 = .ok (.istore 5, 2) := dk_54 5 (dk_at dksX7_toStand_3 19 rfl rfl)
theorem dX7_toStand_91 : decode cX7_toStand 91 = .ok (.iinc 6 1, 3) := dk_132 6 1 (dk_at dksX7_toStand_3 21 rfl rfl)
theorem dX7_toStand_94 : decode cX7_toStand 94 = .ok (.goto (-50), 3) := dk_167 255 206 (dk_at dksX7_toStand_4 0 rfl rfl)
theorem dX7_toStand_97 : decode cX7_toStand 97 = .ok (.aload_n 0, 1) := dk_42 (dk_at dksX7_toStand_4 3 rfl rfl)
theorem dX7_toStand_98 : decode cX7_toStand 98 = .ok (.getfield 77, 3) := dk_180 0 77 (dk_at dksX7_toStand_4 4 rfl rfl)
theorem dX7_toStand_101 : decode cX7_toStand 101 = .ok (.iload_n 1, 1) := dk_27 (dk_at dksX7_toStand_4 7 rfl rfl)
theorem dX7_toStand_102 : decode cX7_toStand 102 = .ok (.iload_n 3, 1) := dk_29 (dk_at dksX7_toStand_4 8 rfl rfl)
theorem dX7_toStand_103 : decode cX7_toStand 103 = .ok (.iastore, 1) := dk_79 (dk_at dksX7_toStand_4 9 rfl rfl)
theorem dX7_toStand_104 : decode cX7_toStand 104 = .ok (.iload_n 2, 1) := dk_28 (dk_at dksX7_toStand_4 10 rfl rfl)
theorem dX7_toStand_105 : decode cX7_toStand 105 = .ok (.ifCond .ne 8, 3) := dk_154 0 8 (dk_at dksX7_toStand_4 11 rfl rfl)
theorem dX7_toStand_108 : decode cX7_toStand 108 = .ok (.iload 4, 2) := dk_21 4 (dk_at dksX7_toStand_4 14 rfl rfl)
theorem dX7_toStand_110 : decode cX7_toStand 110 = .ok (.goto 5, 3) := dk_167 0 5 (dk_at dksX7_toStand_4 16 rfl rfl)
theorem dX7_toStand_113 : decode cX7_toStand 113 = .ok (.iload 5, 2) := dk_21 5 (dk_at dksX7_toStand_4 19 rfl rfl)
theorem dX7_toStand_115 : decode cX7_toStand 115 = .ok (.ireturn, 1) := dk_172 (dk_at dksX7_toStand_4 21 rfl rfl)
abbrev cX7_toSwish : ByteArray := prog_18_method_91_code
def yX7_toSwish : MethodName := ⟨RX7, "toSwish", "(II)I"⟩
def dkwX7_toSwish_4 : List UInt8 := [16, 20, 164, 0, 7, 2, 167, 0, 4, 29, 172]
abbrev dktX7_toSwish_4 : List UInt8 := dkwX7_toSwish_4 ++ []
def dkwX7_toSwish_3 : List UInt8 := [27, 42, 180, 0, 147, 182, 1, 134, 132, 3, 1, 167, 255, 223, 42, 42, 180, 0, 92, 3, 182, 1, 184, 29]
abbrev dktX7_toSwish_3 : List UInt8 := dkwX7_toSwish_3 ++ dktX7_toSwish_4
def dkwX7_toSwish_2 : List UInt8 := [3, 62, 29, 16, 20, 163, 0, 33, 42, 180, 0, 75, 42, 180, 0, 77, 27, 46, 46, 28, 162, 0, 18, 42]
abbrev dktX7_toSwish_2 : List UInt8 := dkwX7_toSwish_2 ++ dktX7_toSwish_3
def dkwX7_toSwish_1 : List UInt8 := [20, 1, 205, 184, 0, 157, 154, 0, 9, 42, 5, 182, 1, 62, 172, 42, 42, 180, 0, 92, 3, 182, 1, 164]
abbrev dktX7_toSwish_1 : List UInt8 := dkwX7_toSwish_1 ++ dktX7_toSwish_2
def dkwX7_toSwish_0 : List UInt8 := [42, 3, 181, 0, 150, 42, 27, 182, 1, 161, 154, 0, 9, 42, 4, 182, 1, 62, 172, 28, 133, 9]
abbrev dktX7_toSwish_0 : List UInt8 := dkwX7_toSwish_0 ++ dktX7_toSwish_1
theorem dksX7_toSwish_0 : cX7_toSwish.data.toList.drop 0 = dktX7_toSwish_0 := by decide +kernel
theorem dksX7_toSwish_1 : cX7_toSwish.data.toList.drop 22 = dktX7_toSwish_1 := dk_seg dksX7_toSwish_0 22 rfl rfl
theorem dksX7_toSwish_2 : cX7_toSwish.data.toList.drop 46 = dktX7_toSwish_2 := dk_seg dksX7_toSwish_1 24 rfl rfl
theorem dksX7_toSwish_3 : cX7_toSwish.data.toList.drop 70 = dktX7_toSwish_3 := dk_seg dksX7_toSwish_2 24 rfl rfl
theorem dksX7_toSwish_4 : cX7_toSwish.data.toList.drop 94 = dktX7_toSwish_4 := dk_seg dksX7_toSwish_3 24 rfl rfl
theorem dX7_toSwish_0 : decode cX7_toSwish 0 = .ok (.aload_n 0, 1) := dk_42 (dk_at dksX7_toSwish_0 0 rfl rfl)
theorem dX7_toSwish_1 : decode cX7_toSwish 1 = .ok (.iconst 0, 1) := dk_3 (dk_at dksX7_toSwish_0 1 rfl rfl)
theorem dX7_toSwish_2 : decode cX7_toSwish 2 = .ok (.putfield 150, 3) := dk_181 0 150 (dk_at dksX7_toSwish_0 2 rfl rfl)
theorem dX7_toSwish_5 : decode cX7_toSwish 5 = .ok (.aload_n 0, 1) := dk_42 (dk_at dksX7_toSwish_0 5 rfl rfl)
theorem dX7_toSwish_6 : decode cX7_toSwish 6 = .ok (.iload_n 1, 1) := dk_27 (dk_at dksX7_toSwish_0 6 rfl rfl)
theorem dX7_toSwish_7 : decode cX7_toSwish 7 = .ok (.invokevirtual 417, 3) := dk_182 1 161 (dk_at dksX7_toSwish_0 7 rfl rfl)
theorem dX7_toSwish_10 : decode cX7_toSwish 10 = .ok (.ifCond .ne 9, 3) := dk_154 0 9 (dk_at dksX7_toSwish_0 10 rfl rfl)
theorem dX7_toSwish_13 : decode cX7_toSwish 13 = .ok (.aload_n 0, 1) := dk_42 (dk_at dksX7_toSwish_0 13 rfl rfl)
theorem dX7_toSwish_14 : decode cX7_toSwish 14 = .ok (.iconst 1, 1) := dk_4 (dk_at dksX7_toSwish_0 14 rfl rfl)
theorem dX7_toSwish_15 : decode cX7_toSwish 15 = .ok (.invokevirtual 318, 3) := dk_182 1 62 (dk_at dksX7_toSwish_0 15 rfl rfl)
theorem dX7_toSwish_18 : decode cX7_toSwish 18 = .ok (.ireturn, 1) := dk_172 (dk_at dksX7_toSwish_0 18 rfl rfl)
theorem dX7_toSwish_19 : decode cX7_toSwish 19 = .ok (.iload_n 2, 1) := dk_28 (dk_at dksX7_toSwish_0 19 rfl rfl)
theorem dX7_toSwish_20 : decode cX7_toSwish 20 = .ok (.i2l, 1) := dk_133 (dk_at dksX7_toSwish_0 20 rfl rfl)
theorem dX7_toSwish_21 : decode cX7_toSwish 21 = .ok (.lconst 0, 1) := dk_9 (dk_at dksX7_toSwish_0 21 rfl rfl)
theorem dX7_toSwish_22 : decode cX7_toSwish 22 = .ok (.ldc2_w 461, 3) := dk_20 1 205 (dk_at dksX7_toSwish_1 0 rfl rfl)
theorem dX7_toSwish_25 : decode cX7_toSwish 25 = .ok (.invokestatic 157, 3) := dk_184 0 157 (dk_at dksX7_toSwish_1 3 rfl rfl)
theorem dX7_toSwish_28 : decode cX7_toSwish 28 = .ok (.ifCond .ne 9, 3) := dk_154 0 9 (dk_at dksX7_toSwish_1 6 rfl rfl)
theorem dX7_toSwish_31 : decode cX7_toSwish 31 = .ok (.aload_n 0, 1) := dk_42 (dk_at dksX7_toSwish_1 9 rfl rfl)
theorem dX7_toSwish_32 : decode cX7_toSwish 32 = .ok (.iconst 2, 1) := dk_5 (dk_at dksX7_toSwish_1 10 rfl rfl)
theorem dX7_toSwish_33 : decode cX7_toSwish 33 = .ok (.invokevirtual 318, 3) := dk_182 1 62 (dk_at dksX7_toSwish_1 11 rfl rfl)
theorem dX7_toSwish_36 : decode cX7_toSwish 36 = .ok (.ireturn, 1) := dk_172 (dk_at dksX7_toSwish_1 14 rfl rfl)
theorem dX7_toSwish_37 : decode cX7_toSwish 37 = .ok (.aload_n 0, 1) := dk_42 (dk_at dksX7_toSwish_1 15 rfl rfl)
theorem dX7_toSwish_38 : decode cX7_toSwish 38 = .ok (.aload_n 0, 1) := dk_42 (dk_at dksX7_toSwish_1 16 rfl rfl)
theorem dX7_toSwish_39 : decode cX7_toSwish 39 = .ok (.getfield 92, 3) := dk_180 0 92 (dk_at dksX7_toSwish_1 17 rfl rfl)
theorem dX7_toSwish_42 : decode cX7_toSwish 42 = .ok (.iconst 0, 1) := dk_3 (dk_at dksX7_toSwish_1 20 rfl rfl)
theorem dX7_toSwish_43 : decode cX7_toSwish 43 = .ok (.invokevirtual 420, 3) := dk_182 1 164 (dk_at dksX7_toSwish_1 21 rfl rfl)
theorem dX7_toSwish_46 : decode cX7_toSwish 46 = .ok (.iconst 0, 1) := dk_3 (dk_at dksX7_toSwish_2 0 rfl rfl)
theorem dX7_toSwish_47 : decode cX7_toSwish 47 = .ok (.istore_n 3, 1) := dk_62 (dk_at dksX7_toSwish_2 1 rfl rfl)
theorem dX7_toSwish_48 : decode cX7_toSwish 48 = .ok (.iload_n 3, 1) := dk_29 (dk_at dksX7_toSwish_2 2 rfl rfl)
theorem dX7_toSwish_49 : decode cX7_toSwish 49 = .ok (.bipush 20, 2) := dk_16 20 (dk_at dksX7_toSwish_2 3 rfl rfl)
theorem dX7_toSwish_51 : decode cX7_toSwish 51 = .ok (.if_icmp .gt 33, 3) := dk_163 0 33 (dk_at dksX7_toSwish_2 5 rfl rfl)
theorem dX7_toSwish_54 : decode cX7_toSwish 54 = .ok (.aload_n 0, 1) := dk_42 (dk_at dksX7_toSwish_2 8 rfl rfl)
theorem dX7_toSwish_55 : decode cX7_toSwish 55 = .ok (.getfield 75, 3) := dk_180 0 75 (dk_at dksX7_toSwish_2 9 rfl rfl)
theorem dX7_toSwish_58 : decode cX7_toSwish 58 = .ok (.aload_n 0, 1) := dk_42 (dk_at dksX7_toSwish_2 12 rfl rfl)
theorem dX7_toSwish_59 : decode cX7_toSwish 59 = .ok (.getfield 77, 3) := dk_180 0 77 (dk_at dksX7_toSwish_2 13 rfl rfl)
theorem dX7_toSwish_62 : decode cX7_toSwish 62 = .ok (.iload_n 1, 1) := dk_27 (dk_at dksX7_toSwish_2 16 rfl rfl)
theorem dX7_toSwish_63 : decode cX7_toSwish 63 = .ok (.iaload, 1) := dk_46 (dk_at dksX7_toSwish_2 17 rfl rfl)
theorem dX7_toSwish_64 : decode cX7_toSwish 64 = .ok (.iaload, 1) := dk_46 (dk_at dksX7_toSwish_2 18 rfl rfl)
theorem dX7_toSwish_65 : decode cX7_toSwish 65 = .ok (.iload_n 2, 1) := dk_28 (dk_at dksX7_toSwish_2 19 rfl rfl)
theorem dX7_toSwish_66 : decode cX7_toSwish 66 = .ok (.if_icmp .ge 18, 3) := dk_162 0 18 (dk_at dksX7_toSwish_2 20 rfl rfl)
theorem dX7_toSwish_69 : decode cX7_toSwish 69 = .ok (.aload_n 0, 1) := dk_42 (dk_at dksX7_toSwish_2 23 rfl rfl)
theorem dX7_toSwish_70 : decode cX7_toSwish 70 = .ok (.iload_n 1, 1) := dk_27 (dk_at dksX7_toSwish_3 0 rfl rfl)
theorem dX7_toSwish_71 : decode cX7_toSwish 71 = .ok (.aload_n 0, 1) := dk_42 (dk_at dksX7_toSwish_3 1 rfl rfl)
theorem dX7_toSwish_72 : decode cX7_toSwish 72 = .ok (.getfield 147, 3) := dk_180 0 147 (dk_at dksX7_toSwish_3 2 rfl rfl)
theorem dX7_toSwish_75 : decode cX7_toSwish 75 = .ok (.invokevirtual 390, 3) := dk_182 1 134 (dk_at dksX7_toSwish_3 5 rfl rfl)
theorem dX7_toSwish_78 : decode cX7_toSwish 78 = .ok (.iinc 3 1, 3) := dk_132 3 1 (dk_at dksX7_toSwish_3 8 rfl rfl)
theorem dX7_toSwish_81 : decode cX7_toSwish 81 = .ok (.goto (-33), 3) := dk_167 255 223 (dk_at dksX7_toSwish_3 11 rfl rfl)
theorem dX7_toSwish_84 : decode cX7_toSwish 84 = .ok (.aload_n 0, 1) := dk_42 (dk_at dksX7_toSwish_3 14 rfl rfl)
theorem dX7_toSwish_85 : decode cX7_toSwish 85 = .ok (.aload_n 0, 1) := dk_42 (dk_at dksX7_toSwish_3 15 rfl rfl)
theorem dX7_toSwish_86 : decode cX7_toSwish 86 = .ok (.getfield 92, 3) := dk_180 0 92 (dk_at dksX7_toSwish_3 16 rfl rfl)
theorem dX7_toSwish_89 : decode cX7_toSwish 89 = .ok (.iconst 0, 1) := dk_3 (dk_at dksX7_toSwish_3 19 rfl rfl)
theorem dX7_toSwish_90 : decode cX7_toSwish 90 = .ok (.invokevirtual 440, 3) := dk_182 1 184 (dk_at dksX7_toSwish_3 20 rfl rfl)
theorem dX7_toSwish_93 : decode cX7_toSwish 93 = .ok (.iload_n 3, 1) := dk_29 (dk_at dksX7_toSwish_3 23 rfl rfl)
theorem dX7_toSwish_94 : decode cX7_toSwish 94 = .ok (.bipush 20, 2) := dk_16 20 (dk_at dksX7_toSwish_4 0 rfl rfl)
theorem dX7_toSwish_96 : decode cX7_toSwish 96 = .ok (.if_icmp .le 7, 3) := dk_164 0 7 (dk_at dksX7_toSwish_4 2 rfl rfl)
theorem dX7_toSwish_99 : decode cX7_toSwish 99 = .ok (.iconst (-1), 1) := dk_2 (dk_at dksX7_toSwish_4 5 rfl rfl)
theorem dX7_toSwish_100 : decode cX7_toSwish 100 = .ok (.goto 4, 3) := dk_167 0 4 (dk_at dksX7_toSwish_4 6 rfl rfl)
theorem dX7_toSwish_103 : decode cX7_toSwish 103 = .ok (.iload_n 3, 1) := dk_29 (dk_at dksX7_toSwish_4 9 rfl rfl)
theorem dX7_toSwish_104 : decode cX7_toSwish 104 = .ok (.ireturn, 1) := dk_172 (dk_at dksX7_toSwish_4 10 rfl rfl)
abbrev cX7_missed : ByteArray := prog_18_method_92_code
def yX7_missed : MethodName := ⟨RX7, "missed", "(I)I"⟩
def dkwX7_missed_4 : List UInt8 := [172]
abbrev dktX7_missed_4 : List UInt8 := dkwX7_missed_4 ++ []
def dkwX7_missed_3 : List UInt8 := [181, 1, 83, 42, 182, 1, 146, 42, 182, 1, 149, 62, 42, 42, 180, 0, 92, 3, 182, 1, 184, 28, 29, 100]
abbrev dktX7_missed_3 : List UInt8 := dkwX7_missed_3 ++ dktX7_missed_4
def dkwX7_missed_2 : List UInt8 := [182, 1, 149, 61, 42, 42, 180, 0, 92, 3, 182, 1, 184, 42, 89, 180, 1, 83, 4, 27, 120, 128]
abbrev dktX7_missed_2 : List UInt8 := dkwX7_missed_2 ++ dktX7_missed_3
def dkwX7_missed_1 : List UInt8 := [3, 182, 1, 164, 42, 89, 180, 1, 83, 4, 27, 120, 2, 130, 126, 181, 1, 83, 42, 182, 1, 146, 42]
abbrev dktX7_missed_1 : List UInt8 := dkwX7_missed_1 ++ dktX7_missed_2
def dkwX7_missed_0 : List UInt8 := [42, 3, 181, 0, 150, 42, 27, 182, 1, 161, 154, 0, 9, 42, 4, 182, 1, 62, 172, 42, 42, 180, 0, 92]
abbrev dktX7_missed_0 : List UInt8 := dkwX7_missed_0 ++ dktX7_missed_1
theorem dksX7_missed_0 : cX7_missed.data.toList.drop 0 = dktX7_missed_0 := by decide +kernel
theorem dksX7_missed_1 : cX7_missed.data.toList.drop 24 = dktX7_missed_1 := dk_seg dksX7_missed_0 24 rfl rfl
theorem dksX7_missed_2 : cX7_missed.data.toList.drop 47 = dktX7_missed_2 := dk_seg dksX7_missed_1 23 rfl rfl
theorem dksX7_missed_3 : cX7_missed.data.toList.drop 69 = dktX7_missed_3 := dk_seg dksX7_missed_2 22 rfl rfl
theorem dksX7_missed_4 : cX7_missed.data.toList.drop 93 = dktX7_missed_4 := dk_seg dksX7_missed_3 24 rfl rfl
theorem dX7_missed_0 : decode cX7_missed 0 = .ok (.aload_n 0, 1) := dk_42 (dk_at dksX7_missed_0 0 rfl rfl)
theorem dX7_missed_1 : decode cX7_missed 1 = .ok (.iconst 0, 1) := dk_3 (dk_at dksX7_missed_0 1 rfl rfl)
theorem dX7_missed_2 : decode cX7_missed 2 = .ok (.putfield 150, 3) := dk_181 0 150 (dk_at dksX7_missed_0 2 rfl rfl)
theorem dX7_missed_5 : decode cX7_missed 5 = .ok (.aload_n 0, 1) := dk_42 (dk_at dksX7_missed_0 5 rfl rfl)
theorem dX7_missed_6 : decode cX7_missed 6 = .ok (.iload_n 1, 1) := dk_27 (dk_at dksX7_missed_0 6 rfl rfl)
theorem dX7_missed_7 : decode cX7_missed 7 = .ok (.invokevirtual 417, 3) := dk_182 1 161 (dk_at dksX7_missed_0 7 rfl rfl)
theorem dX7_missed_10 : decode cX7_missed 10 = .ok (.ifCond .ne 9, 3) := dk_154 0 9 (dk_at dksX7_missed_0 10 rfl rfl)
theorem dX7_missed_13 : decode cX7_missed 13 = .ok (.aload_n 0, 1) := dk_42 (dk_at dksX7_missed_0 13 rfl rfl)
theorem dX7_missed_14 : decode cX7_missed 14 = .ok (.iconst 1, 1) := dk_4 (dk_at dksX7_missed_0 14 rfl rfl)
theorem dX7_missed_15 : decode cX7_missed 15 = .ok (.invokevirtual 318, 3) := dk_182 1 62 (dk_at dksX7_missed_0 15 rfl rfl)
theorem dX7_missed_18 : decode cX7_missed 18 = .ok (.ireturn, 1) := dk_172 (dk_at dksX7_missed_0 18 rfl rfl)
theorem dX7_missed_19 : decode cX7_missed 19 = .ok (.aload_n 0, 1) := dk_42 (dk_at dksX7_missed_0 19 rfl rfl)
theorem dX7_missed_20 : decode cX7_missed 20 = .ok (.aload_n 0, 1) := dk_42 (dk_at dksX7_missed_0 20 rfl rfl)
theorem dX7_missed_21 : decode cX7_missed 21 = .ok (.getfield 92, 3) := dk_180 0 92 (dk_at dksX7_missed_0 21 rfl rfl)
theorem dX7_missed_24 : decode cX7_missed 24 = .ok (.iconst 0, 1) := dk_3 (dk_at dksX7_missed_1 0 rfl rfl)
theorem dX7_missed_25 : decode cX7_missed 25 = .ok (.invokevirtual 420, 3) := dk_182 1 164 (dk_at dksX7_missed_1 1 rfl rfl)
theorem dX7_missed_28 : decode cX7_missed 28 = .ok (.aload_n 0, 1) := dk_42 (dk_at dksX7_missed_1 4 rfl rfl)
theorem dX7_missed_29 : decode cX7_missed 29 = .ok (.dup, 1) := dk_89 (dk_at dksX7_missed_1 5 rfl rfl)
theorem dX7_missed_30 : decode cX7_missed 30 = .ok (.getfield 339, 3) := dk_180 1 83 (dk_at dksX7_missed_1 6 rfl rfl)
theorem dX7_missed_33 : decode cX7_missed 33 = .ok (.iconst 1, 1) := dk_4 (dk_at dksX7_missed_1 9 rfl rfl)
theorem dX7_missed_34 : decode cX7_missed 34 = .ok (.iload_n 1, 1) := dk_27 (dk_at dksX7_missed_1 10 rfl rfl)
theorem dX7_missed_35 : decode cX7_missed 35 = .ok (.ishl, 1) := dk_120 (dk_at dksX7_missed_1 11 rfl rfl)
theorem dX7_missed_36 : decode cX7_missed 36 = .ok (.iconst (-1), 1) := dk_2 (dk_at dksX7_missed_1 12 rfl rfl)
theorem dX7_missed_37 : decode cX7_missed 37 = .ok (.ixor, 1) := dk_130 (dk_at dksX7_missed_1 13 rfl rfl)
theorem dX7_missed_38 : decode cX7_missed 38 = .ok (.iand, 1) := dk_126 (dk_at dksX7_missed_1 14 rfl rfl)
theorem dX7_missed_39 : decode cX7_missed 39 = .ok (.putfield 339, 3) := dk_181 1 83 (dk_at dksX7_missed_1 15 rfl rfl)
theorem dX7_missed_42 : decode cX7_missed 42 = .ok (.aload_n 0, 1) := dk_42 (dk_at dksX7_missed_1 18 rfl rfl)
theorem dX7_missed_43 : decode cX7_missed 43 = .ok (.invokevirtual 402, 3) := dk_182 1 146 (dk_at dksX7_missed_1 19 rfl rfl)
theorem dX7_missed_46 : decode cX7_missed 46 = .ok (.aload_n 0, 1) := dk_42 (dk_at dksX7_missed_1 22 rfl rfl)
theorem dX7_missed_47 : decode cX7_missed 47 = .ok (.invokevirtual 405, 3) := dk_182 1 149 (dk_at dksX7_missed_2 0 rfl rfl)
theorem dX7_missed_50 : decode cX7_missed 50 = .ok (.istore_n 2, 1) := dk_61 (dk_at dksX7_missed_2 3 rfl rfl)
theorem dX7_missed_51 : decode cX7_missed 51 = .ok (.aload_n 0, 1) := dk_42 (dk_at dksX7_missed_2 4 rfl rfl)
theorem dX7_missed_52 : decode cX7_missed 52 = .ok (.aload_n 0, 1) := dk_42 (dk_at dksX7_missed_2 5 rfl rfl)
theorem dX7_missed_53 : decode cX7_missed 53 = .ok (.getfield 92, 3) := dk_180 0 92 (dk_at dksX7_missed_2 6 rfl rfl)
theorem dX7_missed_56 : decode cX7_missed 56 = .ok (.iconst 0, 1) := dk_3 (dk_at dksX7_missed_2 9 rfl rfl)
theorem dX7_missed_57 : decode cX7_missed 57 = .ok (.invokevirtual 440, 3) := dk_182 1 184 (dk_at dksX7_missed_2 10 rfl rfl)
theorem dX7_missed_60 : decode cX7_missed 60 = .ok (.aload_n 0, 1) := dk_42 (dk_at dksX7_missed_2 13 rfl rfl)
theorem dX7_missed_61 : decode cX7_missed 61 = .ok (.dup, 1) := dk_89 (dk_at dksX7_missed_2 14 rfl rfl)
theorem dX7_missed_62 : decode cX7_missed 62 = .ok (.getfield 339, 3) := dk_180 1 83 (dk_at dksX7_missed_2 15 rfl rfl)
theorem dX7_missed_65 : decode cX7_missed 65 = .ok (.iconst 1, 1) := dk_4 (dk_at dksX7_missed_2 18 rfl rfl)
theorem dX7_missed_66 : decode cX7_missed 66 = .ok (.iload_n 1, 1) := dk_27 (dk_at dksX7_missed_2 19 rfl rfl)
theorem dX7_missed_67 : decode cX7_missed 67 = .ok (.ishl, 1) := dk_120 (dk_at dksX7_missed_2 20 rfl rfl)
theorem dX7_missed_68 : decode cX7_missed 68 = .ok (.ior, 1) := dk_128 (dk_at dksX7_missed_2 21 rfl rfl)
theorem dX7_missed_69 : decode cX7_missed 69 = .ok (.putfield 339, 3) := dk_181 1 83 (dk_at dksX7_missed_3 0 rfl rfl)
theorem dX7_missed_72 : decode cX7_missed 72 = .ok (.aload_n 0, 1) := dk_42 (dk_at dksX7_missed_3 3 rfl rfl)
theorem dX7_missed_73 : decode cX7_missed 73 = .ok (.invokevirtual 402, 3) := dk_182 1 146 (dk_at dksX7_missed_3 4 rfl rfl)
theorem dX7_missed_76 : decode cX7_missed 76 = .ok (.aload_n 0, 1) := dk_42 (dk_at dksX7_missed_3 7 rfl rfl)
theorem dX7_missed_77 : decode cX7_missed 77 = .ok (.invokevirtual 405, 3) := dk_182 1 149 (dk_at dksX7_missed_3 8 rfl rfl)
theorem dX7_missed_80 : decode cX7_missed 80 = .ok (.istore_n 3, 1) := dk_62 (dk_at dksX7_missed_3 11 rfl rfl)
theorem dX7_missed_81 : decode cX7_missed 81 = .ok (.aload_n 0, 1) := dk_42 (dk_at dksX7_missed_3 12 rfl rfl)
theorem dX7_missed_82 : decode cX7_missed 82 = .ok (.aload_n 0, 1) := dk_42 (dk_at dksX7_missed_3 13 rfl rfl)
theorem dX7_missed_83 : decode cX7_missed 83 = .ok (.getfield 92, 3) := dk_180 0 92 (dk_at dksX7_missed_3 14 rfl rfl)
theorem dX7_missed_86 : decode cX7_missed 86 = .ok (.iconst 0, 1) := dk_3 (dk_at dksX7_missed_3 17 rfl rfl)
theorem dX7_missed_87 : decode cX7_missed 87 = .ok (.invokevirtual 440, 3) := dk_182 1 184 (dk_at dksX7_missed_3 18 rfl rfl)
theorem dX7_missed_90 : decode cX7_missed 90 = .ok (.iload_n 2, 1) := dk_28 (dk_at dksX7_missed_3 21 rfl rfl)
theorem dX7_missed_91 : decode cX7_missed 91 = .ok (.iload_n 3, 1) := dk_29 (dk_at dksX7_missed_3 22 rfl rfl)
theorem dX7_missed_92 : decode cX7_missed 92 = .ok (.isub, 1) := dk_100 (dk_at dksX7_missed_3 23 rfl rfl)
theorem dX7_missed_93 : decode cX7_missed 93 = .ok (.ireturn, 1) := dk_172 (dk_at dksX7_missed_4 0 rfl rfl)
abbrev cX7_steps : ByteArray := prog_18_method_93_code
def yX7_steps : MethodName := ⟨RX7, "steps", "(II)I"⟩
def dkwX7_steps_1 : List UInt8 := [180, 0, 77, 27, 46, 28, 182, 1, 104, 167, 0, 8, 42, 4, 182, 1, 62, 172]
abbrev dktX7_steps_1 : List UInt8 := dkwX7_steps_1 ++ []
def dkwX7_steps_0 : List UInt8 := [42, 3, 181, 0, 150, 42, 27, 182, 1, 161, 153, 0, 25, 42, 28, 182, 1, 152, 153, 0, 17, 42, 42]
abbrev dktX7_steps_0 : List UInt8 := dkwX7_steps_0 ++ dktX7_steps_1
theorem dksX7_steps_0 : cX7_steps.data.toList.drop 0 = dktX7_steps_0 := by decide +kernel
theorem dksX7_steps_1 : cX7_steps.data.toList.drop 23 = dktX7_steps_1 := dk_seg dksX7_steps_0 23 rfl rfl
theorem dX7_steps_0 : decode cX7_steps 0 = .ok (.aload_n 0, 1) := dk_42 (dk_at dksX7_steps_0 0 rfl rfl)
theorem dX7_steps_1 : decode cX7_steps 1 = .ok (.iconst 0, 1) := dk_3 (dk_at dksX7_steps_0 1 rfl rfl)
theorem dX7_steps_2 : decode cX7_steps 2 = .ok (.putfield 150, 3) := dk_181 0 150 (dk_at dksX7_steps_0 2 rfl rfl)
theorem dX7_steps_5 : decode cX7_steps 5 = .ok (.aload_n 0, 1) := dk_42 (dk_at dksX7_steps_0 5 rfl rfl)
theorem dX7_steps_6 : decode cX7_steps 6 = .ok (.iload_n 1, 1) := dk_27 (dk_at dksX7_steps_0 6 rfl rfl)
theorem dX7_steps_7 : decode cX7_steps 7 = .ok (.invokevirtual 417, 3) := dk_182 1 161 (dk_at dksX7_steps_0 7 rfl rfl)
theorem dX7_steps_10 : decode cX7_steps 10 = .ok (.ifCond .eq 25, 3) := dk_153 0 25 (dk_at dksX7_steps_0 10 rfl rfl)
theorem dX7_steps_13 : decode cX7_steps 13 = .ok (.aload_n 0, 1) := dk_42 (dk_at dksX7_steps_0 13 rfl rfl)
theorem dX7_steps_14 : decode cX7_steps 14 = .ok (.iload_n 2, 1) := dk_28 (dk_at dksX7_steps_0 14 rfl rfl)
theorem dX7_steps_15 : decode cX7_steps 15 = .ok (.invokevirtual 408, 3) := dk_182 1 152 (dk_at dksX7_steps_0 15 rfl rfl)
theorem dX7_steps_18 : decode cX7_steps 18 = .ok (.ifCond .eq 17, 3) := dk_153 0 17 (dk_at dksX7_steps_0 18 rfl rfl)
theorem dX7_steps_21 : decode cX7_steps 21 = .ok (.aload_n 0, 1) := dk_42 (dk_at dksX7_steps_0 21 rfl rfl)
theorem dX7_steps_22 : decode cX7_steps 22 = .ok (.aload_n 0, 1) := dk_42 (dk_at dksX7_steps_0 22 rfl rfl)
theorem dX7_steps_23 : decode cX7_steps 23 = .ok (.getfield 77, 3) := dk_180 0 77 (dk_at dksX7_steps_1 0 rfl rfl)
theorem dX7_steps_26 : decode cX7_steps 26 = .ok (.iload_n 1, 1) := dk_27 (dk_at dksX7_steps_1 3 rfl rfl)
theorem dX7_steps_27 : decode cX7_steps 27 = .ok (.iaload, 1) := dk_46 (dk_at dksX7_steps_1 4 rfl rfl)
theorem dX7_steps_28 : decode cX7_steps 28 = .ok (.iload_n 2, 1) := dk_28 (dk_at dksX7_steps_1 5 rfl rfl)
theorem dX7_steps_29 : decode cX7_steps 29 = .ok (.invokevirtual 360, 3) := dk_182 1 104 (dk_at dksX7_steps_1 6 rfl rfl)
theorem dX7_steps_32 : decode cX7_steps 32 = .ok (.goto 8, 3) := dk_167 0 8 (dk_at dksX7_steps_1 9 rfl rfl)
theorem dX7_steps_35 : decode cX7_steps 35 = .ok (.aload_n 0, 1) := dk_42 (dk_at dksX7_steps_1 12 rfl rfl)
theorem dX7_steps_36 : decode cX7_steps 36 = .ok (.iconst 1, 1) := dk_4 (dk_at dksX7_steps_1 13 rfl rfl)
theorem dX7_steps_37 : decode cX7_steps 37 = .ok (.invokevirtual 318, 3) := dk_182 1 62 (dk_at dksX7_steps_1 14 rfl rfl)
theorem dX7_steps_40 : decode cX7_steps 40 = .ok (.ireturn, 1) := dk_172 (dk_at dksX7_steps_1 17 rfl rfl)
abbrev cX7_nearest : ByteArray := prog_18_method_94_code
def yX7_nearest : MethodName := ⟨RX7, "nearest", "(I)I"⟩
def dkwX7_nearest_3 : List UInt8 := [167, 255, 211, 28, 172]
abbrev dktX7_nearest_3 : List UInt8 := dkwX7_nearest_3 ++ []
def dkwX7_nearest_2 : List UInt8 := [182, 1, 104, 42, 42, 180, 0, 77, 28, 46, 27, 182, 1, 104, 162, 0, 5, 29, 61, 132, 3, 1]
abbrev dktX7_nearest_2 : List UInt8 := dkwX7_nearest_2 ++ dktX7_nearest_3
def dkwX7_nearest_1 : List UInt8 := [42, 180, 0, 40, 5, 46, 162, 0, 41, 28, 2, 159, 0, 28, 42, 42, 180, 0, 77, 29, 46, 27]
abbrev dktX7_nearest_1 : List UInt8 := dkwX7_nearest_1 ++ dktX7_nearest_2
def dkwX7_nearest_0 : List UInt8 := [42, 3, 181, 0, 150, 42, 27, 182, 1, 152, 154, 0, 9, 42, 4, 182, 1, 62, 172, 2, 61, 3, 62, 29]
abbrev dktX7_nearest_0 : List UInt8 := dkwX7_nearest_0 ++ dktX7_nearest_1
theorem dksX7_nearest_0 : cX7_nearest.data.toList.drop 0 = dktX7_nearest_0 := by decide +kernel
theorem dksX7_nearest_1 : cX7_nearest.data.toList.drop 24 = dktX7_nearest_1 := dk_seg dksX7_nearest_0 24 rfl rfl
theorem dksX7_nearest_2 : cX7_nearest.data.toList.drop 46 = dktX7_nearest_2 := dk_seg dksX7_nearest_1 22 rfl rfl
theorem dksX7_nearest_3 : cX7_nearest.data.toList.drop 68 = dktX7_nearest_3 := dk_seg dksX7_nearest_2 22 rfl rfl
theorem dX7_nearest_0 : decode cX7_nearest 0 = .ok (.aload_n 0, 1) := dk_42 (dk_at dksX7_nearest_0 0 rfl rfl)
theorem dX7_nearest_1 : decode cX7_nearest 1 = .ok (.iconst 0, 1) := dk_3 (dk_at dksX7_nearest_0 1 rfl rfl)
theorem dX7_nearest_2 : decode cX7_nearest 2 = .ok (.putfield 150, 3) := dk_181 0 150 (dk_at dksX7_nearest_0 2 rfl rfl)
theorem dX7_nearest_5 : decode cX7_nearest 5 = .ok (.aload_n 0, 1) := dk_42 (dk_at dksX7_nearest_0 5 rfl rfl)
theorem dX7_nearest_6 : decode cX7_nearest 6 = .ok (.iload_n 1, 1) := dk_27 (dk_at dksX7_nearest_0 6 rfl rfl)
theorem dX7_nearest_7 : decode cX7_nearest 7 = .ok (.invokevirtual 408, 3) := dk_182 1 152 (dk_at dksX7_nearest_0 7 rfl rfl)
theorem dX7_nearest_10 : decode cX7_nearest 10 = .ok (.ifCond .ne 9, 3) := dk_154 0 9 (dk_at dksX7_nearest_0 10 rfl rfl)
theorem dX7_nearest_13 : decode cX7_nearest 13 = .ok (.aload_n 0, 1) := dk_42 (dk_at dksX7_nearest_0 13 rfl rfl)
theorem dX7_nearest_14 : decode cX7_nearest 14 = .ok (.iconst 1, 1) := dk_4 (dk_at dksX7_nearest_0 14 rfl rfl)
theorem dX7_nearest_15 : decode cX7_nearest 15 = .ok (.invokevirtual 318, 3) := dk_182 1 62 (dk_at dksX7_nearest_0 15 rfl rfl)
theorem dX7_nearest_18 : decode cX7_nearest 18 = .ok (.ireturn, 1) := dk_172 (dk_at dksX7_nearest_0 18 rfl rfl)
theorem dX7_nearest_19 : decode cX7_nearest 19 = .ok (.iconst (-1), 1) := dk_2 (dk_at dksX7_nearest_0 19 rfl rfl)
theorem dX7_nearest_20 : decode cX7_nearest 20 = .ok (.istore_n 2, 1) := dk_61 (dk_at dksX7_nearest_0 20 rfl rfl)
theorem dX7_nearest_21 : decode cX7_nearest 21 = .ok (.iconst 0, 1) := dk_3 (dk_at dksX7_nearest_0 21 rfl rfl)
theorem dX7_nearest_22 : decode cX7_nearest 22 = .ok (.istore_n 3, 1) := dk_62 (dk_at dksX7_nearest_0 22 rfl rfl)
theorem dX7_nearest_23 : decode cX7_nearest 23 = .ok (.iload_n 3, 1) := dk_29 (dk_at dksX7_nearest_0 23 rfl rfl)
theorem dX7_nearest_24 : decode cX7_nearest 24 = .ok (.aload_n 0, 1) := dk_42 (dk_at dksX7_nearest_1 0 rfl rfl)
theorem dX7_nearest_25 : decode cX7_nearest 25 = .ok (.getfield 40, 3) := dk_180 0 40 (dk_at dksX7_nearest_1 1 rfl rfl)
theorem dX7_nearest_28 : decode cX7_nearest 28 = .ok (.iconst 2, 1) := dk_5 (dk_at dksX7_nearest_1 4 rfl rfl)
theorem dX7_nearest_29 : decode cX7_nearest 29 = .ok (.iaload, 1) := dk_46 (dk_at dksX7_nearest_1 5 rfl rfl)
theorem dX7_nearest_30 : decode cX7_nearest 30 = .ok (.if_icmp .ge 41, 3) := dk_162 0 41 (dk_at dksX7_nearest_1 6 rfl rfl)
theorem dX7_nearest_33 : decode cX7_nearest 33 = .ok (.iload_n 2, 1) := dk_28 (dk_at dksX7_nearest_1 9 rfl rfl)
theorem dX7_nearest_34 : decode cX7_nearest 34 = .ok (.iconst (-1), 1) := dk_2 (dk_at dksX7_nearest_1 10 rfl rfl)
theorem dX7_nearest_35 : decode cX7_nearest 35 = .ok (.if_icmp .eq 28, 3) := dk_159 0 28 (dk_at dksX7_nearest_1 11 rfl rfl)
theorem dX7_nearest_38 : decode cX7_nearest 38 = .ok (.aload_n 0, 1) := dk_42 (dk_at dksX7_nearest_1 14 rfl rfl)
theorem dX7_nearest_39 : decode cX7_nearest 39 = .ok (.aload_n 0, 1) := dk_42 (dk_at dksX7_nearest_1 15 rfl rfl)
theorem dX7_nearest_40 : decode cX7_nearest 40 = .ok (.getfield 77, 3) := dk_180 0 77 (dk_at dksX7_nearest_1 16 rfl rfl)
theorem dX7_nearest_43 : decode cX7_nearest 43 = .ok (.iload_n 3, 1) := dk_29 (dk_at dksX7_nearest_1 19 rfl rfl)
theorem dX7_nearest_44 : decode cX7_nearest 44 = .ok (.iaload, 1) := dk_46 (dk_at dksX7_nearest_1 20 rfl rfl)
theorem dX7_nearest_45 : decode cX7_nearest 45 = .ok (.iload_n 1, 1) := dk_27 (dk_at dksX7_nearest_1 21 rfl rfl)
theorem dX7_nearest_46 : decode cX7_nearest 46 = .ok (.invokevirtual 360, 3) := dk_182 1 104 (dk_at dksX7_nearest_2 0 rfl rfl)
theorem dX7_nearest_49 : decode cX7_nearest 49 = .ok (.aload_n 0, 1) := dk_42 (dk_at dksX7_nearest_2 3 rfl rfl)
theorem dX7_nearest_50 : decode cX7_nearest 50 = .ok (.aload_n 0, 1) := dk_42 (dk_at dksX7_nearest_2 4 rfl rfl)
theorem dX7_nearest_51 : decode cX7_nearest 51 = .ok (.getfield 77, 3) := dk_180 0 77 (dk_at dksX7_nearest_2 5 rfl rfl)
theorem dX7_nearest_54 : decode cX7_nearest 54 = .ok (.iload_n 2, 1) := dk_28 (dk_at dksX7_nearest_2 8 rfl rfl)
theorem dX7_nearest_55 : decode cX7_nearest 55 = .ok (.iaload, 1) := dk_46 (dk_at dksX7_nearest_2 9 rfl rfl)
theorem dX7_nearest_56 : decode cX7_nearest 56 = .ok (.iload_n 1, 1) := dk_27 (dk_at dksX7_nearest_2 10 rfl rfl)
theorem dX7_nearest_57 : decode cX7_nearest 57 = .ok (.invokevirtual 360, 3) := dk_182 1 104 (dk_at dksX7_nearest_2 11 rfl rfl)
theorem dX7_nearest_60 : decode cX7_nearest 60 = .ok (.if_icmp .ge 5, 3) := dk_162 0 5 (dk_at dksX7_nearest_2 14 rfl rfl)
theorem dX7_nearest_63 : decode cX7_nearest 63 = .ok (.iload_n 3, 1) := dk_29 (dk_at dksX7_nearest_2 17 rfl rfl)
theorem dX7_nearest_64 : decode cX7_nearest 64 = .ok (.istore_n 2, 1) := dk_61 (dk_at dksX7_nearest_2 18 rfl rfl)
theorem dX7_nearest_65 : decode cX7_nearest 65 = .ok (.iinc 3 1, 3) := dk_132 3 1 (dk_at dksX7_nearest_2 19 rfl rfl)
theorem dX7_nearest_68 : decode cX7_nearest 68 = .ok (.goto (-45), 3) := dk_167 255 211 (dk_at dksX7_nearest_3 0 rfl rfl)
theorem dX7_nearest_71 : decode cX7_nearest 71 = .ok (.iload_n 2, 1) := dk_28 (dk_at dksX7_nearest_3 3 rfl rfl)
theorem dX7_nearest_72 : decode cX7_nearest 72 = .ok (.ireturn, 1) := dk_172 (dk_at dksX7_nearest_3 4 rfl rfl)
abbrev cX7_sent : ByteArray := prog_18_method_97_code
def yX7_sent : MethodName := ⟨RX7, "sent", "(II)I"⟩
def dkwX7_sent_10 : List UInt8 := [132, 5, 1, 167, 255, 160, 2, 172]
abbrev dktX7_sent_10 : List UInt8 := dkwX7_sent_10 ++ []
def dkwX7_sent_9 : List UInt8 := [180, 0, 101, 21, 5, 46, 28, 160, 0, 6, 21, 6, 172, 21, 4, 4, 21, 6, 120, 128, 54, 4]
abbrev dktX7_sent_9 : List UInt8 := dkwX7_sent_9 ++ dktX7_sent_10
def dkwX7_sent_8 : List UInt8 := [21, 5, 16, 6, 120, 21, 4, 96, 46, 160, 0, 7, 21, 7, 54, 6, 132, 7, 255, 167, 255, 208, 42]
abbrev dktX7_sent_8 : List UInt8 := dkwX7_sent_8 ++ dktX7_sent_9
def dkwX7_sent_7 : List UInt8 := [21, 4, 21, 7, 184, 0, 232, 154, 0, 33, 42, 21, 5, 21, 4, 21, 7, 182, 1, 210, 42, 180, 0, 98]
abbrev dktX7_sent_7 : List UInt8 := dkwX7_sent_7 ++ dktX7_sent_8
def dkwX7_sent_6 : List UInt8 := [21, 5, 29, 162, 0, 96, 2, 54, 6, 42, 180, 0, 40, 5, 46, 4, 100, 54, 7, 21, 7, 155, 0, 49]
abbrev dktX7_sent_6 : List UInt8 := dkwX7_sent_6 ++ dktX7_sent_7
def dkwX7_sent_5 : List UInt8 := [172, 42, 29, 182, 1, 213, 28, 2, 160, 0, 10, 42, 180, 0, 98, 3, 46, 172, 3, 54, 4, 3, 54, 5]
abbrev dktX7_sent_5 : List UInt8 := dkwX7_sent_5 ++ dktX7_sent_6
def dkwX7_sent_4 : List UInt8 := [21, 4, 79, 132, 3, 1, 132, 4, 1, 167, 255, 221, 29, 42, 180, 0, 40, 5, 46, 164, 0, 6, 16, 254]
abbrev dktX7_sent_4 : List UInt8 := dkwX7_sent_4 ++ dktX7_sent_5
def dkwX7_sent_3 : List UInt8 := [42, 182, 0, 153, 162, 0, 32, 27, 21, 4, 184, 0, 232, 154, 0, 6, 167, 0, 14, 42, 180, 0, 101, 29]
abbrev dktX7_sent_3 : List UInt8 := dkwX7_sent_3 ++ dktX7_sent_4
def dkwX7_sent_2 : List UInt8 := [153, 0, 11, 27, 28, 184, 0, 232, 154, 0, 9, 42, 4, 182, 1, 62, 172, 3, 62, 3, 54, 4, 21, 4]
abbrev dktX7_sent_2 : List UInt8 := dkwX7_sent_2 ++ dktX7_sent_3
def dkwX7_sent_1 : List UInt8 := [184, 1, 140, 16, 6, 164, 0, 9, 42, 5, 182, 1, 62, 172, 28, 2, 159, 0, 25, 42, 28, 182, 1, 152]
abbrev dktX7_sent_1 : List UInt8 := dkwX7_sent_1 ++ dktX7_sent_2
def dkwX7_sent_0 : List UInt8 := [42, 3, 181, 0, 150, 27, 133, 9, 10, 42, 182, 0, 153, 121, 10, 101, 184, 0, 157, 153, 0, 12, 27]
abbrev dktX7_sent_0 : List UInt8 := dkwX7_sent_0 ++ dktX7_sent_1
theorem dksX7_sent_0 : cX7_sent.data.toList.drop 0 = dktX7_sent_0 := by decide +kernel
theorem dksX7_sent_1 : cX7_sent.data.toList.drop 23 = dktX7_sent_1 := dk_seg dksX7_sent_0 23 rfl rfl
theorem dksX7_sent_2 : cX7_sent.data.toList.drop 47 = dktX7_sent_2 := dk_seg dksX7_sent_1 24 rfl rfl
theorem dksX7_sent_3 : cX7_sent.data.toList.drop 71 = dktX7_sent_3 := dk_seg dksX7_sent_2 24 rfl rfl
theorem dksX7_sent_4 : cX7_sent.data.toList.drop 95 = dktX7_sent_4 := dk_seg dksX7_sent_3 24 rfl rfl
theorem dksX7_sent_5 : cX7_sent.data.toList.drop 119 = dktX7_sent_5 := dk_seg dksX7_sent_4 24 rfl rfl
theorem dksX7_sent_6 : cX7_sent.data.toList.drop 143 = dktX7_sent_6 := dk_seg dksX7_sent_5 24 rfl rfl
theorem dksX7_sent_7 : cX7_sent.data.toList.drop 167 = dktX7_sent_7 := dk_seg dksX7_sent_6 24 rfl rfl
theorem dksX7_sent_8 : cX7_sent.data.toList.drop 191 = dktX7_sent_8 := dk_seg dksX7_sent_7 24 rfl rfl
theorem dksX7_sent_9 : cX7_sent.data.toList.drop 214 = dktX7_sent_9 := dk_seg dksX7_sent_8 23 rfl rfl
theorem dksX7_sent_10 : cX7_sent.data.toList.drop 236 = dktX7_sent_10 := dk_seg dksX7_sent_9 22 rfl rfl
theorem dX7_sent_0 : decode cX7_sent 0 = .ok (.aload_n 0, 1) := dk_42 (dk_at dksX7_sent_0 0 rfl rfl)
theorem dX7_sent_1 : decode cX7_sent 1 = .ok (.iconst 0, 1) := dk_3 (dk_at dksX7_sent_0 1 rfl rfl)
theorem dX7_sent_2 : decode cX7_sent 2 = .ok (.putfield 150, 3) := dk_181 0 150 (dk_at dksX7_sent_0 2 rfl rfl)
theorem dX7_sent_5 : decode cX7_sent 5 = .ok (.iload_n 1, 1) := dk_27 (dk_at dksX7_sent_0 5 rfl rfl)
theorem dX7_sent_6 : decode cX7_sent 6 = .ok (.i2l, 1) := dk_133 (dk_at dksX7_sent_0 6 rfl rfl)
theorem dX7_sent_7 : decode cX7_sent 7 = .ok (.lconst 0, 1) := dk_9 (dk_at dksX7_sent_0 7 rfl rfl)
theorem dX7_sent_8 : decode cX7_sent 8 = .ok (.lconst 1, 1) := dk_10 (dk_at dksX7_sent_0 8 rfl rfl)
theorem dX7_sent_9 : decode cX7_sent 9 = .ok (.aload_n 0, 1) := dk_42 (dk_at dksX7_sent_0 9 rfl rfl)
theorem dX7_sent_10 : decode cX7_sent 10 = .ok (.invokevirtual 153, 3) := dk_182 0 153 (dk_at dksX7_sent_0 10 rfl rfl)
theorem dX7_sent_13 : decode cX7_sent 13 = .ok (.lshl, 1) := dk_121 (dk_at dksX7_sent_0 13 rfl rfl)
theorem dX7_sent_14 : decode cX7_sent 14 = .ok (.lconst 1, 1) := dk_10 (dk_at dksX7_sent_0 14 rfl rfl)
theorem dX7_sent_15 : decode cX7_sent 15 = .ok (.lsub, 1) := dk_101 (dk_at dksX7_sent_0 15 rfl rfl)
theorem dX7_sent_16 : decode cX7_sent 16 = .ok (.invokestatic 157, 3) := dk_184 0 157 (dk_at dksX7_sent_0 16 rfl rfl)
theorem dX7_sent_19 : decode cX7_sent 19 = .ok (.ifCond .eq 12, 3) := dk_153 0 12 (dk_at dksX7_sent_0 19 rfl rfl)
theorem dX7_sent_22 : decode cX7_sent 22 = .ok (.iload_n 1, 1) := dk_27 (dk_at dksX7_sent_0 22 rfl rfl)
theorem dX7_sent_23 : decode cX7_sent 23 = .ok (.invokestatic 396, 3) := dk_184 1 140 (dk_at dksX7_sent_1 0 rfl rfl)
theorem dX7_sent_26 : decode cX7_sent 26 = .ok (.bipush 6, 2) := dk_16 6 (dk_at dksX7_sent_1 3 rfl rfl)
theorem dX7_sent_28 : decode cX7_sent 28 = .ok (.if_icmp .le 9, 3) := dk_164 0 9 (dk_at dksX7_sent_1 5 rfl rfl)
theorem dX7_sent_31 : decode cX7_sent 31 = .ok (.aload_n 0, 1) := dk_42 (dk_at dksX7_sent_1 8 rfl rfl)
theorem dX7_sent_32 : decode cX7_sent 32 = .ok (.iconst 2, 1) := dk_5 (dk_at dksX7_sent_1 9 rfl rfl)
theorem dX7_sent_33 : decode cX7_sent 33 = .ok (.invokevirtual 318, 3) := dk_182 1 62 (dk_at dksX7_sent_1 10 rfl rfl)
theorem dX7_sent_36 : decode cX7_sent 36 = .ok (.ireturn, 1) := dk_172 (dk_at dksX7_sent_1 13 rfl rfl)
theorem dX7_sent_37 : decode cX7_sent 37 = .ok (.iload_n 2, 1) := dk_28 (dk_at dksX7_sent_1 14 rfl rfl)
theorem dX7_sent_38 : decode cX7_sent 38 = .ok (.iconst (-1), 1) := dk_2 (dk_at dksX7_sent_1 15 rfl rfl)
theorem dX7_sent_39 : decode cX7_sent 39 = .ok (.if_icmp .eq 25, 3) := dk_159 0 25 (dk_at dksX7_sent_1 16 rfl rfl)
theorem dX7_sent_42 : decode cX7_sent 42 = .ok (.aload_n 0, 1) := dk_42 (dk_at dksX7_sent_1 19 rfl rfl)
theorem dX7_sent_43 : decode cX7_sent 43 = .ok (.iload_n 2, 1) := dk_28 (dk_at dksX7_sent_1 20 rfl rfl)
theorem dX7_sent_44 : decode cX7_sent 44 = .ok (.invokevirtual 408, 3) := dk_182 1 152 (dk_at dksX7_sent_1 21 rfl rfl)
theorem dX7_sent_47 : decode cX7_sent 47 = .ok (.ifCond .eq 11, 3) := dk_153 0 11 (dk_at dksX7_sent_2 0 rfl rfl)
theorem dX7_sent_50 : decode cX7_sent 50 = .ok (.iload_n 1, 1) := dk_27 (dk_at dksX7_sent_2 3 rfl rfl)
theorem dX7_sent_51 : decode cX7_sent 51 = .ok (.iload_n 2, 1) := dk_28 (dk_at dksX7_sent_2 4 rfl rfl)
theorem dX7_sent_52 : decode cX7_sent 52 = .ok (.invokestatic 232, 3) := dk_184 0 232 (dk_at dksX7_sent_2 5 rfl rfl)
theorem dX7_sent_55 : decode cX7_sent 55 = .ok (.ifCond .ne 9, 3) := dk_154 0 9 (dk_at dksX7_sent_2 8 rfl rfl)
theorem dX7_sent_58 : decode cX7_sent 58 = .ok (.aload_n 0, 1) := dk_42 (dk_at dksX7_sent_2 11 rfl rfl)
theorem dX7_sent_59 : decode cX7_sent 59 = .ok (.iconst 1, 1) := dk_4 (dk_at dksX7_sent_2 12 rfl rfl)
theorem dX7_sent_60 : decode cX7_sent 60 = .ok (.invokevirtual 318, 3) := dk_182 1 62 (dk_at dksX7_sent_2 13 rfl rfl)
theorem dX7_sent_63 : decode cX7_sent 63 = .ok (.ireturn, 1) := dk_172 (dk_at dksX7_sent_2 16 rfl rfl)
theorem dX7_sent_64 : decode cX7_sent 64 = .ok (.iconst 0, 1) := dk_3 (dk_at dksX7_sent_2 17 rfl rfl)
theorem dX7_sent_65 : decode cX7_sent 65 = .ok (.istore_n 3, 1) := dk_62 (dk_at dksX7_sent_2 18 rfl rfl)
theorem dX7_sent_66 : decode cX7_sent 66 = .ok (.iconst 0, 1) := dk_3 (dk_at dksX7_sent_2 19 rfl rfl)
theorem dX7_sent_67 : decode cX7_sent 67 = .ok (.istore 4, 2) := dk_54 4 (dk_at dksX7_sent_2 20 rfl rfl)
theorem dX7_sent_69 : decode cX7_sent 69 = .ok (.iload 4, 2) := dk_21 4 (dk_at dksX7_sent_2 22 rfl rfl)
theorem dX7_sent_71 : decode cX7_sent 71 = .ok (.aload_n 0, 1) := dk_42 (dk_at dksX7_sent_3 0 rfl rfl)
theorem dX7_sent_72 : decode cX7_sent 72 = .ok (.invokevirtual 153, 3) := dk_182 0 153 (dk_at dksX7_sent_3 1 rfl rfl)
theorem dX7_sent_75 : decode cX7_sent 75 = .ok (.if_icmp .ge 32, 3) := dk_162 0 32 (dk_at dksX7_sent_3 4 rfl rfl)
theorem dX7_sent_78 : decode cX7_sent 78 = .ok (.iload_n 1, 1) := dk_27 (dk_at dksX7_sent_3 7 rfl rfl)
theorem dX7_sent_79 : decode cX7_sent 79 = .ok (.iload 4, 2) := dk_21 4 (dk_at dksX7_sent_3 8 rfl rfl)
theorem dX7_sent_81 : decode cX7_sent 81 = .ok (.invokestatic 232, 3) := dk_184 0 232 (dk_at dksX7_sent_3 10 rfl rfl)
theorem dX7_sent_84 : decode cX7_sent 84 = .ok (.ifCond .ne 6, 3) := dk_154 0 6 (dk_at dksX7_sent_3 13 rfl rfl)
theorem dX7_sent_87 : decode cX7_sent 87 = .ok (.goto 14, 3) := dk_167 0 14 (dk_at dksX7_sent_3 16 rfl rfl)
theorem dX7_sent_90 : decode cX7_sent 90 = .ok (.aload_n 0, 1) := dk_42 (dk_at dksX7_sent_3 19 rfl rfl)
theorem dX7_sent_91 : decode cX7_sent 91 = .ok (.getfield 101, 3) := dk_180 0 101 (dk_at dksX7_sent_3 20 rfl rfl)
theorem dX7_sent_94 : decode cX7_sent 94 = .ok (.iload_n 3, 1) := dk_29 (dk_at dksX7_sent_3 23 rfl rfl)
theorem dX7_sent_95 : decode cX7_sent 95 = .ok (.iload 4, 2) := dk_21 4 (dk_at dksX7_sent_4 0 rfl rfl)
theorem dX7_sent_97 : decode cX7_sent 97 = .ok (.iastore, 1) := dk_79 (dk_at dksX7_sent_4 2 rfl rfl)
theorem dX7_sent_98 : decode cX7_sent 98 = .ok (.iinc 3 1, 3) := dk_132 3 1 (dk_at dksX7_sent_4 3 rfl rfl)
theorem dX7_sent_101 : decode cX7_sent 101 = .ok (.iinc 4 1, 3) := dk_132 4 1 (dk_at dksX7_sent_4 6 rfl rfl)
theorem dX7_sent_104 : decode cX7_sent 104 = .ok (.goto (-35), 3) := dk_167 255 221 (dk_at dksX7_sent_4 9 rfl rfl)
theorem dX7_sent_107 : decode cX7_sent 107 = .ok (.iload_n 3, 1) := dk_29 (dk_at dksX7_sent_4 12 rfl rfl)
theorem dX7_sent_108 : decode cX7_sent 108 = .ok (.aload_n 0, 1) := dk_42 (dk_at dksX7_sent_4 13 rfl rfl)
theorem dX7_sent_109 : decode cX7_sent 109 = .ok (.getfield 40, 3) := dk_180 0 40 (dk_at dksX7_sent_4 14 rfl rfl)
theorem dX7_sent_112 : decode cX7_sent 112 = .ok (.iconst 2, 1) := dk_5 (dk_at dksX7_sent_4 17 rfl rfl)
theorem dX7_sent_113 : decode cX7_sent 113 = .ok (.iaload, 1) := dk_46 (dk_at dksX7_sent_4 18 rfl rfl)
theorem dX7_sent_114 : decode cX7_sent 114 = .ok (.if_icmp .le 6, 3) := dk_164 0 6 (dk_at dksX7_sent_4 19 rfl rfl)
theorem dX7_sent_117 : decode cX7_sent 117 = .ok (.bipush (-2), 2) := dk_16 254 (dk_at dksX7_sent_4 22 rfl rfl)
theorem dX7_sent_119 : decode cX7_sent 119 = .ok (.ireturn, 1) := dk_172 (dk_at dksX7_sent_5 0 rfl rfl)
theorem dX7_sent_120 : decode cX7_sent 120 = .ok (.aload_n 0, 1) := dk_42 (dk_at dksX7_sent_5 1 rfl rfl)
theorem dX7_sent_121 : decode cX7_sent 121 = .ok (.iload_n 3, 1) := dk_29 (dk_at dksX7_sent_5 2 rfl rfl)
theorem dX7_sent_122 : decode cX7_sent 122 = .ok (.invokevirtual 469, 3) := dk_182 1 213 (dk_at dksX7_sent_5 3 rfl rfl)
theorem dX7_sent_125 : decode cX7_sent 125 = .ok (.iload_n 2, 1) := dk_28 (dk_at dksX7_sent_5 6 rfl rfl)
theorem dX7_sent_126 : decode cX7_sent 126 = .ok (.iconst (-1), 1) := dk_2 (dk_at dksX7_sent_5 7 rfl rfl)
theorem dX7_sent_127 : decode cX7_sent 127 = .ok (.if_icmp .ne 10, 3) := dk_160 0 10 (dk_at dksX7_sent_5 8 rfl rfl)
theorem dX7_sent_130 : decode cX7_sent 130 = .ok (.aload_n 0, 1) := dk_42 (dk_at dksX7_sent_5 11 rfl rfl)
theorem dX7_sent_131 : decode cX7_sent 131 = .ok (.getfield 98, 3) := dk_180 0 98 (dk_at dksX7_sent_5 12 rfl rfl)
theorem dX7_sent_134 : decode cX7_sent 134 = .ok (.iconst 0, 1) := dk_3 (dk_at dksX7_sent_5 15 rfl rfl)
theorem dX7_sent_135 : decode cX7_sent 135 = .ok (.iaload, 1) := dk_46 (dk_at dksX7_sent_5 16 rfl rfl)
theorem dX7_sent_136 : decode cX7_sent 136 = .ok (.ireturn, 1) := dk_172 (dk_at dksX7_sent_5 17 rfl rfl)
theorem dX7_sent_137 : decode cX7_sent 137 = .ok (.iconst 0, 1) := dk_3 (dk_at dksX7_sent_5 18 rfl rfl)
theorem dX7_sent_138 : decode cX7_sent 138 = .ok (.istore 4, 2) := dk_54 4 (dk_at dksX7_sent_5 19 rfl rfl)
theorem dX7_sent_140 : decode cX7_sent 140 = .ok (.iconst 0, 1) := dk_3 (dk_at dksX7_sent_5 21 rfl rfl)
theorem dX7_sent_141 : decode cX7_sent 141 = .ok (.istore 5, 2) := dk_54 5 (dk_at dksX7_sent_5 22 rfl rfl)
theorem dX7_sent_143 : decode cX7_sent 143 = .ok (.iload 5, 2) := dk_21 5 (dk_at dksX7_sent_6 0 rfl rfl)
theorem dX7_sent_145 : decode cX7_sent 145 = .ok (.iload_n 3, 1) := dk_29 (dk_at dksX7_sent_6 2 rfl rfl)
theorem dX7_sent_146 : decode cX7_sent 146 = .ok (.if_icmp .ge 96, 3) := dk_162 0 96 (dk_at dksX7_sent_6 3 rfl rfl)
theorem dX7_sent_149 : decode cX7_sent 149 = .ok (.iconst (-1), 1) := dk_2 (dk_at dksX7_sent_6 6 rfl rfl)
theorem dX7_sent_150 : decode cX7_sent 150 = .ok (.istore 6, 2) := dk_54 6 (dk_at dksX7_sent_6 7 rfl rfl)
theorem dX7_sent_152 : decode cX7_sent 152 = .ok (.aload_n 0, 1) := dk_42 (dk_at dksX7_sent_6 9 rfl rfl)
theorem dX7_sent_153 : decode cX7_sent 153 = .ok (.getfield 40, 3) := dk_180 0 40 (dk_at dksX7_sent_6 10 rfl rfl)
theorem dX7_sent_156 : decode cX7_sent 156 = .ok (.iconst 2, 1) := dk_5 (dk_at dksX7_sent_6 13 rfl rfl)
theorem dX7_sent_157 : decode cX7_sent 157 = .ok (.iaload, 1) := dk_46 (dk_at dksX7_sent_6 14 rfl rfl)
theorem dX7_sent_158 : decode cX7_sent 158 = .ok (.iconst 1, 1) := dk_4 (dk_at dksX7_sent_6 15 rfl rfl)
theorem dX7_sent_159 : decode cX7_sent 159 = .ok (.isub, 1) := dk_100 (dk_at dksX7_sent_6 16 rfl rfl)
theorem dX7_sent_160 : decode cX7_sent 160 = .ok (.istore 7, 2) := dk_54 7 (dk_at dksX7_sent_6 17 rfl rfl)
theorem dX7_sent_162 : decode cX7_sent 162 = .ok (.iload 7, 2) := dk_21 7 (dk_at dksX7_sent_6 19 rfl rfl)
theorem dX7_sent_164 : decode cX7_sent 164 = .ok (.ifCond .lt 49, 3) := dk_155 0 49 (dk_at dksX7_sent_6 21 rfl rfl)
theorem dX7_sent_167 : decode cX7_sent 167 = .ok (.iload 4, 2) := dk_21 4 (dk_at dksX7_sent_7 0 rfl rfl)
theorem dX7_sent_169 : decode cX7_sent 169 = .ok (.iload 7, 2) := dk_21 7 (dk_at dksX7_sent_7 2 rfl rfl)
theorem dX7_sent_171 : decode cX7_sent 171 = .ok (.invokestatic 232, 3) := dk_184 0 232 (dk_at dksX7_sent_7 4 rfl rfl)
theorem dX7_sent_174 : decode cX7_sent 174 = .ok (.ifCond .ne 33, 3) := dk_154 0 33 (dk_at dksX7_sent_7 7 rfl rfl)
theorem dX7_sent_177 : decode cX7_sent 177 = .ok (.aload_n 0, 1) := dk_42 (dk_at dksX7_sent_7 10 rfl rfl)
theorem dX7_sent_178 : decode cX7_sent 178 = .ok (.iload 5, 2) := dk_21 5 (dk_at dksX7_sent_7 11 rfl rfl)
theorem dX7_sent_180 : decode cX7_sent 180 = .ok (.iload 4, 2) := dk_21 4 (dk_at dksX7_sent_7 13 rfl rfl)
theorem dX7_sent_182 : decode cX7_sent 182 = .ok (.iload 7, 2) := dk_21 7 (dk_at dksX7_sent_7 15 rfl rfl)
theorem dX7_sent_184 : decode cX7_sent 184 = .ok (.invokevirtual 466, 3) := dk_182 1 210 (dk_at dksX7_sent_7 17 rfl rfl)
theorem dX7_sent_187 : decode cX7_sent 187 = .ok (.aload_n 0, 1) := dk_42 (dk_at dksX7_sent_7 20 rfl rfl)
theorem dX7_sent_188 : decode cX7_sent 188 = .ok (.getfield 98, 3) := dk_180 0 98 (dk_at dksX7_sent_7 21 rfl rfl)
theorem dX7_sent_191 : decode cX7_sent 191 = .ok (.iload 5, 2) := dk_21 5 (dk_at dksX7_sent_8 0 rfl rfl)
theorem dX7_sent_193 : decode cX7_sent 193 = .ok (.bipush 6, 2) := dk_16 6 (dk_at dksX7_sent_8 2 rfl rfl)
theorem dX7_sent_195 : decode cX7_sent 195 = .ok (.ishl, 1) := dk_120 (dk_at dksX7_sent_8 4 rfl rfl)
theorem dX7_sent_196 : decode cX7_sent 196 = .ok (.iload 4, 2) := dk_21 4 (dk_at dksX7_sent_8 5 rfl rfl)
theorem dX7_sent_198 : decode cX7_sent 198 = .ok (.iadd, 1) := dk_96 (dk_at dksX7_sent_8 7 rfl rfl)
theorem dX7_sent_199 : decode cX7_sent 199 = .ok (.iaload, 1) := dk_46 (dk_at dksX7_sent_8 8 rfl rfl)
theorem dX7_sent_200 : decode cX7_sent 200 = .ok (.if_icmp .ne 7, 3) := dk_160 0 7 (dk_at dksX7_sent_8 9 rfl rfl)
theorem dX7_sent_203 : decode cX7_sent 203 = .ok (.iload 7, 2) := dk_21 7 (dk_at dksX7_sent_8 12 rfl rfl)
theorem dX7_sent_205 : decode cX7_sent 205 = .ok (.istore 6, 2) := dk_54 6 (dk_at dksX7_sent_8 14 rfl rfl)
theorem dX7_sent_207 : decode cX7_sent 207 = .ok (.iinc 7 (-1), 3) := dk_132 7 255 (dk_at dksX7_sent_8 16 rfl rfl)
theorem dX7_sent_210 : decode cX7_sent 210 = .ok (.goto (-48), 3) := dk_167 255 208 (dk_at dksX7_sent_8 19 rfl rfl)
theorem dX7_sent_213 : decode cX7_sent 213 = .ok (.aload_n 0, 1) := dk_42 (dk_at dksX7_sent_8 22 rfl rfl)
theorem dX7_sent_214 : decode cX7_sent 214 = .ok (.getfield 101, 3) := dk_180 0 101 (dk_at dksX7_sent_9 0 rfl rfl)
theorem dX7_sent_217 : decode cX7_sent 217 = .ok (.iload 5, 2) := dk_21 5 (dk_at dksX7_sent_9 3 rfl rfl)
theorem dX7_sent_219 : decode cX7_sent 219 = .ok (.iaload, 1) := dk_46 (dk_at dksX7_sent_9 5 rfl rfl)
theorem dX7_sent_220 : decode cX7_sent 220 = .ok (.iload_n 2, 1) := dk_28 (dk_at dksX7_sent_9 6 rfl rfl)
theorem dX7_sent_221 : decode cX7_sent 221 = .ok (.if_icmp .ne 6, 3) := dk_160 0 6 (dk_at dksX7_sent_9 7 rfl rfl)
theorem dX7_sent_224 : decode cX7_sent 224 = .ok (.iload 6, 2) := dk_21 6 (dk_at dksX7_sent_9 10 rfl rfl)
theorem dX7_sent_226 : decode cX7_sent 226 = .ok (.ireturn, 1) := dk_172 (dk_at dksX7_sent_9 12 rfl rfl)
theorem dX7_sent_227 : decode cX7_sent 227 = .ok (.iload 4, 2) := dk_21 4 (dk_at dksX7_sent_9 13 rfl rfl)
theorem dX7_sent_229 : decode cX7_sent 229 = .ok (.iconst 1, 1) := dk_4 (dk_at dksX7_sent_9 15 rfl rfl)
theorem dX7_sent_230 : decode cX7_sent 230 = .ok (.iload 6, 2) := dk_21 6 (dk_at dksX7_sent_9 16 rfl rfl)
theorem dX7_sent_232 : decode cX7_sent 232 = .ok (.ishl, 1) := dk_120 (dk_at dksX7_sent_9 18 rfl rfl)
theorem dX7_sent_233 : decode cX7_sent 233 = .ok (.ior, 1) := dk_128 (dk_at dksX7_sent_9 19 rfl rfl)
theorem dX7_sent_234 : decode cX7_sent 234 = .ok (.istore 4, 2) := dk_54 4 (dk_at dksX7_sent_9 20 rfl rfl)
theorem dX7_sent_236 : decode cX7_sent 236 = .ok (.iinc 5 1, 3) := dk_132 5 1 (dk_at dksX7_sent_10 0 rfl rfl)
theorem dX7_sent_239 : decode cX7_sent 239 = .ok (.goto (-96), 3) := dk_167 255 160 (dk_at dksX7_sent_10 3 rfl rfl)
theorem dX7_sent_242 : decode cX7_sent 242 = .ok (.iconst (-1), 1) := dk_2 (dk_at dksX7_sent_10 6 rfl rfl)
theorem dX7_sent_243 : decode cX7_sent 243 = .ok (.ireturn, 1) := dk_172 (dk_at dksX7_sent_10 7 rfl rfl)
abbrev cX7_tellLeast : ByteArray := prog_18_method_96_code
def yX7_tellLeast : MethodName := ⟨RX7, "tellLeast", "(I)V"⟩
def dkwX7_tellLeast_5 : List UInt8 := [79, 132, 4, 1, 167, 255, 178, 132, 3, 255, 167, 255, 165, 177]
abbrev dktX7_tellLeast_5 : List UInt8 := dkwX7_tellLeast_5 ++ []
def dkwX7_tellLeast_4 : List UInt8 := [132, 6, 1, 167, 255, 216, 42, 180, 0, 98, 29, 16, 6, 120, 21, 4, 96, 18, 190, 21, 5, 184, 0, 191]
abbrev dktX7_tellLeast_4 : List UInt8 := dkwX7_tellLeast_4 ++ dktX7_tellLeast_5
def dkwX7_tellLeast_3 : List UInt8 := [21, 6, 184, 0, 232, 154, 0, 19, 21, 5, 42, 29, 21, 4, 21, 6, 182, 1, 210, 184, 0, 191, 54, 5]
abbrev dktX7_tellLeast_3 : List UInt8 := dkwX7_tellLeast_3 ++ dktX7_tellLeast_4
def dkwX7_tellLeast_2 : List UInt8 := [162, 0, 78, 18, 190, 54, 5, 3, 54, 6, 21, 6, 42, 180, 0, 40, 5, 46, 162, 0, 35, 21, 4]
abbrev dktX7_tellLeast_2 : List UInt8 := dkwX7_tellLeast_2 ++ dktX7_tellLeast_3
def dkwX7_tellLeast_1 : List UInt8 := [29, 96, 3, 79, 132, 3, 1, 167, 255, 236, 27, 4, 100, 62, 29, 155, 0, 93, 3, 54, 4, 21, 4, 28]
abbrev dktX7_tellLeast_1 : List UInt8 := dkwX7_tellLeast_1 ++ dktX7_tellLeast_2
def dkwX7_tellLeast_0 : List UInt8 := [4, 42, 180, 0, 40, 5, 46, 120, 61, 3, 62, 29, 28, 162, 0, 21, 42, 180, 0, 98, 27, 16, 6, 120]
abbrev dktX7_tellLeast_0 : List UInt8 := dkwX7_tellLeast_0 ++ dktX7_tellLeast_1
theorem dksX7_tellLeast_0 : cX7_tellLeast.data.toList.drop 0 = dktX7_tellLeast_0 := by decide +kernel
theorem dksX7_tellLeast_1 : cX7_tellLeast.data.toList.drop 24 = dktX7_tellLeast_1 := dk_seg dksX7_tellLeast_0 24 rfl rfl
theorem dksX7_tellLeast_2 : cX7_tellLeast.data.toList.drop 48 = dktX7_tellLeast_2 := dk_seg dksX7_tellLeast_1 24 rfl rfl
theorem dksX7_tellLeast_3 : cX7_tellLeast.data.toList.drop 71 = dktX7_tellLeast_3 := dk_seg dksX7_tellLeast_2 23 rfl rfl
theorem dksX7_tellLeast_4 : cX7_tellLeast.data.toList.drop 95 = dktX7_tellLeast_4 := dk_seg dksX7_tellLeast_3 24 rfl rfl
theorem dksX7_tellLeast_5 : cX7_tellLeast.data.toList.drop 119 = dktX7_tellLeast_5 := dk_seg dksX7_tellLeast_4 24 rfl rfl
theorem dX7_tellLeast_0 : decode cX7_tellLeast 0 = .ok (.iconst 1, 1) := dk_4 (dk_at dksX7_tellLeast_0 0 rfl rfl)
theorem dX7_tellLeast_1 : decode cX7_tellLeast 1 = .ok (.aload_n 0, 1) := dk_42 (dk_at dksX7_tellLeast_0 1 rfl rfl)
theorem dX7_tellLeast_2 : decode cX7_tellLeast 2 = .ok (.getfield 40, 3) := dk_180 0 40 (dk_at dksX7_tellLeast_0 2 rfl rfl)
theorem dX7_tellLeast_5 : decode cX7_tellLeast 5 = .ok (.iconst 2, 1) := dk_5 (dk_at dksX7_tellLeast_0 5 rfl rfl)
theorem dX7_tellLeast_6 : decode cX7_tellLeast 6 = .ok (.iaload, 1) := dk_46 (dk_at dksX7_tellLeast_0 6 rfl rfl)
theorem dX7_tellLeast_7 : decode cX7_tellLeast 7 = .ok (.ishl, 1) := dk_120 (dk_at dksX7_tellLeast_0 7 rfl rfl)
theorem dX7_tellLeast_8 : decode cX7_tellLeast 8 = .ok (.istore_n 2, 1) := dk_61 (dk_at dksX7_tellLeast_0 8 rfl rfl)
theorem dX7_tellLeast_9 : decode cX7_tellLeast 9 = .ok (.iconst 0, 1) := dk_3 (dk_at dksX7_tellLeast_0 9 rfl rfl)
theorem dX7_tellLeast_10 : decode cX7_tellLeast 10 = .ok (.istore_n 3, 1) := dk_62 (dk_at dksX7_tellLeast_0 10 rfl rfl)
theorem dX7_tellLeast_11 : decode cX7_tellLeast 11 = .ok (.iload_n 3, 1) := dk_29 (dk_at dksX7_tellLeast_0 11 rfl rfl)
theorem dX7_tellLeast_12 : decode cX7_tellLeast 12 = .ok (.iload_n 2, 1) := dk_28 (dk_at dksX7_tellLeast_0 12 rfl rfl)
theorem dX7_tellLeast_13 : decode cX7_tellLeast 13 = .ok (.if_icmp .ge 21, 3) := dk_162 0 21 (dk_at dksX7_tellLeast_0 13 rfl rfl)
theorem dX7_tellLeast_16 : decode cX7_tellLeast 16 = .ok (.aload_n 0, 1) := dk_42 (dk_at dksX7_tellLeast_0 16 rfl rfl)
theorem dX7_tellLeast_17 : decode cX7_tellLeast 17 = .ok (.getfield 98, 3) := dk_180 0 98 (dk_at dksX7_tellLeast_0 17 rfl rfl)
theorem dX7_tellLeast_20 : decode cX7_tellLeast 20 = .ok (.iload_n 1, 1) := dk_27 (dk_at dksX7_tellLeast_0 20 rfl rfl)
theorem dX7_tellLeast_21 : decode cX7_tellLeast 21 = .ok (.bipush 6, 2) := dk_16 6 (dk_at dksX7_tellLeast_0 21 rfl rfl)
theorem dX7_tellLeast_23 : decode cX7_tellLeast 23 = .ok (.ishl, 1) := dk_120 (dk_at dksX7_tellLeast_0 23 rfl rfl)
theorem dX7_tellLeast_24 : decode cX7_tellLeast 24 = .ok (.iload_n 3, 1) := dk_29 (dk_at dksX7_tellLeast_1 0 rfl rfl)
theorem dX7_tellLeast_25 : decode cX7_tellLeast 25 = .ok (.iadd, 1) := dk_96 (dk_at dksX7_tellLeast_1 1 rfl rfl)
theorem dX7_tellLeast_26 : decode cX7_tellLeast 26 = .ok (.iconst 0, 1) := dk_3 (dk_at dksX7_tellLeast_1 2 rfl rfl)
theorem dX7_tellLeast_27 : decode cX7_tellLeast 27 = .ok (.iastore, 1) := dk_79 (dk_at dksX7_tellLeast_1 3 rfl rfl)
theorem dX7_tellLeast_28 : decode cX7_tellLeast 28 = .ok (.iinc 3 1, 3) := dk_132 3 1 (dk_at dksX7_tellLeast_1 4 rfl rfl)
theorem dX7_tellLeast_31 : decode cX7_tellLeast 31 = .ok (.goto (-20), 3) := dk_167 255 236 (dk_at dksX7_tellLeast_1 7 rfl rfl)
theorem dX7_tellLeast_34 : decode cX7_tellLeast 34 = .ok (.iload_n 1, 1) := dk_27 (dk_at dksX7_tellLeast_1 10 rfl rfl)
theorem dX7_tellLeast_35 : decode cX7_tellLeast 35 = .ok (.iconst 1, 1) := dk_4 (dk_at dksX7_tellLeast_1 11 rfl rfl)
theorem dX7_tellLeast_36 : decode cX7_tellLeast 36 = .ok (.isub, 1) := dk_100 (dk_at dksX7_tellLeast_1 12 rfl rfl)
theorem dX7_tellLeast_37 : decode cX7_tellLeast 37 = .ok (.istore_n 3, 1) := dk_62 (dk_at dksX7_tellLeast_1 13 rfl rfl)
theorem dX7_tellLeast_38 : decode cX7_tellLeast 38 = .ok (.iload_n 3, 1) := dk_29 (dk_at dksX7_tellLeast_1 14 rfl rfl)
theorem dX7_tellLeast_39 : decode cX7_tellLeast 39 = .ok (.ifCond .lt 93, 3) := dk_155 0 93 (dk_at dksX7_tellLeast_1 15 rfl rfl)
theorem dX7_tellLeast_42 : decode cX7_tellLeast 42 = .ok (.iconst 0, 1) := dk_3 (dk_at dksX7_tellLeast_1 18 rfl rfl)
theorem dX7_tellLeast_43 : decode cX7_tellLeast 43 = .ok (.istore 4, 2) := dk_54 4 (dk_at dksX7_tellLeast_1 19 rfl rfl)
theorem dX7_tellLeast_45 : decode cX7_tellLeast 45 = .ok (.iload 4, 2) := dk_21 4 (dk_at dksX7_tellLeast_1 21 rfl rfl)
theorem dX7_tellLeast_47 : decode cX7_tellLeast 47 = .ok (.iload_n 2, 1) := dk_28 (dk_at dksX7_tellLeast_1 23 rfl rfl)
theorem dX7_tellLeast_48 : decode cX7_tellLeast 48 = .ok (.if_icmp .ge 78, 3) := dk_162 0 78 (dk_at dksX7_tellLeast_2 0 rfl rfl)
theorem dX7_tellLeast_51 : decode cX7_tellLeast 51 = .ok (.ldc 190, 2) := dk_18 190 (dk_at dksX7_tellLeast_2 3 rfl rfl)
theorem dX7_tellLeast_53 : decode cX7_tellLeast 53 = .ok (.istore 5, 2) := dk_54 5 (dk_at dksX7_tellLeast_2 5 rfl rfl)
theorem dX7_tellLeast_55 : decode cX7_tellLeast 55 = .ok (.iconst 0, 1) := dk_3 (dk_at dksX7_tellLeast_2 7 rfl rfl)
theorem dX7_tellLeast_56 : decode cX7_tellLeast 56 = .ok (.istore 6, 2) := dk_54 6 (dk_at dksX7_tellLeast_2 8 rfl rfl)
theorem dX7_tellLeast_58 : decode cX7_tellLeast 58 = .ok (.iload 6, 2) := dk_21 6 (dk_at dksX7_tellLeast_2 10 rfl rfl)
theorem dX7_tellLeast_60 : decode cX7_tellLeast 60 = .ok (.aload_n 0, 1) := dk_42 (dk_at dksX7_tellLeast_2 12 rfl rfl)
theorem dX7_tellLeast_61 : decode cX7_tellLeast 61 = .ok (.getfield 40, 3) := dk_180 0 40 (dk_at dksX7_tellLeast_2 13 rfl rfl)
theorem dX7_tellLeast_64 : decode cX7_tellLeast 64 = .ok (.iconst 2, 1) := dk_5 (dk_at dksX7_tellLeast_2 16 rfl rfl)
theorem dX7_tellLeast_65 : decode cX7_tellLeast 65 = .ok (.iaload, 1) := dk_46 (dk_at dksX7_tellLeast_2 17 rfl rfl)
theorem dX7_tellLeast_66 : decode cX7_tellLeast 66 = .ok (.if_icmp .ge 35, 3) := dk_162 0 35 (dk_at dksX7_tellLeast_2 18 rfl rfl)
theorem dX7_tellLeast_69 : decode cX7_tellLeast 69 = .ok (.iload 4, 2) := dk_21 4 (dk_at dksX7_tellLeast_2 21 rfl rfl)
theorem dX7_tellLeast_71 : decode cX7_tellLeast 71 = .ok (.iload 6, 2) := dk_21 6 (dk_at dksX7_tellLeast_3 0 rfl rfl)
theorem dX7_tellLeast_73 : decode cX7_tellLeast 73 = .ok (.invokestatic 232, 3) := dk_184 0 232 (dk_at dksX7_tellLeast_3 2 rfl rfl)
theorem dX7_tellLeast_76 : decode cX7_tellLeast 76 = .ok (.ifCond .ne 19, 3) := dk_154 0 19 (dk_at dksX7_tellLeast_3 5 rfl rfl)
theorem dX7_tellLeast_79 : decode cX7_tellLeast 79 = .ok (.iload 5, 2) := dk_21 5 (dk_at dksX7_tellLeast_3 8 rfl rfl)
theorem dX7_tellLeast_81 : decode cX7_tellLeast 81 = .ok (.aload_n 0, 1) := dk_42 (dk_at dksX7_tellLeast_3 10 rfl rfl)
theorem dX7_tellLeast_82 : decode cX7_tellLeast 82 = .ok (.iload_n 3, 1) := dk_29 (dk_at dksX7_tellLeast_3 11 rfl rfl)
theorem dX7_tellLeast_83 : decode cX7_tellLeast 83 = .ok (.iload 4, 2) := dk_21 4 (dk_at dksX7_tellLeast_3 12 rfl rfl)
theorem dX7_tellLeast_85 : decode cX7_tellLeast 85 = .ok (.iload 6, 2) := dk_21 6 (dk_at dksX7_tellLeast_3 14 rfl rfl)
theorem dX7_tellLeast_87 : decode cX7_tellLeast 87 = .ok (.invokevirtual 466, 3) := dk_182 1 210 (dk_at dksX7_tellLeast_3 16 rfl rfl)
theorem dX7_tellLeast_90 : decode cX7_tellLeast 90 = .ok (.invokestatic 191, 3) := dk_184 0 191 (dk_at dksX7_tellLeast_3 19 rfl rfl)
theorem dX7_tellLeast_93 : decode cX7_tellLeast 93 = .ok (.istore 5, 2) := dk_54 5 (dk_at dksX7_tellLeast_3 22 rfl rfl)
theorem dX7_tellLeast_95 : decode cX7_tellLeast 95 = .ok (.iinc 6 1, 3) := dk_132 6 1 (dk_at dksX7_tellLeast_4 0 rfl rfl)
theorem dX7_tellLeast_98 : decode cX7_tellLeast 98 = .ok (.goto (-40), 3) := dk_167 255 216 (dk_at dksX7_tellLeast_4 3 rfl rfl)
theorem dX7_tellLeast_101 : decode cX7_tellLeast 101 = .ok (.aload_n 0, 1) := dk_42 (dk_at dksX7_tellLeast_4 6 rfl rfl)
theorem dX7_tellLeast_102 : decode cX7_tellLeast 102 = .ok (.getfield 98, 3) := dk_180 0 98 (dk_at dksX7_tellLeast_4 7 rfl rfl)
theorem dX7_tellLeast_105 : decode cX7_tellLeast 105 = .ok (.iload_n 3, 1) := dk_29 (dk_at dksX7_tellLeast_4 10 rfl rfl)
theorem dX7_tellLeast_106 : decode cX7_tellLeast 106 = .ok (.bipush 6, 2) := dk_16 6 (dk_at dksX7_tellLeast_4 11 rfl rfl)
theorem dX7_tellLeast_108 : decode cX7_tellLeast 108 = .ok (.ishl, 1) := dk_120 (dk_at dksX7_tellLeast_4 13 rfl rfl)
theorem dX7_tellLeast_109 : decode cX7_tellLeast 109 = .ok (.iload 4, 2) := dk_21 4 (dk_at dksX7_tellLeast_4 14 rfl rfl)
theorem dX7_tellLeast_111 : decode cX7_tellLeast 111 = .ok (.iadd, 1) := dk_96 (dk_at dksX7_tellLeast_4 16 rfl rfl)
theorem dX7_tellLeast_112 : decode cX7_tellLeast 112 = .ok (.ldc 190, 2) := dk_18 190 (dk_at dksX7_tellLeast_4 17 rfl rfl)
theorem dX7_tellLeast_114 : decode cX7_tellLeast 114 = .ok (.iload 5, 2) := dk_21 5 (dk_at dksX7_tellLeast_4 19 rfl rfl)
theorem dX7_tellLeast_116 : decode cX7_tellLeast 116 = .ok (.invokestatic 191, 3) := dk_184 0 191 (dk_at dksX7_tellLeast_4 21 rfl rfl)
theorem dX7_tellLeast_119 : decode cX7_tellLeast 119 = .ok (.iastore, 1) := dk_79 (dk_at dksX7_tellLeast_5 0 rfl rfl)
theorem dX7_tellLeast_120 : decode cX7_tellLeast 120 = .ok (.iinc 4 1, 3) := dk_132 4 1 (dk_at dksX7_tellLeast_5 1 rfl rfl)
theorem dX7_tellLeast_123 : decode cX7_tellLeast 123 = .ok (.goto (-78), 3) := dk_167 255 178 (dk_at dksX7_tellLeast_5 4 rfl rfl)
theorem dX7_tellLeast_126 : decode cX7_tellLeast 126 = .ok (.iinc 3 (-1), 3) := dk_132 3 255 (dk_at dksX7_tellLeast_5 7 rfl rfl)
theorem dX7_tellLeast_129 : decode cX7_tellLeast 129 = .ok (.goto (-91), 3) := dk_167 255 165 (dk_at dksX7_tellLeast_5 10 rfl rfl)
theorem dX7_tellLeast_132 : decode cX7_tellLeast 132 = .ok (.return_, 1) := dk_177 (dk_at dksX7_tellLeast_5 13 rfl rfl)
abbrev cX7_with : ByteArray := prog_18_method_95_code
def yX7_with : MethodName := ⟨RX7, "with", "(III)I"⟩
def dkwX7_with_1 : List UInt8 := [16, 6, 120, 28, 4, 29, 120, 128, 96, 46, 96, 172]
abbrev dktX7_with_1 : List UInt8 := dkwX7_with_1 ++ []
def dkwX7_with_0 : List UInt8 := [42, 42, 180, 0, 77, 29, 46, 42, 180, 0, 101, 27, 46, 182, 1, 104, 42, 180, 0, 98, 27, 4, 96]
abbrev dktX7_with_0 : List UInt8 := dkwX7_with_0 ++ dktX7_with_1
theorem dksX7_with_0 : cX7_with.data.toList.drop 0 = dktX7_with_0 := by decide +kernel
theorem dksX7_with_1 : cX7_with.data.toList.drop 23 = dktX7_with_1 := dk_seg dksX7_with_0 23 rfl rfl
theorem dX7_with_0 : decode cX7_with 0 = .ok (.aload_n 0, 1) := dk_42 (dk_at dksX7_with_0 0 rfl rfl)
theorem dX7_with_1 : decode cX7_with 1 = .ok (.aload_n 0, 1) := dk_42 (dk_at dksX7_with_0 1 rfl rfl)
theorem dX7_with_2 : decode cX7_with 2 = .ok (.getfield 77, 3) := dk_180 0 77 (dk_at dksX7_with_0 2 rfl rfl)
theorem dX7_with_5 : decode cX7_with 5 = .ok (.iload_n 3, 1) := dk_29 (dk_at dksX7_with_0 5 rfl rfl)
theorem dX7_with_6 : decode cX7_with 6 = .ok (.iaload, 1) := dk_46 (dk_at dksX7_with_0 6 rfl rfl)
theorem dX7_with_7 : decode cX7_with 7 = .ok (.aload_n 0, 1) := dk_42 (dk_at dksX7_with_0 7 rfl rfl)
theorem dX7_with_8 : decode cX7_with 8 = .ok (.getfield 101, 3) := dk_180 0 101 (dk_at dksX7_with_0 8 rfl rfl)
theorem dX7_with_11 : decode cX7_with 11 = .ok (.iload_n 1, 1) := dk_27 (dk_at dksX7_with_0 11 rfl rfl)
theorem dX7_with_12 : decode cX7_with 12 = .ok (.iaload, 1) := dk_46 (dk_at dksX7_with_0 12 rfl rfl)
theorem dX7_with_13 : decode cX7_with 13 = .ok (.invokevirtual 360, 3) := dk_182 1 104 (dk_at dksX7_with_0 13 rfl rfl)
theorem dX7_with_16 : decode cX7_with 16 = .ok (.aload_n 0, 1) := dk_42 (dk_at dksX7_with_0 16 rfl rfl)
theorem dX7_with_17 : decode cX7_with 17 = .ok (.getfield 98, 3) := dk_180 0 98 (dk_at dksX7_with_0 17 rfl rfl)
theorem dX7_with_20 : decode cX7_with 20 = .ok (.iload_n 1, 1) := dk_27 (dk_at dksX7_with_0 20 rfl rfl)
theorem dX7_with_21 : decode cX7_with 21 = .ok (.iconst 1, 1) := dk_4 (dk_at dksX7_with_0 21 rfl rfl)
theorem dX7_with_22 : decode cX7_with 22 = .ok (.iadd, 1) := dk_96 (dk_at dksX7_with_0 22 rfl rfl)
theorem dX7_with_23 : decode cX7_with 23 = .ok (.bipush 6, 2) := dk_16 6 (dk_at dksX7_with_1 0 rfl rfl)
theorem dX7_with_25 : decode cX7_with 25 = .ok (.ishl, 1) := dk_120 (dk_at dksX7_with_1 2 rfl rfl)
theorem dX7_with_26 : decode cX7_with 26 = .ok (.iload_n 2, 1) := dk_28 (dk_at dksX7_with_1 3 rfl rfl)
theorem dX7_with_27 : decode cX7_with 27 = .ok (.iconst 1, 1) := dk_4 (dk_at dksX7_with_1 4 rfl rfl)
theorem dX7_with_28 : decode cX7_with 28 = .ok (.iload_n 3, 1) := dk_29 (dk_at dksX7_with_1 5 rfl rfl)
theorem dX7_with_29 : decode cX7_with 29 = .ok (.ishl, 1) := dk_120 (dk_at dksX7_with_1 6 rfl rfl)
theorem dX7_with_30 : decode cX7_with 30 = .ok (.ior, 1) := dk_128 (dk_at dksX7_with_1 7 rfl rfl)
theorem dX7_with_31 : decode cX7_with 31 = .ok (.iadd, 1) := dk_96 (dk_at dksX7_with_1 8 rfl rfl)
theorem dX7_with_32 : decode cX7_with 32 = .ok (.iaload, 1) := dk_46 (dk_at dksX7_with_1 9 rfl rfl)
theorem dX7_with_33 : decode cX7_with 33 = .ok (.iadd, 1) := dk_96 (dk_at dksX7_with_1 10 rfl rfl)
theorem dX7_with_34 : decode cX7_with 34 = .ok (.ireturn, 1) := dk_172 (dk_at dksX7_with_1 11 rfl rfl)
abbrev cX7_see : ByteArray := prog_18_method_98_code
def yX7_see : MethodName := ⟨RX7, "see", "(III)I"⟩
def dkwX7_see_4 : List UInt8 := [4, 96, 181, 1, 89, 42, 180, 1, 89, 172]
abbrev dktX7_see_4 : List UInt8 := dkwX7_see_4 ++ []
def dkwX7_see_3 : List UInt8 := [180, 0, 107, 42, 180, 1, 89, 28, 79, 42, 180, 0, 110, 42, 180, 1, 89, 29, 79, 42, 89, 180, 1, 89]
abbrev dktX7_see_3 : List UInt8 := dkwX7_see_3 ++ dktX7_see_4
def dkwX7_see_2 : List UInt8 := [184, 0, 157, 154, 0, 9, 42, 5, 182, 1, 170, 172, 42, 180, 0, 104, 42, 180, 1, 89, 27, 79, 42]
abbrev dktX7_see_2 : List UInt8 := dkwX7_see_2 ++ dktX7_see_3
def dkwX7_see_1 : List UInt8 := [16, 8, 159, 0, 27, 28, 133, 9, 20, 1, 168, 184, 0, 157, 153, 0, 15, 29, 133, 9, 20, 1, 205]
abbrev dktX7_see_1 : List UInt8 := dkwX7_see_1 ++ dktX7_see_2
def dkwX7_see_0 : List UInt8 := [42, 3, 181, 0, 150, 42, 27, 182, 1, 152, 154, 0, 9, 42, 4, 182, 1, 62, 172, 42, 180, 1, 89]
abbrev dktX7_see_0 : List UInt8 := dkwX7_see_0 ++ dktX7_see_1
theorem dksX7_see_0 : cX7_see.data.toList.drop 0 = dktX7_see_0 := by decide +kernel
theorem dksX7_see_1 : cX7_see.data.toList.drop 23 = dktX7_see_1 := dk_seg dksX7_see_0 23 rfl rfl
theorem dksX7_see_2 : cX7_see.data.toList.drop 46 = dktX7_see_2 := dk_seg dksX7_see_1 23 rfl rfl
theorem dksX7_see_3 : cX7_see.data.toList.drop 69 = dktX7_see_3 := dk_seg dksX7_see_2 23 rfl rfl
theorem dksX7_see_4 : cX7_see.data.toList.drop 93 = dktX7_see_4 := dk_seg dksX7_see_3 24 rfl rfl
theorem dX7_see_0 : decode cX7_see 0 = .ok (.aload_n 0, 1) := dk_42 (dk_at dksX7_see_0 0 rfl rfl)
theorem dX7_see_1 : decode cX7_see 1 = .ok (.iconst 0, 1) := dk_3 (dk_at dksX7_see_0 1 rfl rfl)
theorem dX7_see_2 : decode cX7_see 2 = .ok (.putfield 150, 3) := dk_181 0 150 (dk_at dksX7_see_0 2 rfl rfl)
theorem dX7_see_5 : decode cX7_see 5 = .ok (.aload_n 0, 1) := dk_42 (dk_at dksX7_see_0 5 rfl rfl)
theorem dX7_see_6 : decode cX7_see 6 = .ok (.iload_n 1, 1) := dk_27 (dk_at dksX7_see_0 6 rfl rfl)
theorem dX7_see_7 : decode cX7_see 7 = .ok (.invokevirtual 408, 3) := dk_182 1 152 (dk_at dksX7_see_0 7 rfl rfl)
theorem dX7_see_10 : decode cX7_see 10 = .ok (.ifCond .ne 9, 3) := dk_154 0 9 (dk_at dksX7_see_0 10 rfl rfl)
theorem dX7_see_13 : decode cX7_see 13 = .ok (.aload_n 0, 1) := dk_42 (dk_at dksX7_see_0 13 rfl rfl)
theorem dX7_see_14 : decode cX7_see 14 = .ok (.iconst 1, 1) := dk_4 (dk_at dksX7_see_0 14 rfl rfl)
theorem dX7_see_15 : decode cX7_see 15 = .ok (.invokevirtual 318, 3) := dk_182 1 62 (dk_at dksX7_see_0 15 rfl rfl)
theorem dX7_see_18 : decode cX7_see 18 = .ok (.ireturn, 1) := dk_172 (dk_at dksX7_see_0 18 rfl rfl)
theorem dX7_see_19 : decode cX7_see 19 = .ok (.aload_n 0, 1) := dk_42 (dk_at dksX7_see_0 19 rfl rfl)
theorem dX7_see_20 : decode cX7_see 20 = .ok (.getfield 345, 3) := dk_180 1 89 (dk_at dksX7_see_0 20 rfl rfl)
theorem dX7_see_23 : decode cX7_see 23 = .ok (.bipush 8, 2) := dk_16 8 (dk_at dksX7_see_1 0 rfl rfl)
theorem dX7_see_25 : decode cX7_see 25 = .ok (.if_icmp .eq 27, 3) := dk_159 0 27 (dk_at dksX7_see_1 2 rfl rfl)
theorem dX7_see_28 : decode cX7_see 28 = .ok (.iload_n 2, 1) := dk_28 (dk_at dksX7_see_1 5 rfl rfl)
theorem dX7_see_29 : decode cX7_see 29 = .ok (.i2l, 1) := dk_133 (dk_at dksX7_see_1 6 rfl rfl)
theorem dX7_see_30 : decode cX7_see 30 = .ok (.lconst 0, 1) := dk_9 (dk_at dksX7_see_1 7 rfl rfl)
theorem dX7_see_31 : decode cX7_see 31 = .ok (.ldc2_w 424, 3) := dk_20 1 168 (dk_at dksX7_see_1 8 rfl rfl)
theorem dX7_see_34 : decode cX7_see 34 = .ok (.invokestatic 157, 3) := dk_184 0 157 (dk_at dksX7_see_1 11 rfl rfl)
theorem dX7_see_37 : decode cX7_see 37 = .ok (.ifCond .eq 15, 3) := dk_153 0 15 (dk_at dksX7_see_1 14 rfl rfl)
theorem dX7_see_40 : decode cX7_see 40 = .ok (.iload_n 3, 1) := dk_29 (dk_at dksX7_see_1 17 rfl rfl)
theorem dX7_see_41 : decode cX7_see 41 = .ok (.i2l, 1) := dk_133 (dk_at dksX7_see_1 18 rfl rfl)
theorem dX7_see_42 : decode cX7_see 42 = .ok (.lconst 0, 1) := dk_9 (dk_at dksX7_see_1 19 rfl rfl)
theorem dX7_see_43 : decode cX7_see 43 = .ok (.ldc2_w 461, 3) := dk_20 1 205 (dk_at dksX7_see_1 20 rfl rfl)
theorem dX7_see_46 : decode cX7_see 46 = .ok (.invokestatic 157, 3) := dk_184 0 157 (dk_at dksX7_see_2 0 rfl rfl)
theorem dX7_see_49 : decode cX7_see 49 = .ok (.ifCond .ne 9, 3) := dk_154 0 9 (dk_at dksX7_see_2 3 rfl rfl)
theorem dX7_see_52 : decode cX7_see 52 = .ok (.aload_n 0, 1) := dk_42 (dk_at dksX7_see_2 6 rfl rfl)
theorem dX7_see_53 : decode cX7_see 53 = .ok (.iconst 2, 1) := dk_5 (dk_at dksX7_see_2 7 rfl rfl)
theorem dX7_see_54 : decode cX7_see 54 = .ok (.invokevirtual 426, 3) := dk_182 1 170 (dk_at dksX7_see_2 8 rfl rfl)
theorem dX7_see_57 : decode cX7_see 57 = .ok (.ireturn, 1) := dk_172 (dk_at dksX7_see_2 11 rfl rfl)
theorem dX7_see_58 : decode cX7_see 58 = .ok (.aload_n 0, 1) := dk_42 (dk_at dksX7_see_2 12 rfl rfl)
theorem dX7_see_59 : decode cX7_see 59 = .ok (.getfield 104, 3) := dk_180 0 104 (dk_at dksX7_see_2 13 rfl rfl)
theorem dX7_see_62 : decode cX7_see 62 = .ok (.aload_n 0, 1) := dk_42 (dk_at dksX7_see_2 16 rfl rfl)
theorem dX7_see_63 : decode cX7_see 63 = .ok (.getfield 345, 3) := dk_180 1 89 (dk_at dksX7_see_2 17 rfl rfl)
theorem dX7_see_66 : decode cX7_see 66 = .ok (.iload_n 1, 1) := dk_27 (dk_at dksX7_see_2 20 rfl rfl)
theorem dX7_see_67 : decode cX7_see 67 = .ok (.iastore, 1) := dk_79 (dk_at dksX7_see_2 21 rfl rfl)
theorem dX7_see_68 : decode cX7_see 68 = .ok (.aload_n 0, 1) := dk_42 (dk_at dksX7_see_2 22 rfl rfl)
theorem dX7_see_69 : decode cX7_see 69 = .ok (.getfield 107, 3) := dk_180 0 107 (dk_at dksX7_see_3 0 rfl rfl)
theorem dX7_see_72 : decode cX7_see 72 = .ok (.aload_n 0, 1) := dk_42 (dk_at dksX7_see_3 3 rfl rfl)
theorem dX7_see_73 : decode cX7_see 73 = .ok (.getfield 345, 3) := dk_180 1 89 (dk_at dksX7_see_3 4 rfl rfl)
theorem dX7_see_76 : decode cX7_see 76 = .ok (.iload_n 2, 1) := dk_28 (dk_at dksX7_see_3 7 rfl rfl)
theorem dX7_see_77 : decode cX7_see 77 = .ok (.iastore, 1) := dk_79 (dk_at dksX7_see_3 8 rfl rfl)
theorem dX7_see_78 : decode cX7_see 78 = .ok (.aload_n 0, 1) := dk_42 (dk_at dksX7_see_3 9 rfl rfl)
theorem dX7_see_79 : decode cX7_see 79 = .ok (.getfield 110, 3) := dk_180 0 110 (dk_at dksX7_see_3 10 rfl rfl)
theorem dX7_see_82 : decode cX7_see 82 = .ok (.aload_n 0, 1) := dk_42 (dk_at dksX7_see_3 13 rfl rfl)
theorem dX7_see_83 : decode cX7_see 83 = .ok (.getfield 345, 3) := dk_180 1 89 (dk_at dksX7_see_3 14 rfl rfl)
theorem dX7_see_86 : decode cX7_see 86 = .ok (.iload_n 3, 1) := dk_29 (dk_at dksX7_see_3 17 rfl rfl)
theorem dX7_see_87 : decode cX7_see 87 = .ok (.iastore, 1) := dk_79 (dk_at dksX7_see_3 18 rfl rfl)
theorem dX7_see_88 : decode cX7_see 88 = .ok (.aload_n 0, 1) := dk_42 (dk_at dksX7_see_3 19 rfl rfl)
theorem dX7_see_89 : decode cX7_see 89 = .ok (.dup, 1) := dk_89 (dk_at dksX7_see_3 20 rfl rfl)
theorem dX7_see_90 : decode cX7_see 90 = .ok (.getfield 345, 3) := dk_180 1 89 (dk_at dksX7_see_3 21 rfl rfl)
theorem dX7_see_93 : decode cX7_see 93 = .ok (.iconst 1, 1) := dk_4 (dk_at dksX7_see_4 0 rfl rfl)
theorem dX7_see_94 : decode cX7_see 94 = .ok (.iadd, 1) := dk_96 (dk_at dksX7_see_4 1 rfl rfl)
theorem dX7_see_95 : decode cX7_see 95 = .ok (.putfield 345, 3) := dk_181 1 89 (dk_at dksX7_see_4 2 rfl rfl)
theorem dX7_see_98 : decode cX7_see 98 = .ok (.aload_n 0, 1) := dk_42 (dk_at dksX7_see_4 5 rfl rfl)
theorem dX7_see_99 : decode cX7_see 99 = .ok (.getfield 345, 3) := dk_180 1 89 (dk_at dksX7_see_4 6 rfl rfl)
theorem dX7_see_102 : decode cX7_see 102 = .ok (.ireturn, 1) := dk_172 (dk_at dksX7_see_4 9 rfl rfl)
abbrev cX7_skilled : ByteArray := prog_18_method_101_code
def yX7_skilled : MethodName := ⟨RX7, "skilled", "(I)I"⟩
def dkwX7_skilled_3 : List UInt8 := [180, 0, 116, 3, 46, 172]
abbrev dktX7_skilled_3 : List UInt8 := dkwX7_skilled_3 ++ []
def dkwX7_skilled_2 : List UInt8 := [154, 0, 10, 42, 180, 1, 216, 167, 0, 20, 42, 180, 1, 216, 154, 0, 7, 2, 167, 0, 9, 42]
abbrev dktX7_skilled_2 : List UInt8 := dkwX7_skilled_2 ++ dktX7_skilled_3
def dkwX7_skilled_1 : List UInt8 := [5, 160, 0, 16, 42, 182, 1, 219, 153, 0, 7, 4, 167, 0, 4, 3, 172, 42, 182, 1, 225, 27]
abbrev dktX7_skilled_1 : List UInt8 := dkwX7_skilled_1 ++ dktX7_skilled_2
def dkwX7_skilled_0 : List UInt8 := [42, 3, 181, 0, 150, 27, 133, 9, 20, 1, 223, 184, 0, 157, 154, 0, 9, 42, 4, 182, 1, 62, 172, 27]
abbrev dktX7_skilled_0 : List UInt8 := dkwX7_skilled_0 ++ dktX7_skilled_1
theorem dksX7_skilled_0 : cX7_skilled.data.toList.drop 0 = dktX7_skilled_0 := by decide +kernel
theorem dksX7_skilled_1 : cX7_skilled.data.toList.drop 24 = dktX7_skilled_1 := dk_seg dksX7_skilled_0 24 rfl rfl
theorem dksX7_skilled_2 : cX7_skilled.data.toList.drop 46 = dktX7_skilled_2 := dk_seg dksX7_skilled_1 22 rfl rfl
theorem dksX7_skilled_3 : cX7_skilled.data.toList.drop 68 = dktX7_skilled_3 := dk_seg dksX7_skilled_2 22 rfl rfl
theorem dX7_skilled_0 : decode cX7_skilled 0 = .ok (.aload_n 0, 1) := dk_42 (dk_at dksX7_skilled_0 0 rfl rfl)
theorem dX7_skilled_1 : decode cX7_skilled 1 = .ok (.iconst 0, 1) := dk_3 (dk_at dksX7_skilled_0 1 rfl rfl)
theorem dX7_skilled_2 : decode cX7_skilled 2 = .ok (.putfield 150, 3) := dk_181 0 150 (dk_at dksX7_skilled_0 2 rfl rfl)
theorem dX7_skilled_5 : decode cX7_skilled 5 = .ok (.iload_n 1, 1) := dk_27 (dk_at dksX7_skilled_0 5 rfl rfl)
theorem dX7_skilled_6 : decode cX7_skilled 6 = .ok (.i2l, 1) := dk_133 (dk_at dksX7_skilled_0 6 rfl rfl)
theorem dX7_skilled_7 : decode cX7_skilled 7 = .ok (.lconst 0, 1) := dk_9 (dk_at dksX7_skilled_0 7 rfl rfl)
theorem dX7_skilled_8 : decode cX7_skilled 8 = .ok (.ldc2_w 479, 3) := dk_20 1 223 (dk_at dksX7_skilled_0 8 rfl rfl)
theorem dX7_skilled_11 : decode cX7_skilled 11 = .ok (.invokestatic 157, 3) := dk_184 0 157 (dk_at dksX7_skilled_0 11 rfl rfl)
theorem dX7_skilled_14 : decode cX7_skilled 14 = .ok (.ifCond .ne 9, 3) := dk_154 0 9 (dk_at dksX7_skilled_0 14 rfl rfl)
theorem dX7_skilled_17 : decode cX7_skilled 17 = .ok (.aload_n 0, 1) := dk_42 (dk_at dksX7_skilled_0 17 rfl rfl)
theorem dX7_skilled_18 : decode cX7_skilled 18 = .ok (.iconst 1, 1) := dk_4 (dk_at dksX7_skilled_0 18 rfl rfl)
theorem dX7_skilled_19 : decode cX7_skilled 19 = .ok (.invokevirtual 318, 3) := dk_182 1 62 (dk_at dksX7_skilled_0 19 rfl rfl)
theorem dX7_skilled_22 : decode cX7_skilled 22 = .ok (.ireturn, 1) := dk_172 (dk_at dksX7_skilled_0 22 rfl rfl)
theorem dX7_skilled_23 : decode cX7_skilled 23 = .ok (.iload_n 1, 1) := dk_27 (dk_at dksX7_skilled_0 23 rfl rfl)
theorem dX7_skilled_24 : decode cX7_skilled 24 = .ok (.iconst 2, 1) := dk_5 (dk_at dksX7_skilled_1 0 rfl rfl)
theorem dX7_skilled_25 : decode cX7_skilled 25 = .ok (.if_icmp .ne 16, 3) := dk_160 0 16 (dk_at dksX7_skilled_1 1 rfl rfl)
theorem dX7_skilled_28 : decode cX7_skilled 28 = .ok (.aload_n 0, 1) := dk_42 (dk_at dksX7_skilled_1 4 rfl rfl)
theorem dX7_skilled_29 : decode cX7_skilled 29 = .ok (.invokevirtual 475, 3) := dk_182 1 219 (dk_at dksX7_skilled_1 5 rfl rfl)
theorem dX7_skilled_32 : decode cX7_skilled 32 = .ok (.ifCond .eq 7, 3) := dk_153 0 7 (dk_at dksX7_skilled_1 8 rfl rfl)
theorem dX7_skilled_35 : decode cX7_skilled 35 = .ok (.iconst 1, 1) := dk_4 (dk_at dksX7_skilled_1 11 rfl rfl)
theorem dX7_skilled_36 : decode cX7_skilled 36 = .ok (.goto 4, 3) := dk_167 0 4 (dk_at dksX7_skilled_1 12 rfl rfl)
theorem dX7_skilled_39 : decode cX7_skilled 39 = .ok (.iconst 0, 1) := dk_3 (dk_at dksX7_skilled_1 15 rfl rfl)
theorem dX7_skilled_40 : decode cX7_skilled 40 = .ok (.ireturn, 1) := dk_172 (dk_at dksX7_skilled_1 16 rfl rfl)
theorem dX7_skilled_41 : decode cX7_skilled 41 = .ok (.aload_n 0, 1) := dk_42 (dk_at dksX7_skilled_1 17 rfl rfl)
theorem dX7_skilled_42 : decode cX7_skilled 42 = .ok (.invokevirtual 481, 3) := dk_182 1 225 (dk_at dksX7_skilled_1 18 rfl rfl)
theorem dX7_skilled_45 : decode cX7_skilled 45 = .ok (.iload_n 1, 1) := dk_27 (dk_at dksX7_skilled_1 21 rfl rfl)
theorem dX7_skilled_46 : decode cX7_skilled 46 = .ok (.ifCond .ne 10, 3) := dk_154 0 10 (dk_at dksX7_skilled_2 0 rfl rfl)
theorem dX7_skilled_49 : decode cX7_skilled 49 = .ok (.aload_n 0, 1) := dk_42 (dk_at dksX7_skilled_2 3 rfl rfl)
theorem dX7_skilled_50 : decode cX7_skilled 50 = .ok (.getfield 472, 3) := dk_180 1 216 (dk_at dksX7_skilled_2 4 rfl rfl)
theorem dX7_skilled_53 : decode cX7_skilled 53 = .ok (.goto 20, 3) := dk_167 0 20 (dk_at dksX7_skilled_2 7 rfl rfl)
theorem dX7_skilled_56 : decode cX7_skilled 56 = .ok (.aload_n 0, 1) := dk_42 (dk_at dksX7_skilled_2 10 rfl rfl)
theorem dX7_skilled_57 : decode cX7_skilled 57 = .ok (.getfield 472, 3) := dk_180 1 216 (dk_at dksX7_skilled_2 11 rfl rfl)
theorem dX7_skilled_60 : decode cX7_skilled 60 = .ok (.ifCond .ne 7, 3) := dk_154 0 7 (dk_at dksX7_skilled_2 14 rfl rfl)
theorem dX7_skilled_63 : decode cX7_skilled 63 = .ok (.iconst (-1), 1) := dk_2 (dk_at dksX7_skilled_2 17 rfl rfl)
theorem dX7_skilled_64 : decode cX7_skilled 64 = .ok (.goto 9, 3) := dk_167 0 9 (dk_at dksX7_skilled_2 18 rfl rfl)
theorem dX7_skilled_67 : decode cX7_skilled 67 = .ok (.aload_n 0, 1) := dk_42 (dk_at dksX7_skilled_2 21 rfl rfl)
theorem dX7_skilled_68 : decode cX7_skilled 68 = .ok (.getfield 116, 3) := dk_180 0 116 (dk_at dksX7_skilled_3 0 rfl rfl)
theorem dX7_skilled_71 : decode cX7_skilled 71 = .ok (.iconst 0, 1) := dk_3 (dk_at dksX7_skilled_3 3 rfl rfl)
theorem dX7_skilled_72 : decode cX7_skilled 72 = .ok (.iaload, 1) := dk_46 (dk_at dksX7_skilled_3 4 rfl rfl)
theorem dX7_skilled_73 : decode cX7_skilled 73 = .ok (.ireturn, 1) := dk_172 (dk_at dksX7_skilled_3 5 rfl rfl)
abbrev cX7_isAsSeen : ByteArray := prog_18_method_99_code
def yX7_isAsSeen : MethodName := ⟨RX7, "isAsSeen", "()Z"⟩
def dkwX7_isAsSeen_5 : List UInt8 := [132, 3, 1, 167, 255, 179, 42, 42, 180, 0, 113, 3, 182, 1, 184, 28, 172]
abbrev dktX7_isAsSeen_5 : List UInt8 := dkwX7_isAsSeen_5 ++ []
def dkwX7_isAsSeen_4 : List UInt8 := [21, 4, 46, 160, 0, 7, 4, 167, 0, 4, 3, 61, 132, 4, 1, 167, 255, 201, 42, 182, 1, 146]
abbrev dktX7_isAsSeen_4 : List UInt8 := dkwX7_isAsSeen_4 ++ dktX7_isAsSeen_5
def dkwX7_isAsSeen_3 : List UInt8 := [21, 4, 46, 29, 160, 0, 25, 42, 180, 0, 75, 42, 180, 0, 104, 21, 4, 46, 46, 42, 180, 0, 110]
abbrev dktX7_isAsSeen_3 : List UInt8 := dkwX7_isAsSeen_3 ++ dktX7_isAsSeen_4
def dkwX7_isAsSeen_2 : List UInt8 := [28, 153, 0, 74, 3, 54, 4, 21, 4, 42, 180, 1, 89, 162, 0, 52, 28, 153, 0, 40, 42, 180, 0, 107]
abbrev dktX7_isAsSeen_2 : List UInt8 := dkwX7_isAsSeen_2 ++ dktX7_isAsSeen_3
def dkwX7_isAsSeen_1 : List UInt8 := [180, 0, 107, 28, 46, 184, 1, 124, 60, 132, 2, 1, 167, 255, 234, 4, 61, 3, 62, 29, 27, 163, 0, 78]
abbrev dktX7_isAsSeen_1 : List UInt8 := dkwX7_isAsSeen_1 ++ dktX7_isAsSeen_2
def dkwX7_isAsSeen_0 : List UInt8 := [42, 42, 180, 0, 113, 3, 182, 1, 164, 3, 60, 3, 61, 28, 42, 180, 1, 89, 162, 0, 20, 27, 42]
abbrev dktX7_isAsSeen_0 : List UInt8 := dkwX7_isAsSeen_0 ++ dktX7_isAsSeen_1
theorem dksX7_isAsSeen_0 : cX7_isAsSeen.data.toList.drop 0 = dktX7_isAsSeen_0 := by decide +kernel
theorem dksX7_isAsSeen_1 : cX7_isAsSeen.data.toList.drop 23 = dktX7_isAsSeen_1 := dk_seg dksX7_isAsSeen_0 23 rfl rfl
theorem dksX7_isAsSeen_2 : cX7_isAsSeen.data.toList.drop 47 = dktX7_isAsSeen_2 := dk_seg dksX7_isAsSeen_1 24 rfl rfl
theorem dksX7_isAsSeen_3 : cX7_isAsSeen.data.toList.drop 71 = dktX7_isAsSeen_3 := dk_seg dksX7_isAsSeen_2 24 rfl rfl
theorem dksX7_isAsSeen_4 : cX7_isAsSeen.data.toList.drop 94 = dktX7_isAsSeen_4 := dk_seg dksX7_isAsSeen_3 23 rfl rfl
theorem dksX7_isAsSeen_5 : cX7_isAsSeen.data.toList.drop 116 = dktX7_isAsSeen_5 := dk_seg dksX7_isAsSeen_4 22 rfl rfl
theorem dX7_isAsSeen_0 : decode cX7_isAsSeen 0 = .ok (.aload_n 0, 1) := dk_42 (dk_at dksX7_isAsSeen_0 0 rfl rfl)
theorem dX7_isAsSeen_1 : decode cX7_isAsSeen 1 = .ok (.aload_n 0, 1) := dk_42 (dk_at dksX7_isAsSeen_0 1 rfl rfl)
theorem dX7_isAsSeen_2 : decode cX7_isAsSeen 2 = .ok (.getfield 113, 3) := dk_180 0 113 (dk_at dksX7_isAsSeen_0 2 rfl rfl)
theorem dX7_isAsSeen_5 : decode cX7_isAsSeen 5 = .ok (.iconst 0, 1) := dk_3 (dk_at dksX7_isAsSeen_0 5 rfl rfl)
theorem dX7_isAsSeen_6 : decode cX7_isAsSeen 6 = .ok (.invokevirtual 420, 3) := dk_182 1 164 (dk_at dksX7_isAsSeen_0 6 rfl rfl)
theorem dX7_isAsSeen_9 : decode cX7_isAsSeen 9 = .ok (.iconst 0, 1) := dk_3 (dk_at dksX7_isAsSeen_0 9 rfl rfl)
theorem dX7_isAsSeen_10 : decode cX7_isAsSeen 10 = .ok (.istore_n 1, 1) := dk_60 (dk_at dksX7_isAsSeen_0 10 rfl rfl)
theorem dX7_isAsSeen_11 : decode cX7_isAsSeen 11 = .ok (.iconst 0, 1) := dk_3 (dk_at dksX7_isAsSeen_0 11 rfl rfl)
theorem dX7_isAsSeen_12 : decode cX7_isAsSeen 12 = .ok (.istore_n 2, 1) := dk_61 (dk_at dksX7_isAsSeen_0 12 rfl rfl)
theorem dX7_isAsSeen_13 : decode cX7_isAsSeen 13 = .ok (.iload_n 2, 1) := dk_28 (dk_at dksX7_isAsSeen_0 13 rfl rfl)
theorem dX7_isAsSeen_14 : decode cX7_isAsSeen 14 = .ok (.aload_n 0, 1) := dk_42 (dk_at dksX7_isAsSeen_0 14 rfl rfl)
theorem dX7_isAsSeen_15 : decode cX7_isAsSeen 15 = .ok (.getfield 345, 3) := dk_180 1 89 (dk_at dksX7_isAsSeen_0 15 rfl rfl)
theorem dX7_isAsSeen_18 : decode cX7_isAsSeen 18 = .ok (.if_icmp .ge 20, 3) := dk_162 0 20 (dk_at dksX7_isAsSeen_0 18 rfl rfl)
theorem dX7_isAsSeen_21 : decode cX7_isAsSeen 21 = .ok (.iload_n 1, 1) := dk_27 (dk_at dksX7_isAsSeen_0 21 rfl rfl)
theorem dX7_isAsSeen_22 : decode cX7_isAsSeen 22 = .ok (.aload_n 0, 1) := dk_42 (dk_at dksX7_isAsSeen_0 22 rfl rfl)
theorem dX7_isAsSeen_23 : decode cX7_isAsSeen 23 = .ok (.getfield 107, 3) := dk_180 0 107 (dk_at dksX7_isAsSeen_1 0 rfl rfl)
theorem dX7_isAsSeen_26 : decode cX7_isAsSeen 26 = .ok (.iload_n 2, 1) := dk_28 (dk_at dksX7_isAsSeen_1 3 rfl rfl)
theorem dX7_isAsSeen_27 : decode cX7_isAsSeen 27 = .ok (.iaload, 1) := dk_46 (dk_at dksX7_isAsSeen_1 4 rfl rfl)
theorem dX7_isAsSeen_28 : decode cX7_isAsSeen 28 = .ok (.invokestatic 380, 3) := dk_184 1 124 (dk_at dksX7_isAsSeen_1 5 rfl rfl)
theorem dX7_isAsSeen_31 : decode cX7_isAsSeen 31 = .ok (.istore_n 1, 1) := dk_60 (dk_at dksX7_isAsSeen_1 8 rfl rfl)
theorem dX7_isAsSeen_32 : decode cX7_isAsSeen 32 = .ok (.iinc 2 1, 3) := dk_132 2 1 (dk_at dksX7_isAsSeen_1 9 rfl rfl)
theorem dX7_isAsSeen_35 : decode cX7_isAsSeen 35 = .ok (.goto (-22), 3) := dk_167 255 234 (dk_at dksX7_isAsSeen_1 12 rfl rfl)
theorem dX7_isAsSeen_38 : decode cX7_isAsSeen 38 = .ok (.iconst 1, 1) := dk_4 (dk_at dksX7_isAsSeen_1 15 rfl rfl)
theorem dX7_isAsSeen_39 : decode cX7_isAsSeen 39 = .ok (.istore_n 2, 1) := dk_61 (dk_at dksX7_isAsSeen_1 16 rfl rfl)
theorem dX7_isAsSeen_40 : decode cX7_isAsSeen 40 = .ok (.iconst 0, 1) := dk_3 (dk_at dksX7_isAsSeen_1 17 rfl rfl)
theorem dX7_isAsSeen_41 : decode cX7_isAsSeen 41 = .ok (.istore_n 3, 1) := dk_62 (dk_at dksX7_isAsSeen_1 18 rfl rfl)
theorem dX7_isAsSeen_42 : decode cX7_isAsSeen 42 = .ok (.iload_n 3, 1) := dk_29 (dk_at dksX7_isAsSeen_1 19 rfl rfl)
theorem dX7_isAsSeen_43 : decode cX7_isAsSeen 43 = .ok (.iload_n 1, 1) := dk_27 (dk_at dksX7_isAsSeen_1 20 rfl rfl)
theorem dX7_isAsSeen_44 : decode cX7_isAsSeen 44 = .ok (.if_icmp .gt 78, 3) := dk_163 0 78 (dk_at dksX7_isAsSeen_1 21 rfl rfl)
theorem dX7_isAsSeen_47 : decode cX7_isAsSeen 47 = .ok (.iload_n 2, 1) := dk_28 (dk_at dksX7_isAsSeen_2 0 rfl rfl)
theorem dX7_isAsSeen_48 : decode cX7_isAsSeen 48 = .ok (.ifCond .eq 74, 3) := dk_153 0 74 (dk_at dksX7_isAsSeen_2 1 rfl rfl)
theorem dX7_isAsSeen_51 : decode cX7_isAsSeen 51 = .ok (.iconst 0, 1) := dk_3 (dk_at dksX7_isAsSeen_2 4 rfl rfl)
theorem dX7_isAsSeen_52 : decode cX7_isAsSeen 52 = .ok (.istore 4, 2) := dk_54 4 (dk_at dksX7_isAsSeen_2 5 rfl rfl)
theorem dX7_isAsSeen_54 : decode cX7_isAsSeen 54 = .ok (.iload 4, 2) := dk_21 4 (dk_at dksX7_isAsSeen_2 7 rfl rfl)
theorem dX7_isAsSeen_56 : decode cX7_isAsSeen 56 = .ok (.aload_n 0, 1) := dk_42 (dk_at dksX7_isAsSeen_2 9 rfl rfl)
theorem dX7_isAsSeen_57 : decode cX7_isAsSeen 57 = .ok (.getfield 345, 3) := dk_180 1 89 (dk_at dksX7_isAsSeen_2 10 rfl rfl)
theorem dX7_isAsSeen_60 : decode cX7_isAsSeen 60 = .ok (.if_icmp .ge 52, 3) := dk_162 0 52 (dk_at dksX7_isAsSeen_2 13 rfl rfl)
theorem dX7_isAsSeen_63 : decode cX7_isAsSeen 63 = .ok (.iload_n 2, 1) := dk_28 (dk_at dksX7_isAsSeen_2 16 rfl rfl)
theorem dX7_isAsSeen_64 : decode cX7_isAsSeen 64 = .ok (.ifCond .eq 40, 3) := dk_153 0 40 (dk_at dksX7_isAsSeen_2 17 rfl rfl)
theorem dX7_isAsSeen_67 : decode cX7_isAsSeen 67 = .ok (.aload_n 0, 1) := dk_42 (dk_at dksX7_isAsSeen_2 20 rfl rfl)
theorem dX7_isAsSeen_68 : decode cX7_isAsSeen 68 = .ok (.getfield 107, 3) := dk_180 0 107 (dk_at dksX7_isAsSeen_2 21 rfl rfl)
theorem dX7_isAsSeen_71 : decode cX7_isAsSeen 71 = .ok (.iload 4, 2) := dk_21 4 (dk_at dksX7_isAsSeen_3 0 rfl rfl)
theorem dX7_isAsSeen_73 : decode cX7_isAsSeen 73 = .ok (.iaload, 1) := dk_46 (dk_at dksX7_isAsSeen_3 2 rfl rfl)
theorem dX7_isAsSeen_74 : decode cX7_isAsSeen 74 = .ok (.iload_n 3, 1) := dk_29 (dk_at dksX7_isAsSeen_3 3 rfl rfl)
theorem dX7_isAsSeen_75 : decode cX7_isAsSeen 75 = .ok (.if_icmp .ne 25, 3) := dk_160 0 25 (dk_at dksX7_isAsSeen_3 4 rfl rfl)
theorem dX7_isAsSeen_78 : decode cX7_isAsSeen 78 = .ok (.aload_n 0, 1) := dk_42 (dk_at dksX7_isAsSeen_3 7 rfl rfl)
theorem dX7_isAsSeen_79 : decode cX7_isAsSeen 79 = .ok (.getfield 75, 3) := dk_180 0 75 (dk_at dksX7_isAsSeen_3 8 rfl rfl)
theorem dX7_isAsSeen_82 : decode cX7_isAsSeen 82 = .ok (.aload_n 0, 1) := dk_42 (dk_at dksX7_isAsSeen_3 11 rfl rfl)
theorem dX7_isAsSeen_83 : decode cX7_isAsSeen 83 = .ok (.getfield 104, 3) := dk_180 0 104 (dk_at dksX7_isAsSeen_3 12 rfl rfl)
theorem dX7_isAsSeen_86 : decode cX7_isAsSeen 86 = .ok (.iload 4, 2) := dk_21 4 (dk_at dksX7_isAsSeen_3 15 rfl rfl)
theorem dX7_isAsSeen_88 : decode cX7_isAsSeen 88 = .ok (.iaload, 1) := dk_46 (dk_at dksX7_isAsSeen_3 17 rfl rfl)
theorem dX7_isAsSeen_89 : decode cX7_isAsSeen 89 = .ok (.iaload, 1) := dk_46 (dk_at dksX7_isAsSeen_3 18 rfl rfl)
theorem dX7_isAsSeen_90 : decode cX7_isAsSeen 90 = .ok (.aload_n 0, 1) := dk_42 (dk_at dksX7_isAsSeen_3 19 rfl rfl)
theorem dX7_isAsSeen_91 : decode cX7_isAsSeen 91 = .ok (.getfield 110, 3) := dk_180 0 110 (dk_at dksX7_isAsSeen_3 20 rfl rfl)
theorem dX7_isAsSeen_94 : decode cX7_isAsSeen 94 = .ok (.iload 4, 2) := dk_21 4 (dk_at dksX7_isAsSeen_4 0 rfl rfl)
theorem dX7_isAsSeen_96 : decode cX7_isAsSeen 96 = .ok (.iaload, 1) := dk_46 (dk_at dksX7_isAsSeen_4 2 rfl rfl)
theorem dX7_isAsSeen_97 : decode cX7_isAsSeen 97 = .ok (.if_icmp .ne 7, 3) := dk_160 0 7 (dk_at dksX7_isAsSeen_4 3 rfl rfl)
theorem dX7_isAsSeen_100 : decode cX7_isAsSeen 100 = .ok (.iconst 1, 1) := dk_4 (dk_at dksX7_isAsSeen_4 6 rfl rfl)
theorem dX7_isAsSeen_101 : decode cX7_isAsSeen 101 = .ok (.goto 4, 3) := dk_167 0 4 (dk_at dksX7_isAsSeen_4 7 rfl rfl)
theorem dX7_isAsSeen_104 : decode cX7_isAsSeen 104 = .ok (.iconst 0, 1) := dk_3 (dk_at dksX7_isAsSeen_4 10 rfl rfl)
theorem dX7_isAsSeen_105 : decode cX7_isAsSeen 105 = .ok (.istore_n 2, 1) := dk_61 (dk_at dksX7_isAsSeen_4 11 rfl rfl)
theorem dX7_isAsSeen_106 : decode cX7_isAsSeen 106 = .ok (.iinc 4 1, 3) := dk_132 4 1 (dk_at dksX7_isAsSeen_4 12 rfl rfl)
theorem dX7_isAsSeen_109 : decode cX7_isAsSeen 109 = .ok (.goto (-55), 3) := dk_167 255 201 (dk_at dksX7_isAsSeen_4 15 rfl rfl)
theorem dX7_isAsSeen_112 : decode cX7_isAsSeen 112 = .ok (.aload_n 0, 1) := dk_42 (dk_at dksX7_isAsSeen_4 18 rfl rfl)
theorem dX7_isAsSeen_113 : decode cX7_isAsSeen 113 = .ok (.invokevirtual 402, 3) := dk_182 1 146 (dk_at dksX7_isAsSeen_4 19 rfl rfl)
theorem dX7_isAsSeen_116 : decode cX7_isAsSeen 116 = .ok (.iinc 3 1, 3) := dk_132 3 1 (dk_at dksX7_isAsSeen_5 0 rfl rfl)
theorem dX7_isAsSeen_119 : decode cX7_isAsSeen 119 = .ok (.goto (-77), 3) := dk_167 255 179 (dk_at dksX7_isAsSeen_5 3 rfl rfl)
theorem dX7_isAsSeen_122 : decode cX7_isAsSeen 122 = .ok (.aload_n 0, 1) := dk_42 (dk_at dksX7_isAsSeen_5 6 rfl rfl)
theorem dX7_isAsSeen_123 : decode cX7_isAsSeen 123 = .ok (.aload_n 0, 1) := dk_42 (dk_at dksX7_isAsSeen_5 7 rfl rfl)
theorem dX7_isAsSeen_124 : decode cX7_isAsSeen 124 = .ok (.getfield 113, 3) := dk_180 0 113 (dk_at dksX7_isAsSeen_5 8 rfl rfl)
theorem dX7_isAsSeen_127 : decode cX7_isAsSeen 127 = .ok (.iconst 0, 1) := dk_3 (dk_at dksX7_isAsSeen_5 11 rfl rfl)
theorem dX7_isAsSeen_128 : decode cX7_isAsSeen 128 = .ok (.invokevirtual 440, 3) := dk_182 1 184 (dk_at dksX7_isAsSeen_5 12 rfl rfl)
theorem dX7_isAsSeen_131 : decode cX7_isAsSeen 131 = .ok (.iload_n 2, 1) := dk_28 (dk_at dksX7_isAsSeen_5 15 rfl rfl)
theorem dX7_isAsSeen_132 : decode cX7_isAsSeen 132 = .ok (.ireturn, 1) := dk_172 (dk_at dksX7_isAsSeen_5 16 rfl rfl)
abbrev cX7_tellFits : ByteArray := prog_18_method_100_code
def yX7_tellFits : MethodName := ⟨RX7, "tellFits", "()V"⟩
def dkwX7_tellFits_4 : List UInt8 := [167, 255, 168, 177]
abbrev dktX7_tellFits_4 : List UInt8 := dkwX7_tellFits_4 ++ []
def dkwX7_tellFits_3 : List UInt8 := [180, 1, 216, 4, 96, 181, 1, 216, 132, 3, 1, 167, 255, 200, 42, 180, 0, 65, 27, 28, 79, 132, 1, 1]
abbrev dktX7_tellFits_3 : List UInt8 := dkwX7_tellFits_3 ++ dktX7_tellFits_4
def dkwX7_tellFits_2 : List UInt8 := [154, 0, 6, 167, 0, 28, 42, 180, 0, 116, 42, 180, 1, 216, 16, 10, 27, 104, 29, 96, 79, 42, 89]
abbrev dktX7_tellFits_2 : List UInt8 := dkwX7_tellFits_2 ++ dktX7_tellFits_3
def dkwX7_tellFits_1 : List UInt8 := [3, 62, 29, 16, 10, 162, 0, 56, 42, 180, 0, 65, 27, 29, 79, 29, 28, 159, 0, 38, 42, 182, 1, 219]
abbrev dktX7_tellFits_1 : List UInt8 := dkwX7_tellFits_1 ++ dktX7_tellFits_2
def dkwX7_tellFits_0 : List UInt8 := [42, 3, 181, 1, 216, 3, 60, 27, 42, 180, 0, 40, 5, 46, 162, 0, 84, 42, 180, 0, 65, 27, 46, 61]
abbrev dktX7_tellFits_0 : List UInt8 := dkwX7_tellFits_0 ++ dktX7_tellFits_1
theorem dksX7_tellFits_0 : cX7_tellFits.data.toList.drop 0 = dktX7_tellFits_0 := by decide +kernel
theorem dksX7_tellFits_1 : cX7_tellFits.data.toList.drop 24 = dktX7_tellFits_1 := dk_seg dksX7_tellFits_0 24 rfl rfl
theorem dksX7_tellFits_2 : cX7_tellFits.data.toList.drop 48 = dktX7_tellFits_2 := dk_seg dksX7_tellFits_1 24 rfl rfl
theorem dksX7_tellFits_3 : cX7_tellFits.data.toList.drop 71 = dktX7_tellFits_3 := dk_seg dksX7_tellFits_2 23 rfl rfl
theorem dksX7_tellFits_4 : cX7_tellFits.data.toList.drop 95 = dktX7_tellFits_4 := dk_seg dksX7_tellFits_3 24 rfl rfl
theorem dX7_tellFits_0 : decode cX7_tellFits 0 = .ok (.aload_n 0, 1) := dk_42 (dk_at dksX7_tellFits_0 0 rfl rfl)
theorem dX7_tellFits_1 : decode cX7_tellFits 1 = .ok (.iconst 0, 1) := dk_3 (dk_at dksX7_tellFits_0 1 rfl rfl)
theorem dX7_tellFits_2 : decode cX7_tellFits 2 = .ok (.putfield 472, 3) := dk_181 1 216 (dk_at dksX7_tellFits_0 2 rfl rfl)
theorem dX7_tellFits_5 : decode cX7_tellFits 5 = .ok (.iconst 0, 1) := dk_3 (dk_at dksX7_tellFits_0 5 rfl rfl)
theorem dX7_tellFits_6 : decode cX7_tellFits 6 = .ok (.istore_n 1, 1) := dk_60 (dk_at dksX7_tellFits_0 6 rfl rfl)
theorem dX7_tellFits_7 : decode cX7_tellFits 7 = .ok (.iload_n 1, 1) := dk_27 (dk_at dksX7_tellFits_0 7 rfl rfl)
theorem dX7_tellFits_8 : decode cX7_tellFits 8 = .ok (.aload_n 0, 1) := dk_42 (dk_at dksX7_tellFits_0 8 rfl rfl)
theorem dX7_tellFits_9 : decode cX7_tellFits 9 = .ok (.getfield 40, 3) := dk_180 0 40 (dk_at dksX7_tellFits_0 9 rfl rfl)
theorem dX7_tellFits_12 : decode cX7_tellFits 12 = .ok (.iconst 2, 1) := dk_5 (dk_at dksX7_tellFits_0 12 rfl rfl)
theorem dX7_tellFits_13 : decode cX7_tellFits 13 = .ok (.iaload, 1) := dk_46 (dk_at dksX7_tellFits_0 13 rfl rfl)
theorem dX7_tellFits_14 : decode cX7_tellFits 14 = .ok (.if_icmp .ge 84, 3) := dk_162 0 84 (dk_at dksX7_tellFits_0 14 rfl rfl)
theorem dX7_tellFits_17 : decode cX7_tellFits 17 = .ok (.aload_n 0, 1) := dk_42 (dk_at dksX7_tellFits_0 17 rfl rfl)
theorem dX7_tellFits_18 : decode cX7_tellFits 18 = .ok (.getfield 65, 3) := dk_180 0 65 (dk_at dksX7_tellFits_0 18 rfl rfl)
theorem dX7_tellFits_21 : decode cX7_tellFits 21 = .ok (.iload_n 1, 1) := dk_27 (dk_at dksX7_tellFits_0 21 rfl rfl)
theorem dX7_tellFits_22 : decode cX7_tellFits 22 = .ok (.iaload, 1) := dk_46 (dk_at dksX7_tellFits_0 22 rfl rfl)
theorem dX7_tellFits_23 : decode cX7_tellFits 23 = .ok (.istore_n 2, 1) := dk_61 (dk_at dksX7_tellFits_0 23 rfl rfl)
theorem dX7_tellFits_24 : decode cX7_tellFits 24 = .ok (.iconst 0, 1) := dk_3 (dk_at dksX7_tellFits_1 0 rfl rfl)
theorem dX7_tellFits_25 : decode cX7_tellFits 25 = .ok (.istore_n 3, 1) := dk_62 (dk_at dksX7_tellFits_1 1 rfl rfl)
theorem dX7_tellFits_26 : decode cX7_tellFits 26 = .ok (.iload_n 3, 1) := dk_29 (dk_at dksX7_tellFits_1 2 rfl rfl)
theorem dX7_tellFits_27 : decode cX7_tellFits 27 = .ok (.bipush 10, 2) := dk_16 10 (dk_at dksX7_tellFits_1 3 rfl rfl)
theorem dX7_tellFits_29 : decode cX7_tellFits 29 = .ok (.if_icmp .ge 56, 3) := dk_162 0 56 (dk_at dksX7_tellFits_1 5 rfl rfl)
theorem dX7_tellFits_32 : decode cX7_tellFits 32 = .ok (.aload_n 0, 1) := dk_42 (dk_at dksX7_tellFits_1 8 rfl rfl)
theorem dX7_tellFits_33 : decode cX7_tellFits 33 = .ok (.getfield 65, 3) := dk_180 0 65 (dk_at dksX7_tellFits_1 9 rfl rfl)
theorem dX7_tellFits_36 : decode cX7_tellFits 36 = .ok (.iload_n 1, 1) := dk_27 (dk_at dksX7_tellFits_1 12 rfl rfl)
theorem dX7_tellFits_37 : decode cX7_tellFits 37 = .ok (.iload_n 3, 1) := dk_29 (dk_at dksX7_tellFits_1 13 rfl rfl)
theorem dX7_tellFits_38 : decode cX7_tellFits 38 = .ok (.iastore, 1) := dk_79 (dk_at dksX7_tellFits_1 14 rfl rfl)
theorem dX7_tellFits_39 : decode cX7_tellFits 39 = .ok (.iload_n 3, 1) := dk_29 (dk_at dksX7_tellFits_1 15 rfl rfl)
theorem dX7_tellFits_40 : decode cX7_tellFits 40 = .ok (.iload_n 2, 1) := dk_28 (dk_at dksX7_tellFits_1 16 rfl rfl)
theorem dX7_tellFits_41 : decode cX7_tellFits 41 = .ok (.if_icmp .eq 38, 3) := dk_159 0 38 (dk_at dksX7_tellFits_1 17 rfl rfl)
theorem dX7_tellFits_44 : decode cX7_tellFits 44 = .ok (.aload_n 0, 1) := dk_42 (dk_at dksX7_tellFits_1 20 rfl rfl)
theorem dX7_tellFits_45 : decode cX7_tellFits 45 = .ok (.invokevirtual 475, 3) := dk_182 1 219 (dk_at dksX7_tellFits_1 21 rfl rfl)
theorem dX7_tellFits_48 : decode cX7_tellFits 48 = .ok (.ifCond .ne 6, 3) := dk_154 0 6 (dk_at dksX7_tellFits_2 0 rfl rfl)
theorem dX7_tellFits_51 : decode cX7_tellFits 51 = .ok (.goto 28, 3) := dk_167 0 28 (dk_at dksX7_tellFits_2 3 rfl rfl)
theorem dX7_tellFits_54 : decode cX7_tellFits 54 = .ok (.aload_n 0, 1) := dk_42 (dk_at dksX7_tellFits_2 6 rfl rfl)
theorem dX7_tellFits_55 : decode cX7_tellFits 55 = .ok (.getfield 116, 3) := dk_180 0 116 (dk_at dksX7_tellFits_2 7 rfl rfl)
theorem dX7_tellFits_58 : decode cX7_tellFits 58 = .ok (.aload_n 0, 1) := dk_42 (dk_at dksX7_tellFits_2 10 rfl rfl)
theorem dX7_tellFits_59 : decode cX7_tellFits 59 = .ok (.getfield 472, 3) := dk_180 1 216 (dk_at dksX7_tellFits_2 11 rfl rfl)
theorem dX7_tellFits_62 : decode cX7_tellFits 62 = .ok (.bipush 10, 2) := dk_16 10 (dk_at dksX7_tellFits_2 14 rfl rfl)
theorem dX7_tellFits_64 : decode cX7_tellFits 64 = .ok (.iload_n 1, 1) := dk_27 (dk_at dksX7_tellFits_2 16 rfl rfl)
theorem dX7_tellFits_65 : decode cX7_tellFits 65 = .ok (.imul, 1) := dk_104 (dk_at dksX7_tellFits_2 17 rfl rfl)
theorem dX7_tellFits_66 : decode cX7_tellFits 66 = .ok (.iload_n 3, 1) := dk_29 (dk_at dksX7_tellFits_2 18 rfl rfl)
theorem dX7_tellFits_67 : decode cX7_tellFits 67 = .ok (.iadd, 1) := dk_96 (dk_at dksX7_tellFits_2 19 rfl rfl)
theorem dX7_tellFits_68 : decode cX7_tellFits 68 = .ok (.iastore, 1) := dk_79 (dk_at dksX7_tellFits_2 20 rfl rfl)
theorem dX7_tellFits_69 : decode cX7_tellFits 69 = .ok (.aload_n 0, 1) := dk_42 (dk_at dksX7_tellFits_2 21 rfl rfl)
theorem dX7_tellFits_70 : decode cX7_tellFits 70 = .ok (.dup, 1) := dk_89 (dk_at dksX7_tellFits_2 22 rfl rfl)
theorem dX7_tellFits_71 : decode cX7_tellFits 71 = .ok (.getfield 472, 3) := dk_180 1 216 (dk_at dksX7_tellFits_3 0 rfl rfl)
theorem dX7_tellFits_74 : decode cX7_tellFits 74 = .ok (.iconst 1, 1) := dk_4 (dk_at dksX7_tellFits_3 3 rfl rfl)
theorem dX7_tellFits_75 : decode cX7_tellFits 75 = .ok (.iadd, 1) := dk_96 (dk_at dksX7_tellFits_3 4 rfl rfl)
theorem dX7_tellFits_76 : decode cX7_tellFits 76 = .ok (.putfield 472, 3) := dk_181 1 216 (dk_at dksX7_tellFits_3 5 rfl rfl)
theorem dX7_tellFits_79 : decode cX7_tellFits 79 = .ok (.iinc 3 1, 3) := dk_132 3 1 (dk_at dksX7_tellFits_3 8 rfl rfl)
theorem dX7_tellFits_82 : decode cX7_tellFits 82 = .ok (.goto (-56), 3) := dk_167 255 200 (dk_at dksX7_tellFits_3 11 rfl rfl)
theorem dX7_tellFits_85 : decode cX7_tellFits 85 = .ok (.aload_n 0, 1) := dk_42 (dk_at dksX7_tellFits_3 14 rfl rfl)
theorem dX7_tellFits_86 : decode cX7_tellFits 86 = .ok (.getfield 65, 3) := dk_180 0 65 (dk_at dksX7_tellFits_3 15 rfl rfl)
theorem dX7_tellFits_89 : decode cX7_tellFits 89 = .ok (.iload_n 1, 1) := dk_27 (dk_at dksX7_tellFits_3 18 rfl rfl)
theorem dX7_tellFits_90 : decode cX7_tellFits 90 = .ok (.iload_n 2, 1) := dk_28 (dk_at dksX7_tellFits_3 19 rfl rfl)
theorem dX7_tellFits_91 : decode cX7_tellFits 91 = .ok (.iastore, 1) := dk_79 (dk_at dksX7_tellFits_3 20 rfl rfl)
theorem dX7_tellFits_92 : decode cX7_tellFits 92 = .ok (.iinc 1 1, 3) := dk_132 1 1 (dk_at dksX7_tellFits_3 21 rfl rfl)
theorem dX7_tellFits_95 : decode cX7_tellFits 95 = .ok (.goto (-88), 3) := dk_167 255 168 (dk_at dksX7_tellFits_4 0 rfl rfl)
theorem dX7_tellFits_98 : decode cX7_tellFits 98 = .ok (.return_, 1) := dk_177 (dk_at dksX7_tellFits_4 3 rfl rfl)
abbrev cX7_look : ByteArray := prog_18_method_103_code
def yX7_look : MethodName := ⟨RX7, "look", "(I)I"⟩
def dkwX7_look_8 : List UInt8 := [167, 0, 4, 29, 172]
abbrev dktX7_look_8 : List UInt8 := dkwX7_look_8 ++ []
def dkwX7_look_7 : List UInt8 := [29, 163, 0, 6, 167, 0, 9, 21, 4, 61, 21, 5, 62, 132, 4, 1, 167, 255, 221, 27, 154, 0, 7, 28]
abbrev dktX7_look_7 : List UInt8 := dkwX7_look_7 ++ dktX7_look_8
def dkwX7_look_6 : List UInt8 := [3, 62, 3, 54, 4, 21, 4, 42, 182, 0, 153, 162, 0, 32, 42, 21, 4, 182, 1, 228, 54, 5, 21, 5]
abbrev dktX7_look_6 : List UInt8 := dkwX7_look_6 ++ dktX7_look_7
def dkwX7_look_5 : List UInt8 := [180, 0, 65, 29, 21, 4, 79, 42, 42, 180, 0, 92, 3, 182, 1, 184, 132, 2, 1, 167, 255, 155, 2, 61]
abbrev dktX7_look_5 : List UInt8 := dkwX7_look_5 ++ dktX7_look_6
def dkwX7_look_4 : List UInt8 := [16, 30, 28, 104, 21, 5, 96, 42, 180, 0, 75, 21, 5, 46, 79, 132, 5, 1, 167, 255, 227, 42]
abbrev dktX7_look_4 : List UInt8 := dkwX7_look_4 ++ dktX7_look_5
def dkwX7_look_3 : List UInt8 := [16, 10, 112, 79, 42, 8, 182, 1, 176, 3, 54, 5, 21, 5, 16, 30, 162, 0, 28, 42, 180, 0, 119]
abbrev dktX7_look_3 : List UInt8 := dkwX7_look_3 ++ dktX7_look_4
def dkwX7_look_2 : List UInt8 := [46, 16, 10, 108, 62, 42, 180, 0, 65, 29, 46, 54, 4, 42, 180, 0, 65, 29, 42, 180, 0, 116, 28, 46]
abbrev dktX7_look_2 : List UInt8 := dkwX7_look_2 ++ dktX7_look_3
def dkwX7_look_1 : List UInt8 := [42, 42, 180, 0, 92, 3, 182, 1, 164, 3, 61, 28, 42, 180, 1, 216, 162, 0, 99, 42, 180, 0, 116, 28]
abbrev dktX7_look_1 : List UInt8 := dkwX7_look_1 ++ dktX7_look_2
def dkwX7_look_0 : List UInt8 := [42, 3, 181, 0, 150, 27, 155, 0, 8, 27, 4, 164, 0, 9, 42, 4, 182, 1, 62, 172, 42, 182, 1, 225]
abbrev dktX7_look_0 : List UInt8 := dkwX7_look_0 ++ dktX7_look_1
theorem dksX7_look_0 : cX7_look.data.toList.drop 0 = dktX7_look_0 := by decide +kernel
theorem dksX7_look_1 : cX7_look.data.toList.drop 24 = dktX7_look_1 := dk_seg dksX7_look_0 24 rfl rfl
theorem dksX7_look_2 : cX7_look.data.toList.drop 48 = dktX7_look_2 := dk_seg dksX7_look_1 24 rfl rfl
theorem dksX7_look_3 : cX7_look.data.toList.drop 72 = dktX7_look_3 := dk_seg dksX7_look_2 24 rfl rfl
theorem dksX7_look_4 : cX7_look.data.toList.drop 95 = dktX7_look_4 := dk_seg dksX7_look_3 23 rfl rfl
theorem dksX7_look_5 : cX7_look.data.toList.drop 117 = dktX7_look_5 := dk_seg dksX7_look_4 22 rfl rfl
theorem dksX7_look_6 : cX7_look.data.toList.drop 141 = dktX7_look_6 := dk_seg dksX7_look_5 24 rfl rfl
theorem dksX7_look_7 : cX7_look.data.toList.drop 165 = dktX7_look_7 := dk_seg dksX7_look_6 24 rfl rfl
theorem dksX7_look_8 : cX7_look.data.toList.drop 189 = dktX7_look_8 := dk_seg dksX7_look_7 24 rfl rfl
theorem dX7_look_0 : decode cX7_look 0 = .ok (.aload_n 0, 1) := dk_42 (dk_at dksX7_look_0 0 rfl rfl)
theorem dX7_look_1 : decode cX7_look 1 = .ok (.iconst 0, 1) := dk_3 (dk_at dksX7_look_0 1 rfl rfl)
theorem dX7_look_2 : decode cX7_look 2 = .ok (.putfield 150, 3) := dk_181 0 150 (dk_at dksX7_look_0 2 rfl rfl)
theorem dX7_look_5 : decode cX7_look 5 = .ok (.iload_n 1, 1) := dk_27 (dk_at dksX7_look_0 5 rfl rfl)
theorem dX7_look_6 : decode cX7_look 6 = .ok (.ifCond .lt 8, 3) := dk_155 0 8 (dk_at dksX7_look_0 6 rfl rfl)
theorem dX7_look_9 : decode cX7_look 9 = .ok (.iload_n 1, 1) := dk_27 (dk_at dksX7_look_0 9 rfl rfl)
theorem dX7_look_10 : decode cX7_look 10 = .ok (.iconst 1, 1) := dk_4 (dk_at dksX7_look_0 10 rfl rfl)
theorem dX7_look_11 : decode cX7_look 11 = .ok (.if_icmp .le 9, 3) := dk_164 0 9 (dk_at dksX7_look_0 11 rfl rfl)
theorem dX7_look_14 : decode cX7_look 14 = .ok (.aload_n 0, 1) := dk_42 (dk_at dksX7_look_0 14 rfl rfl)
theorem dX7_look_15 : decode cX7_look 15 = .ok (.iconst 1, 1) := dk_4 (dk_at dksX7_look_0 15 rfl rfl)
theorem dX7_look_16 : decode cX7_look 16 = .ok (.invokevirtual 318, 3) := dk_182 1 62 (dk_at dksX7_look_0 16 rfl rfl)
theorem dX7_look_19 : decode cX7_look 19 = .ok (.ireturn, 1) := dk_172 (dk_at dksX7_look_0 19 rfl rfl)
theorem dX7_look_20 : decode cX7_look 20 = .ok (.aload_n 0, 1) := dk_42 (dk_at dksX7_look_0 20 rfl rfl)
theorem dX7_look_21 : decode cX7_look 21 = .ok (.invokevirtual 481, 3) := dk_182 1 225 (dk_at dksX7_look_0 21 rfl rfl)
theorem dX7_look_24 : decode cX7_look 24 = .ok (.aload_n 0, 1) := dk_42 (dk_at dksX7_look_1 0 rfl rfl)
theorem dX7_look_25 : decode cX7_look 25 = .ok (.aload_n 0, 1) := dk_42 (dk_at dksX7_look_1 1 rfl rfl)
theorem dX7_look_26 : decode cX7_look 26 = .ok (.getfield 92, 3) := dk_180 0 92 (dk_at dksX7_look_1 2 rfl rfl)
theorem dX7_look_29 : decode cX7_look 29 = .ok (.iconst 0, 1) := dk_3 (dk_at dksX7_look_1 5 rfl rfl)
theorem dX7_look_30 : decode cX7_look 30 = .ok (.invokevirtual 420, 3) := dk_182 1 164 (dk_at dksX7_look_1 6 rfl rfl)
theorem dX7_look_33 : decode cX7_look 33 = .ok (.iconst 0, 1) := dk_3 (dk_at dksX7_look_1 9 rfl rfl)
theorem dX7_look_34 : decode cX7_look 34 = .ok (.istore_n 2, 1) := dk_61 (dk_at dksX7_look_1 10 rfl rfl)
theorem dX7_look_35 : decode cX7_look 35 = .ok (.iload_n 2, 1) := dk_28 (dk_at dksX7_look_1 11 rfl rfl)
theorem dX7_look_36 : decode cX7_look 36 = .ok (.aload_n 0, 1) := dk_42 (dk_at dksX7_look_1 12 rfl rfl)
theorem dX7_look_37 : decode cX7_look 37 = .ok (.getfield 472, 3) := dk_180 1 216 (dk_at dksX7_look_1 13 rfl rfl)
theorem dX7_look_40 : decode cX7_look 40 = .ok (.if_icmp .ge 99, 3) := dk_162 0 99 (dk_at dksX7_look_1 16 rfl rfl)
theorem dX7_look_43 : decode cX7_look 43 = .ok (.aload_n 0, 1) := dk_42 (dk_at dksX7_look_1 19 rfl rfl)
theorem dX7_look_44 : decode cX7_look 44 = .ok (.getfield 116, 3) := dk_180 0 116 (dk_at dksX7_look_1 20 rfl rfl)
theorem dX7_look_47 : decode cX7_look 47 = .ok (.iload_n 2, 1) := dk_28 (dk_at dksX7_look_1 23 rfl rfl)
theorem dX7_look_48 : decode cX7_look 48 = .ok (.iaload, 1) := dk_46 (dk_at dksX7_look_2 0 rfl rfl)
theorem dX7_look_49 : decode cX7_look 49 = .ok (.bipush 10, 2) := dk_16 10 (dk_at dksX7_look_2 1 rfl rfl)
theorem dX7_look_51 : decode cX7_look 51 = .ok (.idiv, 1) := dk_108 (dk_at dksX7_look_2 3 rfl rfl)
theorem dX7_look_52 : decode cX7_look 52 = .ok (.istore_n 3, 1) := dk_62 (dk_at dksX7_look_2 4 rfl rfl)
theorem dX7_look_53 : decode cX7_look 53 = .ok (.aload_n 0, 1) := dk_42 (dk_at dksX7_look_2 5 rfl rfl)
theorem dX7_look_54 : decode cX7_look 54 = .ok (.getfield 65, 3) := dk_180 0 65 (dk_at dksX7_look_2 6 rfl rfl)
theorem dX7_look_57 : decode cX7_look 57 = .ok (.iload_n 3, 1) := dk_29 (dk_at dksX7_look_2 9 rfl rfl)
theorem dX7_look_58 : decode cX7_look 58 = .ok (.iaload, 1) := dk_46 (dk_at dksX7_look_2 10 rfl rfl)
theorem dX7_look_59 : decode cX7_look 59 = .ok (.istore 4, 2) := dk_54 4 (dk_at dksX7_look_2 11 rfl rfl)
theorem dX7_look_61 : decode cX7_look 61 = .ok (.aload_n 0, 1) := dk_42 (dk_at dksX7_look_2 13 rfl rfl)
theorem dX7_look_62 : decode cX7_look 62 = .ok (.getfield 65, 3) := dk_180 0 65 (dk_at dksX7_look_2 14 rfl rfl)
theorem dX7_look_65 : decode cX7_look 65 = .ok (.iload_n 3, 1) := dk_29 (dk_at dksX7_look_2 17 rfl rfl)
theorem dX7_look_66 : decode cX7_look 66 = .ok (.aload_n 0, 1) := dk_42 (dk_at dksX7_look_2 18 rfl rfl)
theorem dX7_look_67 : decode cX7_look 67 = .ok (.getfield 116, 3) := dk_180 0 116 (dk_at dksX7_look_2 19 rfl rfl)
theorem dX7_look_70 : decode cX7_look 70 = .ok (.iload_n 2, 1) := dk_28 (dk_at dksX7_look_2 22 rfl rfl)
theorem dX7_look_71 : decode cX7_look 71 = .ok (.iaload, 1) := dk_46 (dk_at dksX7_look_2 23 rfl rfl)
theorem dX7_look_72 : decode cX7_look 72 = .ok (.bipush 10, 2) := dk_16 10 (dk_at dksX7_look_3 0 rfl rfl)
theorem dX7_look_74 : decode cX7_look 74 = .ok (.irem, 1) := dk_112 (dk_at dksX7_look_3 2 rfl rfl)
theorem dX7_look_75 : decode cX7_look 75 = .ok (.iastore, 1) := dk_79 (dk_at dksX7_look_3 3 rfl rfl)
theorem dX7_look_76 : decode cX7_look 76 = .ok (.aload_n 0, 1) := dk_42 (dk_at dksX7_look_3 4 rfl rfl)
theorem dX7_look_77 : decode cX7_look 77 = .ok (.iconst 5, 1) := dk_8 (dk_at dksX7_look_3 5 rfl rfl)
theorem dX7_look_78 : decode cX7_look 78 = .ok (.invokevirtual 432, 3) := dk_182 1 176 (dk_at dksX7_look_3 6 rfl rfl)
theorem dX7_look_81 : decode cX7_look 81 = .ok (.iconst 0, 1) := dk_3 (dk_at dksX7_look_3 9 rfl rfl)
theorem dX7_look_82 : decode cX7_look 82 = .ok (.istore 5, 2) := dk_54 5 (dk_at dksX7_look_3 10 rfl rfl)
theorem dX7_look_84 : decode cX7_look 84 = .ok (.iload 5, 2) := dk_21 5 (dk_at dksX7_look_3 12 rfl rfl)
theorem dX7_look_86 : decode cX7_look 86 = .ok (.bipush 30, 2) := dk_16 30 (dk_at dksX7_look_3 14 rfl rfl)
theorem dX7_look_88 : decode cX7_look 88 = .ok (.if_icmp .ge 28, 3) := dk_162 0 28 (dk_at dksX7_look_3 16 rfl rfl)
theorem dX7_look_91 : decode cX7_look 91 = .ok (.aload_n 0, 1) := dk_42 (dk_at dksX7_look_3 19 rfl rfl)
theorem dX7_look_92 : decode cX7_look 92 = .ok (.getfield 119, 3) := dk_180 0 119 (dk_at dksX7_look_3 20 rfl rfl)
theorem dX7_look_95 : decode cX7_look 95 = .ok (.bipush 30, 2) := dk_16 30 (dk_at dksX7_look_4 0 rfl rfl)
theorem dX7_look_97 : decode cX7_look 97 = .ok (.iload_n 2, 1) := dk_28 (dk_at dksX7_look_4 2 rfl rfl)
theorem dX7_look_98 : decode cX7_look 98 = .ok (.imul, 1) := dk_104 (dk_at dksX7_look_4 3 rfl rfl)
theorem dX7_look_99 : decode cX7_look 99 = .ok (.iload 5, 2) := dk_21 5 (dk_at dksX7_look_4 4 rfl rfl)
theorem dX7_look_101 : decode cX7_look 101 = .ok (.iadd, 1) := dk_96 (dk_at dksX7_look_4 6 rfl rfl)
theorem dX7_look_102 : decode cX7_look 102 = .ok (.aload_n 0, 1) := dk_42 (dk_at dksX7_look_4 7 rfl rfl)
theorem dX7_look_103 : decode cX7_look 103 = .ok (.getfield 75, 3) := dk_180 0 75 (dk_at dksX7_look_4 8 rfl rfl)
theorem dX7_look_106 : decode cX7_look 106 = .ok (.iload 5, 2) := dk_21 5 (dk_at dksX7_look_4 11 rfl rfl)
theorem dX7_look_108 : decode cX7_look 108 = .ok (.iaload, 1) := dk_46 (dk_at dksX7_look_4 13 rfl rfl)
theorem dX7_look_109 : decode cX7_look 109 = .ok (.iastore, 1) := dk_79 (dk_at dksX7_look_4 14 rfl rfl)
theorem dX7_look_110 : decode cX7_look 110 = .ok (.iinc 5 1, 3) := dk_132 5 1 (dk_at dksX7_look_4 15 rfl rfl)
theorem dX7_look_113 : decode cX7_look 113 = .ok (.goto (-29), 3) := dk_167 255 227 (dk_at dksX7_look_4 18 rfl rfl)
theorem dX7_look_116 : decode cX7_look 116 = .ok (.aload_n 0, 1) := dk_42 (dk_at dksX7_look_4 21 rfl rfl)
theorem dX7_look_117 : decode cX7_look 117 = .ok (.getfield 65, 3) := dk_180 0 65 (dk_at dksX7_look_5 0 rfl rfl)
theorem dX7_look_120 : decode cX7_look 120 = .ok (.iload_n 3, 1) := dk_29 (dk_at dksX7_look_5 3 rfl rfl)
theorem dX7_look_121 : decode cX7_look 121 = .ok (.iload 4, 2) := dk_21 4 (dk_at dksX7_look_5 4 rfl rfl)
theorem dX7_look_123 : decode cX7_look 123 = .ok (.iastore, 1) := dk_79 (dk_at dksX7_look_5 6 rfl rfl)
theorem dX7_look_124 : decode cX7_look 124 = .ok (.aload_n 0, 1) := dk_42 (dk_at dksX7_look_5 7 rfl rfl)
theorem dX7_look_125 : decode cX7_look 125 = .ok (.aload_n 0, 1) := dk_42 (dk_at dksX7_look_5 8 rfl rfl)
theorem dX7_look_126 : decode cX7_look 126 = .ok (.getfield 92, 3) := dk_180 0 92 (dk_at dksX7_look_5 9 rfl rfl)
theorem dX7_look_129 : decode cX7_look 129 = .ok (.iconst 0, 1) := dk_3 (dk_at dksX7_look_5 12 rfl rfl)
theorem dX7_look_130 : decode cX7_look 130 = .ok (.invokevirtual 440, 3) := dk_182 1 184 (dk_at dksX7_look_5 13 rfl rfl)
theorem dX7_look_133 : decode cX7_look 133 = .ok (.iinc 2 1, 3) := dk_132 2 1 (dk_at dksX7_look_5 16 rfl rfl)
theorem dX7_look_136 : decode cX7_look 136 = .ok (.goto (-101), 3) := dk_167 255 155 (dk_at dksX7_look_5 19 rfl rfl)
theorem dX7_look_139 : decode cX7_look 139 = .ok (.iconst (-1), 1) := dk_2 (dk_at dksX7_look_5 22 rfl rfl)
theorem dX7_look_140 : decode cX7_look 140 = .ok (.istore_n 2, 1) := dk_61 (dk_at dksX7_look_5 23 rfl rfl)
theorem dX7_look_141 : decode cX7_look 141 = .ok (.iconst 0, 1) := dk_3 (dk_at dksX7_look_6 0 rfl rfl)
theorem dX7_look_142 : decode cX7_look 142 = .ok (.istore_n 3, 1) := dk_62 (dk_at dksX7_look_6 1 rfl rfl)
theorem dX7_look_143 : decode cX7_look 143 = .ok (.iconst 0, 1) := dk_3 (dk_at dksX7_look_6 2 rfl rfl)
theorem dX7_look_144 : decode cX7_look 144 = .ok (.istore 4, 2) := dk_54 4 (dk_at dksX7_look_6 3 rfl rfl)
theorem dX7_look_146 : decode cX7_look 146 = .ok (.iload 4, 2) := dk_21 4 (dk_at dksX7_look_6 5 rfl rfl)
theorem dX7_look_148 : decode cX7_look 148 = .ok (.aload_n 0, 1) := dk_42 (dk_at dksX7_look_6 7 rfl rfl)
theorem dX7_look_149 : decode cX7_look 149 = .ok (.invokevirtual 153, 3) := dk_182 0 153 (dk_at dksX7_look_6 8 rfl rfl)
theorem dX7_look_152 : decode cX7_look 152 = .ok (.if_icmp .ge 32, 3) := dk_162 0 32 (dk_at dksX7_look_6 11 rfl rfl)
theorem dX7_look_155 : decode cX7_look 155 = .ok (.aload_n 0, 1) := dk_42 (dk_at dksX7_look_6 14 rfl rfl)
theorem dX7_look_156 : decode cX7_look 156 = .ok (.iload 4, 2) := dk_21 4 (dk_at dksX7_look_6 15 rfl rfl)
theorem dX7_look_158 : decode cX7_look 158 = .ok (.invokevirtual 484, 3) := dk_182 1 228 (dk_at dksX7_look_6 17 rfl rfl)
theorem dX7_look_161 : decode cX7_look 161 = .ok (.istore 5, 2) := dk_54 5 (dk_at dksX7_look_6 20 rfl rfl)
theorem dX7_look_163 : decode cX7_look 163 = .ok (.iload 5, 2) := dk_21 5 (dk_at dksX7_look_6 22 rfl rfl)
theorem dX7_look_165 : decode cX7_look 165 = .ok (.iload_n 3, 1) := dk_29 (dk_at dksX7_look_7 0 rfl rfl)
theorem dX7_look_166 : decode cX7_look 166 = .ok (.if_icmp .gt 6, 3) := dk_163 0 6 (dk_at dksX7_look_7 1 rfl rfl)
theorem dX7_look_169 : decode cX7_look 169 = .ok (.goto 9, 3) := dk_167 0 9 (dk_at dksX7_look_7 4 rfl rfl)
theorem dX7_look_172 : decode cX7_look 172 = .ok (.iload 4, 2) := dk_21 4 (dk_at dksX7_look_7 7 rfl rfl)
theorem dX7_look_174 : decode cX7_look 174 = .ok (.istore_n 2, 1) := dk_61 (dk_at dksX7_look_7 9 rfl rfl)
theorem dX7_look_175 : decode cX7_look 175 = .ok (.iload 5, 2) := dk_21 5 (dk_at dksX7_look_7 10 rfl rfl)
theorem dX7_look_177 : decode cX7_look 177 = .ok (.istore_n 3, 1) := dk_62 (dk_at dksX7_look_7 12 rfl rfl)
theorem dX7_look_178 : decode cX7_look 178 = .ok (.iinc 4 1, 3) := dk_132 4 1 (dk_at dksX7_look_7 13 rfl rfl)
theorem dX7_look_181 : decode cX7_look 181 = .ok (.goto (-35), 3) := dk_167 255 221 (dk_at dksX7_look_7 16 rfl rfl)
theorem dX7_look_184 : decode cX7_look 184 = .ok (.iload_n 1, 1) := dk_27 (dk_at dksX7_look_7 19 rfl rfl)
theorem dX7_look_185 : decode cX7_look 185 = .ok (.ifCond .ne 7, 3) := dk_154 0 7 (dk_at dksX7_look_7 20 rfl rfl)
theorem dX7_look_188 : decode cX7_look 188 = .ok (.iload_n 2, 1) := dk_28 (dk_at dksX7_look_7 23 rfl rfl)
theorem dX7_look_189 : decode cX7_look 189 = .ok (.goto 4, 3) := dk_167 0 4 (dk_at dksX7_look_8 0 rfl rfl)
theorem dX7_look_192 : decode cX7_look 192 = .ok (.iload_n 3, 1) := dk_29 (dk_at dksX7_look_8 3 rfl rfl)
theorem dX7_look_193 : decode cX7_look 193 = .ok (.ireturn, 1) := dk_172 (dk_at dksX7_look_8 4 rfl rfl)
abbrev cX7_unlike : ByteArray := prog_18_method_102_code
def yX7_unlike : MethodName := ⟨RX7, "unlike", "(I)I"⟩
def dkwX7_unlike_3 : List UInt8 := [153, 0, 7, 4, 167, 0, 4, 3, 96, 61, 132, 3, 1, 167, 255, 176, 28, 172]
abbrev dktX7_unlike_3 : List UInt8 := dkwX7_unlike_3 ++ []
def dkwX7_unlike_2 : List UInt8 := [104, 27, 96, 46, 159, 0, 7, 4, 167, 0, 4, 3, 54, 4, 132, 5, 1, 167, 255, 209, 28, 21, 4]
abbrev dktX7_unlike_2 : List UInt8 := dkwX7_unlike_2 ++ dktX7_unlike_3
def dkwX7_unlike_1 : List UInt8 := [21, 4, 153, 0, 42, 42, 180, 0, 119, 16, 30, 21, 5, 104, 27, 96, 46, 42, 180, 0, 119, 16, 30, 29]
abbrev dktX7_unlike_1 : List UInt8 := dkwX7_unlike_1 ++ dktX7_unlike_2
def dkwX7_unlike_0 : List UInt8 := [3, 61, 3, 62, 29, 42, 180, 1, 216, 162, 0, 78, 4, 54, 4, 3, 54, 5, 21, 5, 29, 162, 0, 47]
abbrev dktX7_unlike_0 : List UInt8 := dkwX7_unlike_0 ++ dktX7_unlike_1
theorem dksX7_unlike_0 : cX7_unlike.data.toList.drop 0 = dktX7_unlike_0 := by decide +kernel
theorem dksX7_unlike_1 : cX7_unlike.data.toList.drop 24 = dktX7_unlike_1 := dk_seg dksX7_unlike_0 24 rfl rfl
theorem dksX7_unlike_2 : cX7_unlike.data.toList.drop 48 = dktX7_unlike_2 := dk_seg dksX7_unlike_1 24 rfl rfl
theorem dksX7_unlike_3 : cX7_unlike.data.toList.drop 71 = dktX7_unlike_3 := dk_seg dksX7_unlike_2 23 rfl rfl
theorem dX7_unlike_0 : decode cX7_unlike 0 = .ok (.iconst 0, 1) := dk_3 (dk_at dksX7_unlike_0 0 rfl rfl)
theorem dX7_unlike_1 : decode cX7_unlike 1 = .ok (.istore_n 2, 1) := dk_61 (dk_at dksX7_unlike_0 1 rfl rfl)
theorem dX7_unlike_2 : decode cX7_unlike 2 = .ok (.iconst 0, 1) := dk_3 (dk_at dksX7_unlike_0 2 rfl rfl)
theorem dX7_unlike_3 : decode cX7_unlike 3 = .ok (.istore_n 3, 1) := dk_62 (dk_at dksX7_unlike_0 3 rfl rfl)
theorem dX7_unlike_4 : decode cX7_unlike 4 = .ok (.iload_n 3, 1) := dk_29 (dk_at dksX7_unlike_0 4 rfl rfl)
theorem dX7_unlike_5 : decode cX7_unlike 5 = .ok (.aload_n 0, 1) := dk_42 (dk_at dksX7_unlike_0 5 rfl rfl)
theorem dX7_unlike_6 : decode cX7_unlike 6 = .ok (.getfield 472, 3) := dk_180 1 216 (dk_at dksX7_unlike_0 6 rfl rfl)
theorem dX7_unlike_9 : decode cX7_unlike 9 = .ok (.if_icmp .ge 78, 3) := dk_162 0 78 (dk_at dksX7_unlike_0 9 rfl rfl)
theorem dX7_unlike_12 : decode cX7_unlike 12 = .ok (.iconst 1, 1) := dk_4 (dk_at dksX7_unlike_0 12 rfl rfl)
theorem dX7_unlike_13 : decode cX7_unlike 13 = .ok (.istore 4, 2) := dk_54 4 (dk_at dksX7_unlike_0 13 rfl rfl)
theorem dX7_unlike_15 : decode cX7_unlike 15 = .ok (.iconst 0, 1) := dk_3 (dk_at dksX7_unlike_0 15 rfl rfl)
theorem dX7_unlike_16 : decode cX7_unlike 16 = .ok (.istore 5, 2) := dk_54 5 (dk_at dksX7_unlike_0 16 rfl rfl)
theorem dX7_unlike_18 : decode cX7_unlike 18 = .ok (.iload 5, 2) := dk_21 5 (dk_at dksX7_unlike_0 18 rfl rfl)
theorem dX7_unlike_20 : decode cX7_unlike 20 = .ok (.iload_n 3, 1) := dk_29 (dk_at dksX7_unlike_0 20 rfl rfl)
theorem dX7_unlike_21 : decode cX7_unlike 21 = .ok (.if_icmp .ge 47, 3) := dk_162 0 47 (dk_at dksX7_unlike_0 21 rfl rfl)
theorem dX7_unlike_24 : decode cX7_unlike 24 = .ok (.iload 4, 2) := dk_21 4 (dk_at dksX7_unlike_1 0 rfl rfl)
theorem dX7_unlike_26 : decode cX7_unlike 26 = .ok (.ifCond .eq 42, 3) := dk_153 0 42 (dk_at dksX7_unlike_1 2 rfl rfl)
theorem dX7_unlike_29 : decode cX7_unlike 29 = .ok (.aload_n 0, 1) := dk_42 (dk_at dksX7_unlike_1 5 rfl rfl)
theorem dX7_unlike_30 : decode cX7_unlike 30 = .ok (.getfield 119, 3) := dk_180 0 119 (dk_at dksX7_unlike_1 6 rfl rfl)
theorem dX7_unlike_33 : decode cX7_unlike 33 = .ok (.bipush 30, 2) := dk_16 30 (dk_at dksX7_unlike_1 9 rfl rfl)
theorem dX7_unlike_35 : decode cX7_unlike 35 = .ok (.iload 5, 2) := dk_21 5 (dk_at dksX7_unlike_1 11 rfl rfl)
theorem dX7_unlike_37 : decode cX7_unlike 37 = .ok (.imul, 1) := dk_104 (dk_at dksX7_unlike_1 13 rfl rfl)
theorem dX7_unlike_38 : decode cX7_unlike 38 = .ok (.iload_n 1, 1) := dk_27 (dk_at dksX7_unlike_1 14 rfl rfl)
theorem dX7_unlike_39 : decode cX7_unlike 39 = .ok (.iadd, 1) := dk_96 (dk_at dksX7_unlike_1 15 rfl rfl)
theorem dX7_unlike_40 : decode cX7_unlike 40 = .ok (.iaload, 1) := dk_46 (dk_at dksX7_unlike_1 16 rfl rfl)
theorem dX7_unlike_41 : decode cX7_unlike 41 = .ok (.aload_n 0, 1) := dk_42 (dk_at dksX7_unlike_1 17 rfl rfl)
theorem dX7_unlike_42 : decode cX7_unlike 42 = .ok (.getfield 119, 3) := dk_180 0 119 (dk_at dksX7_unlike_1 18 rfl rfl)
theorem dX7_unlike_45 : decode cX7_unlike 45 = .ok (.bipush 30, 2) := dk_16 30 (dk_at dksX7_unlike_1 21 rfl rfl)
theorem dX7_unlike_47 : decode cX7_unlike 47 = .ok (.iload_n 3, 1) := dk_29 (dk_at dksX7_unlike_1 23 rfl rfl)
theorem dX7_unlike_48 : decode cX7_unlike 48 = .ok (.imul, 1) := dk_104 (dk_at dksX7_unlike_2 0 rfl rfl)
theorem dX7_unlike_49 : decode cX7_unlike 49 = .ok (.iload_n 1, 1) := dk_27 (dk_at dksX7_unlike_2 1 rfl rfl)
theorem dX7_unlike_50 : decode cX7_unlike 50 = .ok (.iadd, 1) := dk_96 (dk_at dksX7_unlike_2 2 rfl rfl)
theorem dX7_unlike_51 : decode cX7_unlike 51 = .ok (.iaload, 1) := dk_46 (dk_at dksX7_unlike_2 3 rfl rfl)
theorem dX7_unlike_52 : decode cX7_unlike 52 = .ok (.if_icmp .eq 7, 3) := dk_159 0 7 (dk_at dksX7_unlike_2 4 rfl rfl)
theorem dX7_unlike_55 : decode cX7_unlike 55 = .ok (.iconst 1, 1) := dk_4 (dk_at dksX7_unlike_2 7 rfl rfl)
theorem dX7_unlike_56 : decode cX7_unlike 56 = .ok (.goto 4, 3) := dk_167 0 4 (dk_at dksX7_unlike_2 8 rfl rfl)
theorem dX7_unlike_59 : decode cX7_unlike 59 = .ok (.iconst 0, 1) := dk_3 (dk_at dksX7_unlike_2 11 rfl rfl)
theorem dX7_unlike_60 : decode cX7_unlike 60 = .ok (.istore 4, 2) := dk_54 4 (dk_at dksX7_unlike_2 12 rfl rfl)
theorem dX7_unlike_62 : decode cX7_unlike 62 = .ok (.iinc 5 1, 3) := dk_132 5 1 (dk_at dksX7_unlike_2 14 rfl rfl)
theorem dX7_unlike_65 : decode cX7_unlike 65 = .ok (.goto (-47), 3) := dk_167 255 209 (dk_at dksX7_unlike_2 17 rfl rfl)
theorem dX7_unlike_68 : decode cX7_unlike 68 = .ok (.iload_n 2, 1) := dk_28 (dk_at dksX7_unlike_2 20 rfl rfl)
theorem dX7_unlike_69 : decode cX7_unlike 69 = .ok (.iload 4, 2) := dk_21 4 (dk_at dksX7_unlike_2 21 rfl rfl)
theorem dX7_unlike_71 : decode cX7_unlike 71 = .ok (.ifCond .eq 7, 3) := dk_153 0 7 (dk_at dksX7_unlike_3 0 rfl rfl)
theorem dX7_unlike_74 : decode cX7_unlike 74 = .ok (.iconst 1, 1) := dk_4 (dk_at dksX7_unlike_3 3 rfl rfl)
theorem dX7_unlike_75 : decode cX7_unlike 75 = .ok (.goto 4, 3) := dk_167 0 4 (dk_at dksX7_unlike_3 4 rfl rfl)
theorem dX7_unlike_78 : decode cX7_unlike 78 = .ok (.iconst 0, 1) := dk_3 (dk_at dksX7_unlike_3 7 rfl rfl)
theorem dX7_unlike_79 : decode cX7_unlike 79 = .ok (.iadd, 1) := dk_96 (dk_at dksX7_unlike_3 8 rfl rfl)
theorem dX7_unlike_80 : decode cX7_unlike 80 = .ok (.istore_n 2, 1) := dk_61 (dk_at dksX7_unlike_3 9 rfl rfl)
theorem dX7_unlike_81 : decode cX7_unlike 81 = .ok (.iinc 3 1, 3) := dk_132 3 1 (dk_at dksX7_unlike_3 10 rfl rfl)
theorem dX7_unlike_84 : decode cX7_unlike 84 = .ok (.goto (-80), 3) := dk_167 255 176 (dk_at dksX7_unlike_3 13 rfl rfl)
theorem dX7_unlike_87 : decode cX7_unlike 87 = .ok (.iload_n 2, 1) := dk_28 (dk_at dksX7_unlike_3 16 rfl rfl)
theorem dX7_unlike_88 : decode cX7_unlike 88 = .ok (.ireturn, 1) := dk_172 (dk_at dksX7_unlike_3 17 rfl rfl)
abbrev cX7_forget : ByteArray := prog_18_method_104_code
def yX7_forget : MethodName := ⟨RX7, "forget", "()V"⟩
def dkwX7_forget_0 : List UInt8 := [42, 3, 181, 0, 150, 42, 3, 181, 1, 89, 177]
abbrev dktX7_forget_0 : List UInt8 := dkwX7_forget_0 ++ []
theorem dksX7_forget_0 : cX7_forget.data.toList.drop 0 = dktX7_forget_0 := by decide +kernel
theorem dX7_forget_0 : decode cX7_forget 0 = .ok (.aload_n 0, 1) := dk_42 (dk_at dksX7_forget_0 0 rfl rfl)
theorem dX7_forget_1 : decode cX7_forget 1 = .ok (.iconst 0, 1) := dk_3 (dk_at dksX7_forget_0 1 rfl rfl)
theorem dX7_forget_2 : decode cX7_forget 2 = .ok (.putfield 150, 3) := dk_181 0 150 (dk_at dksX7_forget_0 2 rfl rfl)
theorem dX7_forget_5 : decode cX7_forget 5 = .ok (.aload_n 0, 1) := dk_42 (dk_at dksX7_forget_0 5 rfl rfl)
theorem dX7_forget_6 : decode cX7_forget 6 = .ok (.iconst 0, 1) := dk_3 (dk_at dksX7_forget_0 6 rfl rfl)
theorem dX7_forget_7 : decode cX7_forget 7 = .ok (.putfield 345, 3) := dk_181 1 89 (dk_at dksX7_forget_0 7 rfl rfl)
theorem dX7_forget_10 : decode cX7_forget 10 = .ok (.return_, 1) := dk_177 (dk_at dksX7_forget_0 10 rfl rfl)
abbrev cX7_game : ByteArray := prog_18_method_106_code
def yX7_game : MethodName := ⟨RX7, "game", "(III)I"⟩
def dkwX7_game_7 : List UInt8 := [167, 0, 5, 21, 5, 172]
abbrev dktX7_game_7 : List UInt8 := dkwX7_game_7 ++ []
def dkwX7_game_6 : List UInt8 := [5, 112, 96, 167, 0, 5, 21, 5, 54, 5, 132, 6, 1, 167, 255, 166, 29, 154, 0, 8, 21, 4]
abbrev dktX7_game_6 : List UInt8 := dkwX7_game_6 ++ dktX7_game_7
def dkwX7_game_5 : List UInt8 := [164, 0, 6, 167, 0, 31, 132, 4, 1, 21, 5, 2, 160, 0, 18, 16, 10, 21, 6, 5, 108, 104, 21, 6]
abbrev dktX7_game_5 : List UInt8 := dkwX7_game_5 ++ dktX7_game_6
def dkwX7_game_4 : List UInt8 := [180, 0, 122, 5, 21, 6, 4, 130, 104, 4, 96, 46, 42, 180, 0, 122, 5, 21, 6, 104, 4, 96, 46]
abbrev dktX7_game_4 : List UInt8 := dkwX7_game_4 ++ dktX7_game_5
def dkwX7_game_3 : List UInt8 := [180, 0, 122, 5, 21, 6, 5, 130, 104, 46, 42, 180, 0, 122, 5, 21, 6, 104, 46, 163, 0, 61, 42]
abbrev dktX7_game_3 : List UInt8 := dkwX7_game_3 ++ dktX7_game_4
def dkwX7_game_2 : List UInt8 := [172, 42, 27, 28, 182, 1, 231, 3, 54, 4, 2, 54, 5, 3, 54, 6, 21, 6, 7, 162, 0, 90, 42]
abbrev dktX7_game_2 : List UInt8 := dkwX7_game_2 ++ dktX7_game_3
def dkwX7_game_1 : List UInt8 := [155, 0, 8, 29, 4, 164, 0, 9, 42, 4, 182, 1, 62, 172, 27, 28, 160, 0, 9, 42, 5, 182, 1, 62]
abbrev dktX7_game_1 : List UInt8 := dkwX7_game_1 ++ dktX7_game_2
def dkwX7_game_0 : List UInt8 := [42, 3, 181, 0, 150, 42, 27, 182, 1, 161, 153, 0, 20, 42, 28, 182, 1, 161, 153, 0, 12, 29]
abbrev dktX7_game_0 : List UInt8 := dkwX7_game_0 ++ dktX7_game_1
theorem dksX7_game_0 : cX7_game.data.toList.drop 0 = dktX7_game_0 := by decide +kernel
theorem dksX7_game_1 : cX7_game.data.toList.drop 22 = dktX7_game_1 := dk_seg dksX7_game_0 22 rfl rfl
theorem dksX7_game_2 : cX7_game.data.toList.drop 46 = dktX7_game_2 := dk_seg dksX7_game_1 24 rfl rfl
theorem dksX7_game_3 : cX7_game.data.toList.drop 69 = dktX7_game_3 := dk_seg dksX7_game_2 23 rfl rfl
theorem dksX7_game_4 : cX7_game.data.toList.drop 92 = dktX7_game_4 := dk_seg dksX7_game_3 23 rfl rfl
theorem dksX7_game_5 : cX7_game.data.toList.drop 115 = dktX7_game_5 := dk_seg dksX7_game_4 23 rfl rfl
theorem dksX7_game_6 : cX7_game.data.toList.drop 139 = dktX7_game_6 := dk_seg dksX7_game_5 24 rfl rfl
theorem dksX7_game_7 : cX7_game.data.toList.drop 161 = dktX7_game_7 := dk_seg dksX7_game_6 22 rfl rfl
theorem dX7_game_0 : decode cX7_game 0 = .ok (.aload_n 0, 1) := dk_42 (dk_at dksX7_game_0 0 rfl rfl)
theorem dX7_game_1 : decode cX7_game 1 = .ok (.iconst 0, 1) := dk_3 (dk_at dksX7_game_0 1 rfl rfl)
theorem dX7_game_2 : decode cX7_game 2 = .ok (.putfield 150, 3) := dk_181 0 150 (dk_at dksX7_game_0 2 rfl rfl)
theorem dX7_game_5 : decode cX7_game 5 = .ok (.aload_n 0, 1) := dk_42 (dk_at dksX7_game_0 5 rfl rfl)
theorem dX7_game_6 : decode cX7_game 6 = .ok (.iload_n 1, 1) := dk_27 (dk_at dksX7_game_0 6 rfl rfl)
theorem dX7_game_7 : decode cX7_game 7 = .ok (.invokevirtual 417, 3) := dk_182 1 161 (dk_at dksX7_game_0 7 rfl rfl)
theorem dX7_game_10 : decode cX7_game 10 = .ok (.ifCond .eq 20, 3) := dk_153 0 20 (dk_at dksX7_game_0 10 rfl rfl)
theorem dX7_game_13 : decode cX7_game 13 = .ok (.aload_n 0, 1) := dk_42 (dk_at dksX7_game_0 13 rfl rfl)
theorem dX7_game_14 : decode cX7_game 14 = .ok (.iload_n 2, 1) := dk_28 (dk_at dksX7_game_0 14 rfl rfl)
theorem dX7_game_15 : decode cX7_game 15 = .ok (.invokevirtual 417, 3) := dk_182 1 161 (dk_at dksX7_game_0 15 rfl rfl)
theorem dX7_game_18 : decode cX7_game 18 = .ok (.ifCond .eq 12, 3) := dk_153 0 12 (dk_at dksX7_game_0 18 rfl rfl)
theorem dX7_game_21 : decode cX7_game 21 = .ok (.iload_n 3, 1) := dk_29 (dk_at dksX7_game_0 21 rfl rfl)
theorem dX7_game_22 : decode cX7_game 22 = .ok (.ifCond .lt 8, 3) := dk_155 0 8 (dk_at dksX7_game_1 0 rfl rfl)
theorem dX7_game_25 : decode cX7_game 25 = .ok (.iload_n 3, 1) := dk_29 (dk_at dksX7_game_1 3 rfl rfl)
theorem dX7_game_26 : decode cX7_game 26 = .ok (.iconst 1, 1) := dk_4 (dk_at dksX7_game_1 4 rfl rfl)
theorem dX7_game_27 : decode cX7_game 27 = .ok (.if_icmp .le 9, 3) := dk_164 0 9 (dk_at dksX7_game_1 5 rfl rfl)
theorem dX7_game_30 : decode cX7_game 30 = .ok (.aload_n 0, 1) := dk_42 (dk_at dksX7_game_1 8 rfl rfl)
theorem dX7_game_31 : decode cX7_game 31 = .ok (.iconst 1, 1) := dk_4 (dk_at dksX7_game_1 9 rfl rfl)
theorem dX7_game_32 : decode cX7_game 32 = .ok (.invokevirtual 318, 3) := dk_182 1 62 (dk_at dksX7_game_1 10 rfl rfl)
theorem dX7_game_35 : decode cX7_game 35 = .ok (.ireturn, 1) := dk_172 (dk_at dksX7_game_1 13 rfl rfl)
theorem dX7_game_36 : decode cX7_game 36 = .ok (.iload_n 1, 1) := dk_27 (dk_at dksX7_game_1 14 rfl rfl)
theorem dX7_game_37 : decode cX7_game 37 = .ok (.iload_n 2, 1) := dk_28 (dk_at dksX7_game_1 15 rfl rfl)
theorem dX7_game_38 : decode cX7_game 38 = .ok (.if_icmp .ne 9, 3) := dk_160 0 9 (dk_at dksX7_game_1 16 rfl rfl)
theorem dX7_game_41 : decode cX7_game 41 = .ok (.aload_n 0, 1) := dk_42 (dk_at dksX7_game_1 19 rfl rfl)
theorem dX7_game_42 : decode cX7_game 42 = .ok (.iconst 2, 1) := dk_5 (dk_at dksX7_game_1 20 rfl rfl)
theorem dX7_game_43 : decode cX7_game 43 = .ok (.invokevirtual 318, 3) := dk_182 1 62 (dk_at dksX7_game_1 21 rfl rfl)
theorem dX7_game_46 : decode cX7_game 46 = .ok (.ireturn, 1) := dk_172 (dk_at dksX7_game_2 0 rfl rfl)
theorem dX7_game_47 : decode cX7_game 47 = .ok (.aload_n 0, 1) := dk_42 (dk_at dksX7_game_2 1 rfl rfl)
theorem dX7_game_48 : decode cX7_game 48 = .ok (.iload_n 1, 1) := dk_27 (dk_at dksX7_game_2 2 rfl rfl)
theorem dX7_game_49 : decode cX7_game 49 = .ok (.iload_n 2, 1) := dk_28 (dk_at dksX7_game_2 3 rfl rfl)
theorem dX7_game_50 : decode cX7_game 50 = .ok (.invokevirtual 487, 3) := dk_182 1 231 (dk_at dksX7_game_2 4 rfl rfl)
theorem dX7_game_53 : decode cX7_game 53 = .ok (.iconst 0, 1) := dk_3 (dk_at dksX7_game_2 7 rfl rfl)
theorem dX7_game_54 : decode cX7_game 54 = .ok (.istore 4, 2) := dk_54 4 (dk_at dksX7_game_2 8 rfl rfl)
theorem dX7_game_56 : decode cX7_game 56 = .ok (.iconst (-1), 1) := dk_2 (dk_at dksX7_game_2 10 rfl rfl)
theorem dX7_game_57 : decode cX7_game 57 = .ok (.istore 5, 2) := dk_54 5 (dk_at dksX7_game_2 11 rfl rfl)
theorem dX7_game_59 : decode cX7_game 59 = .ok (.iconst 0, 1) := dk_3 (dk_at dksX7_game_2 13 rfl rfl)
theorem dX7_game_60 : decode cX7_game 60 = .ok (.istore 6, 2) := dk_54 6 (dk_at dksX7_game_2 14 rfl rfl)
theorem dX7_game_62 : decode cX7_game 62 = .ok (.iload 6, 2) := dk_21 6 (dk_at dksX7_game_2 16 rfl rfl)
theorem dX7_game_64 : decode cX7_game 64 = .ok (.iconst 4, 1) := dk_7 (dk_at dksX7_game_2 18 rfl rfl)
theorem dX7_game_65 : decode cX7_game 65 = .ok (.if_icmp .ge 90, 3) := dk_162 0 90 (dk_at dksX7_game_2 19 rfl rfl)
theorem dX7_game_68 : decode cX7_game 68 = .ok (.aload_n 0, 1) := dk_42 (dk_at dksX7_game_2 22 rfl rfl)
theorem dX7_game_69 : decode cX7_game 69 = .ok (.getfield 122, 3) := dk_180 0 122 (dk_at dksX7_game_3 0 rfl rfl)
theorem dX7_game_72 : decode cX7_game 72 = .ok (.iconst 2, 1) := dk_5 (dk_at dksX7_game_3 3 rfl rfl)
theorem dX7_game_73 : decode cX7_game 73 = .ok (.iload 6, 2) := dk_21 6 (dk_at dksX7_game_3 4 rfl rfl)
theorem dX7_game_75 : decode cX7_game 75 = .ok (.iconst 2, 1) := dk_5 (dk_at dksX7_game_3 6 rfl rfl)
theorem dX7_game_76 : decode cX7_game 76 = .ok (.ixor, 1) := dk_130 (dk_at dksX7_game_3 7 rfl rfl)
theorem dX7_game_77 : decode cX7_game 77 = .ok (.imul, 1) := dk_104 (dk_at dksX7_game_3 8 rfl rfl)
theorem dX7_game_78 : decode cX7_game 78 = .ok (.iaload, 1) := dk_46 (dk_at dksX7_game_3 9 rfl rfl)
theorem dX7_game_79 : decode cX7_game 79 = .ok (.aload_n 0, 1) := dk_42 (dk_at dksX7_game_3 10 rfl rfl)
theorem dX7_game_80 : decode cX7_game 80 = .ok (.getfield 122, 3) := dk_180 0 122 (dk_at dksX7_game_3 11 rfl rfl)
theorem dX7_game_83 : decode cX7_game 83 = .ok (.iconst 2, 1) := dk_5 (dk_at dksX7_game_3 14 rfl rfl)
theorem dX7_game_84 : decode cX7_game 84 = .ok (.iload 6, 2) := dk_21 6 (dk_at dksX7_game_3 15 rfl rfl)
theorem dX7_game_86 : decode cX7_game 86 = .ok (.imul, 1) := dk_104 (dk_at dksX7_game_3 17 rfl rfl)
theorem dX7_game_87 : decode cX7_game 87 = .ok (.iaload, 1) := dk_46 (dk_at dksX7_game_3 18 rfl rfl)
theorem dX7_game_88 : decode cX7_game 88 = .ok (.if_icmp .gt 61, 3) := dk_163 0 61 (dk_at dksX7_game_3 19 rfl rfl)
theorem dX7_game_91 : decode cX7_game 91 = .ok (.aload_n 0, 1) := dk_42 (dk_at dksX7_game_3 22 rfl rfl)
theorem dX7_game_92 : decode cX7_game 92 = .ok (.getfield 122, 3) := dk_180 0 122 (dk_at dksX7_game_4 0 rfl rfl)
theorem dX7_game_95 : decode cX7_game 95 = .ok (.iconst 2, 1) := dk_5 (dk_at dksX7_game_4 3 rfl rfl)
theorem dX7_game_96 : decode cX7_game 96 = .ok (.iload 6, 2) := dk_21 6 (dk_at dksX7_game_4 4 rfl rfl)
theorem dX7_game_98 : decode cX7_game 98 = .ok (.iconst 1, 1) := dk_4 (dk_at dksX7_game_4 6 rfl rfl)
theorem dX7_game_99 : decode cX7_game 99 = .ok (.ixor, 1) := dk_130 (dk_at dksX7_game_4 7 rfl rfl)
theorem dX7_game_100 : decode cX7_game 100 = .ok (.imul, 1) := dk_104 (dk_at dksX7_game_4 8 rfl rfl)
theorem dX7_game_101 : decode cX7_game 101 = .ok (.iconst 1, 1) := dk_4 (dk_at dksX7_game_4 9 rfl rfl)
theorem dX7_game_102 : decode cX7_game 102 = .ok (.iadd, 1) := dk_96 (dk_at dksX7_game_4 10 rfl rfl)
theorem dX7_game_103 : decode cX7_game 103 = .ok (.iaload, 1) := dk_46 (dk_at dksX7_game_4 11 rfl rfl)
theorem dX7_game_104 : decode cX7_game 104 = .ok (.aload_n 0, 1) := dk_42 (dk_at dksX7_game_4 12 rfl rfl)
theorem dX7_game_105 : decode cX7_game 105 = .ok (.getfield 122, 3) := dk_180 0 122 (dk_at dksX7_game_4 13 rfl rfl)
theorem dX7_game_108 : decode cX7_game 108 = .ok (.iconst 2, 1) := dk_5 (dk_at dksX7_game_4 16 rfl rfl)
theorem dX7_game_109 : decode cX7_game 109 = .ok (.iload 6, 2) := dk_21 6 (dk_at dksX7_game_4 17 rfl rfl)
theorem dX7_game_111 : decode cX7_game 111 = .ok (.imul, 1) := dk_104 (dk_at dksX7_game_4 19 rfl rfl)
theorem dX7_game_112 : decode cX7_game 112 = .ok (.iconst 1, 1) := dk_4 (dk_at dksX7_game_4 20 rfl rfl)
theorem dX7_game_113 : decode cX7_game 113 = .ok (.iadd, 1) := dk_96 (dk_at dksX7_game_4 21 rfl rfl)
theorem dX7_game_114 : decode cX7_game 114 = .ok (.iaload, 1) := dk_46 (dk_at dksX7_game_4 22 rfl rfl)
theorem dX7_game_115 : decode cX7_game 115 = .ok (.if_icmp .le 6, 3) := dk_164 0 6 (dk_at dksX7_game_5 0 rfl rfl)
theorem dX7_game_118 : decode cX7_game 118 = .ok (.goto 31, 3) := dk_167 0 31 (dk_at dksX7_game_5 3 rfl rfl)
theorem dX7_game_121 : decode cX7_game 121 = .ok (.iinc 4 1, 3) := dk_132 4 1 (dk_at dksX7_game_5 6 rfl rfl)
theorem dX7_game_124 : decode cX7_game 124 = .ok (.iload 5, 2) := dk_21 5 (dk_at dksX7_game_5 9 rfl rfl)
theorem dX7_game_126 : decode cX7_game 126 = .ok (.iconst (-1), 1) := dk_2 (dk_at dksX7_game_5 11 rfl rfl)
theorem dX7_game_127 : decode cX7_game 127 = .ok (.if_icmp .ne 18, 3) := dk_160 0 18 (dk_at dksX7_game_5 12 rfl rfl)
theorem dX7_game_130 : decode cX7_game 130 = .ok (.bipush 10, 2) := dk_16 10 (dk_at dksX7_game_5 15 rfl rfl)
theorem dX7_game_132 : decode cX7_game 132 = .ok (.iload 6, 2) := dk_21 6 (dk_at dksX7_game_5 17 rfl rfl)
theorem dX7_game_134 : decode cX7_game 134 = .ok (.iconst 2, 1) := dk_5 (dk_at dksX7_game_5 19 rfl rfl)
theorem dX7_game_135 : decode cX7_game 135 = .ok (.idiv, 1) := dk_108 (dk_at dksX7_game_5 20 rfl rfl)
theorem dX7_game_136 : decode cX7_game 136 = .ok (.imul, 1) := dk_104 (dk_at dksX7_game_5 21 rfl rfl)
theorem dX7_game_137 : decode cX7_game 137 = .ok (.iload 6, 2) := dk_21 6 (dk_at dksX7_game_5 22 rfl rfl)
theorem dX7_game_139 : decode cX7_game 139 = .ok (.iconst 2, 1) := dk_5 (dk_at dksX7_game_6 0 rfl rfl)
theorem dX7_game_140 : decode cX7_game 140 = .ok (.irem, 1) := dk_112 (dk_at dksX7_game_6 1 rfl rfl)
theorem dX7_game_141 : decode cX7_game 141 = .ok (.iadd, 1) := dk_96 (dk_at dksX7_game_6 2 rfl rfl)
theorem dX7_game_142 : decode cX7_game 142 = .ok (.goto 5, 3) := dk_167 0 5 (dk_at dksX7_game_6 3 rfl rfl)
theorem dX7_game_145 : decode cX7_game 145 = .ok (.iload 5, 2) := dk_21 5 (dk_at dksX7_game_6 6 rfl rfl)
theorem dX7_game_147 : decode cX7_game 147 = .ok (.istore 5, 2) := dk_54 5 (dk_at dksX7_game_6 8 rfl rfl)
theorem dX7_game_149 : decode cX7_game 149 = .ok (.iinc 6 1, 3) := dk_132 6 1 (dk_at dksX7_game_6 10 rfl rfl)
theorem dX7_game_152 : decode cX7_game 152 = .ok (.goto (-90), 3) := dk_167 255 166 (dk_at dksX7_game_6 13 rfl rfl)
theorem dX7_game_155 : decode cX7_game 155 = .ok (.iload_n 3, 1) := dk_29 (dk_at dksX7_game_6 16 rfl rfl)
theorem dX7_game_156 : decode cX7_game 156 = .ok (.ifCond .ne 8, 3) := dk_154 0 8 (dk_at dksX7_game_6 17 rfl rfl)
theorem dX7_game_159 : decode cX7_game 159 = .ok (.iload 4, 2) := dk_21 4 (dk_at dksX7_game_6 20 rfl rfl)
theorem dX7_game_161 : decode cX7_game 161 = .ok (.goto 5, 3) := dk_167 0 5 (dk_at dksX7_game_7 0 rfl rfl)
theorem dX7_game_164 : decode cX7_game 164 = .ok (.iload 5, 2) := dk_21 5 (dk_at dksX7_game_7 3 rfl rfl)
theorem dX7_game_166 : decode cX7_game 166 = .ok (.ireturn, 1) := dk_172 (dk_at dksX7_game_7 5 rfl rfl)
abbrev cX7_tellGains : ByteArray := prog_18_method_105_code
def yX7_tellGains : MethodName := ⟨RX7, "tellGains", "(II)V"⟩
def dkwX7_tellGains_6 : List UInt8 := [42, 42, 180, 0, 92, 3, 182, 1, 184, 132, 3, 1, 167, 255, 113, 177]
abbrev dktX7_tellGains_6 : List UInt8 := dkwX7_tellGains_6 ++ []
def dkwX7_tellGains_5 : List UInt8 := [180, 0, 77, 28, 46, 46, 16, 10, 42, 180, 1, 137, 184, 1, 140, 104, 100, 5, 29, 5, 112, 104, 100, 79]
abbrev dktX7_tellGains_5 : List UInt8 := dkwX7_tellGains_5 ++ dktX7_tellGains_6
def dkwX7_tellGains_4 : List UInt8 := [100, 5, 29, 5, 108, 104, 100, 79, 42, 180, 0, 122, 5, 29, 104, 4, 96, 42, 180, 0, 75, 42]
abbrev dktX7_tellGains_4 : List UInt8 := dkwX7_tellGains_4 ++ dktX7_tellGains_5
def dkwX7_tellGains_3 : List UInt8 := [5, 29, 104, 42, 180, 0, 75, 42, 180, 0, 77, 27, 46, 46, 16, 10, 42, 180, 1, 137, 184, 1, 140, 104]
abbrev dktX7_tellGains_3 : List UInt8 := dkwX7_tellGains_3 ++ dktX7_tellGains_4
def dkwX7_tellGains_2 : List UInt8 := [112, 4, 160, 0, 7, 3, 167, 0, 6, 4, 28, 120, 128, 181, 1, 83, 42, 182, 1, 146, 42, 180, 0, 122]
abbrev dktX7_tellGains_2 : List UInt8 := dkwX7_tellGains_2 ++ dktX7_tellGains_3
def dkwX7_tellGains_1 : List UInt8 := [4, 28, 120, 128, 2, 130, 126, 29, 5, 108, 4, 160, 0, 7, 3, 167, 0, 6, 4, 27, 120, 128, 29, 5]
abbrev dktX7_tellGains_1 : List UInt8 := dkwX7_tellGains_1 ++ dktX7_tellGains_2
def dkwX7_tellGains_0 : List UInt8 := [42, 42, 180, 0, 92, 3, 182, 1, 164, 3, 62, 29, 7, 162, 0, 144, 42, 42, 180, 1, 83, 4, 27, 120]
abbrev dktX7_tellGains_0 : List UInt8 := dkwX7_tellGains_0 ++ dktX7_tellGains_1
theorem dksX7_tellGains_0 : cX7_tellGains.data.toList.drop 0 = dktX7_tellGains_0 := by decide +kernel
theorem dksX7_tellGains_1 : cX7_tellGains.data.toList.drop 24 = dktX7_tellGains_1 := dk_seg dksX7_tellGains_0 24 rfl rfl
theorem dksX7_tellGains_2 : cX7_tellGains.data.toList.drop 48 = dktX7_tellGains_2 := dk_seg dksX7_tellGains_1 24 rfl rfl
theorem dksX7_tellGains_3 : cX7_tellGains.data.toList.drop 72 = dktX7_tellGains_3 := dk_seg dksX7_tellGains_2 24 rfl rfl
theorem dksX7_tellGains_4 : cX7_tellGains.data.toList.drop 96 = dktX7_tellGains_4 := dk_seg dksX7_tellGains_3 24 rfl rfl
theorem dksX7_tellGains_5 : cX7_tellGains.data.toList.drop 118 = dktX7_tellGains_5 := dk_seg dksX7_tellGains_4 22 rfl rfl
theorem dksX7_tellGains_6 : cX7_tellGains.data.toList.drop 142 = dktX7_tellGains_6 := dk_seg dksX7_tellGains_5 24 rfl rfl
theorem dX7_tellGains_0 : decode cX7_tellGains 0 = .ok (.aload_n 0, 1) := dk_42 (dk_at dksX7_tellGains_0 0 rfl rfl)
theorem dX7_tellGains_1 : decode cX7_tellGains 1 = .ok (.aload_n 0, 1) := dk_42 (dk_at dksX7_tellGains_0 1 rfl rfl)
theorem dX7_tellGains_2 : decode cX7_tellGains 2 = .ok (.getfield 92, 3) := dk_180 0 92 (dk_at dksX7_tellGains_0 2 rfl rfl)
theorem dX7_tellGains_5 : decode cX7_tellGains 5 = .ok (.iconst 0, 1) := dk_3 (dk_at dksX7_tellGains_0 5 rfl rfl)
theorem dX7_tellGains_6 : decode cX7_tellGains 6 = .ok (.invokevirtual 420, 3) := dk_182 1 164 (dk_at dksX7_tellGains_0 6 rfl rfl)
theorem dX7_tellGains_9 : decode cX7_tellGains 9 = .ok (.iconst 0, 1) := dk_3 (dk_at dksX7_tellGains_0 9 rfl rfl)
theorem dX7_tellGains_10 : decode cX7_tellGains 10 = .ok (.istore_n 3, 1) := dk_62 (dk_at dksX7_tellGains_0 10 rfl rfl)
theorem dX7_tellGains_11 : decode cX7_tellGains 11 = .ok (.iload_n 3, 1) := dk_29 (dk_at dksX7_tellGains_0 11 rfl rfl)
theorem dX7_tellGains_12 : decode cX7_tellGains 12 = .ok (.iconst 4, 1) := dk_7 (dk_at dksX7_tellGains_0 12 rfl rfl)
theorem dX7_tellGains_13 : decode cX7_tellGains 13 = .ok (.if_icmp .ge 144, 3) := dk_162 0 144 (dk_at dksX7_tellGains_0 13 rfl rfl)
theorem dX7_tellGains_16 : decode cX7_tellGains 16 = .ok (.aload_n 0, 1) := dk_42 (dk_at dksX7_tellGains_0 16 rfl rfl)
theorem dX7_tellGains_17 : decode cX7_tellGains 17 = .ok (.aload_n 0, 1) := dk_42 (dk_at dksX7_tellGains_0 17 rfl rfl)
theorem dX7_tellGains_18 : decode cX7_tellGains 18 = .ok (.getfield 339, 3) := dk_180 1 83 (dk_at dksX7_tellGains_0 18 rfl rfl)
theorem dX7_tellGains_21 : decode cX7_tellGains 21 = .ok (.iconst 1, 1) := dk_4 (dk_at dksX7_tellGains_0 21 rfl rfl)
theorem dX7_tellGains_22 : decode cX7_tellGains 22 = .ok (.iload_n 1, 1) := dk_27 (dk_at dksX7_tellGains_0 22 rfl rfl)
theorem dX7_tellGains_23 : decode cX7_tellGains 23 = .ok (.ishl, 1) := dk_120 (dk_at dksX7_tellGains_0 23 rfl rfl)
theorem dX7_tellGains_24 : decode cX7_tellGains 24 = .ok (.iconst 1, 1) := dk_4 (dk_at dksX7_tellGains_1 0 rfl rfl)
theorem dX7_tellGains_25 : decode cX7_tellGains 25 = .ok (.iload_n 2, 1) := dk_28 (dk_at dksX7_tellGains_1 1 rfl rfl)
theorem dX7_tellGains_26 : decode cX7_tellGains 26 = .ok (.ishl, 1) := dk_120 (dk_at dksX7_tellGains_1 2 rfl rfl)
theorem dX7_tellGains_27 : decode cX7_tellGains 27 = .ok (.ior, 1) := dk_128 (dk_at dksX7_tellGains_1 3 rfl rfl)
theorem dX7_tellGains_28 : decode cX7_tellGains 28 = .ok (.iconst (-1), 1) := dk_2 (dk_at dksX7_tellGains_1 4 rfl rfl)
theorem dX7_tellGains_29 : decode cX7_tellGains 29 = .ok (.ixor, 1) := dk_130 (dk_at dksX7_tellGains_1 5 rfl rfl)
theorem dX7_tellGains_30 : decode cX7_tellGains 30 = .ok (.iand, 1) := dk_126 (dk_at dksX7_tellGains_1 6 rfl rfl)
theorem dX7_tellGains_31 : decode cX7_tellGains 31 = .ok (.iload_n 3, 1) := dk_29 (dk_at dksX7_tellGains_1 7 rfl rfl)
theorem dX7_tellGains_32 : decode cX7_tellGains 32 = .ok (.iconst 2, 1) := dk_5 (dk_at dksX7_tellGains_1 8 rfl rfl)
theorem dX7_tellGains_33 : decode cX7_tellGains 33 = .ok (.idiv, 1) := dk_108 (dk_at dksX7_tellGains_1 9 rfl rfl)
theorem dX7_tellGains_34 : decode cX7_tellGains 34 = .ok (.iconst 1, 1) := dk_4 (dk_at dksX7_tellGains_1 10 rfl rfl)
theorem dX7_tellGains_35 : decode cX7_tellGains 35 = .ok (.if_icmp .ne 7, 3) := dk_160 0 7 (dk_at dksX7_tellGains_1 11 rfl rfl)
theorem dX7_tellGains_38 : decode cX7_tellGains 38 = .ok (.iconst 0, 1) := dk_3 (dk_at dksX7_tellGains_1 14 rfl rfl)
theorem dX7_tellGains_39 : decode cX7_tellGains 39 = .ok (.goto 6, 3) := dk_167 0 6 (dk_at dksX7_tellGains_1 15 rfl rfl)
theorem dX7_tellGains_42 : decode cX7_tellGains 42 = .ok (.iconst 1, 1) := dk_4 (dk_at dksX7_tellGains_1 18 rfl rfl)
theorem dX7_tellGains_43 : decode cX7_tellGains 43 = .ok (.iload_n 1, 1) := dk_27 (dk_at dksX7_tellGains_1 19 rfl rfl)
theorem dX7_tellGains_44 : decode cX7_tellGains 44 = .ok (.ishl, 1) := dk_120 (dk_at dksX7_tellGains_1 20 rfl rfl)
theorem dX7_tellGains_45 : decode cX7_tellGains 45 = .ok (.ior, 1) := dk_128 (dk_at dksX7_tellGains_1 21 rfl rfl)
theorem dX7_tellGains_46 : decode cX7_tellGains 46 = .ok (.iload_n 3, 1) := dk_29 (dk_at dksX7_tellGains_1 22 rfl rfl)
theorem dX7_tellGains_47 : decode cX7_tellGains 47 = .ok (.iconst 2, 1) := dk_5 (dk_at dksX7_tellGains_1 23 rfl rfl)
theorem dX7_tellGains_48 : decode cX7_tellGains 48 = .ok (.irem, 1) := dk_112 (dk_at dksX7_tellGains_2 0 rfl rfl)
theorem dX7_tellGains_49 : decode cX7_tellGains 49 = .ok (.iconst 1, 1) := dk_4 (dk_at dksX7_tellGains_2 1 rfl rfl)
theorem dX7_tellGains_50 : decode cX7_tellGains 50 = .ok (.if_icmp .ne 7, 3) := dk_160 0 7 (dk_at dksX7_tellGains_2 2 rfl rfl)
theorem dX7_tellGains_53 : decode cX7_tellGains 53 = .ok (.iconst 0, 1) := dk_3 (dk_at dksX7_tellGains_2 5 rfl rfl)
theorem dX7_tellGains_54 : decode cX7_tellGains 54 = .ok (.goto 6, 3) := dk_167 0 6 (dk_at dksX7_tellGains_2 6 rfl rfl)
theorem dX7_tellGains_57 : decode cX7_tellGains 57 = .ok (.iconst 1, 1) := dk_4 (dk_at dksX7_tellGains_2 9 rfl rfl)
theorem dX7_tellGains_58 : decode cX7_tellGains 58 = .ok (.iload_n 2, 1) := dk_28 (dk_at dksX7_tellGains_2 10 rfl rfl)
theorem dX7_tellGains_59 : decode cX7_tellGains 59 = .ok (.ishl, 1) := dk_120 (dk_at dksX7_tellGains_2 11 rfl rfl)
theorem dX7_tellGains_60 : decode cX7_tellGains 60 = .ok (.ior, 1) := dk_128 (dk_at dksX7_tellGains_2 12 rfl rfl)
theorem dX7_tellGains_61 : decode cX7_tellGains 61 = .ok (.putfield 339, 3) := dk_181 1 83 (dk_at dksX7_tellGains_2 13 rfl rfl)
theorem dX7_tellGains_64 : decode cX7_tellGains 64 = .ok (.aload_n 0, 1) := dk_42 (dk_at dksX7_tellGains_2 16 rfl rfl)
theorem dX7_tellGains_65 : decode cX7_tellGains 65 = .ok (.invokevirtual 402, 3) := dk_182 1 146 (dk_at dksX7_tellGains_2 17 rfl rfl)
theorem dX7_tellGains_68 : decode cX7_tellGains 68 = .ok (.aload_n 0, 1) := dk_42 (dk_at dksX7_tellGains_2 20 rfl rfl)
theorem dX7_tellGains_69 : decode cX7_tellGains 69 = .ok (.getfield 122, 3) := dk_180 0 122 (dk_at dksX7_tellGains_2 21 rfl rfl)
theorem dX7_tellGains_72 : decode cX7_tellGains 72 = .ok (.iconst 2, 1) := dk_5 (dk_at dksX7_tellGains_3 0 rfl rfl)
theorem dX7_tellGains_73 : decode cX7_tellGains 73 = .ok (.iload_n 3, 1) := dk_29 (dk_at dksX7_tellGains_3 1 rfl rfl)
theorem dX7_tellGains_74 : decode cX7_tellGains 74 = .ok (.imul, 1) := dk_104 (dk_at dksX7_tellGains_3 2 rfl rfl)
theorem dX7_tellGains_75 : decode cX7_tellGains 75 = .ok (.aload_n 0, 1) := dk_42 (dk_at dksX7_tellGains_3 3 rfl rfl)
theorem dX7_tellGains_76 : decode cX7_tellGains 76 = .ok (.getfield 75, 3) := dk_180 0 75 (dk_at dksX7_tellGains_3 4 rfl rfl)
theorem dX7_tellGains_79 : decode cX7_tellGains 79 = .ok (.aload_n 0, 1) := dk_42 (dk_at dksX7_tellGains_3 7 rfl rfl)
theorem dX7_tellGains_80 : decode cX7_tellGains 80 = .ok (.getfield 77, 3) := dk_180 0 77 (dk_at dksX7_tellGains_3 8 rfl rfl)
theorem dX7_tellGains_83 : decode cX7_tellGains 83 = .ok (.iload_n 1, 1) := dk_27 (dk_at dksX7_tellGains_3 11 rfl rfl)
theorem dX7_tellGains_84 : decode cX7_tellGains 84 = .ok (.iaload, 1) := dk_46 (dk_at dksX7_tellGains_3 12 rfl rfl)
theorem dX7_tellGains_85 : decode cX7_tellGains 85 = .ok (.iaload, 1) := dk_46 (dk_at dksX7_tellGains_3 13 rfl rfl)
theorem dX7_tellGains_86 : decode cX7_tellGains 86 = .ok (.bipush 10, 2) := dk_16 10 (dk_at dksX7_tellGains_3 14 rfl rfl)
theorem dX7_tellGains_88 : decode cX7_tellGains 88 = .ok (.aload_n 0, 1) := dk_42 (dk_at dksX7_tellGains_3 16 rfl rfl)
theorem dX7_tellGains_89 : decode cX7_tellGains 89 = .ok (.getfield 393, 3) := dk_180 1 137 (dk_at dksX7_tellGains_3 17 rfl rfl)
theorem dX7_tellGains_92 : decode cX7_tellGains 92 = .ok (.invokestatic 396, 3) := dk_184 1 140 (dk_at dksX7_tellGains_3 20 rfl rfl)
theorem dX7_tellGains_95 : decode cX7_tellGains 95 = .ok (.imul, 1) := dk_104 (dk_at dksX7_tellGains_3 23 rfl rfl)
theorem dX7_tellGains_96 : decode cX7_tellGains 96 = .ok (.isub, 1) := dk_100 (dk_at dksX7_tellGains_4 0 rfl rfl)
theorem dX7_tellGains_97 : decode cX7_tellGains 97 = .ok (.iconst 2, 1) := dk_5 (dk_at dksX7_tellGains_4 1 rfl rfl)
theorem dX7_tellGains_98 : decode cX7_tellGains 98 = .ok (.iload_n 3, 1) := dk_29 (dk_at dksX7_tellGains_4 2 rfl rfl)
theorem dX7_tellGains_99 : decode cX7_tellGains 99 = .ok (.iconst 2, 1) := dk_5 (dk_at dksX7_tellGains_4 3 rfl rfl)
theorem dX7_tellGains_100 : decode cX7_tellGains 100 = .ok (.idiv, 1) := dk_108 (dk_at dksX7_tellGains_4 4 rfl rfl)
theorem dX7_tellGains_101 : decode cX7_tellGains 101 = .ok (.imul, 1) := dk_104 (dk_at dksX7_tellGains_4 5 rfl rfl)
theorem dX7_tellGains_102 : decode cX7_tellGains 102 = .ok (.isub, 1) := dk_100 (dk_at dksX7_tellGains_4 6 rfl rfl)
theorem dX7_tellGains_103 : decode cX7_tellGains 103 = .ok (.iastore, 1) := dk_79 (dk_at dksX7_tellGains_4 7 rfl rfl)
theorem dX7_tellGains_104 : decode cX7_tellGains 104 = .ok (.aload_n 0, 1) := dk_42 (dk_at dksX7_tellGains_4 8 rfl rfl)
theorem dX7_tellGains_105 : decode cX7_tellGains 105 = .ok (.getfield 122, 3) := dk_180 0 122 (dk_at dksX7_tellGains_4 9 rfl rfl)
theorem dX7_tellGains_108 : decode cX7_tellGains 108 = .ok (.iconst 2, 1) := dk_5 (dk_at dksX7_tellGains_4 12 rfl rfl)
theorem dX7_tellGains_109 : decode cX7_tellGains 109 = .ok (.iload_n 3, 1) := dk_29 (dk_at dksX7_tellGains_4 13 rfl rfl)
theorem dX7_tellGains_110 : decode cX7_tellGains 110 = .ok (.imul, 1) := dk_104 (dk_at dksX7_tellGains_4 14 rfl rfl)
theorem dX7_tellGains_111 : decode cX7_tellGains 111 = .ok (.iconst 1, 1) := dk_4 (dk_at dksX7_tellGains_4 15 rfl rfl)
theorem dX7_tellGains_112 : decode cX7_tellGains 112 = .ok (.iadd, 1) := dk_96 (dk_at dksX7_tellGains_4 16 rfl rfl)
theorem dX7_tellGains_113 : decode cX7_tellGains 113 = .ok (.aload_n 0, 1) := dk_42 (dk_at dksX7_tellGains_4 17 rfl rfl)
theorem dX7_tellGains_114 : decode cX7_tellGains 114 = .ok (.getfield 75, 3) := dk_180 0 75 (dk_at dksX7_tellGains_4 18 rfl rfl)
theorem dX7_tellGains_117 : decode cX7_tellGains 117 = .ok (.aload_n 0, 1) := dk_42 (dk_at dksX7_tellGains_4 21 rfl rfl)
theorem dX7_tellGains_118 : decode cX7_tellGains 118 = .ok (.getfield 77, 3) := dk_180 0 77 (dk_at dksX7_tellGains_5 0 rfl rfl)
theorem dX7_tellGains_121 : decode cX7_tellGains 121 = .ok (.iload_n 2, 1) := dk_28 (dk_at dksX7_tellGains_5 3 rfl rfl)
theorem dX7_tellGains_122 : decode cX7_tellGains 122 = .ok (.iaload, 1) := dk_46 (dk_at dksX7_tellGains_5 4 rfl rfl)
theorem dX7_tellGains_123 : decode cX7_tellGains 123 = .ok (.iaload, 1) := dk_46 (dk_at dksX7_tellGains_5 5 rfl rfl)
theorem dX7_tellGains_124 : decode cX7_tellGains 124 = .ok (.bipush 10, 2) := dk_16 10 (dk_at dksX7_tellGains_5 6 rfl rfl)
theorem dX7_tellGains_126 : decode cX7_tellGains 126 = .ok (.aload_n 0, 1) := dk_42 (dk_at dksX7_tellGains_5 8 rfl rfl)
theorem dX7_tellGains_127 : decode cX7_tellGains 127 = .ok (.getfield 393, 3) := dk_180 1 137 (dk_at dksX7_tellGains_5 9 rfl rfl)
theorem dX7_tellGains_130 : decode cX7_tellGains 130 = .ok (.invokestatic 396, 3) := dk_184 1 140 (dk_at dksX7_tellGains_5 12 rfl rfl)
theorem dX7_tellGains_133 : decode cX7_tellGains 133 = .ok (.imul, 1) := dk_104 (dk_at dksX7_tellGains_5 15 rfl rfl)
theorem dX7_tellGains_134 : decode cX7_tellGains 134 = .ok (.isub, 1) := dk_100 (dk_at dksX7_tellGains_5 16 rfl rfl)
theorem dX7_tellGains_135 : decode cX7_tellGains 135 = .ok (.iconst 2, 1) := dk_5 (dk_at dksX7_tellGains_5 17 rfl rfl)
theorem dX7_tellGains_136 : decode cX7_tellGains 136 = .ok (.iload_n 3, 1) := dk_29 (dk_at dksX7_tellGains_5 18 rfl rfl)
theorem dX7_tellGains_137 : decode cX7_tellGains 137 = .ok (.iconst 2, 1) := dk_5 (dk_at dksX7_tellGains_5 19 rfl rfl)
theorem dX7_tellGains_138 : decode cX7_tellGains 138 = .ok (.irem, 1) := dk_112 (dk_at dksX7_tellGains_5 20 rfl rfl)
theorem dX7_tellGains_139 : decode cX7_tellGains 139 = .ok (.imul, 1) := dk_104 (dk_at dksX7_tellGains_5 21 rfl rfl)
theorem dX7_tellGains_140 : decode cX7_tellGains 140 = .ok (.isub, 1) := dk_100 (dk_at dksX7_tellGains_5 22 rfl rfl)
theorem dX7_tellGains_141 : decode cX7_tellGains 141 = .ok (.iastore, 1) := dk_79 (dk_at dksX7_tellGains_5 23 rfl rfl)
theorem dX7_tellGains_142 : decode cX7_tellGains 142 = .ok (.aload_n 0, 1) := dk_42 (dk_at dksX7_tellGains_6 0 rfl rfl)
theorem dX7_tellGains_143 : decode cX7_tellGains 143 = .ok (.aload_n 0, 1) := dk_42 (dk_at dksX7_tellGains_6 1 rfl rfl)
theorem dX7_tellGains_144 : decode cX7_tellGains 144 = .ok (.getfield 92, 3) := dk_180 0 92 (dk_at dksX7_tellGains_6 2 rfl rfl)
theorem dX7_tellGains_147 : decode cX7_tellGains 147 = .ok (.iconst 0, 1) := dk_3 (dk_at dksX7_tellGains_6 5 rfl rfl)
theorem dX7_tellGains_148 : decode cX7_tellGains 148 = .ok (.invokevirtual 440, 3) := dk_182 1 184 (dk_at dksX7_tellGains_6 6 rfl rfl)
theorem dX7_tellGains_151 : decode cX7_tellGains 151 = .ok (.iinc 3 1, 3) := dk_132 3 1 (dk_at dksX7_tellGains_6 9 rfl rfl)
theorem dX7_tellGains_154 : decode cX7_tellGains 154 = .ok (.goto (-143), 3) := dk_167 255 113 (dk_at dksX7_tellGains_6 12 rfl rfl)
theorem dX7_tellGains_157 : decode cX7_tellGains 157 = .ok (.return_, 1) := dk_177 (dk_at dksX7_tellGains_6 15 rfl rfl)
abbrev cX7_skies : ByteArray := prog_18_method_109_code
def yX7_skies : MethodName := ⟨RX7, "skies", "(III)I"⟩
def dkwX7_skies_5 : List UInt8 := [54, 5, 42, 42, 180, 0, 92, 3, 182, 1, 184, 21, 5, 172]
abbrev dktX7_skies_5 : List UInt8 := dkwX7_skies_5 ++ []
def dkwX7_skies_4 : List UInt8 := [154, 0, 8, 21, 4, 167, 0, 19, 29, 4, 160, 0, 10, 42, 182, 1, 149, 167, 0, 7, 42, 180, 0, 147]
abbrev dktX7_skies_4 : List UInt8 := dkwX7_skies_4 ++ dktX7_skies_5
def dkwX7_skies_3 : List UInt8 := [42, 182, 1, 146, 21, 4, 42, 180, 1, 137, 184, 1, 140, 96, 54, 4, 132, 5, 1, 167, 255, 227, 29]
abbrev dktX7_skies_3 : List UInt8 := dkwX7_skies_3 ++ dktX7_skies_4
def dkwX7_skies_2 : List UInt8 := [182, 1, 164, 42, 27, 181, 1, 234, 3, 54, 4, 3, 54, 5, 21, 5, 28, 162, 0, 29, 42, 182, 1, 241]
abbrev dktX7_skies_2 : List UInt8 := dkwX7_skies_2 ++ dktX7_skies_3
def dkwX7_skies_1 : List UInt8 := [133, 9, 20, 1, 187, 184, 0, 157, 154, 0, 9, 42, 5, 182, 1, 62, 172, 42, 42, 180, 0, 92, 3]
abbrev dktX7_skies_1 : List UInt8 := dkwX7_skies_1 ++ dktX7_skies_2
def dkwX7_skies_0 : List UInt8 := [42, 3, 181, 0, 150, 29, 133, 9, 20, 1, 223, 184, 0, 157, 154, 0, 9, 42, 4, 182, 1, 62, 172, 28]
abbrev dktX7_skies_0 : List UInt8 := dkwX7_skies_0 ++ dktX7_skies_1
theorem dksX7_skies_0 : cX7_skies.data.toList.drop 0 = dktX7_skies_0 := by decide +kernel
theorem dksX7_skies_1 : cX7_skies.data.toList.drop 24 = dktX7_skies_1 := dk_seg dksX7_skies_0 24 rfl rfl
theorem dksX7_skies_2 : cX7_skies.data.toList.drop 47 = dktX7_skies_2 := dk_seg dksX7_skies_1 23 rfl rfl
theorem dksX7_skies_3 : cX7_skies.data.toList.drop 71 = dktX7_skies_3 := dk_seg dksX7_skies_2 24 rfl rfl
theorem dksX7_skies_4 : cX7_skies.data.toList.drop 94 = dktX7_skies_4 := dk_seg dksX7_skies_3 23 rfl rfl
theorem dksX7_skies_5 : cX7_skies.data.toList.drop 118 = dktX7_skies_5 := dk_seg dksX7_skies_4 24 rfl rfl
theorem dX7_skies_0 : decode cX7_skies 0 = .ok (.aload_n 0, 1) := dk_42 (dk_at dksX7_skies_0 0 rfl rfl)
theorem dX7_skies_1 : decode cX7_skies 1 = .ok (.iconst 0, 1) := dk_3 (dk_at dksX7_skies_0 1 rfl rfl)
theorem dX7_skies_2 : decode cX7_skies 2 = .ok (.putfield 150, 3) := dk_181 0 150 (dk_at dksX7_skies_0 2 rfl rfl)
theorem dX7_skies_5 : decode cX7_skies 5 = .ok (.iload_n 3, 1) := dk_29 (dk_at dksX7_skies_0 5 rfl rfl)
theorem dX7_skies_6 : decode cX7_skies 6 = .ok (.i2l, 1) := dk_133 (dk_at dksX7_skies_0 6 rfl rfl)
theorem dX7_skies_7 : decode cX7_skies 7 = .ok (.lconst 0, 1) := dk_9 (dk_at dksX7_skies_0 7 rfl rfl)
theorem dX7_skies_8 : decode cX7_skies 8 = .ok (.ldc2_w 479, 3) := dk_20 1 223 (dk_at dksX7_skies_0 8 rfl rfl)
theorem dX7_skies_11 : decode cX7_skies 11 = .ok (.invokestatic 157, 3) := dk_184 0 157 (dk_at dksX7_skies_0 11 rfl rfl)
theorem dX7_skies_14 : decode cX7_skies 14 = .ok (.ifCond .ne 9, 3) := dk_154 0 9 (dk_at dksX7_skies_0 14 rfl rfl)
theorem dX7_skies_17 : decode cX7_skies 17 = .ok (.aload_n 0, 1) := dk_42 (dk_at dksX7_skies_0 17 rfl rfl)
theorem dX7_skies_18 : decode cX7_skies 18 = .ok (.iconst 1, 1) := dk_4 (dk_at dksX7_skies_0 18 rfl rfl)
theorem dX7_skies_19 : decode cX7_skies 19 = .ok (.invokevirtual 318, 3) := dk_182 1 62 (dk_at dksX7_skies_0 19 rfl rfl)
theorem dX7_skies_22 : decode cX7_skies 22 = .ok (.ireturn, 1) := dk_172 (dk_at dksX7_skies_0 22 rfl rfl)
theorem dX7_skies_23 : decode cX7_skies 23 = .ok (.iload_n 2, 1) := dk_28 (dk_at dksX7_skies_0 23 rfl rfl)
theorem dX7_skies_24 : decode cX7_skies 24 = .ok (.i2l, 1) := dk_133 (dk_at dksX7_skies_1 0 rfl rfl)
theorem dX7_skies_25 : decode cX7_skies 25 = .ok (.lconst 0, 1) := dk_9 (dk_at dksX7_skies_1 1 rfl rfl)
theorem dX7_skies_26 : decode cX7_skies 26 = .ok (.ldc2_w 443, 3) := dk_20 1 187 (dk_at dksX7_skies_1 2 rfl rfl)
theorem dX7_skies_29 : decode cX7_skies 29 = .ok (.invokestatic 157, 3) := dk_184 0 157 (dk_at dksX7_skies_1 5 rfl rfl)
theorem dX7_skies_32 : decode cX7_skies 32 = .ok (.ifCond .ne 9, 3) := dk_154 0 9 (dk_at dksX7_skies_1 8 rfl rfl)
theorem dX7_skies_35 : decode cX7_skies 35 = .ok (.aload_n 0, 1) := dk_42 (dk_at dksX7_skies_1 11 rfl rfl)
theorem dX7_skies_36 : decode cX7_skies 36 = .ok (.iconst 2, 1) := dk_5 (dk_at dksX7_skies_1 12 rfl rfl)
theorem dX7_skies_37 : decode cX7_skies 37 = .ok (.invokevirtual 318, 3) := dk_182 1 62 (dk_at dksX7_skies_1 13 rfl rfl)
theorem dX7_skies_40 : decode cX7_skies 40 = .ok (.ireturn, 1) := dk_172 (dk_at dksX7_skies_1 16 rfl rfl)
theorem dX7_skies_41 : decode cX7_skies 41 = .ok (.aload_n 0, 1) := dk_42 (dk_at dksX7_skies_1 17 rfl rfl)
theorem dX7_skies_42 : decode cX7_skies 42 = .ok (.aload_n 0, 1) := dk_42 (dk_at dksX7_skies_1 18 rfl rfl)
theorem dX7_skies_43 : decode cX7_skies 43 = .ok (.getfield 92, 3) := dk_180 0 92 (dk_at dksX7_skies_1 19 rfl rfl)
theorem dX7_skies_46 : decode cX7_skies 46 = .ok (.iconst 0, 1) := dk_3 (dk_at dksX7_skies_1 22 rfl rfl)
theorem dX7_skies_47 : decode cX7_skies 47 = .ok (.invokevirtual 420, 3) := dk_182 1 164 (dk_at dksX7_skies_2 0 rfl rfl)
theorem dX7_skies_50 : decode cX7_skies 50 = .ok (.aload_n 0, 1) := dk_42 (dk_at dksX7_skies_2 3 rfl rfl)
theorem dX7_skies_51 : decode cX7_skies 51 = .ok (.iload_n 1, 1) := dk_27 (dk_at dksX7_skies_2 4 rfl rfl)
theorem dX7_skies_52 : decode cX7_skies 52 = .ok (.putfield 490, 3) := dk_181 1 234 (dk_at dksX7_skies_2 5 rfl rfl)
theorem dX7_skies_55 : decode cX7_skies 55 = .ok (.iconst 0, 1) := dk_3 (dk_at dksX7_skies_2 8 rfl rfl)
theorem dX7_skies_56 : decode cX7_skies 56 = .ok (.istore 4, 2) := dk_54 4 (dk_at dksX7_skies_2 9 rfl rfl)
theorem dX7_skies_58 : decode cX7_skies 58 = .ok (.iconst 0, 1) := dk_3 (dk_at dksX7_skies_2 11 rfl rfl)
theorem dX7_skies_59 : decode cX7_skies 59 = .ok (.istore 5, 2) := dk_54 5 (dk_at dksX7_skies_2 12 rfl rfl)
theorem dX7_skies_61 : decode cX7_skies 61 = .ok (.iload 5, 2) := dk_21 5 (dk_at dksX7_skies_2 14 rfl rfl)
theorem dX7_skies_63 : decode cX7_skies 63 = .ok (.iload_n 2, 1) := dk_28 (dk_at dksX7_skies_2 16 rfl rfl)
theorem dX7_skies_64 : decode cX7_skies 64 = .ok (.if_icmp .ge 29, 3) := dk_162 0 29 (dk_at dksX7_skies_2 17 rfl rfl)
theorem dX7_skies_67 : decode cX7_skies 67 = .ok (.aload_n 0, 1) := dk_42 (dk_at dksX7_skies_2 20 rfl rfl)
theorem dX7_skies_68 : decode cX7_skies 68 = .ok (.invokevirtual 497, 3) := dk_182 1 241 (dk_at dksX7_skies_2 21 rfl rfl)
theorem dX7_skies_71 : decode cX7_skies 71 = .ok (.aload_n 0, 1) := dk_42 (dk_at dksX7_skies_3 0 rfl rfl)
theorem dX7_skies_72 : decode cX7_skies 72 = .ok (.invokevirtual 402, 3) := dk_182 1 146 (dk_at dksX7_skies_3 1 rfl rfl)
theorem dX7_skies_75 : decode cX7_skies 75 = .ok (.iload 4, 2) := dk_21 4 (dk_at dksX7_skies_3 4 rfl rfl)
theorem dX7_skies_77 : decode cX7_skies 77 = .ok (.aload_n 0, 1) := dk_42 (dk_at dksX7_skies_3 6 rfl rfl)
theorem dX7_skies_78 : decode cX7_skies 78 = .ok (.getfield 393, 3) := dk_180 1 137 (dk_at dksX7_skies_3 7 rfl rfl)
theorem dX7_skies_81 : decode cX7_skies 81 = .ok (.invokestatic 396, 3) := dk_184 1 140 (dk_at dksX7_skies_3 10 rfl rfl)
theorem dX7_skies_84 : decode cX7_skies 84 = .ok (.iadd, 1) := dk_96 (dk_at dksX7_skies_3 13 rfl rfl)
theorem dX7_skies_85 : decode cX7_skies 85 = .ok (.istore 4, 2) := dk_54 4 (dk_at dksX7_skies_3 14 rfl rfl)
theorem dX7_skies_87 : decode cX7_skies 87 = .ok (.iinc 5 1, 3) := dk_132 5 1 (dk_at dksX7_skies_3 16 rfl rfl)
theorem dX7_skies_90 : decode cX7_skies 90 = .ok (.goto (-29), 3) := dk_167 255 227 (dk_at dksX7_skies_3 19 rfl rfl)
theorem dX7_skies_93 : decode cX7_skies 93 = .ok (.iload_n 3, 1) := dk_29 (dk_at dksX7_skies_3 22 rfl rfl)
theorem dX7_skies_94 : decode cX7_skies 94 = .ok (.ifCond .ne 8, 3) := dk_154 0 8 (dk_at dksX7_skies_4 0 rfl rfl)
theorem dX7_skies_97 : decode cX7_skies 97 = .ok (.iload 4, 2) := dk_21 4 (dk_at dksX7_skies_4 3 rfl rfl)
theorem dX7_skies_99 : decode cX7_skies 99 = .ok (.goto 19, 3) := dk_167 0 19 (dk_at dksX7_skies_4 5 rfl rfl)
theorem dX7_skies_102 : decode cX7_skies 102 = .ok (.iload_n 3, 1) := dk_29 (dk_at dksX7_skies_4 8 rfl rfl)
theorem dX7_skies_103 : decode cX7_skies 103 = .ok (.iconst 1, 1) := dk_4 (dk_at dksX7_skies_4 9 rfl rfl)
theorem dX7_skies_104 : decode cX7_skies 104 = .ok (.if_icmp .ne 10, 3) := dk_160 0 10 (dk_at dksX7_skies_4 10 rfl rfl)
theorem dX7_skies_107 : decode cX7_skies 107 = .ok (.aload_n 0, 1) := dk_42 (dk_at dksX7_skies_4 13 rfl rfl)
theorem dX7_skies_108 : decode cX7_skies 108 = .ok (.invokevirtual 405, 3) := dk_182 1 149 (dk_at dksX7_skies_4 14 rfl rfl)
theorem dX7_skies_111 : decode cX7_skies 111 = .ok (.goto 7, 3) := dk_167 0 7 (dk_at dksX7_skies_4 17 rfl rfl)
theorem dX7_skies_114 : decode cX7_skies 114 = .ok (.aload_n 0, 1) := dk_42 (dk_at dksX7_skies_4 20 rfl rfl)
theorem dX7_skies_115 : decode cX7_skies 115 = .ok (.getfield 147, 3) := dk_180 0 147 (dk_at dksX7_skies_4 21 rfl rfl)
theorem dX7_skies_118 : decode cX7_skies 118 = .ok (.istore 5, 2) := dk_54 5 (dk_at dksX7_skies_5 0 rfl rfl)
theorem dX7_skies_120 : decode cX7_skies 120 = .ok (.aload_n 0, 1) := dk_42 (dk_at dksX7_skies_5 2 rfl rfl)
theorem dX7_skies_121 : decode cX7_skies 121 = .ok (.aload_n 0, 1) := dk_42 (dk_at dksX7_skies_5 3 rfl rfl)
theorem dX7_skies_122 : decode cX7_skies 122 = .ok (.getfield 92, 3) := dk_180 0 92 (dk_at dksX7_skies_5 4 rfl rfl)
theorem dX7_skies_125 : decode cX7_skies 125 = .ok (.iconst 0, 1) := dk_3 (dk_at dksX7_skies_5 7 rfl rfl)
theorem dX7_skies_126 : decode cX7_skies 126 = .ok (.invokevirtual 440, 3) := dk_182 1 184 (dk_at dksX7_skies_5 8 rfl rfl)
theorem dX7_skies_129 : decode cX7_skies 129 = .ok (.iload 5, 2) := dk_21 5 (dk_at dksX7_skies_5 11 rfl rfl)
theorem dX7_skies_131 : decode cX7_skies 131 = .ok (.ireturn, 1) := dk_172 (dk_at dksX7_skies_5 13 rfl rfl)
abbrev cX7_something : ByteArray := prog_18_method_108_code
def yX7_something : MethodName := ⟨RX7, "something", "()V"⟩
def dkwX7_something_3 : List UInt8 := [180, 0, 147, 8, 96, 184, 0, 191, 181, 0, 147, 177]
abbrev dktX7_something_3 : List UInt8 := dkwX7_something_3 ++ []
def dkwX7_something_2 : List UInt8 := [61, 42, 180, 0, 77, 28, 42, 42, 182, 0, 153, 182, 1, 238, 79, 27, 5, 160, 0, 18, 42, 16, 99, 42]
abbrev dktX7_something_2 : List UInt8 := dkwX7_something_2 ++ dktX7_something_3
def dkwX7_something_1 : List UInt8 := [27, 4, 160, 0, 37, 42, 180, 0, 40, 5, 46, 158, 0, 28, 42, 42, 180, 0, 40, 5, 46, 182, 1, 238]
abbrev dktX7_something_1 : List UInt8 := dkwX7_something_1 ++ dktX7_something_2
def dkwX7_something_0 : List UInt8 := [42, 8, 182, 1, 238, 60, 27, 154, 0, 17, 42, 42, 42, 182, 0, 153, 182, 1, 238, 16, 20, 182, 1, 130]
abbrev dktX7_something_0 : List UInt8 := dkwX7_something_0 ++ dktX7_something_1
theorem dksX7_something_0 : cX7_something.data.toList.drop 0 = dktX7_something_0 := by decide +kernel
theorem dksX7_something_1 : cX7_something.data.toList.drop 24 = dktX7_something_1 := dk_seg dksX7_something_0 24 rfl rfl
theorem dksX7_something_2 : cX7_something.data.toList.drop 48 = dktX7_something_2 := dk_seg dksX7_something_1 24 rfl rfl
theorem dksX7_something_3 : cX7_something.data.toList.drop 72 = dktX7_something_3 := dk_seg dksX7_something_2 24 rfl rfl
theorem dX7_something_0 : decode cX7_something 0 = .ok (.aload_n 0, 1) := dk_42 (dk_at dksX7_something_0 0 rfl rfl)
theorem dX7_something_1 : decode cX7_something 1 = .ok (.iconst 5, 1) := dk_8 (dk_at dksX7_something_0 1 rfl rfl)
theorem dX7_something_2 : decode cX7_something 2 = .ok (.invokevirtual 494, 3) := dk_182 1 238 (dk_at dksX7_something_0 2 rfl rfl)
theorem dX7_something_5 : decode cX7_something 5 = .ok (.istore_n 1, 1) := dk_60 (dk_at dksX7_something_0 5 rfl rfl)
theorem dX7_something_6 : decode cX7_something 6 = .ok (.iload_n 1, 1) := dk_27 (dk_at dksX7_something_0 6 rfl rfl)
theorem dX7_something_7 : decode cX7_something 7 = .ok (.ifCond .ne 17, 3) := dk_154 0 17 (dk_at dksX7_something_0 7 rfl rfl)
theorem dX7_something_10 : decode cX7_something 10 = .ok (.aload_n 0, 1) := dk_42 (dk_at dksX7_something_0 10 rfl rfl)
theorem dX7_something_11 : decode cX7_something 11 = .ok (.aload_n 0, 1) := dk_42 (dk_at dksX7_something_0 11 rfl rfl)
theorem dX7_something_12 : decode cX7_something 12 = .ok (.aload_n 0, 1) := dk_42 (dk_at dksX7_something_0 12 rfl rfl)
theorem dX7_something_13 : decode cX7_something 13 = .ok (.invokevirtual 153, 3) := dk_182 0 153 (dk_at dksX7_something_0 13 rfl rfl)
theorem dX7_something_16 : decode cX7_something 16 = .ok (.invokevirtual 494, 3) := dk_182 1 238 (dk_at dksX7_something_0 16 rfl rfl)
theorem dX7_something_19 : decode cX7_something 19 = .ok (.bipush 20, 2) := dk_16 20 (dk_at dksX7_something_0 19 rfl rfl)
theorem dX7_something_21 : decode cX7_something 21 = .ok (.invokevirtual 386, 3) := dk_182 1 130 (dk_at dksX7_something_0 21 rfl rfl)
theorem dX7_something_24 : decode cX7_something 24 = .ok (.iload_n 1, 1) := dk_27 (dk_at dksX7_something_1 0 rfl rfl)
theorem dX7_something_25 : decode cX7_something 25 = .ok (.iconst 1, 1) := dk_4 (dk_at dksX7_something_1 1 rfl rfl)
theorem dX7_something_26 : decode cX7_something 26 = .ok (.if_icmp .ne 37, 3) := dk_160 0 37 (dk_at dksX7_something_1 2 rfl rfl)
theorem dX7_something_29 : decode cX7_something 29 = .ok (.aload_n 0, 1) := dk_42 (dk_at dksX7_something_1 5 rfl rfl)
theorem dX7_something_30 : decode cX7_something 30 = .ok (.getfield 40, 3) := dk_180 0 40 (dk_at dksX7_something_1 6 rfl rfl)
theorem dX7_something_33 : decode cX7_something 33 = .ok (.iconst 2, 1) := dk_5 (dk_at dksX7_something_1 9 rfl rfl)
theorem dX7_something_34 : decode cX7_something 34 = .ok (.iaload, 1) := dk_46 (dk_at dksX7_something_1 10 rfl rfl)
theorem dX7_something_35 : decode cX7_something 35 = .ok (.ifCond .le 28, 3) := dk_158 0 28 (dk_at dksX7_something_1 11 rfl rfl)
theorem dX7_something_38 : decode cX7_something 38 = .ok (.aload_n 0, 1) := dk_42 (dk_at dksX7_something_1 14 rfl rfl)
theorem dX7_something_39 : decode cX7_something 39 = .ok (.aload_n 0, 1) := dk_42 (dk_at dksX7_something_1 15 rfl rfl)
theorem dX7_something_40 : decode cX7_something 40 = .ok (.getfield 40, 3) := dk_180 0 40 (dk_at dksX7_something_1 16 rfl rfl)
theorem dX7_something_43 : decode cX7_something 43 = .ok (.iconst 2, 1) := dk_5 (dk_at dksX7_something_1 19 rfl rfl)
theorem dX7_something_44 : decode cX7_something 44 = .ok (.iaload, 1) := dk_46 (dk_at dksX7_something_1 20 rfl rfl)
theorem dX7_something_45 : decode cX7_something 45 = .ok (.invokevirtual 494, 3) := dk_182 1 238 (dk_at dksX7_something_1 21 rfl rfl)
theorem dX7_something_48 : decode cX7_something 48 = .ok (.istore_n 2, 1) := dk_61 (dk_at dksX7_something_2 0 rfl rfl)
theorem dX7_something_49 : decode cX7_something 49 = .ok (.aload_n 0, 1) := dk_42 (dk_at dksX7_something_2 1 rfl rfl)
theorem dX7_something_50 : decode cX7_something 50 = .ok (.getfield 77, 3) := dk_180 0 77 (dk_at dksX7_something_2 2 rfl rfl)
theorem dX7_something_53 : decode cX7_something 53 = .ok (.iload_n 2, 1) := dk_28 (dk_at dksX7_something_2 5 rfl rfl)
theorem dX7_something_54 : decode cX7_something 54 = .ok (.aload_n 0, 1) := dk_42 (dk_at dksX7_something_2 6 rfl rfl)
theorem dX7_something_55 : decode cX7_something 55 = .ok (.aload_n 0, 1) := dk_42 (dk_at dksX7_something_2 7 rfl rfl)
theorem dX7_something_56 : decode cX7_something 56 = .ok (.invokevirtual 153, 3) := dk_182 0 153 (dk_at dksX7_something_2 8 rfl rfl)
theorem dX7_something_59 : decode cX7_something 59 = .ok (.invokevirtual 494, 3) := dk_182 1 238 (dk_at dksX7_something_2 11 rfl rfl)
theorem dX7_something_62 : decode cX7_something 62 = .ok (.iastore, 1) := dk_79 (dk_at dksX7_something_2 14 rfl rfl)
theorem dX7_something_63 : decode cX7_something 63 = .ok (.iload_n 1, 1) := dk_27 (dk_at dksX7_something_2 15 rfl rfl)
theorem dX7_something_64 : decode cX7_something 64 = .ok (.iconst 2, 1) := dk_5 (dk_at dksX7_something_2 16 rfl rfl)
theorem dX7_something_65 : decode cX7_something 65 = .ok (.if_icmp .ne 18, 3) := dk_160 0 18 (dk_at dksX7_something_2 17 rfl rfl)
theorem dX7_something_68 : decode cX7_something 68 = .ok (.aload_n 0, 1) := dk_42 (dk_at dksX7_something_2 20 rfl rfl)
theorem dX7_something_69 : decode cX7_something 69 = .ok (.bipush 99, 2) := dk_16 99 (dk_at dksX7_something_2 21 rfl rfl)
theorem dX7_something_71 : decode cX7_something 71 = .ok (.aload_n 0, 1) := dk_42 (dk_at dksX7_something_2 23 rfl rfl)
theorem dX7_something_72 : decode cX7_something 72 = .ok (.getfield 147, 3) := dk_180 0 147 (dk_at dksX7_something_3 0 rfl rfl)
theorem dX7_something_75 : decode cX7_something 75 = .ok (.iconst 5, 1) := dk_8 (dk_at dksX7_something_3 3 rfl rfl)
theorem dX7_something_76 : decode cX7_something 76 = .ok (.iadd, 1) := dk_96 (dk_at dksX7_something_3 4 rfl rfl)
theorem dX7_something_77 : decode cX7_something 77 = .ok (.invokestatic 191, 3) := dk_184 0 191 (dk_at dksX7_something_3 5 rfl rfl)
theorem dX7_something_80 : decode cX7_something 80 = .ok (.putfield 147, 3) := dk_181 0 147 (dk_at dksX7_something_3 8 rfl rfl)
theorem dX7_something_83 : decode cX7_something 83 = .ok (.return_, 1) := dk_177 (dk_at dksX7_something_3 11 rfl rfl)
abbrev cX7_drawOf : ByteArray := prog_18_method_107_code
def yX7_drawOf : MethodName := ⟨RX7, "drawOf", "(I)I"⟩
def dkwX7_drawOf_1 : List UInt8 := [17, 127, 255, 126, 27, 112, 172]
abbrev dktX7_drawOf_1 : List UInt8 := dkwX7_drawOf_1 ++ []
def dkwX7_drawOf_0 : List UInt8 := [42, 42, 180, 1, 234, 19, 1, 237, 104, 17, 48, 57, 96, 181, 1, 234, 42, 180, 1, 234, 16, 16, 122]
abbrev dktX7_drawOf_0 : List UInt8 := dkwX7_drawOf_0 ++ dktX7_drawOf_1
theorem dksX7_drawOf_0 : cX7_drawOf.data.toList.drop 0 = dktX7_drawOf_0 := by decide +kernel
theorem dksX7_drawOf_1 : cX7_drawOf.data.toList.drop 23 = dktX7_drawOf_1 := dk_seg dksX7_drawOf_0 23 rfl rfl
theorem dX7_drawOf_0 : decode cX7_drawOf 0 = .ok (.aload_n 0, 1) := dk_42 (dk_at dksX7_drawOf_0 0 rfl rfl)
theorem dX7_drawOf_1 : decode cX7_drawOf 1 = .ok (.aload_n 0, 1) := dk_42 (dk_at dksX7_drawOf_0 1 rfl rfl)
theorem dX7_drawOf_2 : decode cX7_drawOf 2 = .ok (.getfield 490, 3) := dk_180 1 234 (dk_at dksX7_drawOf_0 2 rfl rfl)
theorem dX7_drawOf_5 : decode cX7_drawOf 5 = .ok (.ldc_w 493, 3) := dk_19 1 237 (dk_at dksX7_drawOf_0 5 rfl rfl)
theorem dX7_drawOf_8 : decode cX7_drawOf 8 = .ok (.imul, 1) := dk_104 (dk_at dksX7_drawOf_0 8 rfl rfl)
theorem dX7_drawOf_9 : decode cX7_drawOf 9 = .ok (.sipush 12345, 3) := dk_17 48 57 (dk_at dksX7_drawOf_0 9 rfl rfl)
theorem dX7_drawOf_12 : decode cX7_drawOf 12 = .ok (.iadd, 1) := dk_96 (dk_at dksX7_drawOf_0 12 rfl rfl)
theorem dX7_drawOf_13 : decode cX7_drawOf 13 = .ok (.putfield 490, 3) := dk_181 1 234 (dk_at dksX7_drawOf_0 13 rfl rfl)
theorem dX7_drawOf_16 : decode cX7_drawOf 16 = .ok (.aload_n 0, 1) := dk_42 (dk_at dksX7_drawOf_0 16 rfl rfl)
theorem dX7_drawOf_17 : decode cX7_drawOf 17 = .ok (.getfield 490, 3) := dk_180 1 234 (dk_at dksX7_drawOf_0 17 rfl rfl)
theorem dX7_drawOf_20 : decode cX7_drawOf 20 = .ok (.bipush 16, 2) := dk_16 16 (dk_at dksX7_drawOf_0 20 rfl rfl)
theorem dX7_drawOf_22 : decode cX7_drawOf 22 = .ok (.ishr, 1) := dk_122 (dk_at dksX7_drawOf_0 22 rfl rfl)
theorem dX7_drawOf_23 : decode cX7_drawOf 23 = .ok (.sipush 32767, 3) := dk_17 127 255 (dk_at dksX7_drawOf_1 0 rfl rfl)
theorem dX7_drawOf_26 : decode cX7_drawOf 26 = .ok (.iand, 1) := dk_126 (dk_at dksX7_drawOf_1 3 rfl rfl)
theorem dX7_drawOf_27 : decode cX7_drawOf 27 = .ok (.iload_n 1, 1) := dk_27 (dk_at dksX7_drawOf_1 4 rfl rfl)
theorem dX7_drawOf_28 : decode cX7_drawOf 28 = .ok (.irem, 1) := dk_112 (dk_at dksX7_drawOf_1 5 rfl rfl)
theorem dX7_drawOf_29 : decode cX7_drawOf 29 = .ok (.ireturn, 1) := dk_172 (dk_at dksX7_drawOf_1 6 rfl rfl)
abbrev cX7_image : ByteArray := prog_18_method_111_code
def yX7_image : MethodName := ⟨RX7, "image", "()V"⟩
def dkwX7_image_3 : List UInt8 := [180, 0, 137, 42, 180, 0, 110, 184, 1, 198, 42, 180, 0, 140, 42, 180, 0, 62, 184, 1, 198, 177]
abbrev dktX7_image_3 : List UInt8 := dkwX7_image_3 ++ []
def dkwX7_image_2 : List UInt8 := [180, 0, 131, 42, 180, 0, 104, 184, 1, 198, 42, 180, 0, 134, 42, 180, 0, 107, 184, 1, 198, 42]
abbrev dktX7_image_2 : List UInt8 := dkwX7_image_2 ++ dktX7_image_3
def dkwX7_image_1 : List UInt8 := [181, 1, 247, 42, 42, 180, 0, 125, 3, 182, 1, 164, 42, 180, 0, 128, 42, 180, 0, 80, 184, 1, 198, 42]
abbrev dktX7_image_1 : List UInt8 := dkwX7_image_1 ++ dktX7_image_2
def dkwX7_image_0 : List UInt8 := [42, 3, 181, 0, 150, 42, 4, 181, 1, 92, 42, 42, 180, 1, 86, 181, 1, 244, 42, 42, 180, 1, 89]
abbrev dktX7_image_0 : List UInt8 := dkwX7_image_0 ++ dktX7_image_1
theorem dksX7_image_0 : cX7_image.data.toList.drop 0 = dktX7_image_0 := by decide +kernel
theorem dksX7_image_1 : cX7_image.data.toList.drop 23 = dktX7_image_1 := dk_seg dksX7_image_0 23 rfl rfl
theorem dksX7_image_2 : cX7_image.data.toList.drop 47 = dktX7_image_2 := dk_seg dksX7_image_1 24 rfl rfl
theorem dksX7_image_3 : cX7_image.data.toList.drop 69 = dktX7_image_3 := dk_seg dksX7_image_2 22 rfl rfl
theorem dX7_image_0 : decode cX7_image 0 = .ok (.aload_n 0, 1) := dk_42 (dk_at dksX7_image_0 0 rfl rfl)
theorem dX7_image_1 : decode cX7_image 1 = .ok (.iconst 0, 1) := dk_3 (dk_at dksX7_image_0 1 rfl rfl)
theorem dX7_image_2 : decode cX7_image 2 = .ok (.putfield 150, 3) := dk_181 0 150 (dk_at dksX7_image_0 2 rfl rfl)
theorem dX7_image_5 : decode cX7_image 5 = .ok (.aload_n 0, 1) := dk_42 (dk_at dksX7_image_0 5 rfl rfl)
theorem dX7_image_6 : decode cX7_image 6 = .ok (.iconst 1, 1) := dk_4 (dk_at dksX7_image_0 6 rfl rfl)
theorem dX7_image_7 : decode cX7_image 7 = .ok (.putfield 348, 3) := dk_181 1 92 (dk_at dksX7_image_0 7 rfl rfl)
theorem dX7_image_10 : decode cX7_image 10 = .ok (.aload_n 0, 1) := dk_42 (dk_at dksX7_image_0 10 rfl rfl)
theorem dX7_image_11 : decode cX7_image 11 = .ok (.aload_n 0, 1) := dk_42 (dk_at dksX7_image_0 11 rfl rfl)
theorem dX7_image_12 : decode cX7_image 12 = .ok (.getfield 342, 3) := dk_180 1 86 (dk_at dksX7_image_0 12 rfl rfl)
theorem dX7_image_15 : decode cX7_image 15 = .ok (.putfield 500, 3) := dk_181 1 244 (dk_at dksX7_image_0 15 rfl rfl)
theorem dX7_image_18 : decode cX7_image 18 = .ok (.aload_n 0, 1) := dk_42 (dk_at dksX7_image_0 18 rfl rfl)
theorem dX7_image_19 : decode cX7_image 19 = .ok (.aload_n 0, 1) := dk_42 (dk_at dksX7_image_0 19 rfl rfl)
theorem dX7_image_20 : decode cX7_image 20 = .ok (.getfield 345, 3) := dk_180 1 89 (dk_at dksX7_image_0 20 rfl rfl)
theorem dX7_image_23 : decode cX7_image 23 = .ok (.putfield 503, 3) := dk_181 1 247 (dk_at dksX7_image_1 0 rfl rfl)
theorem dX7_image_26 : decode cX7_image 26 = .ok (.aload_n 0, 1) := dk_42 (dk_at dksX7_image_1 3 rfl rfl)
theorem dX7_image_27 : decode cX7_image 27 = .ok (.aload_n 0, 1) := dk_42 (dk_at dksX7_image_1 4 rfl rfl)
theorem dX7_image_28 : decode cX7_image 28 = .ok (.getfield 125, 3) := dk_180 0 125 (dk_at dksX7_image_1 5 rfl rfl)
theorem dX7_image_31 : decode cX7_image 31 = .ok (.iconst 0, 1) := dk_3 (dk_at dksX7_image_1 8 rfl rfl)
theorem dX7_image_32 : decode cX7_image 32 = .ok (.invokevirtual 420, 3) := dk_182 1 164 (dk_at dksX7_image_1 9 rfl rfl)
theorem dX7_image_35 : decode cX7_image 35 = .ok (.aload_n 0, 1) := dk_42 (dk_at dksX7_image_1 12 rfl rfl)
theorem dX7_image_36 : decode cX7_image 36 = .ok (.getfield 128, 3) := dk_180 0 128 (dk_at dksX7_image_1 13 rfl rfl)
theorem dX7_image_39 : decode cX7_image 39 = .ok (.aload_n 0, 1) := dk_42 (dk_at dksX7_image_1 16 rfl rfl)
theorem dX7_image_40 : decode cX7_image 40 = .ok (.getfield 80, 3) := dk_180 0 80 (dk_at dksX7_image_1 17 rfl rfl)
theorem dX7_image_43 : decode cX7_image 43 = .ok (.invokestatic 454, 3) := dk_184 1 198 (dk_at dksX7_image_1 20 rfl rfl)
theorem dX7_image_46 : decode cX7_image 46 = .ok (.aload_n 0, 1) := dk_42 (dk_at dksX7_image_1 23 rfl rfl)
theorem dX7_image_47 : decode cX7_image 47 = .ok (.getfield 131, 3) := dk_180 0 131 (dk_at dksX7_image_2 0 rfl rfl)
theorem dX7_image_50 : decode cX7_image 50 = .ok (.aload_n 0, 1) := dk_42 (dk_at dksX7_image_2 3 rfl rfl)
theorem dX7_image_51 : decode cX7_image 51 = .ok (.getfield 104, 3) := dk_180 0 104 (dk_at dksX7_image_2 4 rfl rfl)
theorem dX7_image_54 : decode cX7_image 54 = .ok (.invokestatic 454, 3) := dk_184 1 198 (dk_at dksX7_image_2 7 rfl rfl)
theorem dX7_image_57 : decode cX7_image 57 = .ok (.aload_n 0, 1) := dk_42 (dk_at dksX7_image_2 10 rfl rfl)
theorem dX7_image_58 : decode cX7_image 58 = .ok (.getfield 134, 3) := dk_180 0 134 (dk_at dksX7_image_2 11 rfl rfl)
theorem dX7_image_61 : decode cX7_image 61 = .ok (.aload_n 0, 1) := dk_42 (dk_at dksX7_image_2 14 rfl rfl)
theorem dX7_image_62 : decode cX7_image 62 = .ok (.getfield 107, 3) := dk_180 0 107 (dk_at dksX7_image_2 15 rfl rfl)
theorem dX7_image_65 : decode cX7_image 65 = .ok (.invokestatic 454, 3) := dk_184 1 198 (dk_at dksX7_image_2 18 rfl rfl)
theorem dX7_image_68 : decode cX7_image 68 = .ok (.aload_n 0, 1) := dk_42 (dk_at dksX7_image_2 21 rfl rfl)
theorem dX7_image_69 : decode cX7_image 69 = .ok (.getfield 137, 3) := dk_180 0 137 (dk_at dksX7_image_3 0 rfl rfl)
theorem dX7_image_72 : decode cX7_image 72 = .ok (.aload_n 0, 1) := dk_42 (dk_at dksX7_image_3 3 rfl rfl)
theorem dX7_image_73 : decode cX7_image 73 = .ok (.getfield 110, 3) := dk_180 0 110 (dk_at dksX7_image_3 4 rfl rfl)
theorem dX7_image_76 : decode cX7_image 76 = .ok (.invokestatic 454, 3) := dk_184 1 198 (dk_at dksX7_image_3 7 rfl rfl)
theorem dX7_image_79 : decode cX7_image 79 = .ok (.aload_n 0, 1) := dk_42 (dk_at dksX7_image_3 10 rfl rfl)
theorem dX7_image_80 : decode cX7_image 80 = .ok (.getfield 140, 3) := dk_180 0 140 (dk_at dksX7_image_3 11 rfl rfl)
theorem dX7_image_83 : decode cX7_image 83 = .ok (.aload_n 0, 1) := dk_42 (dk_at dksX7_image_3 14 rfl rfl)
theorem dX7_image_84 : decode cX7_image 84 = .ok (.getfield 62, 3) := dk_180 0 62 (dk_at dksX7_image_3 15 rfl rfl)
theorem dX7_image_87 : decode cX7_image 87 = .ok (.invokestatic 454, 3) := dk_184 1 198 (dk_at dksX7_image_3 18 rfl rfl)
theorem dX7_image_90 : decode cX7_image 90 = .ok (.return_, 1) := dk_177 (dk_at dksX7_image_3 21 rfl rfl)
abbrev cX7_restore : ByteArray := prog_18_method_112_code
def yX7_restore : MethodName := ⟨RX7, "restore", "()Z"⟩
def dkwX7_restore_4 : List UInt8 := [184, 1, 198, 4, 172]
abbrev dktX7_restore_4 : List UInt8 := dkwX7_restore_4 ++ []
def dkwX7_restore_3 : List UInt8 := [184, 1, 198, 42, 180, 0, 110, 42, 180, 0, 137, 184, 1, 198, 42, 180, 0, 62, 42, 180, 0, 140]
abbrev dktX7_restore_3 : List UInt8 := dkwX7_restore_3 ++ dktX7_restore_4
def dkwX7_restore_2 : List UInt8 := [184, 1, 198, 42, 180, 0, 104, 42, 180, 0, 131, 184, 1, 198, 42, 180, 0, 107, 42, 180, 0, 134]
abbrev dktX7_restore_2 : List UInt8 := dkwX7_restore_2 ++ dktX7_restore_3
def dkwX7_restore_1 : List UInt8 := [180, 1, 247, 181, 1, 89, 42, 42, 180, 0, 125, 3, 182, 1, 184, 42, 180, 0, 80, 42, 180, 0, 128]
abbrev dktX7_restore_1 : List UInt8 := dkwX7_restore_1 ++ dktX7_restore_2
def dkwX7_restore_0 : List UInt8 := [42, 3, 181, 0, 150, 42, 180, 1, 92, 154, 0, 5, 3, 172, 42, 42, 180, 1, 244, 181, 1, 86, 42, 42]
abbrev dktX7_restore_0 : List UInt8 := dkwX7_restore_0 ++ dktX7_restore_1
theorem dksX7_restore_0 : cX7_restore.data.toList.drop 0 = dktX7_restore_0 := by decide +kernel
theorem dksX7_restore_1 : cX7_restore.data.toList.drop 24 = dktX7_restore_1 := dk_seg dksX7_restore_0 24 rfl rfl
theorem dksX7_restore_2 : cX7_restore.data.toList.drop 47 = dktX7_restore_2 := dk_seg dksX7_restore_1 23 rfl rfl
theorem dksX7_restore_3 : cX7_restore.data.toList.drop 69 = dktX7_restore_3 := dk_seg dksX7_restore_2 22 rfl rfl
theorem dksX7_restore_4 : cX7_restore.data.toList.drop 91 = dktX7_restore_4 := dk_seg dksX7_restore_3 22 rfl rfl
theorem dX7_restore_0 : decode cX7_restore 0 = .ok (.aload_n 0, 1) := dk_42 (dk_at dksX7_restore_0 0 rfl rfl)
theorem dX7_restore_1 : decode cX7_restore 1 = .ok (.iconst 0, 1) := dk_3 (dk_at dksX7_restore_0 1 rfl rfl)
theorem dX7_restore_2 : decode cX7_restore 2 = .ok (.putfield 150, 3) := dk_181 0 150 (dk_at dksX7_restore_0 2 rfl rfl)
theorem dX7_restore_5 : decode cX7_restore 5 = .ok (.aload_n 0, 1) := dk_42 (dk_at dksX7_restore_0 5 rfl rfl)
theorem dX7_restore_6 : decode cX7_restore 6 = .ok (.getfield 348, 3) := dk_180 1 92 (dk_at dksX7_restore_0 6 rfl rfl)
theorem dX7_restore_9 : decode cX7_restore 9 = .ok (.ifCond .ne 5, 3) := dk_154 0 5 (dk_at dksX7_restore_0 9 rfl rfl)
theorem dX7_restore_12 : decode cX7_restore 12 = .ok (.iconst 0, 1) := dk_3 (dk_at dksX7_restore_0 12 rfl rfl)
theorem dX7_restore_13 : decode cX7_restore 13 = .ok (.ireturn, 1) := dk_172 (dk_at dksX7_restore_0 13 rfl rfl)
theorem dX7_restore_14 : decode cX7_restore 14 = .ok (.aload_n 0, 1) := dk_42 (dk_at dksX7_restore_0 14 rfl rfl)
theorem dX7_restore_15 : decode cX7_restore 15 = .ok (.aload_n 0, 1) := dk_42 (dk_at dksX7_restore_0 15 rfl rfl)
theorem dX7_restore_16 : decode cX7_restore 16 = .ok (.getfield 500, 3) := dk_180 1 244 (dk_at dksX7_restore_0 16 rfl rfl)
theorem dX7_restore_19 : decode cX7_restore 19 = .ok (.putfield 342, 3) := dk_181 1 86 (dk_at dksX7_restore_0 19 rfl rfl)
theorem dX7_restore_22 : decode cX7_restore 22 = .ok (.aload_n 0, 1) := dk_42 (dk_at dksX7_restore_0 22 rfl rfl)
theorem dX7_restore_23 : decode cX7_restore 23 = .ok (.aload_n 0, 1) := dk_42 (dk_at dksX7_restore_0 23 rfl rfl)
theorem dX7_restore_24 : decode cX7_restore 24 = .ok (.getfield 503, 3) := dk_180 1 247 (dk_at dksX7_restore_1 0 rfl rfl)
theorem dX7_restore_27 : decode cX7_restore 27 = .ok (.putfield 345, 3) := dk_181 1 89 (dk_at dksX7_restore_1 3 rfl rfl)
theorem dX7_restore_30 : decode cX7_restore 30 = .ok (.aload_n 0, 1) := dk_42 (dk_at dksX7_restore_1 6 rfl rfl)
theorem dX7_restore_31 : decode cX7_restore 31 = .ok (.aload_n 0, 1) := dk_42 (dk_at dksX7_restore_1 7 rfl rfl)
theorem dX7_restore_32 : decode cX7_restore 32 = .ok (.getfield 125, 3) := dk_180 0 125 (dk_at dksX7_restore_1 8 rfl rfl)
theorem dX7_restore_35 : decode cX7_restore 35 = .ok (.iconst 0, 1) := dk_3 (dk_at dksX7_restore_1 11 rfl rfl)
theorem dX7_restore_36 : decode cX7_restore 36 = .ok (.invokevirtual 440, 3) := dk_182 1 184 (dk_at dksX7_restore_1 12 rfl rfl)
theorem dX7_restore_39 : decode cX7_restore 39 = .ok (.aload_n 0, 1) := dk_42 (dk_at dksX7_restore_1 15 rfl rfl)
theorem dX7_restore_40 : decode cX7_restore 40 = .ok (.getfield 80, 3) := dk_180 0 80 (dk_at dksX7_restore_1 16 rfl rfl)
theorem dX7_restore_43 : decode cX7_restore 43 = .ok (.aload_n 0, 1) := dk_42 (dk_at dksX7_restore_1 19 rfl rfl)
theorem dX7_restore_44 : decode cX7_restore 44 = .ok (.getfield 128, 3) := dk_180 0 128 (dk_at dksX7_restore_1 20 rfl rfl)
theorem dX7_restore_47 : decode cX7_restore 47 = .ok (.invokestatic 454, 3) := dk_184 1 198 (dk_at dksX7_restore_2 0 rfl rfl)
theorem dX7_restore_50 : decode cX7_restore 50 = .ok (.aload_n 0, 1) := dk_42 (dk_at dksX7_restore_2 3 rfl rfl)
theorem dX7_restore_51 : decode cX7_restore 51 = .ok (.getfield 104, 3) := dk_180 0 104 (dk_at dksX7_restore_2 4 rfl rfl)
theorem dX7_restore_54 : decode cX7_restore 54 = .ok (.aload_n 0, 1) := dk_42 (dk_at dksX7_restore_2 7 rfl rfl)
theorem dX7_restore_55 : decode cX7_restore 55 = .ok (.getfield 131, 3) := dk_180 0 131 (dk_at dksX7_restore_2 8 rfl rfl)
theorem dX7_restore_58 : decode cX7_restore 58 = .ok (.invokestatic 454, 3) := dk_184 1 198 (dk_at dksX7_restore_2 11 rfl rfl)
theorem dX7_restore_61 : decode cX7_restore 61 = .ok (.aload_n 0, 1) := dk_42 (dk_at dksX7_restore_2 14 rfl rfl)
theorem dX7_restore_62 : decode cX7_restore 62 = .ok (.getfield 107, 3) := dk_180 0 107 (dk_at dksX7_restore_2 15 rfl rfl)
theorem dX7_restore_65 : decode cX7_restore 65 = .ok (.aload_n 0, 1) := dk_42 (dk_at dksX7_restore_2 18 rfl rfl)
theorem dX7_restore_66 : decode cX7_restore 66 = .ok (.getfield 134, 3) := dk_180 0 134 (dk_at dksX7_restore_2 19 rfl rfl)
theorem dX7_restore_69 : decode cX7_restore 69 = .ok (.invokestatic 454, 3) := dk_184 1 198 (dk_at dksX7_restore_3 0 rfl rfl)
theorem dX7_restore_72 : decode cX7_restore 72 = .ok (.aload_n 0, 1) := dk_42 (dk_at dksX7_restore_3 3 rfl rfl)
theorem dX7_restore_73 : decode cX7_restore 73 = .ok (.getfield 110, 3) := dk_180 0 110 (dk_at dksX7_restore_3 4 rfl rfl)
theorem dX7_restore_76 : decode cX7_restore 76 = .ok (.aload_n 0, 1) := dk_42 (dk_at dksX7_restore_3 7 rfl rfl)
theorem dX7_restore_77 : decode cX7_restore 77 = .ok (.getfield 137, 3) := dk_180 0 137 (dk_at dksX7_restore_3 8 rfl rfl)
theorem dX7_restore_80 : decode cX7_restore 80 = .ok (.invokestatic 454, 3) := dk_184 1 198 (dk_at dksX7_restore_3 11 rfl rfl)
theorem dX7_restore_83 : decode cX7_restore 83 = .ok (.aload_n 0, 1) := dk_42 (dk_at dksX7_restore_3 14 rfl rfl)
theorem dX7_restore_84 : decode cX7_restore 84 = .ok (.getfield 62, 3) := dk_180 0 62 (dk_at dksX7_restore_3 15 rfl rfl)
theorem dX7_restore_87 : decode cX7_restore 87 = .ok (.aload_n 0, 1) := dk_42 (dk_at dksX7_restore_3 18 rfl rfl)
theorem dX7_restore_88 : decode cX7_restore 88 = .ok (.getfield 140, 3) := dk_180 0 140 (dk_at dksX7_restore_3 19 rfl rfl)
theorem dX7_restore_91 : decode cX7_restore 91 = .ok (.invokestatic 454, 3) := dk_184 1 198 (dk_at dksX7_restore_4 0 rfl rfl)
theorem dX7_restore_94 : decode cX7_restore 94 = .ok (.iconst 1, 1) := dk_4 (dk_at dksX7_restore_4 3 rfl rfl)
theorem dX7_restore_95 : decode cX7_restore 95 = .ok (.ireturn, 1) := dk_172 (dk_at dksX7_restore_4 4 rfl rfl)
theorem q140 : (Jvm.Cond.initialized "BlueBagModel") ∈ lw_all := lw_g (lw_at lw_m1 28 rfl) rfl
theorem q680 : (Jvm.Cond.selects "BlueBagModel" ({ cls := "java/lang/Object", name := "getClass", desc := "()Ljava/lang/Class;" } : Jvm.MethodName) ({ cls := "java/lang/Object", name := "getClass", desc := "()Ljava/lang/Class;" } : Jvm.MethodName)) ∈ lw_all := lw_g (lw_at lw_m3 88 rfl) rfl
theorem q1672 : (Jvm.Cond.instantiable "BlueBagModel" (64 : Nat)) ∈ lw_all := lw_g (lw_at lw_m7 120 rfl) rfl
theorem q1674 : (Jvm.Cond.instanceMethod ({ cls := "BlueBagModel", name := "<init>", desc := "()V" } : Jvm.MethodName)) ∈ lw_all := lw_g (lw_at lw_m7 122 rfl) rfl
theorem q1675 : (Jvm.Cond.code ({ cls := "BlueBagModel", name := "<init>", desc := "()V" } : Jvm.MethodName) prog_18_method_1_code (1 : Nat) (Option.none : Option Jvm.ClassFile.FieldType)) ∈ lw_all := lw_g (lw_at lw_m7 123 rfl) rfl
theorem q1676 : (Jvm.Cond.methodLink "BlueBagModel" (3 : Nat) ({ cls := "java/lang/Object", name := "<init>", desc := "()V" } : Jvm.MethodName)) ∈ lw_all := lw_g (lw_at lw_m7 124 rfl) rfl
theorem q1677 : (Jvm.Cond.classLink "BlueBagModel" (9 : Nat) "java/lang/String") ∈ lw_all := lw_g (lw_at lw_m7 125 rfl) rfl
theorem q1679 : (Jvm.Cond.stringRef "BlueBagModel" (11 : Nat) "girl") ∈ lw_tbl := lw_at lw_m7 127 rfl
theorem q1680 : (Jvm.Cond.stringRef "BlueBagModel" (13 : Nat) "old") ∈ lw_tbl := lw_at lw_m7 128 rfl
theorem q1681 : (Jvm.Cond.stringRef "BlueBagModel" (19 : Nat) "blue") ∈ lw_tbl := lw_at lw_m7 129 rfl
theorem q1682 : (Jvm.Cond.stringRef "BlueBagModel" (21 : Nat) "beside") ∈ lw_tbl := lw_at lw_m7 130 rfl
theorem q1683 : (Jvm.Cond.stringRef "BlueBagModel" (23 : Nat) "row") ∈ lw_tbl := lw_at lw_m7 131 rfl
theorem q1684 : (Jvm.Cond.stringRef "BlueBagModel" (25 : Nat) "day") ∈ lw_tbl := lw_at lw_m7 132 rfl
theorem q1685 : (Jvm.Cond.stringRef "BlueBagModel" (27 : Nat) "skill") ∈ lw_tbl := lw_at lw_m7 133 rfl
theorem q1686 : (Jvm.Cond.stringRef "BlueBagModel" (29 : Nat) "left") ∈ lw_tbl := lw_at lw_m7 134 rfl
theorem q1687 : (Jvm.Cond.methodLink "BlueBagModel" (143 : Nat) ({ cls := "BlueBagModel", name := "begin", desc := "(I)V" } : Jvm.MethodName)) ∈ lw_all := lw_g (lw_at lw_m7 135 rfl) rfl
theorem q1688 : (Jvm.Cond.privateMethod ({ cls := "BlueBagModel", name := "begin", desc := "(I)V" } : Jvm.MethodName)) ∈ lw_tbl := lw_at lw_m7 136 rfl
theorem q1689 : (Jvm.Cond.instanceMethod ({ cls := "BlueBagModel", name := "begin", desc := "(I)V" } : Jvm.MethodName)) ∈ lw_all := lw_g (lw_at lw_m7 137 rfl) rfl
theorem q1690 : (Jvm.Cond.code ({ cls := "BlueBagModel", name := "begin", desc := "(I)V" } : Jvm.MethodName) prog_18_method_2_code (3 : Nat) (Option.none : Option Jvm.ClassFile.FieldType)) ∈ lw_all := lw_g (lw_at lw_m7 138 rfl) rfl
theorem q1691 : (Jvm.Cond.fieldLink "BlueBagModel" (15 : Nat) "BlueBagModel" "women" "[Ljava/lang/String;") ∈ lw_all := lw_g (lw_at lw_m7 139 rfl) rfl
theorem q1692 : (Jvm.Cond.fieldLink "BlueBagModel" (31 : Nat) "BlueBagModel" "ofDyes" "[Ljava/lang/String;") ∈ lw_all := lw_g (lw_at lw_m7 140 rfl) rfl
theorem q1693 : (Jvm.Cond.fieldLink "BlueBagModel" (34 : Nat) "BlueBagModel" "ofFades" "[Ljava/lang/String;") ∈ lw_all := lw_g (lw_at lw_m7 141 rfl) rfl
theorem q1694 : (Jvm.Cond.fieldLink "BlueBagModel" (37 : Nat) "BlueBagModel" "values" "[Ljava/lang/String;") ∈ lw_all := lw_g (lw_at lw_m7 142 rfl) rfl
theorem q1695 : (Jvm.Cond.fieldLink "BlueBagModel" (150 : Nat) "BlueBagModel" "code" "I") ∈ lw_all := lw_g (lw_at lw_m7 143 rfl) rfl
theorem q1696 : (Jvm.Cond.fieldLink "BlueBagModel" (40 : Nat) "BlueBagModel" "told" "[I") ∈ lw_all := lw_g (lw_at lw_m7 144 rfl) rfl
theorem q1697 : (Jvm.Cond.fieldLink "BlueBagModel" (44 : Nat) "BlueBagModel" "blueTold" "[I") ∈ lw_all := lw_g (lw_at lw_m7 145 rfl) rfl
theorem q1698 : (Jvm.Cond.fieldLink "BlueBagModel" (47 : Nat) "BlueBagModel" "aged" "[I") ∈ lw_all := lw_g (lw_at lw_m7 146 rfl) rfl
theorem q1699 : (Jvm.Cond.fieldLink "BlueBagModel" (50 : Nat) "BlueBagModel" "skillTold" "[I") ∈ lw_all := lw_g (lw_at lw_m7 147 rfl) rfl
theorem q1700 : (Jvm.Cond.fieldLink "BlueBagModel" (53 : Nat) "BlueBagModel" "cellTold" "[I") ∈ lw_all := lw_g (lw_at lw_m7 148 rfl) rfl
theorem q1701 : (Jvm.Cond.fieldLink "BlueBagModel" (56 : Nat) "BlueBagModel" "signsDyes" "[I") ∈ lw_all := lw_g (lw_at lw_m7 149 rfl) rfl
theorem q1702 : (Jvm.Cond.fieldLink "BlueBagModel" (59 : Nat) "BlueBagModel" "signsFades" "[I") ∈ lw_all := lw_g (lw_at lw_m7 150 rfl) rfl
theorem q1703 : (Jvm.Cond.fieldLink "BlueBagModel" (62 : Nat) "BlueBagModel" "status" "[I") ∈ lw_all := lw_g (lw_at lw_m7 151 rfl) rfl
theorem q1704 : (Jvm.Cond.fieldLink "BlueBagModel" (65 : Nat) "BlueBagModel" "skills" "[I") ∈ lw_all := lw_g (lw_at lw_m7 152 rfl) rfl
theorem q1705 : (Jvm.Cond.fieldLink "BlueBagModel" (68 : Nat) "BlueBagModel" "tape" "[I") ∈ lw_all := lw_g (lw_at lw_m7 153 rfl) rfl
theorem q1706 : (Jvm.Cond.fieldLink "BlueBagModel" (161 : Nat) "BlueBagModel" "taped" "I") ∈ lw_all := lw_g (lw_at lw_m7 154 rfl) rfl
theorem q1707 : (Jvm.Cond.fieldLink "BlueBagModel" (167 : Nat) "BlueBagModel" "at" "I") ∈ lw_all := lw_g (lw_at lw_m7 155 rfl) rfl
theorem q1708 : (Jvm.Cond.fieldLink "BlueBagModel" (164 : Nat) "BlueBagModel" "size" "I") ∈ lw_all := lw_g (lw_at lw_m7 156 rfl) rfl
theorem q1709 : (Jvm.Cond.fieldLink "BlueBagModel" (177 : Nat) "BlueBagModel" "token" "I") ∈ lw_all := lw_g (lw_at lw_m7 157 rfl) rfl
theorem q1710 : (Jvm.Cond.fieldLink "BlueBagModel" (187 : Nat) "BlueBagModel" "number" "I") ∈ lw_all := lw_g (lw_at lw_m7 158 rfl) rfl
theorem q1711 : (Jvm.Cond.fieldLink "BlueBagModel" (174 : Nat) "BlueBagModel" "begins" "I") ∈ lw_all := lw_g (lw_at lw_m7 159 rfl) rfl
theorem q1712 : (Jvm.Cond.fieldLink "BlueBagModel" (200 : Nat) "BlueBagModel" "stops" "I") ∈ lw_all := lw_g (lw_at lw_m7 160 rfl) rfl
theorem q1713 : (Jvm.Cond.fieldLink "BlueBagModel" (203 : Nat) "BlueBagModel" "bad" "I") ∈ lw_all := lw_g (lw_at lw_m7 161 rfl) rfl
theorem q1714 : (Jvm.Cond.fieldLink "BlueBagModel" (206 : Nat) "BlueBagModel" "badPlace" "I") ∈ lw_all := lw_g (lw_at lw_m7 162 rfl) rfl
theorem q1715 : (Jvm.Cond.fieldLink "BlueBagModel" (71 : Nat) "BlueBagModel" "faultPlace" "I") ∈ lw_all := lw_g (lw_at lw_m7 163 rfl) rfl
theorem q1716 : (Jvm.Cond.fieldLink "BlueBagModel" (280 : Nat) "BlueBagModel" "blued" "I") ∈ lw_all := lw_g (lw_at lw_m7 164 rfl) rfl
theorem q1717 : (Jvm.Cond.fieldLink "BlueBagModel" (236 : Nat) "BlueBagModel" "anyCell" "Z") ∈ lw_all := lw_g (lw_at lw_m7 165 rfl) rfl
theorem q1718 : (Jvm.Cond.fieldLink "BlueBagModel" (240 : Nat) "BlueBagModel" "ofFading" "Z") ∈ lw_all := lw_g (lw_at lw_m7 166 rfl) rfl
theorem q1719 : (Jvm.Cond.fieldLink "BlueBagModel" (75 : Nat) "BlueBagModel" "blue" "[I") ∈ lw_all := lw_g (lw_at lw_m7 167 rfl) rfl
theorem q1720 : (Jvm.Cond.fieldLink "BlueBagModel" (77 : Nat) "BlueBagModel" "where" "[I") ∈ lw_all := lw_g (lw_at lw_m7 168 rfl) rfl
theorem q1721 : (Jvm.Cond.fieldLink "BlueBagModel" (80 : Nat) "BlueBagModel" "past" "[I") ∈ lw_all := lw_g (lw_at lw_m7 169 rfl) rfl
theorem q1722 : (Jvm.Cond.fieldLink "BlueBagModel" (331 : Nat) "BlueBagModel" "day" "I") ∈ lw_all := lw_g (lw_at lw_m7 170 rfl) rfl
theorem q1723 : (Jvm.Cond.fieldLink "BlueBagModel" (147 : Nat) "BlueBagModel" "knobs" "I") ∈ lw_all := lw_g (lw_at lw_m7 171 rfl) rfl
theorem q1724 : (Jvm.Cond.fieldLink "BlueBagModel" (333 : Nat) "BlueBagModel" "martins" "I") ∈ lw_all := lw_g (lw_at lw_m7 172 rfl) rfl
theorem q1725 : (Jvm.Cond.fieldLink "BlueBagModel" (336 : Nat) "BlueBagModel" "pegs" "I") ∈ lw_all := lw_g (lw_at lw_m7 173 rfl) rfl
theorem q1726 : (Jvm.Cond.fieldLink "BlueBagModel" (339 : Nat) "BlueBagModel" "resting" "I") ∈ lw_all := lw_g (lw_at lw_m7 174 rfl) rfl
theorem q1727 : (Jvm.Cond.fieldLink "BlueBagModel" (342 : Nat) "BlueBagModel" "acts" "I") ∈ lw_all := lw_g (lw_at lw_m7 175 rfl) rfl
theorem q1728 : (Jvm.Cond.fieldLink "BlueBagModel" (345 : Nat) "BlueBagModel" "seen" "I") ∈ lw_all := lw_g (lw_at lw_m7 176 rfl) rfl
theorem q1729 : (Jvm.Cond.fieldLink "BlueBagModel" (83 : Nat) "BlueBagModel" "asked" "[I") ∈ lw_all := lw_g (lw_at lw_m7 177 rfl) rfl
theorem q1730 : (Jvm.Cond.fieldLink "BlueBagModel" (86 : Nat) "BlueBagModel" "stack" "[I") ∈ lw_all := lw_g (lw_at lw_m7 178 rfl) rfl
theorem q1731 : (Jvm.Cond.fieldLink "BlueBagModel" (89 : Nat) "BlueBagModel" "fading" "[I") ∈ lw_all := lw_g (lw_at lw_m7 179 rfl) rfl
theorem q1732 : (Jvm.Cond.fieldLink "BlueBagModel" (393 : Nat) "BlueBagModel" "over" "I") ∈ lw_all := lw_g (lw_at lw_m7 180 rfl) rfl
theorem q1733 : (Jvm.Cond.fieldLink "BlueBagModel" (92 : Nat) "BlueBagModel" "rowThen" "[I") ∈ lw_all := lw_g (lw_at lw_m7 181 rfl) rfl
theorem q1734 : (Jvm.Cond.fieldLink "BlueBagModel" (95 : Nat) "BlueBagModel" "blueThen" "[I") ∈ lw_all := lw_g (lw_at lw_m7 182 rfl) rfl
theorem q1735 : (Jvm.Cond.fieldLink "BlueBagModel" (98 : Nat) "BlueBagModel" "leastBy" "[I") ∈ lw_all := lw_g (lw_at lw_m7 183 rfl) rfl
theorem q1736 : (Jvm.Cond.fieldLink "BlueBagModel" (101 : Nat) "BlueBagModel" "goals" "[I") ∈ lw_all := lw_g (lw_at lw_m7 184 rfl) rfl
theorem q1737 : (Jvm.Cond.fieldLink "BlueBagModel" (104 : Nat) "BlueBagModel" "seenCell" "[I") ∈ lw_all := lw_g (lw_at lw_m7 185 rfl) rfl
theorem q1738 : (Jvm.Cond.fieldLink "BlueBagModel" (107 : Nat) "BlueBagModel" "seenIn" "[I") ∈ lw_all := lw_g (lw_at lw_m7 186 rfl) rfl
theorem q1739 : (Jvm.Cond.fieldLink "BlueBagModel" (110 : Nat) "BlueBagModel" "seenBlue" "[I") ∈ lw_all := lw_g (lw_at lw_m7 187 rfl) rfl
theorem q1740 : (Jvm.Cond.fieldLink "BlueBagModel" (113 : Nat) "BlueBagModel" "rowSeen" "[I") ∈ lw_all := lw_g (lw_at lw_m7 188 rfl) rfl
theorem q1741 : (Jvm.Cond.fieldLink "BlueBagModel" (116 : Nat) "BlueBagModel" "fits" "[I") ∈ lw_all := lw_g (lw_at lw_m7 189 rfl) rfl
theorem q1742 : (Jvm.Cond.fieldLink "BlueBagModel" (119 : Nat) "BlueBagModel" "bluesThen" "[I") ∈ lw_all := lw_g (lw_at lw_m7 190 rfl) rfl
theorem q1743 : (Jvm.Cond.fieldLink "BlueBagModel" (472 : Nat) "BlueBagModel" "fitMany" "I") ∈ lw_all := lw_g (lw_at lw_m7 191 rfl) rfl
theorem q1744 : (Jvm.Cond.fieldLink "BlueBagModel" (122 : Nat) "BlueBagModel" "gains" "[I") ∈ lw_all := lw_g (lw_at lw_m7 192 rfl) rfl
theorem q1745 : (Jvm.Cond.fieldLink "BlueBagModel" (490 : Nat) "BlueBagModel" "seedNow" "I") ∈ lw_all := lw_g (lw_at lw_m7 193 rfl) rfl
theorem q1746 : (Jvm.Cond.fieldLink "BlueBagModel" (348 : Nat) "BlueBagModel" "hasImage" "Z") ∈ lw_all := lw_g (lw_at lw_m7 194 rfl) rfl
theorem q1747 : (Jvm.Cond.fieldLink "BlueBagModel" (500 : Nat) "BlueBagModel" "actsThen" "I") ∈ lw_all := lw_g (lw_at lw_m7 195 rfl) rfl
theorem q1748 : (Jvm.Cond.fieldLink "BlueBagModel" (503 : Nat) "BlueBagModel" "seenThen" "I") ∈ lw_all := lw_g (lw_at lw_m7 196 rfl) rfl
theorem q1749 : (Jvm.Cond.fieldLink "BlueBagModel" (125 : Nat) "BlueBagModel" "imageRow" "[I") ∈ lw_all := lw_g (lw_at lw_m7 197 rfl) rfl
theorem q1750 : (Jvm.Cond.fieldLink "BlueBagModel" (128 : Nat) "BlueBagModel" "pastThen" "[I") ∈ lw_all := lw_g (lw_at lw_m7 198 rfl) rfl
theorem q1751 : (Jvm.Cond.fieldLink "BlueBagModel" (131 : Nat) "BlueBagModel" "seenCellThen" "[I") ∈ lw_all := lw_g (lw_at lw_m7 199 rfl) rfl
theorem q1752 : (Jvm.Cond.fieldLink "BlueBagModel" (134 : Nat) "BlueBagModel" "seenInThen" "[I") ∈ lw_all := lw_g (lw_at lw_m7 200 rfl) rfl
theorem q1753 : (Jvm.Cond.fieldLink "BlueBagModel" (137 : Nat) "BlueBagModel" "seenBlueThen" "[I") ∈ lw_all := lw_g (lw_at lw_m7 201 rfl) rfl
theorem q1754 : (Jvm.Cond.fieldLink "BlueBagModel" (140 : Nat) "BlueBagModel" "statusThen" "[I") ∈ lw_all := lw_g (lw_at lw_m7 202 rfl) rfl
theorem q1755 : (Jvm.Cond.laysFinal "BlueBagModel" "BlueBagModel" "women" "[Ljava/lang/String;") ∈ lw_all := lw_g (lw_at lw_m7 203 rfl) rfl
theorem q1756 : (Jvm.Cond.soleField "BlueBagModel" "women") ∈ lw_all := lw_g (lw_at lw_m7 204 rfl) rfl
theorem q1757 : (Jvm.Cond.laysFinal "BlueBagModel" "BlueBagModel" "ofDyes" "[Ljava/lang/String;") ∈ lw_all := lw_g (lw_at lw_m7 205 rfl) rfl
theorem q1758 : (Jvm.Cond.soleField "BlueBagModel" "ofDyes") ∈ lw_all := lw_g (lw_at lw_m7 206 rfl) rfl
theorem q1759 : (Jvm.Cond.laysFinal "BlueBagModel" "BlueBagModel" "ofFades" "[Ljava/lang/String;") ∈ lw_all := lw_g (lw_at lw_m7 207 rfl) rfl
theorem q1760 : (Jvm.Cond.soleField "BlueBagModel" "ofFades") ∈ lw_all := lw_g (lw_at lw_m7 208 rfl) rfl
theorem q1761 : (Jvm.Cond.lays "BlueBagModel" "BlueBagModel" "values" "[Ljava/lang/String;") ∈ lw_all := lw_g (lw_at lw_m7 209 rfl) rfl
theorem q1762 : (Jvm.Cond.soleField "BlueBagModel" "values") ∈ lw_all := lw_g (lw_at lw_m7 210 rfl) rfl
theorem q1763 : (Jvm.Cond.lays "BlueBagModel" "BlueBagModel" "code" "I") ∈ lw_all := lw_g (lw_at lw_m7 211 rfl) rfl
theorem q1764 : (Jvm.Cond.soleField "BlueBagModel" "code") ∈ lw_all := lw_g (lw_at lw_m7 212 rfl) rfl
theorem q1765 : (Jvm.Cond.laysFinal "BlueBagModel" "BlueBagModel" "told" "[I") ∈ lw_all := lw_g (lw_at lw_m7 213 rfl) rfl
theorem q1766 : (Jvm.Cond.soleField "BlueBagModel" "told") ∈ lw_all := lw_g (lw_at lw_m7 214 rfl) rfl
theorem q1767 : (Jvm.Cond.laysFinal "BlueBagModel" "BlueBagModel" "blueTold" "[I") ∈ lw_all := lw_g (lw_at lw_m7 215 rfl) rfl
theorem q1768 : (Jvm.Cond.soleField "BlueBagModel" "blueTold") ∈ lw_all := lw_g (lw_at lw_m7 216 rfl) rfl
theorem q1769 : (Jvm.Cond.laysFinal "BlueBagModel" "BlueBagModel" "aged" "[I") ∈ lw_all := lw_g (lw_at lw_m7 217 rfl) rfl
theorem q1770 : (Jvm.Cond.soleField "BlueBagModel" "aged") ∈ lw_all := lw_g (lw_at lw_m7 218 rfl) rfl
theorem q1771 : (Jvm.Cond.laysFinal "BlueBagModel" "BlueBagModel" "skillTold" "[I") ∈ lw_all := lw_g (lw_at lw_m7 219 rfl) rfl
theorem q1772 : (Jvm.Cond.soleField "BlueBagModel" "skillTold") ∈ lw_all := lw_g (lw_at lw_m7 220 rfl) rfl
theorem q1773 : (Jvm.Cond.laysFinal "BlueBagModel" "BlueBagModel" "cellTold" "[I") ∈ lw_all := lw_g (lw_at lw_m7 221 rfl) rfl
theorem q1774 : (Jvm.Cond.soleField "BlueBagModel" "cellTold") ∈ lw_all := lw_g (lw_at lw_m7 222 rfl) rfl
theorem q1775 : (Jvm.Cond.laysFinal "BlueBagModel" "BlueBagModel" "signsDyes" "[I") ∈ lw_all := lw_g (lw_at lw_m7 223 rfl) rfl
theorem q1776 : (Jvm.Cond.soleField "BlueBagModel" "signsDyes") ∈ lw_all := lw_g (lw_at lw_m7 224 rfl) rfl
theorem q1777 : (Jvm.Cond.laysFinal "BlueBagModel" "BlueBagModel" "signsFades" "[I") ∈ lw_all := lw_g (lw_at lw_m7 225 rfl) rfl
theorem q1778 : (Jvm.Cond.soleField "BlueBagModel" "signsFades") ∈ lw_all := lw_g (lw_at lw_m7 226 rfl) rfl
theorem q1779 : (Jvm.Cond.laysFinal "BlueBagModel" "BlueBagModel" "status" "[I") ∈ lw_all := lw_g (lw_at lw_m7 227 rfl) rfl
theorem q1780 : (Jvm.Cond.soleField "BlueBagModel" "status") ∈ lw_all := lw_g (lw_at lw_m7 228 rfl) rfl
theorem q1781 : (Jvm.Cond.laysFinal "BlueBagModel" "BlueBagModel" "skills" "[I") ∈ lw_all := lw_g (lw_at lw_m7 229 rfl) rfl
theorem q1782 : (Jvm.Cond.soleField "BlueBagModel" "skills") ∈ lw_all := lw_g (lw_at lw_m7 230 rfl) rfl
theorem q1783 : (Jvm.Cond.laysFinal "BlueBagModel" "BlueBagModel" "tape" "[I") ∈ lw_all := lw_g (lw_at lw_m7 231 rfl) rfl
theorem q1784 : (Jvm.Cond.soleField "BlueBagModel" "tape") ∈ lw_all := lw_g (lw_at lw_m7 232 rfl) rfl
theorem q1785 : (Jvm.Cond.lays "BlueBagModel" "BlueBagModel" "taped" "I") ∈ lw_all := lw_g (lw_at lw_m7 233 rfl) rfl
theorem q1786 : (Jvm.Cond.soleField "BlueBagModel" "taped") ∈ lw_all := lw_g (lw_at lw_m7 234 rfl) rfl
theorem q1787 : (Jvm.Cond.lays "BlueBagModel" "BlueBagModel" "at" "I") ∈ lw_all := lw_g (lw_at lw_m7 235 rfl) rfl
theorem q1788 : (Jvm.Cond.soleField "BlueBagModel" "at") ∈ lw_all := lw_g (lw_at lw_m7 236 rfl) rfl
theorem q1789 : (Jvm.Cond.lays "BlueBagModel" "BlueBagModel" "size" "I") ∈ lw_all := lw_g (lw_at lw_m7 237 rfl) rfl
theorem q1790 : (Jvm.Cond.soleField "BlueBagModel" "size") ∈ lw_all := lw_g (lw_at lw_m7 238 rfl) rfl
theorem q1791 : (Jvm.Cond.lays "BlueBagModel" "BlueBagModel" "token" "I") ∈ lw_all := lw_g (lw_at lw_m7 239 rfl) rfl
theorem q1792 : (Jvm.Cond.soleField "BlueBagModel" "token") ∈ lw_all := lw_g (lw_at lw_m8 0 rfl) rfl
theorem q1793 : (Jvm.Cond.lays "BlueBagModel" "BlueBagModel" "number" "I") ∈ lw_all := lw_g (lw_at lw_m8 1 rfl) rfl
theorem q1794 : (Jvm.Cond.soleField "BlueBagModel" "number") ∈ lw_all := lw_g (lw_at lw_m8 2 rfl) rfl
theorem q1795 : (Jvm.Cond.lays "BlueBagModel" "BlueBagModel" "begins" "I") ∈ lw_all := lw_g (lw_at lw_m8 3 rfl) rfl
theorem q1796 : (Jvm.Cond.soleField "BlueBagModel" "begins") ∈ lw_all := lw_g (lw_at lw_m8 4 rfl) rfl
theorem q1797 : (Jvm.Cond.lays "BlueBagModel" "BlueBagModel" "stops" "I") ∈ lw_all := lw_g (lw_at lw_m8 5 rfl) rfl
theorem q1798 : (Jvm.Cond.soleField "BlueBagModel" "stops") ∈ lw_all := lw_g (lw_at lw_m8 6 rfl) rfl
theorem q1799 : (Jvm.Cond.lays "BlueBagModel" "BlueBagModel" "bad" "I") ∈ lw_all := lw_g (lw_at lw_m8 7 rfl) rfl
theorem q1800 : (Jvm.Cond.soleField "BlueBagModel" "bad") ∈ lw_all := lw_g (lw_at lw_m8 8 rfl) rfl
theorem q1801 : (Jvm.Cond.lays "BlueBagModel" "BlueBagModel" "badPlace" "I") ∈ lw_all := lw_g (lw_at lw_m8 9 rfl) rfl
theorem q1802 : (Jvm.Cond.soleField "BlueBagModel" "badPlace") ∈ lw_all := lw_g (lw_at lw_m8 10 rfl) rfl
theorem q1803 : (Jvm.Cond.lays "BlueBagModel" "BlueBagModel" "faultPlace" "I") ∈ lw_all := lw_g (lw_at lw_m8 11 rfl) rfl
theorem q1804 : (Jvm.Cond.soleField "BlueBagModel" "faultPlace") ∈ lw_all := lw_g (lw_at lw_m8 12 rfl) rfl
theorem q1805 : (Jvm.Cond.lays "BlueBagModel" "BlueBagModel" "blued" "I") ∈ lw_all := lw_g (lw_at lw_m8 13 rfl) rfl
theorem q1806 : (Jvm.Cond.soleField "BlueBagModel" "blued") ∈ lw_all := lw_g (lw_at lw_m8 14 rfl) rfl
theorem q1807 : (Jvm.Cond.lays "BlueBagModel" "BlueBagModel" "anyCell" "Z") ∈ lw_all := lw_g (lw_at lw_m8 15 rfl) rfl
theorem q1808 : (Jvm.Cond.soleField "BlueBagModel" "anyCell") ∈ lw_all := lw_g (lw_at lw_m8 16 rfl) rfl
theorem q1809 : (Jvm.Cond.lays "BlueBagModel" "BlueBagModel" "ofFading" "Z") ∈ lw_all := lw_g (lw_at lw_m8 17 rfl) rfl
theorem q1810 : (Jvm.Cond.soleField "BlueBagModel" "ofFading") ∈ lw_all := lw_g (lw_at lw_m8 18 rfl) rfl
theorem q1811 : (Jvm.Cond.laysFinal "BlueBagModel" "BlueBagModel" "blue" "[I") ∈ lw_all := lw_g (lw_at lw_m8 19 rfl) rfl
theorem q1812 : (Jvm.Cond.soleField "BlueBagModel" "blue") ∈ lw_all := lw_g (lw_at lw_m8 20 rfl) rfl
theorem q1813 : (Jvm.Cond.laysFinal "BlueBagModel" "BlueBagModel" "where" "[I") ∈ lw_all := lw_g (lw_at lw_m8 21 rfl) rfl
theorem q1814 : (Jvm.Cond.soleField "BlueBagModel" "where") ∈ lw_all := lw_g (lw_at lw_m8 22 rfl) rfl
theorem q1815 : (Jvm.Cond.laysFinal "BlueBagModel" "BlueBagModel" "past" "[I") ∈ lw_all := lw_g (lw_at lw_m8 23 rfl) rfl
theorem q1816 : (Jvm.Cond.soleField "BlueBagModel" "past") ∈ lw_all := lw_g (lw_at lw_m8 24 rfl) rfl
theorem q1817 : (Jvm.Cond.lays "BlueBagModel" "BlueBagModel" "day" "I") ∈ lw_all := lw_g (lw_at lw_m8 25 rfl) rfl
theorem q1818 : (Jvm.Cond.soleField "BlueBagModel" "day") ∈ lw_all := lw_g (lw_at lw_m8 26 rfl) rfl
theorem q1819 : (Jvm.Cond.lays "BlueBagModel" "BlueBagModel" "knobs" "I") ∈ lw_all := lw_g (lw_at lw_m8 27 rfl) rfl
theorem q1820 : (Jvm.Cond.soleField "BlueBagModel" "knobs") ∈ lw_all := lw_g (lw_at lw_m8 28 rfl) rfl
theorem q1821 : (Jvm.Cond.lays "BlueBagModel" "BlueBagModel" "martins" "I") ∈ lw_all := lw_g (lw_at lw_m8 29 rfl) rfl
theorem q1822 : (Jvm.Cond.soleField "BlueBagModel" "martins") ∈ lw_all := lw_g (lw_at lw_m8 30 rfl) rfl
theorem q1823 : (Jvm.Cond.lays "BlueBagModel" "BlueBagModel" "pegs" "I") ∈ lw_all := lw_g (lw_at lw_m8 31 rfl) rfl
theorem q1824 : (Jvm.Cond.soleField "BlueBagModel" "pegs") ∈ lw_all := lw_g (lw_at lw_m8 32 rfl) rfl
theorem q1825 : (Jvm.Cond.lays "BlueBagModel" "BlueBagModel" "resting" "I") ∈ lw_all := lw_g (lw_at lw_m8 33 rfl) rfl
theorem q1826 : (Jvm.Cond.soleField "BlueBagModel" "resting") ∈ lw_all := lw_g (lw_at lw_m8 34 rfl) rfl
theorem q1827 : (Jvm.Cond.lays "BlueBagModel" "BlueBagModel" "acts" "I") ∈ lw_all := lw_g (lw_at lw_m8 35 rfl) rfl
theorem q1828 : (Jvm.Cond.soleField "BlueBagModel" "acts") ∈ lw_all := lw_g (lw_at lw_m8 36 rfl) rfl
theorem q1829 : (Jvm.Cond.lays "BlueBagModel" "BlueBagModel" "seen" "I") ∈ lw_all := lw_g (lw_at lw_m8 37 rfl) rfl
theorem q1830 : (Jvm.Cond.soleField "BlueBagModel" "seen") ∈ lw_all := lw_g (lw_at lw_m8 38 rfl) rfl
theorem q1831 : (Jvm.Cond.laysFinal "BlueBagModel" "BlueBagModel" "asked" "[I") ∈ lw_all := lw_g (lw_at lw_m8 39 rfl) rfl
theorem q1832 : (Jvm.Cond.soleField "BlueBagModel" "asked") ∈ lw_all := lw_g (lw_at lw_m8 40 rfl) rfl
theorem q1833 : (Jvm.Cond.laysFinal "BlueBagModel" "BlueBagModel" "stack" "[I") ∈ lw_all := lw_g (lw_at lw_m8 41 rfl) rfl
theorem q1834 : (Jvm.Cond.soleField "BlueBagModel" "stack") ∈ lw_all := lw_g (lw_at lw_m8 42 rfl) rfl
theorem q1835 : (Jvm.Cond.laysFinal "BlueBagModel" "BlueBagModel" "fading" "[I") ∈ lw_all := lw_g (lw_at lw_m8 43 rfl) rfl
theorem q1836 : (Jvm.Cond.soleField "BlueBagModel" "fading") ∈ lw_all := lw_g (lw_at lw_m8 44 rfl) rfl
theorem q1837 : (Jvm.Cond.lays "BlueBagModel" "BlueBagModel" "over" "I") ∈ lw_all := lw_g (lw_at lw_m8 45 rfl) rfl
theorem q1838 : (Jvm.Cond.soleField "BlueBagModel" "over") ∈ lw_all := lw_g (lw_at lw_m8 46 rfl) rfl
theorem q1839 : (Jvm.Cond.laysFinal "BlueBagModel" "BlueBagModel" "rowThen" "[I") ∈ lw_all := lw_g (lw_at lw_m8 47 rfl) rfl
theorem q1840 : (Jvm.Cond.soleField "BlueBagModel" "rowThen") ∈ lw_all := lw_g (lw_at lw_m8 48 rfl) rfl
theorem q1841 : (Jvm.Cond.laysFinal "BlueBagModel" "BlueBagModel" "blueThen" "[I") ∈ lw_all := lw_g (lw_at lw_m8 49 rfl) rfl
theorem q1842 : (Jvm.Cond.soleField "BlueBagModel" "blueThen") ∈ lw_all := lw_g (lw_at lw_m8 50 rfl) rfl
theorem q1843 : (Jvm.Cond.laysFinal "BlueBagModel" "BlueBagModel" "leastBy" "[I") ∈ lw_all := lw_g (lw_at lw_m8 51 rfl) rfl
theorem q1844 : (Jvm.Cond.soleField "BlueBagModel" "leastBy") ∈ lw_all := lw_g (lw_at lw_m8 52 rfl) rfl
theorem q1845 : (Jvm.Cond.laysFinal "BlueBagModel" "BlueBagModel" "goals" "[I") ∈ lw_all := lw_g (lw_at lw_m8 53 rfl) rfl
theorem q1846 : (Jvm.Cond.soleField "BlueBagModel" "goals") ∈ lw_all := lw_g (lw_at lw_m8 54 rfl) rfl
theorem q1847 : (Jvm.Cond.laysFinal "BlueBagModel" "BlueBagModel" "seenCell" "[I") ∈ lw_all := lw_g (lw_at lw_m8 55 rfl) rfl
theorem q1848 : (Jvm.Cond.soleField "BlueBagModel" "seenCell") ∈ lw_all := lw_g (lw_at lw_m8 56 rfl) rfl
theorem q1849 : (Jvm.Cond.laysFinal "BlueBagModel" "BlueBagModel" "seenIn" "[I") ∈ lw_all := lw_g (lw_at lw_m8 57 rfl) rfl
theorem q1850 : (Jvm.Cond.soleField "BlueBagModel" "seenIn") ∈ lw_all := lw_g (lw_at lw_m8 58 rfl) rfl
theorem q1851 : (Jvm.Cond.laysFinal "BlueBagModel" "BlueBagModel" "seenBlue" "[I") ∈ lw_all := lw_g (lw_at lw_m8 59 rfl) rfl
theorem q1852 : (Jvm.Cond.soleField "BlueBagModel" "seenBlue") ∈ lw_all := lw_g (lw_at lw_m8 60 rfl) rfl
theorem q1853 : (Jvm.Cond.laysFinal "BlueBagModel" "BlueBagModel" "rowSeen" "[I") ∈ lw_all := lw_g (lw_at lw_m8 61 rfl) rfl
theorem q1854 : (Jvm.Cond.soleField "BlueBagModel" "rowSeen") ∈ lw_all := lw_g (lw_at lw_m8 62 rfl) rfl
theorem q1855 : (Jvm.Cond.laysFinal "BlueBagModel" "BlueBagModel" "fits" "[I") ∈ lw_all := lw_g (lw_at lw_m8 63 rfl) rfl
theorem q1856 : (Jvm.Cond.soleField "BlueBagModel" "fits") ∈ lw_all := lw_g (lw_at lw_m8 64 rfl) rfl
theorem q1857 : (Jvm.Cond.laysFinal "BlueBagModel" "BlueBagModel" "bluesThen" "[I") ∈ lw_all := lw_g (lw_at lw_m8 65 rfl) rfl
theorem q1858 : (Jvm.Cond.soleField "BlueBagModel" "bluesThen") ∈ lw_all := lw_g (lw_at lw_m8 66 rfl) rfl
theorem q1859 : (Jvm.Cond.lays "BlueBagModel" "BlueBagModel" "fitMany" "I") ∈ lw_all := lw_g (lw_at lw_m8 67 rfl) rfl
theorem q1860 : (Jvm.Cond.soleField "BlueBagModel" "fitMany") ∈ lw_all := lw_g (lw_at lw_m8 68 rfl) rfl
theorem q1861 : (Jvm.Cond.laysFinal "BlueBagModel" "BlueBagModel" "gains" "[I") ∈ lw_all := lw_g (lw_at lw_m8 69 rfl) rfl
theorem q1862 : (Jvm.Cond.soleField "BlueBagModel" "gains") ∈ lw_all := lw_g (lw_at lw_m8 70 rfl) rfl
theorem q1863 : (Jvm.Cond.lays "BlueBagModel" "BlueBagModel" "seedNow" "I") ∈ lw_all := lw_g (lw_at lw_m8 71 rfl) rfl
theorem q1864 : (Jvm.Cond.soleField "BlueBagModel" "seedNow") ∈ lw_all := lw_g (lw_at lw_m8 72 rfl) rfl
theorem q1865 : (Jvm.Cond.lays "BlueBagModel" "BlueBagModel" "hasImage" "Z") ∈ lw_all := lw_g (lw_at lw_m8 73 rfl) rfl
theorem q1866 : (Jvm.Cond.soleField "BlueBagModel" "hasImage") ∈ lw_all := lw_g (lw_at lw_m8 74 rfl) rfl
theorem q1867 : (Jvm.Cond.lays "BlueBagModel" "BlueBagModel" "actsThen" "I") ∈ lw_all := lw_g (lw_at lw_m8 75 rfl) rfl
theorem q1868 : (Jvm.Cond.soleField "BlueBagModel" "actsThen") ∈ lw_all := lw_g (lw_at lw_m8 76 rfl) rfl
theorem q1869 : (Jvm.Cond.lays "BlueBagModel" "BlueBagModel" "seenThen" "I") ∈ lw_all := lw_g (lw_at lw_m8 77 rfl) rfl
theorem q1870 : (Jvm.Cond.soleField "BlueBagModel" "seenThen") ∈ lw_all := lw_g (lw_at lw_m8 78 rfl) rfl
theorem q1871 : (Jvm.Cond.laysFinal "BlueBagModel" "BlueBagModel" "imageRow" "[I") ∈ lw_all := lw_g (lw_at lw_m8 79 rfl) rfl
theorem q1872 : (Jvm.Cond.soleField "BlueBagModel" "imageRow") ∈ lw_all := lw_g (lw_at lw_m8 80 rfl) rfl
theorem q1873 : (Jvm.Cond.laysFinal "BlueBagModel" "BlueBagModel" "pastThen" "[I") ∈ lw_all := lw_g (lw_at lw_m8 81 rfl) rfl
theorem q1874 : (Jvm.Cond.soleField "BlueBagModel" "pastThen") ∈ lw_all := lw_g (lw_at lw_m8 82 rfl) rfl
theorem q1875 : (Jvm.Cond.laysFinal "BlueBagModel" "BlueBagModel" "seenCellThen" "[I") ∈ lw_all := lw_g (lw_at lw_m8 83 rfl) rfl
theorem q1876 : (Jvm.Cond.soleField "BlueBagModel" "seenCellThen") ∈ lw_all := lw_g (lw_at lw_m8 84 rfl) rfl
theorem q1877 : (Jvm.Cond.laysFinal "BlueBagModel" "BlueBagModel" "seenInThen" "[I") ∈ lw_all := lw_g (lw_at lw_m8 85 rfl) rfl
theorem q1878 : (Jvm.Cond.soleField "BlueBagModel" "seenInThen") ∈ lw_all := lw_g (lw_at lw_m8 86 rfl) rfl
theorem q1879 : (Jvm.Cond.laysFinal "BlueBagModel" "BlueBagModel" "seenBlueThen" "[I") ∈ lw_all := lw_g (lw_at lw_m8 87 rfl) rfl
theorem q1880 : (Jvm.Cond.soleField "BlueBagModel" "seenBlueThen") ∈ lw_all := lw_g (lw_at lw_m8 88 rfl) rfl
theorem q1881 : (Jvm.Cond.laysFinal "BlueBagModel" "BlueBagModel" "statusThen" "[I") ∈ lw_all := lw_g (lw_at lw_m8 89 rfl) rfl
theorem q1882 : (Jvm.Cond.soleField "BlueBagModel" "statusThen") ∈ lw_all := lw_g (lw_at lw_m8 90 rfl) rfl
theorem q1883 : (Jvm.Cond.superclass "BlueBagModel" "java/lang/Object") ∈ lw_all := lw_g (lw_at lw_m8 91 rfl) rfl
theorem q1885 : (Jvm.Cond.instanceMethod ({ cls := "BlueBagModel", name := "thrown", desc := "()I" } : Jvm.MethodName)) ∈ lw_all := lw_g (lw_at lw_m8 93 rfl) rfl
theorem q1886 : (Jvm.Cond.selects "BlueBagModel" ({ cls := "BlueBagModel", name := "thrown", desc := "()I" } : Jvm.MethodName) ({ cls := "BlueBagModel", name := "thrown", desc := "()I" } : Jvm.MethodName)) ∈ lw_all := lw_g (lw_at lw_m8 94 rfl) rfl
theorem q1887 : (Jvm.Cond.code ({ cls := "BlueBagModel", name := "thrown", desc := "()I" } : Jvm.MethodName) prog_18_method_3_code (1 : Nat) (Option.some Jvm.ClassFile.FieldType.int)) ∈ lw_all := lw_g (lw_at lw_m8 95 rfl) rfl
theorem q1889 : (Jvm.Cond.instanceMethod ({ cls := "BlueBagModel", name := "feed", desc := "(IIIII)I" } : Jvm.MethodName)) ∈ lw_all := lw_g (lw_at lw_m8 97 rfl) rfl
theorem q1890 : (Jvm.Cond.selects "BlueBagModel" ({ cls := "BlueBagModel", name := "feed", desc := "(IIIII)I" } : Jvm.MethodName) ({ cls := "BlueBagModel", name := "feed", desc := "(IIIII)I" } : Jvm.MethodName)) ∈ lw_all := lw_g (lw_at lw_m8 98 rfl) rfl
theorem q1891 : (Jvm.Cond.code ({ cls := "BlueBagModel", name := "feed", desc := "(IIIII)I" } : Jvm.MethodName) prog_18_method_12_code (8 : Nat) (Option.some Jvm.ClassFile.FieldType.int)) ∈ lw_all := lw_g (lw_at lw_m8 99 rfl) rfl
theorem q1893 : (Jvm.Cond.instanceMethod ({ cls := "BlueBagModel", name := "coast", desc := "(I)I" } : Jvm.MethodName)) ∈ lw_all := lw_g (lw_at lw_m8 101 rfl) rfl
theorem q1894 : (Jvm.Cond.selects "BlueBagModel" ({ cls := "BlueBagModel", name := "coast", desc := "(I)I" } : Jvm.MethodName) ({ cls := "BlueBagModel", name := "coast", desc := "(I)I" } : Jvm.MethodName)) ∈ lw_all := lw_g (lw_at lw_m8 102 rfl) rfl
theorem q1895 : (Jvm.Cond.code ({ cls := "BlueBagModel", name := "coast", desc := "(I)I" } : Jvm.MethodName) prog_18_method_40_code (3 : Nat) (Option.some Jvm.ClassFile.FieldType.int)) ∈ lw_all := lw_g (lw_at lw_m8 103 rfl) rfl
theorem q1896 : (Jvm.Cond.methodLink "BlueBagModel" (318 : Nat) ({ cls := "BlueBagModel", name := "fail", desc := "(I)I" } : Jvm.MethodName)) ∈ lw_all := lw_g (lw_at lw_m8 104 rfl) rfl
theorem q1897 : (Jvm.Cond.privateMethod ({ cls := "BlueBagModel", name := "fail", desc := "(I)I" } : Jvm.MethodName)) ∈ lw_tbl := lw_at lw_m8 105 rfl
theorem q1898 : (Jvm.Cond.instanceMethod ({ cls := "BlueBagModel", name := "fail", desc := "(I)I" } : Jvm.MethodName)) ∈ lw_all := lw_g (lw_at lw_m8 106 rfl) rfl
theorem q1899 : (Jvm.Cond.code ({ cls := "BlueBagModel", name := "fail", desc := "(I)I" } : Jvm.MethodName) prog_18_method_4_code (2 : Nat) (Option.some Jvm.ClassFile.FieldType.int)) ∈ lw_all := lw_g (lw_at lw_m8 107 rfl) rfl
theorem q1900 : (Jvm.Cond.methodLink "BlueBagModel" (226 : Nat) ({ cls := "BlueBagModel", name := "stepOn", desc := "()V" } : Jvm.MethodName)) ∈ lw_all := lw_g (lw_at lw_m8 108 rfl) rfl
theorem q1901 : (Jvm.Cond.privateMethod ({ cls := "BlueBagModel", name := "stepOn", desc := "()V" } : Jvm.MethodName)) ∈ lw_tbl := lw_at lw_m8 109 rfl
theorem q1902 : (Jvm.Cond.instanceMethod ({ cls := "BlueBagModel", name := "stepOn", desc := "()V" } : Jvm.MethodName)) ∈ lw_all := lw_g (lw_at lw_m8 110 rfl) rfl
theorem q1903 : (Jvm.Cond.code ({ cls := "BlueBagModel", name := "stepOn", desc := "()V" } : Jvm.MethodName) prog_18_method_17_code (2 : Nat) (Option.none : Option Jvm.ClassFile.FieldType)) ∈ lw_all := lw_g (lw_at lw_m8 111 rfl) rfl
theorem q1904 : (Jvm.Cond.methodLink "BlueBagModel" (170 : Nat) ({ cls := "BlueBagModel", name := "byteAt", desc := "(I)I" } : Jvm.MethodName)) ∈ lw_all := lw_g (lw_at lw_m8 112 rfl) rfl
theorem q1905 : (Jvm.Cond.privateMethod ({ cls := "BlueBagModel", name := "byteAt", desc := "(I)I" } : Jvm.MethodName)) ∈ lw_tbl := lw_at lw_m8 113 rfl
theorem q1906 : (Jvm.Cond.instanceMethod ({ cls := "BlueBagModel", name := "byteAt", desc := "(I)I" } : Jvm.MethodName)) ∈ lw_all := lw_g (lw_at lw_m8 114 rfl) rfl
theorem q1907 : (Jvm.Cond.code ({ cls := "BlueBagModel", name := "byteAt", desc := "(I)I" } : Jvm.MethodName) prog_18_method_13_code (2 : Nat) (Option.some Jvm.ClassFile.FieldType.int)) ∈ lw_all := lw_g (lw_at lw_m8 115 rfl) rfl
theorem q1908 : (Jvm.Cond.methodLink "BlueBagModel" (180 : Nat) ({ cls := "BlueBagModel", name := "isLetter", desc := "(I)Z" } : Jvm.MethodName)) ∈ lw_all := lw_g (lw_at lw_m8 116 rfl) rfl
theorem q1909 : (Jvm.Cond.static ({ cls := "BlueBagModel", name := "isLetter", desc := "(I)Z" } : Jvm.MethodName)) ∈ lw_all := lw_g (lw_at lw_m8 117 rfl) rfl
theorem q1910 : (Jvm.Cond.code ({ cls := "BlueBagModel", name := "isLetter", desc := "(I)Z" } : Jvm.MethodName) prog_18_method_14_code (1 : Nat) (Option.some Jvm.ClassFile.FieldType.boolean)) ∈ lw_all := lw_g (lw_at lw_m8 118 rfl) rfl
theorem q1911 : (Jvm.Cond.methodLink "BlueBagModel" (184 : Nat) ({ cls := "BlueBagModel", name := "isDigit", desc := "(I)Z" } : Jvm.MethodName)) ∈ lw_all := lw_g (lw_at lw_m8 119 rfl) rfl
theorem q1912 : (Jvm.Cond.static ({ cls := "BlueBagModel", name := "isDigit", desc := "(I)Z" } : Jvm.MethodName)) ∈ lw_all := lw_g (lw_at lw_m8 120 rfl) rfl
theorem q1913 : (Jvm.Cond.code ({ cls := "BlueBagModel", name := "isDigit", desc := "(I)Z" } : Jvm.MethodName) prog_18_method_15_code (1 : Nat) (Option.some Jvm.ClassFile.FieldType.boolean)) ∈ lw_all := lw_g (lw_at lw_m8 121 rfl) rfl
theorem q1914 : (Jvm.Cond.constant "BlueBagModel" (190 : Nat) (100000 : Int32)) ∈ lw_all := lw_g (lw_at lw_m8 122 rfl) rfl
theorem q1915 : (Jvm.Cond.methodLink "BlueBagModel" (191 : Nat) ({ cls := "java/lang/Math", name := "min", desc := "(II)I" } : Jvm.MethodName)) ∈ lw_all := lw_g (lw_at lw_m8 123 rfl) rfl
theorem q1916 : (Jvm.Cond.methodLink "BlueBagModel" (197 : Nat) ({ cls := "BlueBagModel", name := "isMark", desc := "(I)Z" } : Jvm.MethodName)) ∈ lw_all := lw_g (lw_at lw_m8 124 rfl) rfl
theorem q1917 : (Jvm.Cond.static ({ cls := "BlueBagModel", name := "isMark", desc := "(I)Z" } : Jvm.MethodName)) ∈ lw_all := lw_g (lw_at lw_m8 125 rfl) rfl
theorem q1918 : (Jvm.Cond.code ({ cls := "BlueBagModel", name := "isMark", desc := "(I)Z" } : Jvm.MethodName) prog_18_method_16_code (1 : Nat) (Option.some Jvm.ClassFile.FieldType.boolean)) ∈ lw_all := lw_g (lw_at lw_m8 126 rfl) rfl
theorem q1919 : (Jvm.Cond.methodLink "BlueBagModel" (321 : Nat) ({ cls := "BlueBagModel", name := "readLine", desc := "(I)I" } : Jvm.MethodName)) ∈ lw_all := lw_g (lw_at lw_m8 127 rfl) rfl
theorem q1920 : (Jvm.Cond.privateMethod ({ cls := "BlueBagModel", name := "readLine", desc := "(I)I" } : Jvm.MethodName)) ∈ lw_tbl := lw_at lw_m8 128 rfl
theorem q1921 : (Jvm.Cond.instanceMethod ({ cls := "BlueBagModel", name := "readLine", desc := "(I)I" } : Jvm.MethodName)) ∈ lw_all := lw_g (lw_at lw_m8 129 rfl) rfl
theorem q1922 : (Jvm.Cond.code ({ cls := "BlueBagModel", name := "readLine", desc := "(I)I" } : Jvm.MethodName) prog_18_method_39_code (4 : Nat) (Option.some Jvm.ClassFile.FieldType.int)) ∈ lw_all := lw_g (lw_at lw_m8 130 rfl) rfl
theorem q1923 : (Jvm.Cond.methodLink "BlueBagModel" (249 : Nat) ({ cls := "BlueBagModel", name := "which", desc := "([Ljava/lang/String;)I" } : Jvm.MethodName)) ∈ lw_all := lw_g (lw_at lw_m8 131 rfl) rfl
theorem q1924 : (Jvm.Cond.privateMethod ({ cls := "BlueBagModel", name := "which", desc := "([Ljava/lang/String;)I" } : Jvm.MethodName)) ∈ lw_tbl := lw_at lw_m8 132 rfl
theorem q1925 : (Jvm.Cond.instanceMethod ({ cls := "BlueBagModel", name := "which", desc := "([Ljava/lang/String;)I" } : Jvm.MethodName)) ∈ lw_all := lw_g (lw_at lw_m8 133 rfl) rfl
theorem q1926 : (Jvm.Cond.code ({ cls := "BlueBagModel", name := "which", desc := "([Ljava/lang/String;)I" } : Jvm.MethodName) prog_18_method_20_code (3 : Nat) (Option.some Jvm.ClassFile.FieldType.int)) ∈ lw_all := lw_g (lw_at lw_m8 134 rfl) rfl
theorem q1927 : (Jvm.Cond.methodLink "BlueBagModel" (216 : Nat) ({ cls := "BlueBagModel", name := "is", desc := "(Ljava/lang/String;)Z" } : Jvm.MethodName)) ∈ lw_all := lw_g (lw_at lw_m8 135 rfl) rfl
theorem q1928 : (Jvm.Cond.privateMethod ({ cls := "BlueBagModel", name := "is", desc := "(Ljava/lang/String;)Z" } : Jvm.MethodName)) ∈ lw_tbl := lw_at lw_m8 136 rfl
theorem q1929 : (Jvm.Cond.instanceMethod ({ cls := "BlueBagModel", name := "is", desc := "(Ljava/lang/String;)Z" } : Jvm.MethodName)) ∈ lw_all := lw_g (lw_at lw_m8 137 rfl) rfl
theorem q1930 : (Jvm.Cond.code ({ cls := "BlueBagModel", name := "is", desc := "(Ljava/lang/String;)Z" } : Jvm.MethodName) prog_18_method_19_code (4 : Nat) (Option.some Jvm.ClassFile.FieldType.boolean)) ∈ lw_all := lw_g (lw_at lw_m8 138 rfl) rfl
theorem q1931 : (Jvm.Cond.methodLink "BlueBagModel" (209 : Nat) ({ cls := "java/lang/String", name := "length", desc := "()I" } : Jvm.MethodName)) ∈ lw_all := lw_g (lw_at lw_m8 139 rfl) rfl
theorem q1932 : (Jvm.Cond.methodLink "BlueBagModel" (212 : Nat) ({ cls := "java/lang/String", name := "charAt", desc := "(I)C" } : Jvm.MethodName)) ∈ lw_all := lw_g (lw_at lw_m8 140 rfl) rfl
theorem q1933 : (Jvm.Cond.stringRef "BlueBagModel" (293 : Nat) "sky") ∈ lw_tbl := lw_at lw_m8 141 rfl
theorem q1934 : (Jvm.Cond.stringRef "BlueBagModel" (295 : Nat) "knobs") ∈ lw_tbl := lw_at lw_m8 142 rfl
theorem q1935 : (Jvm.Cond.stringRef "BlueBagModel" (296 : Nat) "rinse") ∈ lw_tbl := lw_at lw_m8 143 rfl
theorem q1936 : (Jvm.Cond.stringRef "BlueBagModel" (298 : Nat) "bound") ∈ lw_tbl := lw_at lw_m8 144 rfl
theorem q1937 : (Jvm.Cond.stringRef "BlueBagModel" (300 : Nat) "dyes") ∈ lw_tbl := lw_at lw_m8 145 rfl
theorem q1938 : (Jvm.Cond.stringRef "BlueBagModel" (302 : Nat) "fades") ∈ lw_tbl := lw_at lw_m8 146 rfl
theorem q1939 : (Jvm.Cond.methodLink "BlueBagModel" (223 : Nat) ({ cls := "BlueBagModel", name := "wrong", desc := "(I)V" } : Jvm.MethodName)) ∈ lw_all := lw_g (lw_at lw_m8 147 rfl) rfl
theorem q1940 : (Jvm.Cond.privateMethod ({ cls := "BlueBagModel", name := "wrong", desc := "(I)V" } : Jvm.MethodName)) ∈ lw_tbl := lw_at lw_m8 148 rfl
theorem q1941 : (Jvm.Cond.instanceMethod ({ cls := "BlueBagModel", name := "wrong", desc := "(I)V" } : Jvm.MethodName)) ∈ lw_all := lw_g (lw_at lw_m8 149 rfl) rfl
theorem q1942 : (Jvm.Cond.code ({ cls := "BlueBagModel", name := "wrong", desc := "(I)V" } : Jvm.MethodName) prog_18_method_18_code (2 : Nat) (Option.none : Option Jvm.ClassFile.FieldType)) ∈ lw_all := lw_g (lw_at lw_m8 150 rfl) rfl
theorem q1943 : (Jvm.Cond.methodLink "BlueBagModel" (304 : Nat) ({ cls := "BlueBagModel", name := "sayOnce", desc := "(I)V" } : Jvm.MethodName)) ∈ lw_all := lw_g (lw_at lw_m8 151 rfl) rfl
theorem q1944 : (Jvm.Cond.privateMethod ({ cls := "BlueBagModel", name := "sayOnce", desc := "(I)V" } : Jvm.MethodName)) ∈ lw_tbl := lw_at lw_m8 152 rfl
theorem q1945 : (Jvm.Cond.instanceMethod ({ cls := "BlueBagModel", name := "sayOnce", desc := "(I)V" } : Jvm.MethodName)) ∈ lw_all := lw_g (lw_at lw_m8 153 rfl) rfl
theorem q1946 : (Jvm.Cond.code ({ cls := "BlueBagModel", name := "sayOnce", desc := "(I)V" } : Jvm.MethodName) prog_18_method_38_code (2 : Nat) (Option.none : Option Jvm.ClassFile.FieldType)) ∈ lw_all := lw_g (lw_at lw_m8 154 rfl) rfl
theorem q1947 : (Jvm.Cond.methodLink "BlueBagModel" (286 : Nat) ({ cls := "BlueBagModel", name := "saySky", desc := "()V" } : Jvm.MethodName)) ∈ lw_all := lw_g (lw_at lw_m8 155 rfl) rfl
theorem q1948 : (Jvm.Cond.privateMethod ({ cls := "BlueBagModel", name := "saySky", desc := "()V" } : Jvm.MethodName)) ∈ lw_tbl := lw_at lw_m8 156 rfl
theorem q1949 : (Jvm.Cond.instanceMethod ({ cls := "BlueBagModel", name := "saySky", desc := "()V" } : Jvm.MethodName)) ∈ lw_all := lw_g (lw_at lw_m8 157 rfl) rfl
theorem q1950 : (Jvm.Cond.code ({ cls := "BlueBagModel", name := "saySky", desc := "()V" } : Jvm.MethodName) prog_18_method_33_code (1 : Nat) (Option.none : Option Jvm.ClassFile.FieldType)) ∈ lw_all := lw_g (lw_at lw_m8 158 rfl) rfl
theorem q1951 : (Jvm.Cond.methodLink "BlueBagModel" (243 : Nat) ({ cls := "BlueBagModel", name := "readNumber", desc := "(II)I" } : Jvm.MethodName)) ∈ lw_all := lw_g (lw_at lw_m8 159 rfl) rfl
theorem q1952 : (Jvm.Cond.privateMethod ({ cls := "BlueBagModel", name := "readNumber", desc := "(II)I" } : Jvm.MethodName)) ∈ lw_tbl := lw_at lw_m8 160 rfl
theorem q1953 : (Jvm.Cond.instanceMethod ({ cls := "BlueBagModel", name := "readNumber", desc := "(II)I" } : Jvm.MethodName)) ∈ lw_all := lw_g (lw_at lw_m8 161 rfl) rfl
theorem q1954 : (Jvm.Cond.code ({ cls := "BlueBagModel", name := "readNumber", desc := "(II)I" } : Jvm.MethodName) prog_18_method_24_code (4 : Nat) (Option.some Jvm.ClassFile.FieldType.int)) ∈ lw_all := lw_g (lw_at lw_m8 162 rfl) rfl
theorem q1955 : (Jvm.Cond.methodLink "BlueBagModel" (229 : Nat) ({ cls := "BlueBagModel", name := "numberNow", desc := "(II)I" } : Jvm.MethodName)) ∈ lw_all := lw_g (lw_at lw_m8 163 rfl) rfl
theorem q1956 : (Jvm.Cond.privateMethod ({ cls := "BlueBagModel", name := "numberNow", desc := "(II)I" } : Jvm.MethodName)) ∈ lw_tbl := lw_at lw_m8 164 rfl
theorem q1957 : (Jvm.Cond.instanceMethod ({ cls := "BlueBagModel", name := "numberNow", desc := "(II)I" } : Jvm.MethodName)) ∈ lw_all := lw_g (lw_at lw_m8 165 rfl) rfl
theorem q1958 : (Jvm.Cond.code ({ cls := "BlueBagModel", name := "numberNow", desc := "(II)I" } : Jvm.MethodName) prog_18_method_23_code (3 : Nat) (Option.some Jvm.ClassFile.FieldType.int)) ∈ lw_all := lw_g (lw_at lw_m8 166 rfl) rfl
theorem q1959 : (Jvm.Cond.methodLink "BlueBagModel" (289 : Nat) ({ cls := "BlueBagModel", name := "sayRule", desc := "(Z)V" } : Jvm.MethodName)) ∈ lw_all := lw_g (lw_at lw_m8 167 rfl) rfl
theorem q1960 : (Jvm.Cond.privateMethod ({ cls := "BlueBagModel", name := "sayRule", desc := "(Z)V" } : Jvm.MethodName)) ∈ lw_tbl := lw_at lw_m8 168 rfl
theorem q1961 : (Jvm.Cond.instanceMethod ({ cls := "BlueBagModel", name := "sayRule", desc := "(Z)V" } : Jvm.MethodName)) ∈ lw_all := lw_g (lw_at lw_m8 169 rfl) rfl
theorem q1962 : (Jvm.Cond.code ({ cls := "BlueBagModel", name := "sayRule", desc := "(Z)V" } : Jvm.MethodName) prog_18_method_37_code (2 : Nat) (Option.none : Option Jvm.ClassFile.FieldType)) ∈ lw_all := lw_g (lw_at lw_m8 170 rfl) rfl
theorem q1963 : (Jvm.Cond.methodLink "BlueBagModel" (256 : Nat) ({ cls := "BlueBagModel", name := "readExpression", desc := "(I)V" } : Jvm.MethodName)) ∈ lw_all := lw_g (lw_at lw_m8 171 rfl) rfl
theorem q1964 : (Jvm.Cond.privateMethod ({ cls := "BlueBagModel", name := "readExpression", desc := "(I)V" } : Jvm.MethodName)) ∈ lw_tbl := lw_at lw_m8 172 rfl
theorem q1965 : (Jvm.Cond.instanceMethod ({ cls := "BlueBagModel", name := "readExpression", desc := "(I)V" } : Jvm.MethodName)) ∈ lw_all := lw_g (lw_at lw_m8 173 rfl) rfl
theorem q1966 : (Jvm.Cond.code ({ cls := "BlueBagModel", name := "readExpression", desc := "(I)V" } : Jvm.MethodName) prog_18_method_32_code (3 : Nat) (Option.none : Option Jvm.ClassFile.FieldType)) ∈ lw_all := lw_g (lw_at lw_m8 174 rfl) rfl
theorem q1967 : (Jvm.Cond.methodLink "BlueBagModel" (220 : Nat) ({ cls := "BlueBagModel", name := "isMarked", desc := "(I)Z" } : Jvm.MethodName)) ∈ lw_all := lw_g (lw_at lw_m8 175 rfl) rfl
theorem q1968 : (Jvm.Cond.privateMethod ({ cls := "BlueBagModel", name := "isMarked", desc := "(I)Z" } : Jvm.MethodName)) ∈ lw_tbl := lw_at lw_m8 176 rfl
theorem q1969 : (Jvm.Cond.instanceMethod ({ cls := "BlueBagModel", name := "isMarked", desc := "(I)Z" } : Jvm.MethodName)) ∈ lw_all := lw_g (lw_at lw_m8 177 rfl) rfl
theorem q1970 : (Jvm.Cond.code ({ cls := "BlueBagModel", name := "isMarked", desc := "(I)Z" } : Jvm.MethodName) prog_18_method_21_code (2 : Nat) (Option.some Jvm.ClassFile.FieldType.boolean)) ∈ lw_all := lw_g (lw_at lw_m8 178 rfl) rfl
theorem q1971 : (Jvm.Cond.methodLink "BlueBagModel" (275 : Nat) ({ cls := "BlueBagModel", name := "readAnd", desc := "(I)V" } : Jvm.MethodName)) ∈ lw_all := lw_g (lw_at lw_m8 179 rfl) rfl
theorem q1972 : (Jvm.Cond.privateMethod ({ cls := "BlueBagModel", name := "readAnd", desc := "(I)V" } : Jvm.MethodName)) ∈ lw_tbl := lw_at lw_m8 180 rfl
theorem q1973 : (Jvm.Cond.instanceMethod ({ cls := "BlueBagModel", name := "readAnd", desc := "(I)V" } : Jvm.MethodName)) ∈ lw_all := lw_g (lw_at lw_m8 181 rfl) rfl
theorem q1974 : (Jvm.Cond.code ({ cls := "BlueBagModel", name := "readAnd", desc := "(I)V" } : Jvm.MethodName) prog_18_method_31_code (2 : Nat) (Option.none : Option Jvm.ClassFile.FieldType)) ∈ lw_all := lw_g (lw_at lw_m8 182 rfl) rfl
theorem q1975 : (Jvm.Cond.methodLink "BlueBagModel" (270 : Nat) ({ cls := "BlueBagModel", name := "readNot", desc := "(I)V" } : Jvm.MethodName)) ∈ lw_all := lw_g (lw_at lw_m8 183 rfl) rfl
theorem q1976 : (Jvm.Cond.privateMethod ({ cls := "BlueBagModel", name := "readNot", desc := "(I)V" } : Jvm.MethodName)) ∈ lw_tbl := lw_at lw_m8 184 rfl
theorem q1977 : (Jvm.Cond.instanceMethod ({ cls := "BlueBagModel", name := "readNot", desc := "(I)V" } : Jvm.MethodName)) ∈ lw_all := lw_g (lw_at lw_m8 185 rfl) rfl
theorem q1978 : (Jvm.Cond.code ({ cls := "BlueBagModel", name := "readNot", desc := "(I)V" } : Jvm.MethodName) prog_18_method_30_code (4 : Nat) (Option.none : Option Jvm.ClassFile.FieldType)) ∈ lw_all := lw_g (lw_at lw_m8 186 rfl) rfl
theorem q1979 : (Jvm.Cond.stringRef "BlueBagModel" (265 : Nat) "not") ∈ lw_tbl := lw_at lw_m8 187 rfl
theorem q1980 : (Jvm.Cond.methodLink "BlueBagModel" (267 : Nat) ({ cls := "BlueBagModel", name := "readSum", desc := "(I)V" } : Jvm.MethodName)) ∈ lw_all := lw_g (lw_at lw_m8 188 rfl) rfl
theorem q1981 : (Jvm.Cond.privateMethod ({ cls := "BlueBagModel", name := "readSum", desc := "(I)V" } : Jvm.MethodName)) ∈ lw_tbl := lw_at lw_m8 189 rfl
theorem q1982 : (Jvm.Cond.instanceMethod ({ cls := "BlueBagModel", name := "readSum", desc := "(I)V" } : Jvm.MethodName)) ∈ lw_all := lw_g (lw_at lw_m8 190 rfl) rfl
theorem q1983 : (Jvm.Cond.code ({ cls := "BlueBagModel", name := "readSum", desc := "(I)V" } : Jvm.MethodName) prog_18_method_29_code (3 : Nat) (Option.none : Option Jvm.ClassFile.FieldType)) ∈ lw_all := lw_g (lw_at lw_m8 191 rfl) rfl
theorem q1984 : (Jvm.Cond.methodLink "BlueBagModel" (262 : Nat) ({ cls := "BlueBagModel", name := "readProduct", desc := "(I)V" } : Jvm.MethodName)) ∈ lw_all := lw_g (lw_at lw_m8 192 rfl) rfl
theorem q1985 : (Jvm.Cond.privateMethod ({ cls := "BlueBagModel", name := "readProduct", desc := "(I)V" } : Jvm.MethodName)) ∈ lw_tbl := lw_at lw_m8 193 rfl
theorem q1986 : (Jvm.Cond.instanceMethod ({ cls := "BlueBagModel", name := "readProduct", desc := "(I)V" } : Jvm.MethodName)) ∈ lw_all := lw_g (lw_at lw_m8 194 rfl) rfl
theorem q1987 : (Jvm.Cond.code ({ cls := "BlueBagModel", name := "readProduct", desc := "(I)V" } : Jvm.MethodName) prog_18_method_28_code (3 : Nat) (Option.none : Option Jvm.ClassFile.FieldType)) ∈ lw_all := lw_g (lw_at lw_m8 195 rfl) rfl
theorem q1988 : (Jvm.Cond.methodLink "BlueBagModel" (259 : Nat) ({ cls := "BlueBagModel", name := "readPart", desc := "(I)V" } : Jvm.MethodName)) ∈ lw_all := lw_g (lw_at lw_m8 196 rfl) rfl
theorem q1989 : (Jvm.Cond.privateMethod ({ cls := "BlueBagModel", name := "readPart", desc := "(I)V" } : Jvm.MethodName)) ∈ lw_tbl := lw_at lw_m8 197 rfl
theorem q1990 : (Jvm.Cond.instanceMethod ({ cls := "BlueBagModel", name := "readPart", desc := "(I)V" } : Jvm.MethodName)) ∈ lw_all := lw_g (lw_at lw_m8 198 rfl) rfl
theorem q1991 : (Jvm.Cond.code ({ cls := "BlueBagModel", name := "readPart", desc := "(I)V" } : Jvm.MethodName) prog_18_method_27_code (3 : Nat) (Option.none : Option Jvm.ClassFile.FieldType)) ∈ lw_all := lw_g (lw_at lw_m8 199 rfl) rfl
theorem q1992 : (Jvm.Cond.methodLink "BlueBagModel" (246 : Nat) ({ cls := "BlueBagModel", name := "lay", desc := "(I)V" } : Jvm.MethodName)) ∈ lw_all := lw_g (lw_at lw_m8 200 rfl) rfl
theorem q1993 : (Jvm.Cond.privateMethod ({ cls := "BlueBagModel", name := "lay", desc := "(I)V" } : Jvm.MethodName)) ∈ lw_tbl := lw_at lw_m8 201 rfl
theorem q1994 : (Jvm.Cond.instanceMethod ({ cls := "BlueBagModel", name := "lay", desc := "(I)V" } : Jvm.MethodName)) ∈ lw_all := lw_g (lw_at lw_m8 202 rfl) rfl
theorem q1995 : (Jvm.Cond.code ({ cls := "BlueBagModel", name := "lay", desc := "(I)V" } : Jvm.MethodName) prog_18_method_26_code (4 : Nat) (Option.none : Option Jvm.ClassFile.FieldType)) ∈ lw_all := lw_g (lw_at lw_m8 203 rfl) rfl
theorem q1996 : (Jvm.Cond.methodLink "BlueBagModel" (253 : Nat) ({ cls := "BlueBagModel", name := "mark", desc := "(I)V" } : Jvm.MethodName)) ∈ lw_all := lw_g (lw_at lw_m8 204 rfl) rfl
theorem q1997 : (Jvm.Cond.privateMethod ({ cls := "BlueBagModel", name := "mark", desc := "(I)V" } : Jvm.MethodName)) ∈ lw_tbl := lw_at lw_m8 205 rfl
theorem q1998 : (Jvm.Cond.instanceMethod ({ cls := "BlueBagModel", name := "mark", desc := "(I)V" } : Jvm.MethodName)) ∈ lw_all := lw_g (lw_at lw_m8 206 rfl) rfl
theorem q1999 : (Jvm.Cond.code ({ cls := "BlueBagModel", name := "mark", desc := "(I)V" } : Jvm.MethodName) prog_18_method_22_code (2 : Nat) (Option.none : Option Jvm.ClassFile.FieldType)) ∈ lw_all := lw_g (lw_at lw_m8 207 rfl) rfl
theorem q2000 : (Jvm.Cond.stringRef "BlueBagModel" (273 : Nat) "and") ∈ lw_tbl := lw_at lw_m8 208 rfl
theorem q2001 : (Jvm.Cond.stringRef "BlueBagModel" (278 : Nat) "or") ∈ lw_tbl := lw_at lw_m8 209 rfl
theorem q2002 : (Jvm.Cond.methodLink "BlueBagModel" (307 : Nat) ({ cls := "BlueBagModel", name := "sayWoman", desc := "(I)V" } : Jvm.MethodName)) ∈ lw_all := lw_g (lw_at lw_m8 210 rfl) rfl
theorem q2003 : (Jvm.Cond.privateMethod ({ cls := "BlueBagModel", name := "sayWoman", desc := "(I)V" } : Jvm.MethodName)) ∈ lw_tbl := lw_at lw_m8 211 rfl
theorem q2004 : (Jvm.Cond.instanceMethod ({ cls := "BlueBagModel", name := "sayWoman", desc := "(I)V" } : Jvm.MethodName)) ∈ lw_all := lw_g (lw_at lw_m8 212 rfl) rfl
theorem q2005 : (Jvm.Cond.code ({ cls := "BlueBagModel", name := "sayWoman", desc := "(I)V" } : Jvm.MethodName) prog_18_method_35_code (3 : Nat) (Option.none : Option Jvm.ClassFile.FieldType)) ∈ lw_all := lw_g (lw_at lw_m8 213 rfl) rfl
theorem q2006 : (Jvm.Cond.methodLink "BlueBagModel" (283 : Nat) ({ cls := "BlueBagModel", name := "cellNow", desc := "(I)I" } : Jvm.MethodName)) ∈ lw_all := lw_g (lw_at lw_m8 214 rfl) rfl
theorem q2007 : (Jvm.Cond.privateMethod ({ cls := "BlueBagModel", name := "cellNow", desc := "(I)I" } : Jvm.MethodName)) ∈ lw_tbl := lw_at lw_m8 215 rfl
theorem q2008 : (Jvm.Cond.instanceMethod ({ cls := "BlueBagModel", name := "cellNow", desc := "(I)I" } : Jvm.MethodName)) ∈ lw_all := lw_g (lw_at lw_m8 216 rfl) rfl
theorem q2009 : (Jvm.Cond.code ({ cls := "BlueBagModel", name := "cellNow", desc := "(I)I" } : Jvm.MethodName) prog_18_method_25_code (3 : Nat) (Option.some Jvm.ClassFile.FieldType.int)) ∈ lw_all := lw_g (lw_at lw_m8 217 rfl) rfl
theorem q2010 : (Jvm.Cond.methodLink "BlueBagModel" (232 : Nat) ({ cls := "BlueBagModel", name := "isOf", desc := "(II)Z" } : Jvm.MethodName)) ∈ lw_all := lw_g (lw_at lw_m8 218 rfl) rfl
theorem q2011 : (Jvm.Cond.static ({ cls := "BlueBagModel", name := "isOf", desc := "(II)Z" } : Jvm.MethodName)) ∈ lw_all := lw_g (lw_at lw_m8 219 rfl) rfl
theorem q2012 : (Jvm.Cond.code ({ cls := "BlueBagModel", name := "isOf", desc := "(II)Z" } : Jvm.MethodName) prog_18_method_7_code (2 : Nat) (Option.some Jvm.ClassFile.FieldType.boolean)) ∈ lw_all := lw_g (lw_at lw_m8 220 rfl) rfl
theorem q2013 : (Jvm.Cond.methodLink "BlueBagModel" (310 : Nat) ({ cls := "BlueBagModel", name := "sayBlue", desc := "()V" } : Jvm.MethodName)) ∈ lw_all := lw_g (lw_at lw_m8 221 rfl) rfl
theorem q2014 : (Jvm.Cond.privateMethod ({ cls := "BlueBagModel", name := "sayBlue", desc := "()V" } : Jvm.MethodName)) ∈ lw_tbl := lw_at lw_m8 222 rfl
theorem q2015 : (Jvm.Cond.instanceMethod ({ cls := "BlueBagModel", name := "sayBlue", desc := "()V" } : Jvm.MethodName)) ∈ lw_all := lw_g (lw_at lw_m8 223 rfl) rfl
theorem q2016 : (Jvm.Cond.code ({ cls := "BlueBagModel", name := "sayBlue", desc := "()V" } : Jvm.MethodName) prog_18_method_34_code (2 : Nat) (Option.none : Option Jvm.ClassFile.FieldType)) ∈ lw_all := lw_g (lw_at lw_m8 224 rfl) rfl
theorem q2017 : (Jvm.Cond.stringRef "BlueBagModel" (313 : Nat) "peg") ∈ lw_tbl := lw_at lw_m8 225 rfl
theorem q2018 : (Jvm.Cond.methodLink "BlueBagModel" (315 : Nat) ({ cls := "BlueBagModel", name := "sayPegs", desc := "()V" } : Jvm.MethodName)) ∈ lw_all := lw_g (lw_at lw_m8 226 rfl) rfl
theorem q2019 : (Jvm.Cond.privateMethod ({ cls := "BlueBagModel", name := "sayPegs", desc := "()V" } : Jvm.MethodName)) ∈ lw_tbl := lw_at lw_m8 227 rfl
theorem q2020 : (Jvm.Cond.instanceMethod ({ cls := "BlueBagModel", name := "sayPegs", desc := "()V" } : Jvm.MethodName)) ∈ lw_all := lw_g (lw_at lw_m8 228 rfl) rfl
theorem q2021 : (Jvm.Cond.code ({ cls := "BlueBagModel", name := "sayPegs", desc := "()V" } : Jvm.MethodName) prog_18_method_36_code (2 : Nat) (Option.none : Option Jvm.ClassFile.FieldType)) ∈ lw_all := lw_g (lw_at lw_m8 229 rfl) rfl
theorem q2022 : (Jvm.Cond.methodLink "BlueBagModel" (324 : Nat) ({ cls := "BlueBagModel", name := "takeOver", desc := "()V" } : Jvm.MethodName)) ∈ lw_all := lw_g (lw_at lw_m8 230 rfl) rfl
theorem q2023 : (Jvm.Cond.privateMethod ({ cls := "BlueBagModel", name := "takeOver", desc := "()V" } : Jvm.MethodName)) ∈ lw_tbl := lw_at lw_m8 231 rfl
theorem q2024 : (Jvm.Cond.instanceMethod ({ cls := "BlueBagModel", name := "takeOver", desc := "()V" } : Jvm.MethodName)) ∈ lw_all := lw_g (lw_at lw_m8 232 rfl) rfl
theorem q2025 : (Jvm.Cond.code ({ cls := "BlueBagModel", name := "takeOver", desc := "()V" } : Jvm.MethodName) prog_18_method_42_code (3 : Nat) (Option.none : Option Jvm.ClassFile.FieldType)) ∈ lw_all := lw_g (lw_at lw_m8 233 rfl) rfl
theorem q2026 : (Jvm.Cond.methodLink "BlueBagModel" (327 : Nat) ({ cls := "BlueBagModel", name := "takeHalf", desc := "([I)V" } : Jvm.MethodName)) ∈ lw_all := lw_g (lw_at lw_m8 234 rfl) rfl
theorem q2027 : (Jvm.Cond.static ({ cls := "BlueBagModel", name := "takeHalf", desc := "([I)V" } : Jvm.MethodName)) ∈ lw_all := lw_g (lw_at lw_m8 235 rfl) rfl
theorem q2028 : (Jvm.Cond.code ({ cls := "BlueBagModel", name := "takeHalf", desc := "([I)V" } : Jvm.MethodName) prog_18_method_41_code (2 : Nat) (Option.none : Option Jvm.ClassFile.FieldType)) ∈ lw_all := lw_g (lw_at lw_m8 236 rfl) rfl
theorem q2030 : (Jvm.Cond.instanceMethod ({ cls := "BlueBagModel", name := "fault", desc := "()I" } : Jvm.MethodName)) ∈ lw_all := lw_g (lw_at lw_m8 238 rfl) rfl
theorem q2031 : (Jvm.Cond.selects "BlueBagModel" ({ cls := "BlueBagModel", name := "fault", desc := "()I" } : Jvm.MethodName) ({ cls := "BlueBagModel", name := "fault", desc := "()I" } : Jvm.MethodName)) ∈ lw_all := lw_g (lw_at lw_m8 239 rfl) rfl
theorem q2032 : (Jvm.Cond.code ({ cls := "BlueBagModel", name := "fault", desc := "()I" } : Jvm.MethodName) prog_18_method_43_code (1 : Nat) (Option.some Jvm.ClassFile.FieldType.int)) ∈ lw_all := lw_g (lw_at lw_m9 0 rfl) rfl
theorem q2034 : (Jvm.Cond.instanceMethod ({ cls := "BlueBagModel", name := "count", desc := "(I)I" } : Jvm.MethodName)) ∈ lw_all := lw_g (lw_at lw_m9 2 rfl) rfl
theorem q2035 : (Jvm.Cond.selects "BlueBagModel" ({ cls := "BlueBagModel", name := "count", desc := "(I)I" } : Jvm.MethodName) ({ cls := "BlueBagModel", name := "count", desc := "(I)I" } : Jvm.MethodName)) ∈ lw_all := lw_g (lw_at lw_m9 3 rfl) rfl
theorem q2036 : (Jvm.Cond.code ({ cls := "BlueBagModel", name := "count", desc := "(I)I" } : Jvm.MethodName) prog_18_method_61_code (2 : Nat) (Option.some Jvm.ClassFile.FieldType.int)) ∈ lw_all := lw_g (lw_at lw_m9 4 rfl) rfl
theorem q2037 : (Jvm.Cond.methodLink "BlueBagModel" (153 : Nat) ({ cls := "BlueBagModel", name := "cells", desc := "()I" } : Jvm.MethodName)) ∈ lw_all := lw_g (lw_at lw_m9 5 rfl) rfl
theorem q2038 : (Jvm.Cond.privateMethod ({ cls := "BlueBagModel", name := "cells", desc := "()I" } : Jvm.MethodName)) ∈ lw_tbl := lw_at lw_m9 6 rfl
theorem q2039 : (Jvm.Cond.instanceMethod ({ cls := "BlueBagModel", name := "cells", desc := "()I" } : Jvm.MethodName)) ∈ lw_all := lw_g (lw_at lw_m9 7 rfl) rfl
theorem q2040 : (Jvm.Cond.code ({ cls := "BlueBagModel", name := "cells", desc := "()I" } : Jvm.MethodName) prog_18_method_9_code (1 : Nat) (Option.some Jvm.ClassFile.FieldType.int)) ∈ lw_all := lw_g (lw_at lw_m9 8 rfl) rfl
theorem q2041 : (Jvm.Cond.methodLink "BlueBagModel" (405 : Nat) ({ cls := "BlueBagModel", name := "allBlue", desc := "()I" } : Jvm.MethodName)) ∈ lw_all := lw_g (lw_at lw_m9 9 rfl) rfl
theorem q2042 : (Jvm.Cond.privateMethod ({ cls := "BlueBagModel", name := "allBlue", desc := "()I" } : Jvm.MethodName)) ∈ lw_tbl := lw_at lw_m9 10 rfl
theorem q2043 : (Jvm.Cond.instanceMethod ({ cls := "BlueBagModel", name := "allBlue", desc := "()I" } : Jvm.MethodName)) ∈ lw_all := lw_g (lw_at lw_m9 11 rfl) rfl
theorem q2044 : (Jvm.Cond.code ({ cls := "BlueBagModel", name := "allBlue", desc := "()I" } : Jvm.MethodName) prog_18_method_60_code (3 : Nat) (Option.some Jvm.ClassFile.FieldType.int)) ∈ lw_all := lw_g (lw_at lw_m9 12 rfl) rfl
theorem q2046 : (Jvm.Cond.instanceMethod ({ cls := "BlueBagModel", name := "cell", desc := "(II)I" } : Jvm.MethodName)) ∈ lw_all := lw_g (lw_at lw_m9 14 rfl) rfl
theorem q2047 : (Jvm.Cond.selects "BlueBagModel" ({ cls := "BlueBagModel", name := "cell", desc := "(II)I" } : Jvm.MethodName) ({ cls := "BlueBagModel", name := "cell", desc := "(II)I" } : Jvm.MethodName)) ∈ lw_all := lw_g (lw_at lw_m9 15 rfl) rfl
theorem q2048 : (Jvm.Cond.code ({ cls := "BlueBagModel", name := "cell", desc := "(II)I" } : Jvm.MethodName) prog_18_method_64_code (3 : Nat) (Option.some Jvm.ClassFile.FieldType.int)) ∈ lw_all := lw_g (lw_at lw_m9 16 rfl) rfl
theorem q2049 : (Jvm.Cond.methodLink "BlueBagModel" (408 : Nat) ({ cls := "BlueBagModel", name := "isCell", desc := "(I)Z" } : Jvm.MethodName)) ∈ lw_all := lw_g (lw_at lw_m9 17 rfl) rfl
theorem q2050 : (Jvm.Cond.privateMethod ({ cls := "BlueBagModel", name := "isCell", desc := "(I)Z" } : Jvm.MethodName)) ∈ lw_tbl := lw_at lw_m9 18 rfl
theorem q2051 : (Jvm.Cond.instanceMethod ({ cls := "BlueBagModel", name := "isCell", desc := "(I)Z" } : Jvm.MethodName)) ∈ lw_all := lw_g (lw_at lw_m9 19 rfl) rfl
theorem q2052 : (Jvm.Cond.code ({ cls := "BlueBagModel", name := "isCell", desc := "(I)Z" } : Jvm.MethodName) prog_18_method_10_code (2 : Nat) (Option.some Jvm.ClassFile.FieldType.boolean)) ∈ lw_all := lw_g (lw_at lw_m9 20 rfl) rfl
theorem q2053 : (Jvm.Cond.methodLink "BlueBagModel" (157 : Nat) ({ cls := "BlueBagModel", name := "isIn", desc := "(JJJ)Z" } : Jvm.MethodName)) ∈ lw_all := lw_g (lw_at lw_m9 21 rfl) rfl
theorem q2054 : (Jvm.Cond.static ({ cls := "BlueBagModel", name := "isIn", desc := "(JJJ)Z" } : Jvm.MethodName)) ∈ lw_all := lw_g (lw_at lw_m9 22 rfl) rfl
theorem q2055 : (Jvm.Cond.code ({ cls := "BlueBagModel", name := "isIn", desc := "(JJJ)Z" } : Jvm.MethodName) prog_18_method_6_code (6 : Nat) (Option.some Jvm.ClassFile.FieldType.boolean)) ∈ lw_all := lw_g (lw_at lw_m9 23 rfl) rfl
theorem q2056 : (Jvm.Cond.methodLink "BlueBagModel" (363 : Nat) ({ cls := "BlueBagModel", name := "besideOf", desc := "(I)I" } : Jvm.MethodName)) ∈ lw_all := lw_g (lw_at lw_m9 24 rfl) rfl
theorem q2057 : (Jvm.Cond.privateMethod ({ cls := "BlueBagModel", name := "besideOf", desc := "(I)I" } : Jvm.MethodName)) ∈ lw_tbl := lw_at lw_m9 25 rfl
theorem q2058 : (Jvm.Cond.instanceMethod ({ cls := "BlueBagModel", name := "besideOf", desc := "(I)I" } : Jvm.MethodName)) ∈ lw_all := lw_g (lw_at lw_m9 26 rfl) rfl
theorem q2059 : (Jvm.Cond.code ({ cls := "BlueBagModel", name := "besideOf", desc := "(I)I" } : Jvm.MethodName) prog_18_method_49_code (4 : Nat) (Option.some Jvm.ClassFile.FieldType.int)) ∈ lw_all := lw_g (lw_at lw_m9 27 rfl) rfl
theorem q2060 : (Jvm.Cond.methodLink "BlueBagModel" (360 : Nat) ({ cls := "BlueBagModel", name := "farOf", desc := "(II)I" } : Jvm.MethodName)) ∈ lw_all := lw_g (lw_at lw_m9 28 rfl) rfl
theorem q2061 : (Jvm.Cond.privateMethod ({ cls := "BlueBagModel", name := "farOf", desc := "(II)I" } : Jvm.MethodName)) ∈ lw_tbl := lw_at lw_m9 29 rfl
theorem q2062 : (Jvm.Cond.instanceMethod ({ cls := "BlueBagModel", name := "farOf", desc := "(II)I" } : Jvm.MethodName)) ∈ lw_all := lw_g (lw_at lw_m9 30 rfl) rfl
theorem q2063 : (Jvm.Cond.code ({ cls := "BlueBagModel", name := "farOf", desc := "(II)I" } : Jvm.MethodName) prog_18_method_48_code (3 : Nat) (Option.some Jvm.ClassFile.FieldType.int)) ∈ lw_all := lw_g (lw_at lw_m9 31 rfl) rfl
theorem q2064 : (Jvm.Cond.methodLink "BlueBagModel" (351 : Nat) ({ cls := "BlueBagModel", name := "columnOf", desc := "(I)I" } : Jvm.MethodName)) ∈ lw_all := lw_g (lw_at lw_m9 32 rfl) rfl
theorem q2065 : (Jvm.Cond.privateMethod ({ cls := "BlueBagModel", name := "columnOf", desc := "(I)I" } : Jvm.MethodName)) ∈ lw_tbl := lw_at lw_m9 33 rfl
theorem q2066 : (Jvm.Cond.instanceMethod ({ cls := "BlueBagModel", name := "columnOf", desc := "(I)I" } : Jvm.MethodName)) ∈ lw_all := lw_g (lw_at lw_m9 34 rfl) rfl
theorem q2067 : (Jvm.Cond.code ({ cls := "BlueBagModel", name := "columnOf", desc := "(I)I" } : Jvm.MethodName) prog_18_method_46_code (2 : Nat) (Option.some Jvm.ClassFile.FieldType.int)) ∈ lw_all := lw_g (lw_at lw_m9 35 rfl) rfl
theorem q2068 : (Jvm.Cond.methodLink "BlueBagModel" (354 : Nat) ({ cls := "java/lang/Math", name := "abs", desc := "(I)I" } : Jvm.MethodName)) ∈ lw_all := lw_g (lw_at lw_m9 36 rfl) rfl
theorem q2069 : (Jvm.Cond.methodLink "BlueBagModel" (357 : Nat) ({ cls := "BlueBagModel", name := "rowOf", desc := "(I)I" } : Jvm.MethodName)) ∈ lw_all := lw_g (lw_at lw_m9 37 rfl) rfl
theorem q2070 : (Jvm.Cond.privateMethod ({ cls := "BlueBagModel", name := "rowOf", desc := "(I)I" } : Jvm.MethodName)) ∈ lw_tbl := lw_at lw_m9 38 rfl
theorem q2071 : (Jvm.Cond.instanceMethod ({ cls := "BlueBagModel", name := "rowOf", desc := "(I)I" } : Jvm.MethodName)) ∈ lw_all := lw_g (lw_at lw_m9 39 rfl) rfl
theorem q2072 : (Jvm.Cond.code ({ cls := "BlueBagModel", name := "rowOf", desc := "(I)I" } : Jvm.MethodName) prog_18_method_47_code (2 : Nat) (Option.some Jvm.ClassFile.FieldType.int)) ∈ lw_all := lw_g (lw_at lw_m9 40 rfl) rfl
theorem q2073 : (Jvm.Cond.methodLink "BlueBagModel" (411 : Nat) ({ cls := "BlueBagModel", name := "girlsAt", desc := "(I)I" } : Jvm.MethodName)) ∈ lw_all := lw_g (lw_at lw_m9 41 rfl) rfl
theorem q2074 : (Jvm.Cond.privateMethod ({ cls := "BlueBagModel", name := "girlsAt", desc := "(I)I" } : Jvm.MethodName)) ∈ lw_tbl := lw_at lw_m9 42 rfl
theorem q2075 : (Jvm.Cond.instanceMethod ({ cls := "BlueBagModel", name := "girlsAt", desc := "(I)I" } : Jvm.MethodName)) ∈ lw_all := lw_g (lw_at lw_m9 43 rfl) rfl
theorem q2076 : (Jvm.Cond.code ({ cls := "BlueBagModel", name := "girlsAt", desc := "(I)I" } : Jvm.MethodName) prog_18_method_62_code (4 : Nat) (Option.some Jvm.ClassFile.FieldType.int)) ∈ lw_all := lw_g (lw_at lw_m9 44 rfl) rfl
theorem q2077 : (Jvm.Cond.methodLink "BlueBagModel" (414 : Nat) ({ cls := "BlueBagModel", name := "patchOf", desc := "(II)I" } : Jvm.MethodName)) ∈ lw_all := lw_g (lw_at lw_m9 45 rfl) rfl
theorem q2078 : (Jvm.Cond.privateMethod ({ cls := "BlueBagModel", name := "patchOf", desc := "(II)I" } : Jvm.MethodName)) ∈ lw_tbl := lw_at lw_m9 46 rfl
theorem q2079 : (Jvm.Cond.instanceMethod ({ cls := "BlueBagModel", name := "patchOf", desc := "(II)I" } : Jvm.MethodName)) ∈ lw_all := lw_g (lw_at lw_m9 47 rfl) rfl
theorem q2080 : (Jvm.Cond.code ({ cls := "BlueBagModel", name := "patchOf", desc := "(II)I" } : Jvm.MethodName) prog_18_method_63_code (8 : Nat) (Option.some Jvm.ClassFile.FieldType.int)) ∈ lw_all := lw_g (lw_at lw_m9 48 rfl) rfl
theorem q2082 : (Jvm.Cond.instanceMethod ({ cls := "BlueBagModel", name := "girl", desc := "(II)I" } : Jvm.MethodName)) ∈ lw_all := lw_g (lw_at lw_m9 50 rfl) rfl
theorem q2083 : (Jvm.Cond.selects "BlueBagModel" ({ cls := "BlueBagModel", name := "girl", desc := "(II)I" } : Jvm.MethodName) ({ cls := "BlueBagModel", name := "girl", desc := "(II)I" } : Jvm.MethodName)) ∈ lw_all := lw_g (lw_at lw_m9 51 rfl) rfl
theorem q2084 : (Jvm.Cond.code ({ cls := "BlueBagModel", name := "girl", desc := "(II)I" } : Jvm.MethodName) prog_18_method_65_code (3 : Nat) (Option.some Jvm.ClassFile.FieldType.int)) ∈ lw_all := lw_g (lw_at lw_m9 52 rfl) rfl
theorem q2085 : (Jvm.Cond.methodLink "BlueBagModel" (417 : Nat) ({ cls := "BlueBagModel", name := "isGirl", desc := "(I)Z" } : Jvm.MethodName)) ∈ lw_all := lw_g (lw_at lw_m9 53 rfl) rfl
theorem q2086 : (Jvm.Cond.privateMethod ({ cls := "BlueBagModel", name := "isGirl", desc := "(I)Z" } : Jvm.MethodName)) ∈ lw_tbl := lw_at lw_m9 54 rfl
theorem q2087 : (Jvm.Cond.instanceMethod ({ cls := "BlueBagModel", name := "isGirl", desc := "(I)Z" } : Jvm.MethodName)) ∈ lw_all := lw_g (lw_at lw_m9 55 rfl) rfl
theorem q2088 : (Jvm.Cond.code ({ cls := "BlueBagModel", name := "isGirl", desc := "(I)Z" } : Jvm.MethodName) prog_18_method_11_code (2 : Nat) (Option.some Jvm.ClassFile.FieldType.boolean)) ∈ lw_all := lw_g (lw_at lw_m9 56 rfl) rfl
theorem q2089 : (Jvm.Cond.methodLink "BlueBagModel" (380 : Nat) ({ cls := "java/lang/Math", name := "max", desc := "(II)I" } : Jvm.MethodName)) ∈ lw_all := lw_g (lw_at lw_m9 57 rfl) rfl
theorem q2090 : (Jvm.Cond.methodLink "BlueBagModel" (383 : Nat) ({ cls := "BlueBagModel", name := "dyesOf", desc := "(II)I" } : Jvm.MethodName)) ∈ lw_all := lw_g (lw_at lw_m9 58 rfl) rfl
theorem q2091 : (Jvm.Cond.privateMethod ({ cls := "BlueBagModel", name := "dyesOf", desc := "(II)I" } : Jvm.MethodName)) ∈ lw_tbl := lw_at lw_m9 59 rfl
theorem q2092 : (Jvm.Cond.instanceMethod ({ cls := "BlueBagModel", name := "dyesOf", desc := "(II)I" } : Jvm.MethodName)) ∈ lw_all := lw_g (lw_at lw_m9 60 rfl) rfl
theorem q2093 : (Jvm.Cond.code ({ cls := "BlueBagModel", name := "dyesOf", desc := "(II)I" } : Jvm.MethodName) prog_18_method_54_code (4 : Nat) (Option.some Jvm.ClassFile.FieldType.int)) ∈ lw_all := lw_g (lw_at lw_m9 61 rfl) rfl
theorem q2094 : (Jvm.Cond.methodLink "BlueBagModel" (373 : Nat) ({ cls := "BlueBagModel", name := "ask", desc := "(I)V" } : Jvm.MethodName)) ∈ lw_all := lw_g (lw_at lw_m9 62 rfl) rfl
theorem q2095 : (Jvm.Cond.privateMethod ({ cls := "BlueBagModel", name := "ask", desc := "(I)V" } : Jvm.MethodName)) ∈ lw_tbl := lw_at lw_m9 63 rfl
theorem q2096 : (Jvm.Cond.instanceMethod ({ cls := "BlueBagModel", name := "ask", desc := "(I)V" } : Jvm.MethodName)) ∈ lw_all := lw_g (lw_at lw_m9 64 rfl) rfl
theorem q2097 : (Jvm.Cond.code ({ cls := "BlueBagModel", name := "ask", desc := "(I)V" } : Jvm.MethodName) prog_18_method_53_code (2 : Nat) (Option.none : Option Jvm.ClassFile.FieldType)) ∈ lw_all := lw_g (lw_at lw_m9 65 rfl) rfl
theorem q2098 : (Jvm.Cond.methodLink "BlueBagModel" (370 : Nat) ({ cls := "BlueBagModel", name := "blueBeside", desc := "(I)I" } : Jvm.MethodName)) ∈ lw_all := lw_g (lw_at lw_m9 66 rfl) rfl
theorem q2099 : (Jvm.Cond.privateMethod ({ cls := "BlueBagModel", name := "blueBeside", desc := "(I)I" } : Jvm.MethodName)) ∈ lw_tbl := lw_at lw_m9 67 rfl
theorem q2100 : (Jvm.Cond.instanceMethod ({ cls := "BlueBagModel", name := "blueBeside", desc := "(I)I" } : Jvm.MethodName)) ∈ lw_all := lw_g (lw_at lw_m9 68 rfl) rfl
theorem q2101 : (Jvm.Cond.code ({ cls := "BlueBagModel", name := "blueBeside", desc := "(I)I" } : Jvm.MethodName) prog_18_method_50_code (5 : Nat) (Option.some Jvm.ClassFile.FieldType.int)) ∈ lw_all := lw_g (lw_at lw_m9 69 rfl) rfl
theorem q2102 : (Jvm.Cond.methodLink "BlueBagModel" (376 : Nat) ({ cls := "BlueBagModel", name := "valueNow", desc := "([II)I" } : Jvm.MethodName)) ∈ lw_all := lw_g (lw_at lw_m9 70 rfl) rfl
theorem q2103 : (Jvm.Cond.privateMethod ({ cls := "BlueBagModel", name := "valueNow", desc := "([II)I" } : Jvm.MethodName)) ∈ lw_tbl := lw_at lw_m9 71 rfl
theorem q2104 : (Jvm.Cond.instanceMethod ({ cls := "BlueBagModel", name := "valueNow", desc := "([II)I" } : Jvm.MethodName)) ∈ lw_all := lw_g (lw_at lw_m9 72 rfl) rfl
theorem q2105 : (Jvm.Cond.code ({ cls := "BlueBagModel", name := "valueNow", desc := "([II)I" } : Jvm.MethodName) prog_18_method_52_code (6 : Nat) (Option.some Jvm.ClassFile.FieldType.int)) ∈ lw_all := lw_g (lw_at lw_m9 73 rfl) rfl
theorem q2106 : (Jvm.Cond.methodLink "BlueBagModel" (366 : Nat) ({ cls := "BlueBagModel", name := "reckon", desc := "(III)I" } : Jvm.MethodName)) ∈ lw_all := lw_g (lw_at lw_m9 74 rfl) rfl
theorem q2107 : (Jvm.Cond.static ({ cls := "BlueBagModel", name := "reckon", desc := "(III)I" } : Jvm.MethodName)) ∈ lw_all := lw_g (lw_at lw_m9 75 rfl) rfl
theorem q2108 : (Jvm.Cond.code ({ cls := "BlueBagModel", name := "reckon", desc := "(III)I" } : Jvm.MethodName) prog_18_method_51_code (3 : Nat) (Option.some Jvm.ClassFile.FieldType.int)) ∈ lw_all := lw_g (lw_at lw_m9 76 rfl) rfl
theorem q2110 : (Jvm.Cond.instanceMethod ({ cls := "BlueBagModel", name := "days", desc := "(I)I" } : Jvm.MethodName)) ∈ lw_all := lw_g (lw_at lw_m9 78 rfl) rfl
theorem q2111 : (Jvm.Cond.selects "BlueBagModel" ({ cls := "BlueBagModel", name := "days", desc := "(I)I" } : Jvm.MethodName) ({ cls := "BlueBagModel", name := "days", desc := "(I)I" } : Jvm.MethodName)) ∈ lw_all := lw_g (lw_at lw_m9 79 rfl) rfl
theorem q2112 : (Jvm.Cond.code ({ cls := "BlueBagModel", name := "days", desc := "(I)I" } : Jvm.MethodName) prog_18_method_68_code (2 : Nat) (Option.some Jvm.ClassFile.FieldType.int)) ∈ lw_all := lw_g (lw_at lw_m9 80 rfl) rfl
theorem q2113 : (Jvm.Cond.constantLong "BlueBagModel" (424 : Nat) (20 : Int64)) ∈ lw_all := lw_g (lw_at lw_m9 81 rfl) rfl
theorem q2114 : (Jvm.Cond.methodLink "BlueBagModel" (426 : Nat) ({ cls := "BlueBagModel", name := "refuse", desc := "(I)I" } : Jvm.MethodName)) ∈ lw_all := lw_g (lw_at lw_m9 82 rfl) rfl
theorem q2115 : (Jvm.Cond.privateMethod ({ cls := "BlueBagModel", name := "refuse", desc := "(I)I" } : Jvm.MethodName)) ∈ lw_tbl := lw_at lw_m9 83 rfl
theorem q2116 : (Jvm.Cond.instanceMethod ({ cls := "BlueBagModel", name := "refuse", desc := "(I)I" } : Jvm.MethodName)) ∈ lw_all := lw_g (lw_at lw_m9 84 rfl) rfl
theorem q2117 : (Jvm.Cond.code ({ cls := "BlueBagModel", name := "refuse", desc := "(I)I" } : Jvm.MethodName) prog_18_method_66_code (2 : Nat) (Option.some Jvm.ClassFile.FieldType.int)) ∈ lw_all := lw_g (lw_at lw_m9 85 rfl) rfl
theorem q2118 : (Jvm.Cond.methodLink "BlueBagModel" (429 : Nat) ({ cls := "BlueBagModel", name := "keep", desc := "()V" } : Jvm.MethodName)) ∈ lw_all := lw_g (lw_at lw_m9 86 rfl) rfl
theorem q2119 : (Jvm.Cond.privateMethod ({ cls := "BlueBagModel", name := "keep", desc := "()V" } : Jvm.MethodName)) ∈ lw_tbl := lw_at lw_m9 87 rfl
theorem q2120 : (Jvm.Cond.instanceMethod ({ cls := "BlueBagModel", name := "keep", desc := "()V" } : Jvm.MethodName)) ∈ lw_all := lw_g (lw_at lw_m9 88 rfl) rfl
theorem q2121 : (Jvm.Cond.code ({ cls := "BlueBagModel", name := "keep", desc := "()V" } : Jvm.MethodName) prog_18_method_67_code (2 : Nat) (Option.none : Option Jvm.ClassFile.FieldType)) ∈ lw_all := lw_g (lw_at lw_m9 89 rfl) rfl
theorem q2122 : (Jvm.Cond.methodLink "BlueBagModel" (420 : Nat) ({ cls := "BlueBagModel", name := "pack", desc := "([II)V" } : Jvm.MethodName)) ∈ lw_all := lw_g (lw_at lw_m9 90 rfl) rfl
theorem q2123 : (Jvm.Cond.privateMethod ({ cls := "BlueBagModel", name := "pack", desc := "([II)V" } : Jvm.MethodName)) ∈ lw_tbl := lw_at lw_m9 91 rfl
theorem q2124 : (Jvm.Cond.instanceMethod ({ cls := "BlueBagModel", name := "pack", desc := "([II)V" } : Jvm.MethodName)) ∈ lw_all := lw_g (lw_at lw_m9 92 rfl) rfl
theorem q2125 : (Jvm.Cond.code ({ cls := "BlueBagModel", name := "pack", desc := "([II)V" } : Jvm.MethodName) prog_18_method_44_code (4 : Nat) (Option.none : Option Jvm.ClassFile.FieldType)) ∈ lw_all := lw_g (lw_at lw_m9 93 rfl) rfl
theorem q2126 : (Jvm.Cond.methodLink "BlueBagModel" (432 : Nat) ({ cls := "BlueBagModel", name := "goOn", desc := "(I)V" } : Jvm.MethodName)) ∈ lw_all := lw_g (lw_at lw_m9 94 rfl) rfl
theorem q2127 : (Jvm.Cond.privateMethod ({ cls := "BlueBagModel", name := "goOn", desc := "(I)V" } : Jvm.MethodName)) ∈ lw_tbl := lw_at lw_m9 95 rfl
theorem q2128 : (Jvm.Cond.instanceMethod ({ cls := "BlueBagModel", name := "goOn", desc := "(I)V" } : Jvm.MethodName)) ∈ lw_all := lw_g (lw_at lw_m9 96 rfl) rfl
theorem q2129 : (Jvm.Cond.code ({ cls := "BlueBagModel", name := "goOn", desc := "(I)V" } : Jvm.MethodName) prog_18_method_59_code (3 : Nat) (Option.none : Option Jvm.ClassFile.FieldType)) ∈ lw_all := lw_g (lw_at lw_m9 97 rfl) rfl
theorem q2130 : (Jvm.Cond.methodLink "BlueBagModel" (402 : Nat) ({ cls := "BlueBagModel", name := "aDay", desc := "()V" } : Jvm.MethodName)) ∈ lw_all := lw_g (lw_at lw_m9 98 rfl) rfl
theorem q2131 : (Jvm.Cond.privateMethod ({ cls := "BlueBagModel", name := "aDay", desc := "()V" } : Jvm.MethodName)) ∈ lw_tbl := lw_at lw_m9 99 rfl
theorem q2132 : (Jvm.Cond.instanceMethod ({ cls := "BlueBagModel", name := "aDay", desc := "()V" } : Jvm.MethodName)) ∈ lw_all := lw_g (lw_at lw_m9 100 rfl) rfl
theorem q2133 : (Jvm.Cond.code ({ cls := "BlueBagModel", name := "aDay", desc := "()V" } : Jvm.MethodName) prog_18_method_58_code (2 : Nat) (Option.none : Option Jvm.ClassFile.FieldType)) ∈ lw_all := lw_g (lw_at lw_m9 101 rfl) rfl
theorem q2134 : (Jvm.Cond.methodLink "BlueBagModel" (390 : Nat) ({ cls := "BlueBagModel", name := "swish", desc := "(II)V" } : Jvm.MethodName)) ∈ lw_all := lw_g (lw_at lw_m9 102 rfl) rfl
theorem q2135 : (Jvm.Cond.privateMethod ({ cls := "BlueBagModel", name := "swish", desc := "(II)V" } : Jvm.MethodName)) ∈ lw_tbl := lw_at lw_m9 103 rfl
theorem q2136 : (Jvm.Cond.instanceMethod ({ cls := "BlueBagModel", name := "swish", desc := "(II)V" } : Jvm.MethodName)) ∈ lw_all := lw_g (lw_at lw_m9 104 rfl) rfl
theorem q2137 : (Jvm.Cond.code ({ cls := "BlueBagModel", name := "swish", desc := "(II)V" } : Jvm.MethodName) prog_18_method_57_code (7 : Nat) (Option.none : Option Jvm.ClassFile.FieldType)) ∈ lw_all := lw_g (lw_at lw_m9 105 rfl) rfl
theorem q2138 : (Jvm.Cond.methodLink "BlueBagModel" (386 : Nat) ({ cls := "BlueBagModel", name := "dye", desc := "(II)V" } : Jvm.MethodName)) ∈ lw_all := lw_g (lw_at lw_m9 106 rfl) rfl
theorem q2139 : (Jvm.Cond.privateMethod ({ cls := "BlueBagModel", name := "dye", desc := "(II)V" } : Jvm.MethodName)) ∈ lw_tbl := lw_at lw_m9 107 rfl
theorem q2140 : (Jvm.Cond.instanceMethod ({ cls := "BlueBagModel", name := "dye", desc := "(II)V" } : Jvm.MethodName)) ∈ lw_all := lw_g (lw_at lw_m9 108 rfl) rfl
theorem q2141 : (Jvm.Cond.code ({ cls := "BlueBagModel", name := "dye", desc := "(II)V" } : Jvm.MethodName) prog_18_method_56_code (3 : Nat) (Option.none : Option Jvm.ClassFile.FieldType)) ∈ lw_all := lw_g (lw_at lw_m9 109 rfl) rfl
theorem q2142 : (Jvm.Cond.methodLink "BlueBagModel" (396 : Nat) ({ cls := "BlueBagModel", name := "bitsOf", desc := "(I)I" } : Jvm.MethodName)) ∈ lw_all := lw_g (lw_at lw_m9 110 rfl) rfl
theorem q2143 : (Jvm.Cond.static ({ cls := "BlueBagModel", name := "bitsOf", desc := "(I)I" } : Jvm.MethodName)) ∈ lw_all := lw_g (lw_at lw_m9 111 rfl) rfl
theorem q2144 : (Jvm.Cond.code ({ cls := "BlueBagModel", name := "bitsOf", desc := "(I)I" } : Jvm.MethodName) prog_18_method_8_code (3 : Nat) (Option.some Jvm.ClassFile.FieldType.int)) ∈ lw_all := lw_g (lw_at lw_m9 112 rfl) rfl
theorem q2145 : (Jvm.Cond.methodLink "BlueBagModel" (399 : Nat) ({ cls := "BlueBagModel", name := "fadesOf", desc := "(I)I" } : Jvm.MethodName)) ∈ lw_all := lw_g (lw_at lw_m9 113 rfl) rfl
theorem q2146 : (Jvm.Cond.privateMethod ({ cls := "BlueBagModel", name := "fadesOf", desc := "(I)I" } : Jvm.MethodName)) ∈ lw_tbl := lw_at lw_m9 114 rfl
theorem q2147 : (Jvm.Cond.instanceMethod ({ cls := "BlueBagModel", name := "fadesOf", desc := "(I)I" } : Jvm.MethodName)) ∈ lw_all := lw_g (lw_at lw_m9 115 rfl) rfl
theorem q2148 : (Jvm.Cond.code ({ cls := "BlueBagModel", name := "fadesOf", desc := "(I)I" } : Jvm.MethodName) prog_18_method_55_code (3 : Nat) (Option.some Jvm.ClassFile.FieldType.int)) ∈ lw_all := lw_g (lw_at lw_m9 116 rfl) rfl
theorem q2150 : (Jvm.Cond.instanceMethod ({ cls := "BlueBagModel", name := "rest", desc := "(IZ)Z" } : Jvm.MethodName)) ∈ lw_all := lw_g (lw_at lw_m9 118 rfl) rfl
theorem q2151 : (Jvm.Cond.selects "BlueBagModel" ({ cls := "BlueBagModel", name := "rest", desc := "(IZ)Z" } : Jvm.MethodName) ({ cls := "BlueBagModel", name := "rest", desc := "(IZ)Z" } : Jvm.MethodName)) ∈ lw_all := lw_g (lw_at lw_m9 119 rfl) rfl
theorem q2152 : (Jvm.Cond.code ({ cls := "BlueBagModel", name := "rest", desc := "(IZ)Z" } : Jvm.MethodName) prog_18_method_69_code (3 : Nat) (Option.some Jvm.ClassFile.FieldType.boolean)) ∈ lw_all := lw_g (lw_at lw_m9 120 rfl) rfl
theorem q2153 : (Jvm.Cond.methodLink "BlueBagModel" (435 : Nat) ({ cls := "BlueBagModel", name := "failing", desc := "(I)Z" } : Jvm.MethodName)) ∈ lw_all := lw_g (lw_at lw_m9 121 rfl) rfl
theorem q2154 : (Jvm.Cond.privateMethod ({ cls := "BlueBagModel", name := "failing", desc := "(I)Z" } : Jvm.MethodName)) ∈ lw_tbl := lw_at lw_m9 122 rfl
theorem q2155 : (Jvm.Cond.instanceMethod ({ cls := "BlueBagModel", name := "failing", desc := "(I)Z" } : Jvm.MethodName)) ∈ lw_all := lw_g (lw_at lw_m9 123 rfl) rfl
theorem q2156 : (Jvm.Cond.code ({ cls := "BlueBagModel", name := "failing", desc := "(I)Z" } : Jvm.MethodName) prog_18_method_5_code (2 : Nat) (Option.some Jvm.ClassFile.FieldType.boolean)) ∈ lw_all := lw_g (lw_at lw_m9 124 rfl) rfl
theorem q2158 : (Jvm.Cond.instanceMethod ({ cls := "BlueBagModel", name := "go", desc := "(II)I" } : Jvm.MethodName)) ∈ lw_all := lw_g (lw_at lw_m9 126 rfl) rfl
theorem q2159 : (Jvm.Cond.selects "BlueBagModel" ({ cls := "BlueBagModel", name := "go", desc := "(II)I" } : Jvm.MethodName) ({ cls := "BlueBagModel", name := "go", desc := "(II)I" } : Jvm.MethodName)) ∈ lw_all := lw_g (lw_at lw_m9 127 rfl) rfl
theorem q2160 : (Jvm.Cond.code ({ cls := "BlueBagModel", name := "go", desc := "(II)I" } : Jvm.MethodName) prog_18_method_70_code (4 : Nat) (Option.some Jvm.ClassFile.FieldType.int)) ∈ lw_all := lw_g (lw_at lw_m9 128 rfl) rfl
theorem q2162 : (Jvm.Cond.instanceMethod ({ cls := "BlueBagModel", name := "bag", desc := "(I)I" } : Jvm.MethodName)) ∈ lw_all := lw_g (lw_at lw_m9 130 rfl) rfl
theorem q2163 : (Jvm.Cond.selects "BlueBagModel" ({ cls := "BlueBagModel", name := "bag", desc := "(I)I" } : Jvm.MethodName) ({ cls := "BlueBagModel", name := "bag", desc := "(I)I" } : Jvm.MethodName)) ∈ lw_all := lw_g (lw_at lw_m9 131 rfl) rfl
theorem q2164 : (Jvm.Cond.code ({ cls := "BlueBagModel", name := "bag", desc := "(I)I" } : Jvm.MethodName) prog_18_method_71_code (2 : Nat) (Option.some Jvm.ClassFile.FieldType.int)) ∈ lw_all := lw_g (lw_at lw_m9 132 rfl) rfl
theorem q2165 : (Jvm.Cond.constantLong "BlueBagModel" (438 : Nat) (50 : Int64)) ∈ lw_all := lw_g (lw_at lw_m9 133 rfl) rfl
theorem q2167 : (Jvm.Cond.instanceMethod ({ cls := "BlueBagModel", name := "peg", desc := "(IZ)I" } : Jvm.MethodName)) ∈ lw_all := lw_g (lw_at lw_m9 135 rfl) rfl
theorem q2168 : (Jvm.Cond.selects "BlueBagModel" ({ cls := "BlueBagModel", name := "peg", desc := "(IZ)I" } : Jvm.MethodName) ({ cls := "BlueBagModel", name := "peg", desc := "(IZ)I" } : Jvm.MethodName)) ∈ lw_all := lw_g (lw_at lw_m9 136 rfl) rfl
theorem q2169 : (Jvm.Cond.code ({ cls := "BlueBagModel", name := "peg", desc := "(IZ)I" } : Jvm.MethodName) prog_18_method_72_code (4 : Nat) (Option.some Jvm.ClassFile.FieldType.int)) ∈ lw_all := lw_g (lw_at lw_m9 137 rfl) rfl
theorem q2171 : (Jvm.Cond.instanceMethod ({ cls := "BlueBagModel", name := "undo", desc := "()I" } : Jvm.MethodName)) ∈ lw_all := lw_g (lw_at lw_m9 139 rfl) rfl
theorem q2172 : (Jvm.Cond.selects "BlueBagModel" ({ cls := "BlueBagModel", name := "undo", desc := "()I" } : Jvm.MethodName) ({ cls := "BlueBagModel", name := "undo", desc := "()I" } : Jvm.MethodName)) ∈ lw_all := lw_g (lw_at lw_m9 140 rfl) rfl
theorem q2173 : (Jvm.Cond.code ({ cls := "BlueBagModel", name := "undo", desc := "()I" } : Jvm.MethodName) prog_18_method_73_code (1 : Nat) (Option.some Jvm.ClassFile.FieldType.int)) ∈ lw_all := lw_g (lw_at lw_m9 141 rfl) rfl
theorem q2174 : (Jvm.Cond.methodLink "BlueBagModel" (440 : Nat) ({ cls := "BlueBagModel", name := "unpack", desc := "([II)V" } : Jvm.MethodName)) ∈ lw_all := lw_g (lw_at lw_m9 142 rfl) rfl
theorem q2175 : (Jvm.Cond.privateMethod ({ cls := "BlueBagModel", name := "unpack", desc := "([II)V" } : Jvm.MethodName)) ∈ lw_tbl := lw_at lw_m9 143 rfl
theorem q2176 : (Jvm.Cond.instanceMethod ({ cls := "BlueBagModel", name := "unpack", desc := "([II)V" } : Jvm.MethodName)) ∈ lw_all := lw_g (lw_at lw_m9 144 rfl) rfl
theorem q2177 : (Jvm.Cond.code ({ cls := "BlueBagModel", name := "unpack", desc := "([II)V" } : Jvm.MethodName) prog_18_method_45_code (4 : Nat) (Option.none : Option Jvm.ClassFile.FieldType)) ∈ lw_all := lw_g (lw_at lw_m9 145 rfl) rfl
theorem q2179 : (Jvm.Cond.instanceMethod ({ cls := "BlueBagModel", name := "then", desc := "(II)I" } : Jvm.MethodName)) ∈ lw_all := lw_g (lw_at lw_m9 147 rfl) rfl
theorem q2180 : (Jvm.Cond.selects "BlueBagModel" ({ cls := "BlueBagModel", name := "then", desc := "(II)I" } : Jvm.MethodName) ({ cls := "BlueBagModel", name := "then", desc := "(II)I" } : Jvm.MethodName)) ∈ lw_all := lw_g (lw_at lw_m9 148 rfl) rfl
theorem q2181 : (Jvm.Cond.code ({ cls := "BlueBagModel", name := "then", desc := "(II)I" } : Jvm.MethodName) prog_18_method_74_code (4 : Nat) (Option.some Jvm.ClassFile.FieldType.int)) ∈ lw_all := lw_g (lw_at lw_m9 149 rfl) rfl
theorem q2182 : (Jvm.Cond.constantLong "BlueBagModel" (443 : Nat) (40 : Int64)) ∈ lw_all := lw_g (lw_at lw_m9 150 rfl) rfl
theorem q2184 : (Jvm.Cond.instanceMethod ({ cls := "BlueBagModel", name := "sky", desc := "(II)I" } : Jvm.MethodName)) ∈ lw_all := lw_g (lw_at lw_m9 152 rfl) rfl
theorem q2185 : (Jvm.Cond.selects "BlueBagModel" ({ cls := "BlueBagModel", name := "sky", desc := "(II)I" } : Jvm.MethodName) ({ cls := "BlueBagModel", name := "sky", desc := "(II)I" } : Jvm.MethodName)) ∈ lw_all := lw_g (lw_at lw_m9 153 rfl) rfl
theorem q2186 : (Jvm.Cond.code ({ cls := "BlueBagModel", name := "sky", desc := "(II)I" } : Jvm.MethodName) prog_18_method_77_code (4 : Nat) (Option.some Jvm.ClassFile.FieldType.int)) ∈ lw_all := lw_g (lw_at lw_m9 154 rfl) rfl
theorem q2187 : (Jvm.Cond.constantLong "BlueBagModel" (449 : Nat) (4 : Int64)) ∈ lw_all := lw_g (lw_at lw_m9 155 rfl) rfl
theorem q2188 : (Jvm.Cond.methodLink "BlueBagModel" (451 : Nat) ({ cls := "BlueBagModel", name := "uneven", desc := "()I" } : Jvm.MethodName)) ∈ lw_all := lw_g (lw_at lw_m9 156 rfl) rfl
theorem q2189 : (Jvm.Cond.privateMethod ({ cls := "BlueBagModel", name := "uneven", desc := "()I" } : Jvm.MethodName)) ∈ lw_tbl := lw_at lw_m9 157 rfl
theorem q2190 : (Jvm.Cond.instanceMethod ({ cls := "BlueBagModel", name := "uneven", desc := "()I" } : Jvm.MethodName)) ∈ lw_all := lw_g (lw_at lw_m9 158 rfl) rfl
theorem q2191 : (Jvm.Cond.code ({ cls := "BlueBagModel", name := "uneven", desc := "()I" } : Jvm.MethodName) prog_18_method_76_code (1 : Nat) (Option.some Jvm.ClassFile.FieldType.int)) ∈ lw_all := lw_g (lw_at lw_m9 159 rfl) rfl
theorem q2192 : (Jvm.Cond.methodLink "BlueBagModel" (445 : Nat) ({ cls := "BlueBagModel", name := "extreme", desc := "(Z)I" } : Jvm.MethodName)) ∈ lw_all := lw_g (lw_at lw_m9 160 rfl) rfl
theorem q2193 : (Jvm.Cond.privateMethod ({ cls := "BlueBagModel", name := "extreme", desc := "(Z)I" } : Jvm.MethodName)) ∈ lw_tbl := lw_at lw_m9 161 rfl
theorem q2194 : (Jvm.Cond.instanceMethod ({ cls := "BlueBagModel", name := "extreme", desc := "(Z)I" } : Jvm.MethodName)) ∈ lw_all := lw_g (lw_at lw_m9 162 rfl) rfl
theorem q2195 : (Jvm.Cond.code ({ cls := "BlueBagModel", name := "extreme", desc := "(Z)I" } : Jvm.MethodName) prog_18_method_75_code (4 : Nat) (Option.some Jvm.ClassFile.FieldType.int)) ∈ lw_all := lw_g (lw_at lw_m9 163 rfl) rfl
theorem q2197 : (Jvm.Cond.instanceMethod ({ cls := "BlueBagModel", name := "overdone", desc := "(I)I" } : Jvm.MethodName)) ∈ lw_all := lw_g (lw_at lw_m9 165 rfl) rfl
theorem q2198 : (Jvm.Cond.selects "BlueBagModel" ({ cls := "BlueBagModel", name := "overdone", desc := "(I)I" } : Jvm.MethodName) ({ cls := "BlueBagModel", name := "overdone", desc := "(I)I" } : Jvm.MethodName)) ∈ lw_all := lw_g (lw_at lw_m9 166 rfl) rfl
theorem q2199 : (Jvm.Cond.code ({ cls := "BlueBagModel", name := "overdone", desc := "(I)I" } : Jvm.MethodName) prog_18_method_78_code (2 : Nat) (Option.some Jvm.ClassFile.FieldType.int)) ∈ lw_all := lw_g (lw_at lw_m9 167 rfl) rfl
theorem q2201 : (Jvm.Cond.instanceMethod ({ cls := "BlueBagModel", name := "first", desc := "(I)I" } : Jvm.MethodName)) ∈ lw_all := lw_g (lw_at lw_m9 169 rfl) rfl
theorem q2202 : (Jvm.Cond.selects "BlueBagModel" ({ cls := "BlueBagModel", name := "first", desc := "(I)I" } : Jvm.MethodName) ({ cls := "BlueBagModel", name := "first", desc := "(I)I" } : Jvm.MethodName)) ∈ lw_all := lw_g (lw_at lw_m9 170 rfl) rfl
theorem q2203 : (Jvm.Cond.code ({ cls := "BlueBagModel", name := "first", desc := "(I)I" } : Jvm.MethodName) prog_18_method_79_code (4 : Nat) (Option.some Jvm.ClassFile.FieldType.int)) ∈ lw_all := lw_g (lw_at lw_m9 171 rfl) rfl
theorem q2205 : (Jvm.Cond.instanceMethod ({ cls := "BlueBagModel", name := "spent", desc := "()I" } : Jvm.MethodName)) ∈ lw_all := lw_g (lw_at lw_m9 173 rfl) rfl
theorem q2206 : (Jvm.Cond.selects "BlueBagModel" ({ cls := "BlueBagModel", name := "spent", desc := "()I" } : Jvm.MethodName) ({ cls := "BlueBagModel", name := "spent", desc := "()I" } : Jvm.MethodName)) ∈ lw_all := lw_g (lw_at lw_m9 174 rfl) rfl
theorem q2207 : (Jvm.Cond.code ({ cls := "BlueBagModel", name := "spent", desc := "()I" } : Jvm.MethodName) prog_18_method_80_code (3 : Nat) (Option.some Jvm.ClassFile.FieldType.int)) ∈ lw_all := lw_g (lw_at lw_m9 175 rfl) rfl
theorem q2209 : (Jvm.Cond.instanceMethod ({ cls := "BlueBagModel", name := "band", desc := "(I)I" } : Jvm.MethodName)) ∈ lw_all := lw_g (lw_at lw_m9 177 rfl) rfl
theorem q2210 : (Jvm.Cond.selects "BlueBagModel" ({ cls := "BlueBagModel", name := "band", desc := "(I)I" } : Jvm.MethodName) ({ cls := "BlueBagModel", name := "band", desc := "(I)I" } : Jvm.MethodName)) ∈ lw_all := lw_g (lw_at lw_m9 178 rfl) rfl
theorem q2211 : (Jvm.Cond.code ({ cls := "BlueBagModel", name := "band", desc := "(I)I" } : Jvm.MethodName) prog_18_method_81_code (7 : Nat) (Option.some Jvm.ClassFile.FieldType.int)) ∈ lw_all := lw_g (lw_at lw_m9 179 rfl) rfl
theorem q2213 : (Jvm.Cond.instanceMethod ({ cls := "BlueBagModel", name := "steady", desc := "()I" } : Jvm.MethodName)) ∈ lw_all := lw_g (lw_at lw_m9 181 rfl) rfl
theorem q2214 : (Jvm.Cond.selects "BlueBagModel" ({ cls := "BlueBagModel", name := "steady", desc := "()I" } : Jvm.MethodName) ({ cls := "BlueBagModel", name := "steady", desc := "()I" } : Jvm.MethodName)) ∈ lw_all := lw_g (lw_at lw_m9 182 rfl) rfl
theorem q2215 : (Jvm.Cond.code ({ cls := "BlueBagModel", name := "steady", desc := "()I" } : Jvm.MethodName) prog_18_method_82_code (5 : Nat) (Option.some Jvm.ClassFile.FieldType.int)) ∈ lw_all := lw_g (lw_at lw_m9 183 rfl) rfl
theorem q2216 : (Jvm.Cond.methodLink "BlueBagModel" (454 : Nat) ({ cls := "BlueBagModel", name := "copyTo", desc := "([I[I)V" } : Jvm.MethodName)) ∈ lw_all := lw_g (lw_at lw_m9 184 rfl) rfl
theorem q2217 : (Jvm.Cond.static ({ cls := "BlueBagModel", name := "copyTo", desc := "([I[I)V" } : Jvm.MethodName)) ∈ lw_all := lw_g (lw_at lw_m9 185 rfl) rfl
theorem q2218 : (Jvm.Cond.code ({ cls := "BlueBagModel", name := "copyTo", desc := "([I[I)V" } : Jvm.MethodName) prog_18_method_110_code (3 : Nat) (Option.none : Option Jvm.ClassFile.FieldType)) ∈ lw_all := lw_g (lw_at lw_m9 186 rfl) rfl
theorem q2220 : (Jvm.Cond.instanceMethod ({ cls := "BlueBagModel", name := "streak", desc := "(I)I" } : Jvm.MethodName)) ∈ lw_all := lw_g (lw_at lw_m9 188 rfl) rfl
theorem q2221 : (Jvm.Cond.selects "BlueBagModel" ({ cls := "BlueBagModel", name := "streak", desc := "(I)I" } : Jvm.MethodName) ({ cls := "BlueBagModel", name := "streak", desc := "(I)I" } : Jvm.MethodName)) ∈ lw_all := lw_g (lw_at lw_m9 189 rfl) rfl
theorem q2222 : (Jvm.Cond.code ({ cls := "BlueBagModel", name := "streak", desc := "(I)I" } : Jvm.MethodName) prog_18_method_84_code (4 : Nat) (Option.some Jvm.ClassFile.FieldType.int)) ∈ lw_all := lw_g (lw_at lw_m9 190 rfl) rfl
theorem q2223 : (Jvm.Cond.methodLink "BlueBagModel" (458 : Nat) ({ cls := "BlueBagModel", name := "streakFrom", desc := "(I)I" } : Jvm.MethodName)) ∈ lw_all := lw_g (lw_at lw_m9 191 rfl) rfl
theorem q2224 : (Jvm.Cond.privateMethod ({ cls := "BlueBagModel", name := "streakFrom", desc := "(I)I" } : Jvm.MethodName)) ∈ lw_tbl := lw_at lw_m9 192 rfl
theorem q2225 : (Jvm.Cond.instanceMethod ({ cls := "BlueBagModel", name := "streakFrom", desc := "(I)I" } : Jvm.MethodName)) ∈ lw_all := lw_g (lw_at lw_m9 193 rfl) rfl
theorem q2226 : (Jvm.Cond.code ({ cls := "BlueBagModel", name := "streakFrom", desc := "(I)I" } : Jvm.MethodName) prog_18_method_83_code (3 : Nat) (Option.some Jvm.ClassFile.FieldType.int)) ∈ lw_all := lw_g (lw_at lw_m9 194 rfl) rfl
theorem q2228 : (Jvm.Cond.instanceMethod ({ cls := "BlueBagModel", name := "patch", desc := "(II)I" } : Jvm.MethodName)) ∈ lw_all := lw_g (lw_at lw_m9 196 rfl) rfl
theorem q2229 : (Jvm.Cond.selects "BlueBagModel" ({ cls := "BlueBagModel", name := "patch", desc := "(II)I" } : Jvm.MethodName) ({ cls := "BlueBagModel", name := "patch", desc := "(II)I" } : Jvm.MethodName)) ∈ lw_all := lw_g (lw_at lw_m9 197 rfl) rfl
theorem q2230 : (Jvm.Cond.code ({ cls := "BlueBagModel", name := "patch", desc := "(II)I" } : Jvm.MethodName) prog_18_method_85_code (3 : Nat) (Option.some Jvm.ClassFile.FieldType.int)) ∈ lw_all := lw_g (lw_at lw_m9 198 rfl) rfl
theorem q2231 : (Jvm.Cond.constantLong "BlueBagModel" (461 : Nat) (99 : Int64)) ∈ lw_all := lw_g (lw_at lw_m9 199 rfl) rfl
theorem q2233 : (Jvm.Cond.instanceMethod ({ cls := "BlueBagModel", name := "patches", desc := "(I)I" } : Jvm.MethodName)) ∈ lw_all := lw_g (lw_at lw_m9 201 rfl) rfl
theorem q2234 : (Jvm.Cond.selects "BlueBagModel" ({ cls := "BlueBagModel", name := "patches", desc := "(I)I" } : Jvm.MethodName) ({ cls := "BlueBagModel", name := "patches", desc := "(I)I" } : Jvm.MethodName)) ∈ lw_all := lw_g (lw_at lw_m9 202 rfl) rfl
theorem q2235 : (Jvm.Cond.code ({ cls := "BlueBagModel", name := "patches", desc := "(I)I" } : Jvm.MethodName) prog_18_method_86_code (5 : Nat) (Option.some Jvm.ClassFile.FieldType.int)) ∈ lw_all := lw_g (lw_at lw_m9 203 rfl) rfl
theorem q2237 : (Jvm.Cond.instanceMethod ({ cls := "BlueBagModel", name := "way", desc := "(II)I" } : Jvm.MethodName)) ∈ lw_all := lw_g (lw_at lw_m9 205 rfl) rfl
theorem q2238 : (Jvm.Cond.selects "BlueBagModel" ({ cls := "BlueBagModel", name := "way", desc := "(II)I" } : Jvm.MethodName) ({ cls := "BlueBagModel", name := "way", desc := "(II)I" } : Jvm.MethodName)) ∈ lw_all := lw_g (lw_at lw_m9 206 rfl) rfl
theorem q2239 : (Jvm.Cond.code ({ cls := "BlueBagModel", name := "way", desc := "(II)I" } : Jvm.MethodName) prog_18_method_87_code (7 : Nat) (Option.some Jvm.ClassFile.FieldType.int)) ∈ lw_all := lw_g (lw_at lw_m9 207 rfl) rfl
theorem q2241 : (Jvm.Cond.instanceMethod ({ cls := "BlueBagModel", name := "toRest", desc := "()I" } : Jvm.MethodName)) ∈ lw_all := lw_g (lw_at lw_m9 209 rfl) rfl
theorem q2242 : (Jvm.Cond.selects "BlueBagModel" ({ cls := "BlueBagModel", name := "toRest", desc := "()I" } : Jvm.MethodName) ({ cls := "BlueBagModel", name := "toRest", desc := "()I" } : Jvm.MethodName)) ∈ lw_all := lw_g (lw_at lw_m9 210 rfl) rfl
theorem q2243 : (Jvm.Cond.code ({ cls := "BlueBagModel", name := "toRest", desc := "()I" } : Jvm.MethodName) prog_18_method_89_code (6 : Nat) (Option.some Jvm.ClassFile.FieldType.int)) ∈ lw_all := lw_g (lw_at lw_m9 211 rfl) rfl
theorem q2244 : (Jvm.Cond.methodLink "BlueBagModel" (463 : Nat) ({ cls := "BlueBagModel", name := "unevenNext", desc := "()I" } : Jvm.MethodName)) ∈ lw_all := lw_g (lw_at lw_m9 212 rfl) rfl
theorem q2245 : (Jvm.Cond.privateMethod ({ cls := "BlueBagModel", name := "unevenNext", desc := "()I" } : Jvm.MethodName)) ∈ lw_tbl := lw_at lw_m9 213 rfl
theorem q2246 : (Jvm.Cond.instanceMethod ({ cls := "BlueBagModel", name := "unevenNext", desc := "()I" } : Jvm.MethodName)) ∈ lw_all := lw_g (lw_at lw_m9 214 rfl) rfl
theorem q2247 : (Jvm.Cond.code ({ cls := "BlueBagModel", name := "unevenNext", desc := "()I" } : Jvm.MethodName) prog_18_method_88_code (2 : Nat) (Option.some Jvm.ClassFile.FieldType.int)) ∈ lw_all := lw_g (lw_at lw_m9 215 rfl) rfl
theorem q2249 : (Jvm.Cond.instanceMethod ({ cls := "BlueBagModel", name := "toStand", desc := "(II)I" } : Jvm.MethodName)) ∈ lw_all := lw_g (lw_at lw_m9 217 rfl) rfl
theorem q2250 : (Jvm.Cond.selects "BlueBagModel" ({ cls := "BlueBagModel", name := "toStand", desc := "(II)I" } : Jvm.MethodName) ({ cls := "BlueBagModel", name := "toStand", desc := "(II)I" } : Jvm.MethodName)) ∈ lw_all := lw_g (lw_at lw_m9 218 rfl) rfl
theorem q2251 : (Jvm.Cond.code ({ cls := "BlueBagModel", name := "toStand", desc := "(II)I" } : Jvm.MethodName) prog_18_method_90_code (8 : Nat) (Option.some Jvm.ClassFile.FieldType.int)) ∈ lw_all := lw_g (lw_at lw_m9 219 rfl) rfl
theorem q2253 : (Jvm.Cond.instanceMethod ({ cls := "BlueBagModel", name := "toSwish", desc := "(II)I" } : Jvm.MethodName)) ∈ lw_all := lw_g (lw_at lw_m9 221 rfl) rfl
theorem q2254 : (Jvm.Cond.selects "BlueBagModel" ({ cls := "BlueBagModel", name := "toSwish", desc := "(II)I" } : Jvm.MethodName) ({ cls := "BlueBagModel", name := "toSwish", desc := "(II)I" } : Jvm.MethodName)) ∈ lw_all := lw_g (lw_at lw_m9 222 rfl) rfl
theorem q2255 : (Jvm.Cond.code ({ cls := "BlueBagModel", name := "toSwish", desc := "(II)I" } : Jvm.MethodName) prog_18_method_91_code (4 : Nat) (Option.some Jvm.ClassFile.FieldType.int)) ∈ lw_all := lw_g (lw_at lw_m9 223 rfl) rfl
theorem q2257 : (Jvm.Cond.instanceMethod ({ cls := "BlueBagModel", name := "missed", desc := "(I)I" } : Jvm.MethodName)) ∈ lw_all := lw_g (lw_at lw_m9 225 rfl) rfl
theorem q2258 : (Jvm.Cond.selects "BlueBagModel" ({ cls := "BlueBagModel", name := "missed", desc := "(I)I" } : Jvm.MethodName) ({ cls := "BlueBagModel", name := "missed", desc := "(I)I" } : Jvm.MethodName)) ∈ lw_all := lw_g (lw_at lw_m9 226 rfl) rfl
theorem q2259 : (Jvm.Cond.code ({ cls := "BlueBagModel", name := "missed", desc := "(I)I" } : Jvm.MethodName) prog_18_method_92_code (4 : Nat) (Option.some Jvm.ClassFile.FieldType.int)) ∈ lw_all := lw_g (lw_at lw_m9 227 rfl) rfl
theorem q2261 : (Jvm.Cond.instanceMethod ({ cls := "BlueBagModel", name := "steps", desc := "(II)I" } : Jvm.MethodName)) ∈ lw_all := lw_g (lw_at lw_m9 229 rfl) rfl
theorem q2262 : (Jvm.Cond.selects "BlueBagModel" ({ cls := "BlueBagModel", name := "steps", desc := "(II)I" } : Jvm.MethodName) ({ cls := "BlueBagModel", name := "steps", desc := "(II)I" } : Jvm.MethodName)) ∈ lw_all := lw_g (lw_at lw_m9 230 rfl) rfl
theorem q2263 : (Jvm.Cond.code ({ cls := "BlueBagModel", name := "steps", desc := "(II)I" } : Jvm.MethodName) prog_18_method_93_code (3 : Nat) (Option.some Jvm.ClassFile.FieldType.int)) ∈ lw_all := lw_g (lw_at lw_m9 231 rfl) rfl
theorem q2265 : (Jvm.Cond.instanceMethod ({ cls := "BlueBagModel", name := "nearest", desc := "(I)I" } : Jvm.MethodName)) ∈ lw_all := lw_g (lw_at lw_m9 233 rfl) rfl
theorem q2266 : (Jvm.Cond.selects "BlueBagModel" ({ cls := "BlueBagModel", name := "nearest", desc := "(I)I" } : Jvm.MethodName) ({ cls := "BlueBagModel", name := "nearest", desc := "(I)I" } : Jvm.MethodName)) ∈ lw_all := lw_g (lw_at lw_m9 234 rfl) rfl
theorem q2267 : (Jvm.Cond.code ({ cls := "BlueBagModel", name := "nearest", desc := "(I)I" } : Jvm.MethodName) prog_18_method_94_code (4 : Nat) (Option.some Jvm.ClassFile.FieldType.int)) ∈ lw_all := lw_g (lw_at lw_m9 235 rfl) rfl
theorem q2269 : (Jvm.Cond.instanceMethod ({ cls := "BlueBagModel", name := "sent", desc := "(II)I" } : Jvm.MethodName)) ∈ lw_all := lw_g (lw_at lw_m9 237 rfl) rfl
theorem q2270 : (Jvm.Cond.selects "BlueBagModel" ({ cls := "BlueBagModel", name := "sent", desc := "(II)I" } : Jvm.MethodName) ({ cls := "BlueBagModel", name := "sent", desc := "(II)I" } : Jvm.MethodName)) ∈ lw_all := lw_g (lw_at lw_m9 238 rfl) rfl
theorem q2271 : (Jvm.Cond.code ({ cls := "BlueBagModel", name := "sent", desc := "(II)I" } : Jvm.MethodName) prog_18_method_97_code (8 : Nat) (Option.some Jvm.ClassFile.FieldType.int)) ∈ lw_all := lw_g (lw_at lw_m9 239 rfl) rfl
theorem q2272 : (Jvm.Cond.methodLink "BlueBagModel" (469 : Nat) ({ cls := "BlueBagModel", name := "tellLeast", desc := "(I)V" } : Jvm.MethodName)) ∈ lw_all := lw_g (lw_at lw_m10 0 rfl) rfl
theorem q2273 : (Jvm.Cond.privateMethod ({ cls := "BlueBagModel", name := "tellLeast", desc := "(I)V" } : Jvm.MethodName)) ∈ lw_tbl := lw_at lw_m10 1 rfl
theorem q2274 : (Jvm.Cond.instanceMethod ({ cls := "BlueBagModel", name := "tellLeast", desc := "(I)V" } : Jvm.MethodName)) ∈ lw_all := lw_g (lw_at lw_m10 2 rfl) rfl
theorem q2275 : (Jvm.Cond.code ({ cls := "BlueBagModel", name := "tellLeast", desc := "(I)V" } : Jvm.MethodName) prog_18_method_96_code (7 : Nat) (Option.none : Option Jvm.ClassFile.FieldType)) ∈ lw_all := lw_g (lw_at lw_m10 3 rfl) rfl
theorem q2276 : (Jvm.Cond.methodLink "BlueBagModel" (466 : Nat) ({ cls := "BlueBagModel", name := "with", desc := "(III)I" } : Jvm.MethodName)) ∈ lw_all := lw_g (lw_at lw_m10 4 rfl) rfl
theorem q2277 : (Jvm.Cond.privateMethod ({ cls := "BlueBagModel", name := "with", desc := "(III)I" } : Jvm.MethodName)) ∈ lw_tbl := lw_at lw_m10 5 rfl
theorem q2278 : (Jvm.Cond.instanceMethod ({ cls := "BlueBagModel", name := "with", desc := "(III)I" } : Jvm.MethodName)) ∈ lw_all := lw_g (lw_at lw_m10 6 rfl) rfl
theorem q2279 : (Jvm.Cond.code ({ cls := "BlueBagModel", name := "with", desc := "(III)I" } : Jvm.MethodName) prog_18_method_95_code (4 : Nat) (Option.some Jvm.ClassFile.FieldType.int)) ∈ lw_all := lw_g (lw_at lw_m10 7 rfl) rfl
theorem q2281 : (Jvm.Cond.instanceMethod ({ cls := "BlueBagModel", name := "see", desc := "(III)I" } : Jvm.MethodName)) ∈ lw_all := lw_g (lw_at lw_m10 9 rfl) rfl
theorem q2282 : (Jvm.Cond.selects "BlueBagModel" ({ cls := "BlueBagModel", name := "see", desc := "(III)I" } : Jvm.MethodName) ({ cls := "BlueBagModel", name := "see", desc := "(III)I" } : Jvm.MethodName)) ∈ lw_all := lw_g (lw_at lw_m10 10 rfl) rfl
theorem q2283 : (Jvm.Cond.code ({ cls := "BlueBagModel", name := "see", desc := "(III)I" } : Jvm.MethodName) prog_18_method_98_code (4 : Nat) (Option.some Jvm.ClassFile.FieldType.int)) ∈ lw_all := lw_g (lw_at lw_m10 11 rfl) rfl
theorem q2285 : (Jvm.Cond.instanceMethod ({ cls := "BlueBagModel", name := "skilled", desc := "(I)I" } : Jvm.MethodName)) ∈ lw_all := lw_g (lw_at lw_m10 13 rfl) rfl
theorem q2286 : (Jvm.Cond.selects "BlueBagModel" ({ cls := "BlueBagModel", name := "skilled", desc := "(I)I" } : Jvm.MethodName) ({ cls := "BlueBagModel", name := "skilled", desc := "(I)I" } : Jvm.MethodName)) ∈ lw_all := lw_g (lw_at lw_m10 14 rfl) rfl
theorem q2287 : (Jvm.Cond.code ({ cls := "BlueBagModel", name := "skilled", desc := "(I)I" } : Jvm.MethodName) prog_18_method_101_code (2 : Nat) (Option.some Jvm.ClassFile.FieldType.int)) ∈ lw_all := lw_g (lw_at lw_m10 15 rfl) rfl
theorem q2288 : (Jvm.Cond.constantLong "BlueBagModel" (479 : Nat) (2 : Int64)) ∈ lw_all := lw_g (lw_at lw_m10 16 rfl) rfl
theorem q2289 : (Jvm.Cond.methodLink "BlueBagModel" (475 : Nat) ({ cls := "BlueBagModel", name := "isAsSeen", desc := "()Z" } : Jvm.MethodName)) ∈ lw_all := lw_g (lw_at lw_m10 17 rfl) rfl
theorem q2290 : (Jvm.Cond.privateMethod ({ cls := "BlueBagModel", name := "isAsSeen", desc := "()Z" } : Jvm.MethodName)) ∈ lw_tbl := lw_at lw_m10 18 rfl
theorem q2291 : (Jvm.Cond.instanceMethod ({ cls := "BlueBagModel", name := "isAsSeen", desc := "()Z" } : Jvm.MethodName)) ∈ lw_all := lw_g (lw_at lw_m10 19 rfl) rfl
theorem q2292 : (Jvm.Cond.code ({ cls := "BlueBagModel", name := "isAsSeen", desc := "()Z" } : Jvm.MethodName) prog_18_method_99_code (5 : Nat) (Option.some Jvm.ClassFile.FieldType.boolean)) ∈ lw_all := lw_g (lw_at lw_m10 20 rfl) rfl
theorem q2293 : (Jvm.Cond.methodLink "BlueBagModel" (481 : Nat) ({ cls := "BlueBagModel", name := "tellFits", desc := "()V" } : Jvm.MethodName)) ∈ lw_all := lw_g (lw_at lw_m10 21 rfl) rfl
theorem q2294 : (Jvm.Cond.privateMethod ({ cls := "BlueBagModel", name := "tellFits", desc := "()V" } : Jvm.MethodName)) ∈ lw_tbl := lw_at lw_m10 22 rfl
theorem q2295 : (Jvm.Cond.instanceMethod ({ cls := "BlueBagModel", name := "tellFits", desc := "()V" } : Jvm.MethodName)) ∈ lw_all := lw_g (lw_at lw_m10 23 rfl) rfl
theorem q2296 : (Jvm.Cond.code ({ cls := "BlueBagModel", name := "tellFits", desc := "()V" } : Jvm.MethodName) prog_18_method_100_code (4 : Nat) (Option.none : Option Jvm.ClassFile.FieldType)) ∈ lw_all := lw_g (lw_at lw_m10 24 rfl) rfl
theorem q2298 : (Jvm.Cond.instanceMethod ({ cls := "BlueBagModel", name := "look", desc := "(I)I" } : Jvm.MethodName)) ∈ lw_all := lw_g (lw_at lw_m10 26 rfl) rfl
theorem q2299 : (Jvm.Cond.selects "BlueBagModel" ({ cls := "BlueBagModel", name := "look", desc := "(I)I" } : Jvm.MethodName) ({ cls := "BlueBagModel", name := "look", desc := "(I)I" } : Jvm.MethodName)) ∈ lw_all := lw_g (lw_at lw_m10 27 rfl) rfl
theorem q2300 : (Jvm.Cond.code ({ cls := "BlueBagModel", name := "look", desc := "(I)I" } : Jvm.MethodName) prog_18_method_103_code (6 : Nat) (Option.some Jvm.ClassFile.FieldType.int)) ∈ lw_all := lw_g (lw_at lw_m10 28 rfl) rfl
theorem q2301 : (Jvm.Cond.methodLink "BlueBagModel" (484 : Nat) ({ cls := "BlueBagModel", name := "unlike", desc := "(I)I" } : Jvm.MethodName)) ∈ lw_all := lw_g (lw_at lw_m10 29 rfl) rfl
theorem q2302 : (Jvm.Cond.privateMethod ({ cls := "BlueBagModel", name := "unlike", desc := "(I)I" } : Jvm.MethodName)) ∈ lw_tbl := lw_at lw_m10 30 rfl
theorem q2303 : (Jvm.Cond.instanceMethod ({ cls := "BlueBagModel", name := "unlike", desc := "(I)I" } : Jvm.MethodName)) ∈ lw_all := lw_g (lw_at lw_m10 31 rfl) rfl
theorem q2304 : (Jvm.Cond.code ({ cls := "BlueBagModel", name := "unlike", desc := "(I)I" } : Jvm.MethodName) prog_18_method_102_code (6 : Nat) (Option.some Jvm.ClassFile.FieldType.int)) ∈ lw_all := lw_g (lw_at lw_m10 32 rfl) rfl
theorem q2306 : (Jvm.Cond.instanceMethod ({ cls := "BlueBagModel", name := "forget", desc := "()V" } : Jvm.MethodName)) ∈ lw_all := lw_g (lw_at lw_m10 34 rfl) rfl
theorem q2307 : (Jvm.Cond.selects "BlueBagModel" ({ cls := "BlueBagModel", name := "forget", desc := "()V" } : Jvm.MethodName) ({ cls := "BlueBagModel", name := "forget", desc := "()V" } : Jvm.MethodName)) ∈ lw_all := lw_g (lw_at lw_m10 35 rfl) rfl
theorem q2308 : (Jvm.Cond.code ({ cls := "BlueBagModel", name := "forget", desc := "()V" } : Jvm.MethodName) prog_18_method_104_code (1 : Nat) (Option.none : Option Jvm.ClassFile.FieldType)) ∈ lw_all := lw_g (lw_at lw_m10 36 rfl) rfl
theorem q2310 : (Jvm.Cond.instanceMethod ({ cls := "BlueBagModel", name := "game", desc := "(III)I" } : Jvm.MethodName)) ∈ lw_all := lw_g (lw_at lw_m10 38 rfl) rfl
theorem q2311 : (Jvm.Cond.selects "BlueBagModel" ({ cls := "BlueBagModel", name := "game", desc := "(III)I" } : Jvm.MethodName) ({ cls := "BlueBagModel", name := "game", desc := "(III)I" } : Jvm.MethodName)) ∈ lw_all := lw_g (lw_at lw_m10 39 rfl) rfl
theorem q2312 : (Jvm.Cond.code ({ cls := "BlueBagModel", name := "game", desc := "(III)I" } : Jvm.MethodName) prog_18_method_106_code (7 : Nat) (Option.some Jvm.ClassFile.FieldType.int)) ∈ lw_all := lw_g (lw_at lw_m10 40 rfl) rfl
theorem q2313 : (Jvm.Cond.methodLink "BlueBagModel" (487 : Nat) ({ cls := "BlueBagModel", name := "tellGains", desc := "(II)V" } : Jvm.MethodName)) ∈ lw_all := lw_g (lw_at lw_m10 41 rfl) rfl
theorem q2314 : (Jvm.Cond.privateMethod ({ cls := "BlueBagModel", name := "tellGains", desc := "(II)V" } : Jvm.MethodName)) ∈ lw_tbl := lw_at lw_m10 42 rfl
theorem q2315 : (Jvm.Cond.instanceMethod ({ cls := "BlueBagModel", name := "tellGains", desc := "(II)V" } : Jvm.MethodName)) ∈ lw_all := lw_g (lw_at lw_m10 43 rfl) rfl
theorem q2316 : (Jvm.Cond.code ({ cls := "BlueBagModel", name := "tellGains", desc := "(II)V" } : Jvm.MethodName) prog_18_method_105_code (4 : Nat) (Option.none : Option Jvm.ClassFile.FieldType)) ∈ lw_all := lw_g (lw_at lw_m10 44 rfl) rfl
theorem q2318 : (Jvm.Cond.instanceMethod ({ cls := "BlueBagModel", name := "skies", desc := "(III)I" } : Jvm.MethodName)) ∈ lw_all := lw_g (lw_at lw_m10 46 rfl) rfl
theorem q2319 : (Jvm.Cond.selects "BlueBagModel" ({ cls := "BlueBagModel", name := "skies", desc := "(III)I" } : Jvm.MethodName) ({ cls := "BlueBagModel", name := "skies", desc := "(III)I" } : Jvm.MethodName)) ∈ lw_all := lw_g (lw_at lw_m10 47 rfl) rfl
theorem q2320 : (Jvm.Cond.code ({ cls := "BlueBagModel", name := "skies", desc := "(III)I" } : Jvm.MethodName) prog_18_method_109_code (6 : Nat) (Option.some Jvm.ClassFile.FieldType.int)) ∈ lw_all := lw_g (lw_at lw_m10 48 rfl) rfl
theorem q2321 : (Jvm.Cond.methodLink "BlueBagModel" (497 : Nat) ({ cls := "BlueBagModel", name := "something", desc := "()V" } : Jvm.MethodName)) ∈ lw_all := lw_g (lw_at lw_m10 49 rfl) rfl
theorem q2322 : (Jvm.Cond.privateMethod ({ cls := "BlueBagModel", name := "something", desc := "()V" } : Jvm.MethodName)) ∈ lw_tbl := lw_at lw_m10 50 rfl
theorem q2323 : (Jvm.Cond.instanceMethod ({ cls := "BlueBagModel", name := "something", desc := "()V" } : Jvm.MethodName)) ∈ lw_all := lw_g (lw_at lw_m10 51 rfl) rfl
theorem q2324 : (Jvm.Cond.code ({ cls := "BlueBagModel", name := "something", desc := "()V" } : Jvm.MethodName) prog_18_method_108_code (3 : Nat) (Option.none : Option Jvm.ClassFile.FieldType)) ∈ lw_all := lw_g (lw_at lw_m10 52 rfl) rfl
theorem q2325 : (Jvm.Cond.methodLink "BlueBagModel" (494 : Nat) ({ cls := "BlueBagModel", name := "drawOf", desc := "(I)I" } : Jvm.MethodName)) ∈ lw_all := lw_g (lw_at lw_m10 53 rfl) rfl
theorem q2326 : (Jvm.Cond.privateMethod ({ cls := "BlueBagModel", name := "drawOf", desc := "(I)I" } : Jvm.MethodName)) ∈ lw_tbl := lw_at lw_m10 54 rfl
theorem q2327 : (Jvm.Cond.instanceMethod ({ cls := "BlueBagModel", name := "drawOf", desc := "(I)I" } : Jvm.MethodName)) ∈ lw_all := lw_g (lw_at lw_m10 55 rfl) rfl
theorem q2328 : (Jvm.Cond.code ({ cls := "BlueBagModel", name := "drawOf", desc := "(I)I" } : Jvm.MethodName) prog_18_method_107_code (2 : Nat) (Option.some Jvm.ClassFile.FieldType.int)) ∈ lw_all := lw_g (lw_at lw_m10 56 rfl) rfl
theorem q2329 : (Jvm.Cond.constant "BlueBagModel" (493 : Nat) (1103515245 : Int32)) ∈ lw_all := lw_g (lw_at lw_m10 57 rfl) rfl
theorem q2331 : (Jvm.Cond.instanceMethod ({ cls := "BlueBagModel", name := "image", desc := "()V" } : Jvm.MethodName)) ∈ lw_all := lw_g (lw_at lw_m10 59 rfl) rfl
theorem q2332 : (Jvm.Cond.selects "BlueBagModel" ({ cls := "BlueBagModel", name := "image", desc := "()V" } : Jvm.MethodName) ({ cls := "BlueBagModel", name := "image", desc := "()V" } : Jvm.MethodName)) ∈ lw_all := lw_g (lw_at lw_m10 60 rfl) rfl
theorem q2333 : (Jvm.Cond.code ({ cls := "BlueBagModel", name := "image", desc := "()V" } : Jvm.MethodName) prog_18_method_111_code (1 : Nat) (Option.none : Option Jvm.ClassFile.FieldType)) ∈ lw_all := lw_g (lw_at lw_m10 61 rfl) rfl
theorem q2335 : (Jvm.Cond.instanceMethod ({ cls := "BlueBagModel", name := "restore", desc := "()Z" } : Jvm.MethodName)) ∈ lw_all := lw_g (lw_at lw_m10 63 rfl) rfl
theorem q2336 : (Jvm.Cond.selects "BlueBagModel" ({ cls := "BlueBagModel", name := "restore", desc := "()Z" } : Jvm.MethodName) ({ cls := "BlueBagModel", name := "restore", desc := "()Z" } : Jvm.MethodName)) ∈ lw_all := lw_g (lw_at lw_m10 64 rfl) rfl
theorem q2337 : (Jvm.Cond.code ({ cls := "BlueBagModel", name := "restore", desc := "()Z" } : Jvm.MethodName) prog_18_method_112_code (1 : Nat) (Option.some Jvm.ClassFile.FieldType.boolean)) ∈ lw_all := lw_g (lw_at lw_m10 65 rfl) rfl
theorem q2362 : (Jvm.Cond.castable "BlueBagModel" "java/lang/Object") ∈ lw_tbl := lw_at lw_m10 90 rfl
theorem in_X7 : ∀ w ∈ wsX70, w ∈ lw_all := lw_in wsX70 [1755, 1757, 1759, 1761, 1763, 1765, 1767, 1769, 1771, 1773, 1775, 1777, 1779, 1781, 1783, 1785, 1787, 1789, 1791, 1793, 1795, 1797, 1799, 1801, 1803, 1805, 1807, 1809, 1811, 1813, 1815, 1817, 1819, 1821, 1823, 1825, 1827, 1829, 1831, 1833, 1835, 1837, 1839, 1841, 1843, 1845, 1847, 1849, 1851, 1853, 1855, 1857, 1859, 1861, 1863, 1865, 1867, 1869, 1871, 1873, 1875, 1877, 1879, 1881] (by decide +kernel) (by decide +kernel)
