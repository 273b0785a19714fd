/-! BlueBag -/
set_option maxRecDepth 100000
def RX1 : String := "BlueBag"
def TX1 : u_T := fun k => match k with
  | 0 => ("BlueBag", "coast", "LBlueBag$Coast;", false)
  | 1 => ("BlueBag", "book", "LBlueBag$Book;", true)
  | 2 => ("BlueBag", "image", "LBlueBag$Book;", true)
  | 3 => ("BlueBag", "now", "LBlueBag$State;", true)
  | 4 => ("BlueBag", "tried", "LBlueBag$State;", true)
  | 5 => ("BlueBag", "hasImage", "Z", false)
  | 6 => ("BlueBag", "tape", "[B", true)
  | 7 => ("BlueBag", "taped", "I", false)
  | 8 => ("BlueBag", "faultPlace", "I", false)
  | 9 => ("BlueBag", "fewest", "[I", true)
  | 10 => ("BlueBag", "where", "[I", true)
  | 11 => ("BlueBag", "five", "[I", true)
  | 12 => ("BlueBag", "fives", "[I", true)
  | _ => ("BlueBag", "its", "I", false)
def tyX1 : Nat → FieldType := fun k => match k with
  | 0 => .object "BlueBag$Coast"
  | 1 => .object "BlueBag$Book"
  | 2 => .object "BlueBag$Book"
  | 3 => .object "BlueBag$State"
  | 4 => .object "BlueBag$State"
  | 5 => .boolean
  | 6 => .array .byte
  | 7 => .int
  | 8 => .int
  | 9 => .array .int
  | 10 => .array .int
  | 11 => .array .int
  | 12 => .array .int
  | _ => .int
abbrev wsX10 : List Cond := u_ws RX1 TX1 14
set_option maxRecDepth 100000 in
theorem nmX1 : ∀ a, a < 14 → ∀ b, b < 14 → a ≠ b → (TX1 a).2.1 ≠ (TX1 b).2.1 := by decide +kernel
set_option maxRecDepth 100000 in
theorem tyX1_ok : ∀ k, k < 14 → parseFieldDescriptor (TX1 k).2.2.1 = some (tyX1 k) := by decide +kernel
abbrev cX1_init : ByteArray := prog_1_method_1_code
def yX1_init : MethodName := ⟨RX1, "<init>", "()V"⟩
def dkwX1_init_5 : List UInt8 := [182, 0, 58, 177]
abbrev dktX1_init_5 : List UInt8 := dkwX1_init_5 ++ []
def dkwX1_init_4 : List UInt8 := [188, 10, 181, 0, 52, 42, 17, 7, 8, 188, 10, 181, 0, 55, 42, 180, 0, 30, 42, 180, 0, 10]
abbrev dktX1_init_4 : List UInt8 := dkwX1_init_4 ++ dktX1_init_5
def dkwX1_init_3 : List UInt8 := [2, 181, 0, 41, 42, 17, 1, 192, 188, 10, 181, 0, 45, 42, 16, 6, 188, 10, 181, 0, 49, 42, 16, 30]
abbrev dktX1_init_3 : List UInt8 := dkwX1_init_3 ++ dktX1_init_4
def dkwX1_init_2 : List UInt8 := [181, 0, 30, 42, 187, 0, 31, 89, 183, 0, 33, 181, 0, 34, 42, 17, 2, 188, 188, 8, 181, 0, 37, 42]
abbrev dktX1_init_2 : List UInt8 := dkwX1_init_2 ++ dktX1_init_3
def dkwX1_init_1 : List UInt8 := [181, 0, 19, 42, 187, 0, 16, 89, 183, 0, 18, 181, 0, 23, 42, 42, 180, 0, 19, 180, 0, 26]
abbrev dktX1_init_1 : List UInt8 := dkwX1_init_1 ++ dktX1_init_2
def dkwX1_init_0 : List UInt8 := [42, 183, 0, 1, 42, 187, 0, 7, 89, 183, 0, 9, 181, 0, 10, 42, 187, 0, 16, 89, 183, 0, 18]
abbrev dktX1_init_0 : List UInt8 := dkwX1_init_0 ++ dktX1_init_1
theorem dksX1_init_0 : cX1_init.data.toList.drop 0 = dktX1_init_0 := by decide +kernel
theorem dksX1_init_1 : cX1_init.data.toList.drop 23 = dktX1_init_1 := dk_seg dksX1_init_0 23 rfl rfl
theorem dksX1_init_2 : cX1_init.data.toList.drop 45 = dktX1_init_2 := dk_seg dksX1_init_1 22 rfl rfl
theorem dksX1_init_3 : cX1_init.data.toList.drop 69 = dktX1_init_3 := dk_seg dksX1_init_2 24 rfl rfl
theorem dksX1_init_4 : cX1_init.data.toList.drop 93 = dktX1_init_4 := dk_seg dksX1_init_3 24 rfl rfl
theorem dksX1_init_5 : cX1_init.data.toList.drop 115 = dktX1_init_5 := dk_seg dksX1_init_4 22 rfl rfl
theorem dX1_init_0 : decode cX1_init 0 = .ok (.aload_n 0, 1) := dk_42 (dk_at dksX1_init_0 0 rfl rfl)
theorem dX1_init_1 : decode cX1_init 1 = .ok (.invokespecial 1, 3) := dk_183 0 1 (dk_at dksX1_init_0 1 rfl rfl)
theorem dX1_init_4 : decode cX1_init 4 = .ok (.aload_n 0, 1) := dk_42 (dk_at dksX1_init_0 4 rfl rfl)
theorem dX1_init_5 : decode cX1_init 5 = .ok (.new 7, 3) := dk_187 0 7 (dk_at dksX1_init_0 5 rfl rfl)
theorem dX1_init_8 : decode cX1_init 8 = .ok (.dup, 1) := dk_89 (dk_at dksX1_init_0 8 rfl rfl)
theorem dX1_init_9 : decode cX1_init 9 = .ok (.invokespecial 9, 3) := dk_183 0 9 (dk_at dksX1_init_0 9 rfl rfl)
theorem dX1_init_12 : decode cX1_init 12 = .ok (.putfield 10, 3) := dk_181 0 10 (dk_at dksX1_init_0 12 rfl rfl)
theorem dX1_init_15 : decode cX1_init 15 = .ok (.aload_n 0, 1) := dk_42 (dk_at dksX1_init_0 15 rfl rfl)
theorem dX1_init_16 : decode cX1_init 16 = .ok (.new 16, 3) := dk_187 0 16 (dk_at dksX1_init_0 16 rfl rfl)
theorem dX1_init_19 : decode cX1_init 19 = .ok (.dup, 1) := dk_89 (dk_at dksX1_init_0 19 rfl rfl)
theorem dX1_init_20 : decode cX1_init 20 = .ok (.invokespecial 18, 3) := dk_183 0 18 (dk_at dksX1_init_0 20 rfl rfl)
theorem dX1_init_23 : decode cX1_init 23 = .ok (.putfield 19, 3) := dk_181 0 19 (dk_at dksX1_init_1 0 rfl rfl)
theorem dX1_init_26 : decode cX1_init 26 = .ok (.aload_n 0, 1) := dk_42 (dk_at dksX1_init_1 3 rfl rfl)
theorem dX1_init_27 : decode cX1_init 27 = .ok (.new 16, 3) := dk_187 0 16 (dk_at dksX1_init_1 4 rfl rfl)
theorem dX1_init_30 : decode cX1_init 30 = .ok (.dup, 1) := dk_89 (dk_at dksX1_init_1 7 rfl rfl)
theorem dX1_init_31 : decode cX1_init 31 = .ok (.invokespecial 18, 3) := dk_183 0 18 (dk_at dksX1_init_1 8 rfl rfl)
theorem dX1_init_34 : decode cX1_init 34 = .ok (.putfield 23, 3) := dk_181 0 23 (dk_at dksX1_init_1 11 rfl rfl)
theorem dX1_init_37 : decode cX1_init 37 = .ok (.aload_n 0, 1) := dk_42 (dk_at dksX1_init_1 14 rfl rfl)
theorem dX1_init_38 : decode cX1_init 38 = .ok (.aload_n 0, 1) := dk_42 (dk_at dksX1_init_1 15 rfl rfl)
theorem dX1_init_39 : decode cX1_init 39 = .ok (.getfield 19, 3) := dk_180 0 19 (dk_at dksX1_init_1 16 rfl rfl)
theorem dX1_init_42 : decode cX1_init 42 = .ok (.getfield 26, 3) := dk_180 0 26 (dk_at dksX1_init_1 19 rfl rfl)
theorem dX1_init_45 : decode cX1_init 45 = .ok (.putfield 30, 3) := dk_181 0 30 (dk_at dksX1_init_2 0 rfl rfl)
theorem dX1_init_48 : decode cX1_init 48 = .ok (.aload_n 0, 1) := dk_42 (dk_at dksX1_init_2 3 rfl rfl)
theorem dX1_init_49 : decode cX1_init 49 = .ok (.new 31, 3) := dk_187 0 31 (dk_at dksX1_init_2 4 rfl rfl)
theorem dX1_init_52 : decode cX1_init 52 = .ok (.dup, 1) := dk_89 (dk_at dksX1_init_2 7 rfl rfl)
theorem dX1_init_53 : decode cX1_init 53 = .ok (.invokespecial 33, 3) := dk_183 0 33 (dk_at dksX1_init_2 8 rfl rfl)
theorem dX1_init_56 : decode cX1_init 56 = .ok (.putfield 34, 3) := dk_181 0 34 (dk_at dksX1_init_2 11 rfl rfl)
theorem dX1_init_59 : decode cX1_init 59 = .ok (.aload_n 0, 1) := dk_42 (dk_at dksX1_init_2 14 rfl rfl)
theorem dX1_init_60 : decode cX1_init 60 = .ok (.sipush 700, 3) := dk_17 2 188 (dk_at dksX1_init_2 15 rfl rfl)
theorem dX1_init_63 : decode cX1_init 63 = .ok (.newarray .byte, 2) := dk_188_8 (dk_at dksX1_init_2 18 rfl rfl)
theorem dX1_init_65 : decode cX1_init 65 = .ok (.putfield 37, 3) := dk_181 0 37 (dk_at dksX1_init_2 20 rfl rfl)
theorem dX1_init_68 : decode cX1_init 68 = .ok (.aload_n 0, 1) := dk_42 (dk_at dksX1_init_2 23 rfl rfl)
theorem dX1_init_69 : decode cX1_init 69 = .ok (.iconst (-1), 1) := dk_2 (dk_at dksX1_init_3 0 rfl rfl)
theorem dX1_init_70 : decode cX1_init 70 = .ok (.putfield 41, 3) := dk_181 0 41 (dk_at dksX1_init_3 1 rfl rfl)
theorem dX1_init_73 : decode cX1_init 73 = .ok (.aload_n 0, 1) := dk_42 (dk_at dksX1_init_3 4 rfl rfl)
theorem dX1_init_74 : decode cX1_init 74 = .ok (.sipush 448, 3) := dk_17 1 192 (dk_at dksX1_init_3 5 rfl rfl)
theorem dX1_init_77 : decode cX1_init 77 = .ok (.newarray .int, 2) := dk_188_10 (dk_at dksX1_init_3 8 rfl rfl)
theorem dX1_init_79 : decode cX1_init 79 = .ok (.putfield 45, 3) := dk_181 0 45 (dk_at dksX1_init_3 10 rfl rfl)
theorem dX1_init_82 : decode cX1_init 82 = .ok (.aload_n 0, 1) := dk_42 (dk_at dksX1_init_3 13 rfl rfl)
theorem dX1_init_83 : decode cX1_init 83 = .ok (.bipush 6, 2) := dk_16 6 (dk_at dksX1_init_3 14 rfl rfl)
theorem dX1_init_85 : decode cX1_init 85 = .ok (.newarray .int, 2) := dk_188_10 (dk_at dksX1_init_3 16 rfl rfl)
theorem dX1_init_87 : decode cX1_init 87 = .ok (.putfield 49, 3) := dk_181 0 49 (dk_at dksX1_init_3 18 rfl rfl)
theorem dX1_init_90 : decode cX1_init 90 = .ok (.aload_n 0, 1) := dk_42 (dk_at dksX1_init_3 21 rfl rfl)
theorem dX1_init_91 : decode cX1_init 91 = .ok (.bipush 30, 2) := dk_16 30 (dk_at dksX1_init_3 22 rfl rfl)
theorem dX1_init_93 : decode cX1_init 93 = .ok (.newarray .int, 2) := dk_188_10 (dk_at dksX1_init_4 0 rfl rfl)
theorem dX1_init_95 : decode cX1_init 95 = .ok (.putfield 52, 3) := dk_181 0 52 (dk_at dksX1_init_4 2 rfl rfl)
theorem dX1_init_98 : decode cX1_init 98 = .ok (.aload_n 0, 1) := dk_42 (dk_at dksX1_init_4 5 rfl rfl)
theorem dX1_init_99 : decode cX1_init 99 = .ok (.sipush 1800, 3) := dk_17 7 8 (dk_at dksX1_init_4 6 rfl rfl)
theorem dX1_init_102 : decode cX1_init 102 = .ok (.newarray .int, 2) := dk_188_10 (dk_at dksX1_init_4 9 rfl rfl)
theorem dX1_init_104 : decode cX1_init 104 = .ok (.putfield 55, 3) := dk_181 0 55 (dk_at dksX1_init_4 11 rfl rfl)
theorem dX1_init_107 : decode cX1_init 107 = .ok (.aload_n 0, 1) := dk_42 (dk_at dksX1_init_4 14 rfl rfl)
theorem dX1_init_108 : decode cX1_init 108 = .ok (.getfield 30, 3) := dk_180 0 30 (dk_at dksX1_init_4 15 rfl rfl)
theorem dX1_init_111 : decode cX1_init 111 = .ok (.aload_n 0, 1) := dk_42 (dk_at dksX1_init_4 18 rfl rfl)
theorem dX1_init_112 : decode cX1_init 112 = .ok (.getfield 10, 3) := dk_180 0 10 (dk_at dksX1_init_4 19 rfl rfl)
theorem dX1_init_115 : decode cX1_init 115 = .ok (.invokevirtual 58, 3) := dk_182 0 58 (dk_at dksX1_init_5 0 rfl rfl)
theorem dX1_init_118 : decode cX1_init 118 = .ok (.return_, 1) := dk_177 (dk_at dksX1_init_5 3 rfl rfl)
abbrev cX1_feed : ByteArray := prog_1_method_9_code
def yX1_feed : MethodName := ⟨RX1, "feed", "(IIIII)I"⟩
def dkwX1_feed_2 : List UInt8 := [172]
abbrev dktX1_feed_2 : List UInt8 := dkwX1_feed_2 ++ []
def dkwX1_feed_1 : List UInt8 := [182, 0, 97, 42, 29, 182, 0, 97, 42, 21, 4, 182, 0, 97, 42, 21, 5, 182, 0, 97, 42, 180, 0, 94]
abbrev dktX1_feed_1 : List UInt8 := dkwX1_feed_1 ++ dktX1_feed_2
def dkwX1_feed_0 : List UInt8 := [42, 180, 0, 94, 16, 20, 96, 17, 2, 188, 164, 0, 5, 2, 172, 42, 27, 182, 0, 97, 42, 28]
abbrev dktX1_feed_0 : List UInt8 := dkwX1_feed_0 ++ dktX1_feed_1
theorem dksX1_feed_0 : cX1_feed.data.toList.drop 0 = dktX1_feed_0 := by decide +kernel
theorem dksX1_feed_1 : cX1_feed.data.toList.drop 22 = dktX1_feed_1 := dk_seg dksX1_feed_0 22 rfl rfl
theorem dksX1_feed_2 : cX1_feed.data.toList.drop 46 = dktX1_feed_2 := dk_seg dksX1_feed_1 24 rfl rfl
theorem dX1_feed_0 : decode cX1_feed 0 = .ok (.aload_n 0, 1) := dk_42 (dk_at dksX1_feed_0 0 rfl rfl)
theorem dX1_feed_1 : decode cX1_feed 1 = .ok (.getfield 94, 3) := dk_180 0 94 (dk_at dksX1_feed_0 1 rfl rfl)
theorem dX1_feed_4 : decode cX1_feed 4 = .ok (.bipush 20, 2) := dk_16 20 (dk_at dksX1_feed_0 4 rfl rfl)
theorem dX1_feed_6 : decode cX1_feed 6 = .ok (.iadd, 1) := dk_96 (dk_at dksX1_feed_0 6 rfl rfl)
theorem dX1_feed_7 : decode cX1_feed 7 = .ok (.sipush 700, 3) := dk_17 2 188 (dk_at dksX1_feed_0 7 rfl rfl)
theorem dX1_feed_10 : decode cX1_feed 10 = .ok (.if_icmp .le 5, 3) := dk_164 0 5 (dk_at dksX1_feed_0 10 rfl rfl)
theorem dX1_feed_13 : decode cX1_feed 13 = .ok (.iconst (-1), 1) := dk_2 (dk_at dksX1_feed_0 13 rfl rfl)
theorem dX1_feed_14 : decode cX1_feed 14 = .ok (.ireturn, 1) := dk_172 (dk_at dksX1_feed_0 14 rfl rfl)
theorem dX1_feed_15 : decode cX1_feed 15 = .ok (.aload_n 0, 1) := dk_42 (dk_at dksX1_feed_0 15 rfl rfl)
theorem dX1_feed_16 : decode cX1_feed 16 = .ok (.iload_n 1, 1) := dk_27 (dk_at dksX1_feed_0 16 rfl rfl)
theorem dX1_feed_17 : decode cX1_feed 17 = .ok (.invokevirtual 97, 3) := dk_182 0 97 (dk_at dksX1_feed_0 17 rfl rfl)
theorem dX1_feed_20 : decode cX1_feed 20 = .ok (.aload_n 0, 1) := dk_42 (dk_at dksX1_feed_0 20 rfl rfl)
theorem dX1_feed_21 : decode cX1_feed 21 = .ok (.iload_n 2, 1) := dk_28 (dk_at dksX1_feed_0 21 rfl rfl)
theorem dX1_feed_22 : decode cX1_feed 22 = .ok (.invokevirtual 97, 3) := dk_182 0 97 (dk_at dksX1_feed_1 0 rfl rfl)
theorem dX1_feed_25 : decode cX1_feed 25 = .ok (.aload_n 0, 1) := dk_42 (dk_at dksX1_feed_1 3 rfl rfl)
theorem dX1_feed_26 : decode cX1_feed 26 = .ok (.iload_n 3, 1) := dk_29 (dk_at dksX1_feed_1 4 rfl rfl)
theorem dX1_feed_27 : decode cX1_feed 27 = .ok (.invokevirtual 97, 3) := dk_182 0 97 (dk_at dksX1_feed_1 5 rfl rfl)
theorem dX1_feed_30 : decode cX1_feed 30 = .ok (.aload_n 0, 1) := dk_42 (dk_at dksX1_feed_1 8 rfl rfl)
theorem dX1_feed_31 : decode cX1_feed 31 = .ok (.iload 4, 2) := dk_21 4 (dk_at dksX1_feed_1 9 rfl rfl)
theorem dX1_feed_33 : decode cX1_feed 33 = .ok (.invokevirtual 97, 3) := dk_182 0 97 (dk_at dksX1_feed_1 11 rfl rfl)
theorem dX1_feed_36 : decode cX1_feed 36 = .ok (.aload_n 0, 1) := dk_42 (dk_at dksX1_feed_1 14 rfl rfl)
theorem dX1_feed_37 : decode cX1_feed 37 = .ok (.iload 5, 2) := dk_21 5 (dk_at dksX1_feed_1 15 rfl rfl)
theorem dX1_feed_39 : decode cX1_feed 39 = .ok (.invokevirtual 97, 3) := dk_182 0 97 (dk_at dksX1_feed_1 17 rfl rfl)
theorem dX1_feed_42 : decode cX1_feed 42 = .ok (.aload_n 0, 1) := dk_42 (dk_at dksX1_feed_1 20 rfl rfl)
theorem dX1_feed_43 : decode cX1_feed 43 = .ok (.getfield 94, 3) := dk_180 0 94 (dk_at dksX1_feed_1 21 rfl rfl)
theorem dX1_feed_46 : decode cX1_feed 46 = .ok (.ireturn, 1) := dk_172 (dk_at dksX1_feed_2 0 rfl rfl)
abbrev cX1_lay : ByteArray := prog_1_method_10_code
def yX1_lay : MethodName := ⟨RX1, "lay", "(I)V"⟩
def dkwX1_lay_1 : List UInt8 := [180, 0, 94, 4, 96, 181, 0, 94, 132, 2, 248, 167, 255, 226, 177]
abbrev dktX1_lay_1 : List UInt8 := dkwX1_lay_1 ++ []
def dkwX1_lay_0 : List UInt8 := [16, 24, 61, 28, 155, 0, 32, 42, 180, 0, 37, 42, 180, 0, 94, 27, 28, 122, 145, 84, 42, 89]
abbrev dktX1_lay_0 : List UInt8 := dkwX1_lay_0 ++ dktX1_lay_1
theorem dksX1_lay_0 : cX1_lay.data.toList.drop 0 = dktX1_lay_0 := by decide +kernel
theorem dksX1_lay_1 : cX1_lay.data.toList.drop 22 = dktX1_lay_1 := dk_seg dksX1_lay_0 22 rfl rfl
theorem dX1_lay_0 : decode cX1_lay 0 = .ok (.bipush 24, 2) := dk_16 24 (dk_at dksX1_lay_0 0 rfl rfl)
theorem dX1_lay_2 : decode cX1_lay 2 = .ok (.istore_n 2, 1) := dk_61 (dk_at dksX1_lay_0 2 rfl rfl)
theorem dX1_lay_3 : decode cX1_lay 3 = .ok (.iload_n 2, 1) := dk_28 (dk_at dksX1_lay_0 3 rfl rfl)
theorem dX1_lay_4 : decode cX1_lay 4 = .ok (.ifCond .lt 32, 3) := dk_155 0 32 (dk_at dksX1_lay_0 4 rfl rfl)
theorem dX1_lay_7 : decode cX1_lay 7 = .ok (.aload_n 0, 1) := dk_42 (dk_at dksX1_lay_0 7 rfl rfl)
theorem dX1_lay_8 : decode cX1_lay 8 = .ok (.getfield 37, 3) := dk_180 0 37 (dk_at dksX1_lay_0 8 rfl rfl)
theorem dX1_lay_11 : decode cX1_lay 11 = .ok (.aload_n 0, 1) := dk_42 (dk_at dksX1_lay_0 11 rfl rfl)
theorem dX1_lay_12 : decode cX1_lay 12 = .ok (.getfield 94, 3) := dk_180 0 94 (dk_at dksX1_lay_0 12 rfl rfl)
theorem dX1_lay_15 : decode cX1_lay 15 = .ok (.iload_n 1, 1) := dk_27 (dk_at dksX1_lay_0 15 rfl rfl)
theorem dX1_lay_16 : decode cX1_lay 16 = .ok (.iload_n 2, 1) := dk_28 (dk_at dksX1_lay_0 16 rfl rfl)
theorem dX1_lay_17 : decode cX1_lay 17 = .ok (.ishr, 1) := dk_122 (dk_at dksX1_lay_0 17 rfl rfl)
theorem dX1_lay_18 : decode cX1_lay 18 = .ok (.i2b, 1) := dk_145 (dk_at dksX1_lay_0 18 rfl rfl)
theorem dX1_lay_19 : decode cX1_lay 19 = .ok (.bastore, 1) := dk_84 (dk_at dksX1_lay_0 19 rfl rfl)
theorem dX1_lay_20 : decode cX1_lay 20 = .ok (.aload_n 0, 1) := dk_42 (dk_at dksX1_lay_0 20 rfl rfl)
theorem dX1_lay_21 : decode cX1_lay 21 = .ok (.dup, 1) := dk_89 (dk_at dksX1_lay_0 21 rfl rfl)
theorem dX1_lay_22 : decode cX1_lay 22 = .ok (.getfield 94, 3) := dk_180 0 94 (dk_at dksX1_lay_1 0 rfl rfl)
theorem dX1_lay_25 : decode cX1_lay 25 = .ok (.iconst 1, 1) := dk_4 (dk_at dksX1_lay_1 3 rfl rfl)
theorem dX1_lay_26 : decode cX1_lay 26 = .ok (.iadd, 1) := dk_96 (dk_at dksX1_lay_1 4 rfl rfl)
theorem dX1_lay_27 : decode cX1_lay 27 = .ok (.putfield 94, 3) := dk_181 0 94 (dk_at dksX1_lay_1 5 rfl rfl)
theorem dX1_lay_30 : decode cX1_lay 30 = .ok (.iinc 2 (-8), 3) := dk_132 2 248 (dk_at dksX1_lay_1 8 rfl rfl)
theorem dX1_lay_33 : decode cX1_lay 33 = .ok (.goto (-30), 3) := dk_167 255 226 (dk_at dksX1_lay_1 11 rfl rfl)
theorem dX1_lay_36 : decode cX1_lay 36 = .ok (.return_, 1) := dk_177 (dk_at dksX1_lay_1 14 rfl rfl)
abbrev cX1_fault : ByteArray := prog_1_method_12_code
def yX1_fault : MethodName := ⟨RX1, "fault", "()I"⟩
theorem dX1_fault_0 : decode cX1_fault 0 = .ok (.aload_n 0, 1) := by decide +kernel
theorem dX1_fault_1 : decode cX1_fault 1 = .ok (.getfield 41, 3) := by decide +kernel
theorem dX1_fault_4 : decode cX1_fault 4 = .ok (.ireturn, 1) := by decide +kernel
abbrev cX1_days : ByteArray := prog_1_method_19_code
def yX1_days : MethodName := ⟨RX1, "days", "(I)I"⟩
def dkwX1_days_2 : List UInt8 := [180, 0, 30, 42, 180, 0, 10, 182, 0, 214, 132, 2, 1, 167, 255, 237, 42, 180, 0, 30, 180, 0, 140, 172]
abbrev dktX1_days_2 : List UInt8 := dkwX1_days_2 ++ []
def dkwX1_days_1 : List UInt8 := [163, 0, 7, 4, 167, 0, 4, 3, 182, 0, 210, 154, 0, 5, 2, 172, 3, 61, 28, 27, 162, 0, 20, 42]
abbrev dktX1_days_1 : List UInt8 := dkwX1_days_1 ++ dktX1_days_2
def dkwX1_days_0 : List UInt8 := [42, 27, 4, 16, 20, 184, 0, 133, 153, 0, 22, 42, 180, 0, 30, 180, 0, 140, 27, 96, 17, 3, 231]
abbrev dktX1_days_0 : List UInt8 := dkwX1_days_0 ++ dktX1_days_1
theorem dksX1_days_0 : cX1_days.data.toList.drop 0 = dktX1_days_0 := by decide +kernel
theorem dksX1_days_1 : cX1_days.data.toList.drop 23 = dktX1_days_1 := dk_seg dksX1_days_0 23 rfl rfl
theorem dksX1_days_2 : cX1_days.data.toList.drop 47 = dktX1_days_2 := dk_seg dksX1_days_1 24 rfl rfl
theorem dX1_days_0 : decode cX1_days 0 = .ok (.aload_n 0, 1) := dk_42 (dk_at dksX1_days_0 0 rfl rfl)
theorem dX1_days_1 : decode cX1_days 1 = .ok (.iload_n 1, 1) := dk_27 (dk_at dksX1_days_0 1 rfl rfl)
theorem dX1_days_2 : decode cX1_days 2 = .ok (.iconst 1, 1) := dk_4 (dk_at dksX1_days_0 2 rfl rfl)
theorem dX1_days_3 : decode cX1_days 3 = .ok (.bipush 20, 2) := dk_16 20 (dk_at dksX1_days_0 3 rfl rfl)
theorem dX1_days_5 : decode cX1_days 5 = .ok (.invokestatic 133, 3) := dk_184 0 133 (dk_at dksX1_days_0 5 rfl rfl)
theorem dX1_days_8 : decode cX1_days 8 = .ok (.ifCond .eq 22, 3) := dk_153 0 22 (dk_at dksX1_days_0 8 rfl rfl)
theorem dX1_days_11 : decode cX1_days 11 = .ok (.aload_n 0, 1) := dk_42 (dk_at dksX1_days_0 11 rfl rfl)
theorem dX1_days_12 : decode cX1_days 12 = .ok (.getfield 30, 3) := dk_180 0 30 (dk_at dksX1_days_0 12 rfl rfl)
theorem dX1_days_15 : decode cX1_days 15 = .ok (.getfield 140, 3) := dk_180 0 140 (dk_at dksX1_days_0 15 rfl rfl)
theorem dX1_days_18 : decode cX1_days 18 = .ok (.iload_n 1, 1) := dk_27 (dk_at dksX1_days_0 18 rfl rfl)
theorem dX1_days_19 : decode cX1_days 19 = .ok (.iadd, 1) := dk_96 (dk_at dksX1_days_0 19 rfl rfl)
theorem dX1_days_20 : decode cX1_days 20 = .ok (.sipush 999, 3) := dk_17 3 231 (dk_at dksX1_days_0 20 rfl rfl)
theorem dX1_days_23 : decode cX1_days 23 = .ok (.if_icmp .gt 7, 3) := dk_163 0 7 (dk_at dksX1_days_1 0 rfl rfl)
theorem dX1_days_26 : decode cX1_days 26 = .ok (.iconst 1, 1) := dk_4 (dk_at dksX1_days_1 3 rfl rfl)
theorem dX1_days_27 : decode cX1_days 27 = .ok (.goto 4, 3) := dk_167 0 4 (dk_at dksX1_days_1 4 rfl rfl)
theorem dX1_days_30 : decode cX1_days 30 = .ok (.iconst 0, 1) := dk_3 (dk_at dksX1_days_1 7 rfl rfl)
theorem dX1_days_31 : decode cX1_days 31 = .ok (.invokevirtual 210, 3) := dk_182 0 210 (dk_at dksX1_days_1 8 rfl rfl)
theorem dX1_days_34 : decode cX1_days 34 = .ok (.ifCond .ne 5, 3) := dk_154 0 5 (dk_at dksX1_days_1 11 rfl rfl)
theorem dX1_days_37 : decode cX1_days 37 = .ok (.iconst (-1), 1) := dk_2 (dk_at dksX1_days_1 14 rfl rfl)
theorem dX1_days_38 : decode cX1_days 38 = .ok (.ireturn, 1) := dk_172 (dk_at dksX1_days_1 15 rfl rfl)
theorem dX1_days_39 : decode cX1_days 39 = .ok (.iconst 0, 1) := dk_3 (dk_at dksX1_days_1 16 rfl rfl)
theorem dX1_days_40 : decode cX1_days 40 = .ok (.istore_n 2, 1) := dk_61 (dk_at dksX1_days_1 17 rfl rfl)
theorem dX1_days_41 : decode cX1_days 41 = .ok (.iload_n 2, 1) := dk_28 (dk_at dksX1_days_1 18 rfl rfl)
theorem dX1_days_42 : decode cX1_days 42 = .ok (.iload_n 1, 1) := dk_27 (dk_at dksX1_days_1 19 rfl rfl)
theorem dX1_days_43 : decode cX1_days 43 = .ok (.if_icmp .ge 20, 3) := dk_162 0 20 (dk_at dksX1_days_1 20 rfl rfl)
theorem dX1_days_46 : decode cX1_days 46 = .ok (.aload_n 0, 1) := dk_42 (dk_at dksX1_days_1 23 rfl rfl)
theorem dX1_days_47 : decode cX1_days 47 = .ok (.getfield 30, 3) := dk_180 0 30 (dk_at dksX1_days_2 0 rfl rfl)
theorem dX1_days_50 : decode cX1_days 50 = .ok (.aload_n 0, 1) := dk_42 (dk_at dksX1_days_2 3 rfl rfl)
theorem dX1_days_51 : decode cX1_days 51 = .ok (.getfield 10, 3) := dk_180 0 10 (dk_at dksX1_days_2 4 rfl rfl)
theorem dX1_days_54 : decode cX1_days 54 = .ok (.invokevirtual 214, 3) := dk_182 0 214 (dk_at dksX1_days_2 7 rfl rfl)
theorem dX1_days_57 : decode cX1_days 57 = .ok (.iinc 2 1, 3) := dk_132 2 1 (dk_at dksX1_days_2 10 rfl rfl)
theorem dX1_days_60 : decode cX1_days 60 = .ok (.goto (-19), 3) := dk_167 255 237 (dk_at dksX1_days_2 13 rfl rfl)
theorem dX1_days_63 : decode cX1_days 63 = .ok (.aload_n 0, 1) := dk_42 (dk_at dksX1_days_2 16 rfl rfl)
theorem dX1_days_64 : decode cX1_days 64 = .ok (.getfield 30, 3) := dk_180 0 30 (dk_at dksX1_days_2 17 rfl rfl)
theorem dX1_days_67 : decode cX1_days 67 = .ok (.getfield 140, 3) := dk_180 0 140 (dk_at dksX1_days_2 20 rfl rfl)
theorem dX1_days_70 : decode cX1_days 70 = .ok (.ireturn, 1) := dk_172 (dk_at dksX1_days_2 23 rfl rfl)
abbrev cX1_within : ByteArray := prog_1_method_4_code
def yX1_within : MethodName := ⟨RX1, "within", "(III)Z"⟩
def dkwX1_within_0 : List UInt8 := [26, 27, 161, 0, 12, 26, 28, 163, 0, 7, 4, 167, 0, 4, 3, 172]
abbrev dktX1_within_0 : List UInt8 := dkwX1_within_0 ++ []
theorem dksX1_within_0 : cX1_within.data.toList.drop 0 = dktX1_within_0 := by decide +kernel
theorem dX1_within_0 : decode cX1_within 0 = .ok (.iload_n 0, 1) := dk_26 (dk_at dksX1_within_0 0 rfl rfl)
theorem dX1_within_1 : decode cX1_within 1 = .ok (.iload_n 1, 1) := dk_27 (dk_at dksX1_within_0 1 rfl rfl)
theorem dX1_within_2 : decode cX1_within 2 = .ok (.if_icmp .lt 12, 3) := dk_161 0 12 (dk_at dksX1_within_0 2 rfl rfl)
theorem dX1_within_5 : decode cX1_within 5 = .ok (.iload_n 0, 1) := dk_26 (dk_at dksX1_within_0 5 rfl rfl)
theorem dX1_within_6 : decode cX1_within 6 = .ok (.iload_n 2, 1) := dk_28 (dk_at dksX1_within_0 6 rfl rfl)
theorem dX1_within_7 : decode cX1_within 7 = .ok (.if_icmp .gt 7, 3) := dk_163 0 7 (dk_at dksX1_within_0 7 rfl rfl)
theorem dX1_within_10 : decode cX1_within 10 = .ok (.iconst 1, 1) := dk_4 (dk_at dksX1_within_0 10 rfl rfl)
theorem dX1_within_11 : decode cX1_within 11 = .ok (.goto 4, 3) := dk_167 0 4 (dk_at dksX1_within_0 11 rfl rfl)
theorem dX1_within_14 : decode cX1_within 14 = .ok (.iconst 0, 1) := dk_3 (dk_at dksX1_within_0 14 rfl rfl)
theorem dX1_within_15 : decode cX1_within 15 = .ok (.ireturn, 1) := dk_172 (dk_at dksX1_within_0 15 rfl rfl)
abbrev cX1_does : ByteArray := prog_1_method_18_code
def yX1_does : MethodName := ⟨RX1, "does", "(Z)Z"⟩
def dkwX1_does_0 : List UInt8 := [27, 153, 0, 13, 42, 180, 0, 19, 182, 0, 204, 167, 0, 9, 42, 4, 182, 0, 207, 87, 27, 172]
abbrev dktX1_does_0 : List UInt8 := dkwX1_does_0 ++ []
theorem dksX1_does_0 : cX1_does.data.toList.drop 0 = dktX1_does_0 := by decide +kernel
theorem dX1_does_0 : decode cX1_does 0 = .ok (.iload_n 1, 1) := dk_27 (dk_at dksX1_does_0 0 rfl rfl)
theorem dX1_does_1 : decode cX1_does 1 = .ok (.ifCond .eq 13, 3) := dk_153 0 13 (dk_at dksX1_does_0 1 rfl rfl)
theorem dX1_does_4 : decode cX1_does 4 = .ok (.aload_n 0, 1) := dk_42 (dk_at dksX1_does_0 4 rfl rfl)
theorem dX1_does_5 : decode cX1_does 5 = .ok (.getfield 19, 3) := dk_180 0 19 (dk_at dksX1_does_0 5 rfl rfl)
theorem dX1_does_8 : decode cX1_does 8 = .ok (.invokevirtual 204, 3) := dk_182 0 204 (dk_at dksX1_does_0 8 rfl rfl)
theorem dX1_does_11 : decode cX1_does 11 = .ok (.goto 9, 3) := dk_167 0 9 (dk_at dksX1_does_0 11 rfl rfl)
theorem dX1_does_14 : decode cX1_does 14 = .ok (.aload_n 0, 1) := dk_42 (dk_at dksX1_does_0 14 rfl rfl)
theorem dX1_does_15 : decode cX1_does 15 = .ok (.iconst 1, 1) := dk_4 (dk_at dksX1_does_0 15 rfl rfl)
theorem dX1_does_16 : decode cX1_does 16 = .ok (.invokevirtual 207, 3) := dk_182 0 207 (dk_at dksX1_does_0 16 rfl rfl)
theorem dX1_does_19 : decode cX1_does 19 = .ok (.pop, 1) := dk_87 (dk_at dksX1_does_0 19 rfl rfl)
theorem dX1_does_20 : decode cX1_does 20 = .ok (.iload_n 1, 1) := dk_27 (dk_at dksX1_does_0 20 rfl rfl)
theorem dX1_does_21 : decode cX1_does 21 = .ok (.ireturn, 1) := dk_172 (dk_at dksX1_does_0 21 rfl rfl)
abbrev cX1_refuses : ByteArray := prog_1_method_17_code
def yX1_refuses : MethodName := ⟨RX1, "refuses", "(I)I"⟩
def dkwX1_refuses_0 : List UInt8 := [42, 180, 0, 19, 180, 0, 117, 27, 92, 46, 4, 96, 79, 2, 172]
abbrev dktX1_refuses_0 : List UInt8 := dkwX1_refuses_0 ++ []
theorem dksX1_refuses_0 : cX1_refuses.data.toList.drop 0 = dktX1_refuses_0 := by decide +kernel
theorem dX1_refuses_0 : decode cX1_refuses 0 = .ok (.aload_n 0, 1) := dk_42 (dk_at dksX1_refuses_0 0 rfl rfl)
theorem dX1_refuses_1 : decode cX1_refuses 1 = .ok (.getfield 19, 3) := dk_180 0 19 (dk_at dksX1_refuses_0 1 rfl rfl)
theorem dX1_refuses_4 : decode cX1_refuses 4 = .ok (.getfield 117, 3) := dk_180 0 117 (dk_at dksX1_refuses_0 4 rfl rfl)
theorem dX1_refuses_7 : decode cX1_refuses 7 = .ok (.iload_n 1, 1) := dk_27 (dk_at dksX1_refuses_0 7 rfl rfl)
theorem dX1_refuses_8 : decode cX1_refuses 8 = .ok (.dup2, 1) := dk_92 (dk_at dksX1_refuses_0 8 rfl rfl)
theorem dX1_refuses_9 : decode cX1_refuses 9 = .ok (.iaload, 1) := dk_46 (dk_at dksX1_refuses_0 9 rfl rfl)
theorem dX1_refuses_10 : decode cX1_refuses 10 = .ok (.iconst 1, 1) := dk_4 (dk_at dksX1_refuses_0 10 rfl rfl)
theorem dX1_refuses_11 : decode cX1_refuses 11 = .ok (.iadd, 1) := dk_96 (dk_at dksX1_refuses_0 11 rfl rfl)
theorem dX1_refuses_12 : decode cX1_refuses 12 = .ok (.iastore, 1) := dk_79 (dk_at dksX1_refuses_0 12 rfl rfl)
theorem dX1_refuses_13 : decode cX1_refuses 13 = .ok (.iconst (-1), 1) := dk_2 (dk_at dksX1_refuses_0 13 rfl rfl)
theorem dX1_refuses_14 : decode cX1_refuses 14 = .ok (.ireturn, 1) := dk_172 (dk_at dksX1_refuses_0 14 rfl rfl)
abbrev cX1_bag : ByteArray := prog_1_method_22_code
def yX1_bag : MethodName := ⟨RX1, "bag", "(I)I"⟩
def dkwX1_bag_1 : List UInt8 := [180, 0, 30, 180, 0, 143, 27, 96, 184, 0, 221, 181, 0, 143, 42, 180, 0, 30, 180, 0, 143, 172]
abbrev dktX1_bag_1 : List UInt8 := dkwX1_bag_1 ++ []
def dkwX1_bag_0 : List UInt8 := [42, 27, 4, 16, 50, 184, 0, 133, 182, 0, 210, 154, 0, 5, 2, 172, 42, 180, 0, 30, 16, 99, 42]
abbrev dktX1_bag_0 : List UInt8 := dkwX1_bag_0 ++ dktX1_bag_1
theorem dksX1_bag_0 : cX1_bag.data.toList.drop 0 = dktX1_bag_0 := by decide +kernel
theorem dksX1_bag_1 : cX1_bag.data.toList.drop 23 = dktX1_bag_1 := dk_seg dksX1_bag_0 23 rfl rfl
theorem dX1_bag_0 : decode cX1_bag 0 = .ok (.aload_n 0, 1) := dk_42 (dk_at dksX1_bag_0 0 rfl rfl)
theorem dX1_bag_1 : decode cX1_bag 1 = .ok (.iload_n 1, 1) := dk_27 (dk_at dksX1_bag_0 1 rfl rfl)
theorem dX1_bag_2 : decode cX1_bag 2 = .ok (.iconst 1, 1) := dk_4 (dk_at dksX1_bag_0 2 rfl rfl)
theorem dX1_bag_3 : decode cX1_bag 3 = .ok (.bipush 50, 2) := dk_16 50 (dk_at dksX1_bag_0 3 rfl rfl)
theorem dX1_bag_5 : decode cX1_bag 5 = .ok (.invokestatic 133, 3) := dk_184 0 133 (dk_at dksX1_bag_0 5 rfl rfl)
theorem dX1_bag_8 : decode cX1_bag 8 = .ok (.invokevirtual 210, 3) := dk_182 0 210 (dk_at dksX1_bag_0 8 rfl rfl)
theorem dX1_bag_11 : decode cX1_bag 11 = .ok (.ifCond .ne 5, 3) := dk_154 0 5 (dk_at dksX1_bag_0 11 rfl rfl)
theorem dX1_bag_14 : decode cX1_bag 14 = .ok (.iconst (-1), 1) := dk_2 (dk_at dksX1_bag_0 14 rfl rfl)
theorem dX1_bag_15 : decode cX1_bag 15 = .ok (.ireturn, 1) := dk_172 (dk_at dksX1_bag_0 15 rfl rfl)
theorem dX1_bag_16 : decode cX1_bag 16 = .ok (.aload_n 0, 1) := dk_42 (dk_at dksX1_bag_0 16 rfl rfl)
theorem dX1_bag_17 : decode cX1_bag 17 = .ok (.getfield 30, 3) := dk_180 0 30 (dk_at dksX1_bag_0 17 rfl rfl)
theorem dX1_bag_20 : decode cX1_bag 20 = .ok (.bipush 99, 2) := dk_16 99 (dk_at dksX1_bag_0 20 rfl rfl)
theorem dX1_bag_22 : decode cX1_bag 22 = .ok (.aload_n 0, 1) := dk_42 (dk_at dksX1_bag_0 22 rfl rfl)
theorem dX1_bag_23 : decode cX1_bag 23 = .ok (.getfield 30, 3) := dk_180 0 30 (dk_at dksX1_bag_1 0 rfl rfl)
theorem dX1_bag_26 : decode cX1_bag 26 = .ok (.getfield 143, 3) := dk_180 0 143 (dk_at dksX1_bag_1 3 rfl rfl)
theorem dX1_bag_29 : decode cX1_bag 29 = .ok (.iload_n 1, 1) := dk_27 (dk_at dksX1_bag_1 6 rfl rfl)
theorem dX1_bag_30 : decode cX1_bag 30 = .ok (.iadd, 1) := dk_96 (dk_at dksX1_bag_1 7 rfl rfl)
theorem dX1_bag_31 : decode cX1_bag 31 = .ok (.invokestatic 221, 3) := dk_184 0 221 (dk_at dksX1_bag_1 8 rfl rfl)
theorem dX1_bag_34 : decode cX1_bag 34 = .ok (.putfield 143, 3) := dk_181 0 143 (dk_at dksX1_bag_1 11 rfl rfl)
theorem dX1_bag_37 : decode cX1_bag 37 = .ok (.aload_n 0, 1) := dk_42 (dk_at dksX1_bag_1 14 rfl rfl)
theorem dX1_bag_38 : decode cX1_bag 38 = .ok (.getfield 30, 3) := dk_180 0 30 (dk_at dksX1_bag_1 15 rfl rfl)
theorem dX1_bag_41 : decode cX1_bag 41 = .ok (.getfield 143, 3) := dk_180 0 143 (dk_at dksX1_bag_1 18 rfl rfl)
theorem dX1_bag_44 : decode cX1_bag 44 = .ok (.ireturn, 1) := dk_172 (dk_at dksX1_bag_1 21 rfl rfl)
abbrev cX1_undo : ByteArray := prog_1_method_24_code
def yX1_undo : MethodName := ⟨RX1, "undo", "()I"⟩
def dkwX1_undo_2 : List UInt8 := [192, 0, 31, 182, 0, 230, 42, 180, 0, 19, 180, 0, 123, 172]
abbrev dktX1_undo_2 : List UInt8 := dkwX1_undo_2 ++ []
def dkwX1_undo_1 : List UInt8 := [181, 0, 123, 42, 180, 0, 30, 42, 180, 0, 19, 180, 0, 227, 42, 180, 0, 19, 180, 0, 123, 182, 0, 88]
abbrev dktX1_undo_1 : List UInt8 := dkwX1_undo_1 ++ dktX1_undo_2
def dkwX1_undo_0 : List UInt8 := [42, 180, 0, 19, 180, 0, 123, 154, 0, 5, 2, 172, 42, 180, 0, 19, 89, 180, 0, 123, 4, 100]
abbrev dktX1_undo_0 : List UInt8 := dkwX1_undo_0 ++ dktX1_undo_1
theorem dksX1_undo_0 : cX1_undo.data.toList.drop 0 = dktX1_undo_0 := by decide +kernel
theorem dksX1_undo_1 : cX1_undo.data.toList.drop 22 = dktX1_undo_1 := dk_seg dksX1_undo_0 22 rfl rfl
theorem dksX1_undo_2 : cX1_undo.data.toList.drop 46 = dktX1_undo_2 := dk_seg dksX1_undo_1 24 rfl rfl
theorem dX1_undo_0 : decode cX1_undo 0 = .ok (.aload_n 0, 1) := dk_42 (dk_at dksX1_undo_0 0 rfl rfl)
theorem dX1_undo_1 : decode cX1_undo 1 = .ok (.getfield 19, 3) := dk_180 0 19 (dk_at dksX1_undo_0 1 rfl rfl)
theorem dX1_undo_4 : decode cX1_undo 4 = .ok (.getfield 123, 3) := dk_180 0 123 (dk_at dksX1_undo_0 4 rfl rfl)
theorem dX1_undo_7 : decode cX1_undo 7 = .ok (.ifCond .ne 5, 3) := dk_154 0 5 (dk_at dksX1_undo_0 7 rfl rfl)
theorem dX1_undo_10 : decode cX1_undo 10 = .ok (.iconst (-1), 1) := dk_2 (dk_at dksX1_undo_0 10 rfl rfl)
theorem dX1_undo_11 : decode cX1_undo 11 = .ok (.ireturn, 1) := dk_172 (dk_at dksX1_undo_0 11 rfl rfl)
theorem dX1_undo_12 : decode cX1_undo 12 = .ok (.aload_n 0, 1) := dk_42 (dk_at dksX1_undo_0 12 rfl rfl)
theorem dX1_undo_13 : decode cX1_undo 13 = .ok (.getfield 19, 3) := dk_180 0 19 (dk_at dksX1_undo_0 13 rfl rfl)
theorem dX1_undo_16 : decode cX1_undo 16 = .ok (.dup, 1) := dk_89 (dk_at dksX1_undo_0 16 rfl rfl)
theorem dX1_undo_17 : decode cX1_undo 17 = .ok (.getfield 123, 3) := dk_180 0 123 (dk_at dksX1_undo_0 17 rfl rfl)
theorem dX1_undo_20 : decode cX1_undo 20 = .ok (.iconst 1, 1) := dk_4 (dk_at dksX1_undo_0 20 rfl rfl)
theorem dX1_undo_21 : decode cX1_undo 21 = .ok (.isub, 1) := dk_100 (dk_at dksX1_undo_0 21 rfl rfl)
theorem dX1_undo_22 : decode cX1_undo 22 = .ok (.putfield 123, 3) := dk_181 0 123 (dk_at dksX1_undo_1 0 rfl rfl)
theorem dX1_undo_25 : decode cX1_undo 25 = .ok (.aload_n 0, 1) := dk_42 (dk_at dksX1_undo_1 3 rfl rfl)
theorem dX1_undo_26 : decode cX1_undo 26 = .ok (.getfield 30, 3) := dk_180 0 30 (dk_at dksX1_undo_1 4 rfl rfl)
theorem dX1_undo_29 : decode cX1_undo 29 = .ok (.aload_n 0, 1) := dk_42 (dk_at dksX1_undo_1 7 rfl rfl)
theorem dX1_undo_30 : decode cX1_undo 30 = .ok (.getfield 19, 3) := dk_180 0 19 (dk_at dksX1_undo_1 8 rfl rfl)
theorem dX1_undo_33 : decode cX1_undo 33 = .ok (.getfield 227, 3) := dk_180 0 227 (dk_at dksX1_undo_1 11 rfl rfl)
theorem dX1_undo_36 : decode cX1_undo 36 = .ok (.aload_n 0, 1) := dk_42 (dk_at dksX1_undo_1 14 rfl rfl)
theorem dX1_undo_37 : decode cX1_undo 37 = .ok (.getfield 19, 3) := dk_180 0 19 (dk_at dksX1_undo_1 15 rfl rfl)
theorem dX1_undo_40 : decode cX1_undo 40 = .ok (.getfield 123, 3) := dk_180 0 123 (dk_at dksX1_undo_1 18 rfl rfl)
theorem dX1_undo_43 : decode cX1_undo 43 = .ok (.invokevirtual 88, 3) := dk_182 0 88 (dk_at dksX1_undo_1 21 rfl rfl)
theorem dX1_undo_46 : decode cX1_undo 46 = .ok (.checkcast 31, 3) := dk_192 0 31 (dk_at dksX1_undo_2 0 rfl rfl)
theorem dX1_undo_49 : decode cX1_undo 49 = .ok (.invokevirtual 230, 3) := dk_182 0 230 (dk_at dksX1_undo_2 3 rfl rfl)
theorem dX1_undo_52 : decode cX1_undo 52 = .ok (.aload_n 0, 1) := dk_42 (dk_at dksX1_undo_2 6 rfl rfl)
theorem dX1_undo_53 : decode cX1_undo 53 = .ok (.getfield 19, 3) := dk_180 0 19 (dk_at dksX1_undo_2 7 rfl rfl)
theorem dX1_undo_56 : decode cX1_undo 56 = .ok (.getfield 123, 3) := dk_180 0 123 (dk_at dksX1_undo_2 10 rfl rfl)
theorem dX1_undo_59 : decode cX1_undo 59 = .ok (.ireturn, 1) := dk_172 (dk_at dksX1_undo_2 13 rfl rfl)
abbrev cX1_spent : ByteArray := prog_1_method_30_code
def yX1_spent : MethodName := ⟨RX1, "spent", "()I"⟩
def dkwX1_spent_1 : List UInt8 := [172, 42, 180, 0, 34, 42, 180, 0, 10, 182, 0, 214, 132, 1, 1, 167, 255, 224, 2, 172]
abbrev dktX1_spent_1 : List UInt8 := dkwX1_spent_1 ++ []
def dkwX1_spent_0 : List UInt8 := [42, 3, 182, 0, 234, 3, 60, 27, 16, 40, 163, 0, 32, 42, 180, 0, 34, 180, 0, 143, 154, 0, 5, 27]
abbrev dktX1_spent_0 : List UInt8 := dkwX1_spent_0 ++ dktX1_spent_1
theorem dksX1_spent_0 : cX1_spent.data.toList.drop 0 = dktX1_spent_0 := by decide +kernel
theorem dksX1_spent_1 : cX1_spent.data.toList.drop 24 = dktX1_spent_1 := dk_seg dksX1_spent_0 24 rfl rfl
theorem dX1_spent_0 : decode cX1_spent 0 = .ok (.aload_n 0, 1) := dk_42 (dk_at dksX1_spent_0 0 rfl rfl)
theorem dX1_spent_1 : decode cX1_spent 1 = .ok (.iconst 0, 1) := dk_3 (dk_at dksX1_spent_0 1 rfl rfl)
theorem dX1_spent_2 : decode cX1_spent 2 = .ok (.invokevirtual 234, 3) := dk_182 0 234 (dk_at dksX1_spent_0 2 rfl rfl)
theorem dX1_spent_5 : decode cX1_spent 5 = .ok (.iconst 0, 1) := dk_3 (dk_at dksX1_spent_0 5 rfl rfl)
theorem dX1_spent_6 : decode cX1_spent 6 = .ok (.istore_n 1, 1) := dk_60 (dk_at dksX1_spent_0 6 rfl rfl)
theorem dX1_spent_7 : decode cX1_spent 7 = .ok (.iload_n 1, 1) := dk_27 (dk_at dksX1_spent_0 7 rfl rfl)
theorem dX1_spent_8 : decode cX1_spent 8 = .ok (.bipush 40, 2) := dk_16 40 (dk_at dksX1_spent_0 8 rfl rfl)
theorem dX1_spent_10 : decode cX1_spent 10 = .ok (.if_icmp .gt 32, 3) := dk_163 0 32 (dk_at dksX1_spent_0 10 rfl rfl)
theorem dX1_spent_13 : decode cX1_spent 13 = .ok (.aload_n 0, 1) := dk_42 (dk_at dksX1_spent_0 13 rfl rfl)
theorem dX1_spent_14 : decode cX1_spent 14 = .ok (.getfield 34, 3) := dk_180 0 34 (dk_at dksX1_spent_0 14 rfl rfl)
theorem dX1_spent_17 : decode cX1_spent 17 = .ok (.getfield 143, 3) := dk_180 0 143 (dk_at dksX1_spent_0 17 rfl rfl)
theorem dX1_spent_20 : decode cX1_spent 20 = .ok (.ifCond .ne 5, 3) := dk_154 0 5 (dk_at dksX1_spent_0 20 rfl rfl)
theorem dX1_spent_23 : decode cX1_spent 23 = .ok (.iload_n 1, 1) := dk_27 (dk_at dksX1_spent_0 23 rfl rfl)
theorem dX1_spent_24 : decode cX1_spent 24 = .ok (.ireturn, 1) := dk_172 (dk_at dksX1_spent_1 0 rfl rfl)
theorem dX1_spent_25 : decode cX1_spent 25 = .ok (.aload_n 0, 1) := dk_42 (dk_at dksX1_spent_1 1 rfl rfl)
theorem dX1_spent_26 : decode cX1_spent 26 = .ok (.getfield 34, 3) := dk_180 0 34 (dk_at dksX1_spent_1 2 rfl rfl)
theorem dX1_spent_29 : decode cX1_spent 29 = .ok (.aload_n 0, 1) := dk_42 (dk_at dksX1_spent_1 5 rfl rfl)
theorem dX1_spent_30 : decode cX1_spent 30 = .ok (.getfield 10, 3) := dk_180 0 10 (dk_at dksX1_spent_1 6 rfl rfl)
theorem dX1_spent_33 : decode cX1_spent 33 = .ok (.invokevirtual 214, 3) := dk_182 0 214 (dk_at dksX1_spent_1 9 rfl rfl)
theorem dX1_spent_36 : decode cX1_spent 36 = .ok (.iinc 1 1, 3) := dk_132 1 1 (dk_at dksX1_spent_1 12 rfl rfl)
theorem dX1_spent_39 : decode cX1_spent 39 = .ok (.goto (-32), 3) := dk_167 255 224 (dk_at dksX1_spent_1 15 rfl rfl)
theorem dX1_spent_42 : decode cX1_spent 42 = .ok (.iconst (-1), 1) := dk_2 (dk_at dksX1_spent_1 18 rfl rfl)
theorem dX1_spent_43 : decode cX1_spent 43 = .ok (.ireturn, 1) := dk_172 (dk_at dksX1_spent_1 19 rfl rfl)
abbrev cX1_tries : ByteArray := prog_1_method_25_code
def yX1_tries : MethodName := ⟨RX1, "tries", "(I)V"⟩
def dkwX1_tries_1 : List UInt8 := [180, 0, 10, 182, 0, 214, 132, 2, 1, 167, 255, 237, 177]
abbrev dktX1_tries_1 : List UInt8 := dkwX1_tries_1 ++ []
def dkwX1_tries_0 : List UInt8 := [42, 180, 0, 34, 42, 180, 0, 30, 182, 0, 230, 3, 61, 28, 27, 162, 0, 20, 42, 180, 0, 34, 42]
abbrev dktX1_tries_0 : List UInt8 := dkwX1_tries_0 ++ dktX1_tries_1
theorem dksX1_tries_0 : cX1_tries.data.toList.drop 0 = dktX1_tries_0 := by decide +kernel
theorem dksX1_tries_1 : cX1_tries.data.toList.drop 23 = dktX1_tries_1 := dk_seg dksX1_tries_0 23 rfl rfl
theorem dX1_tries_0 : decode cX1_tries 0 = .ok (.aload_n 0, 1) := dk_42 (dk_at dksX1_tries_0 0 rfl rfl)
theorem dX1_tries_1 : decode cX1_tries 1 = .ok (.getfield 34, 3) := dk_180 0 34 (dk_at dksX1_tries_0 1 rfl rfl)
theorem dX1_tries_4 : decode cX1_tries 4 = .ok (.aload_n 0, 1) := dk_42 (dk_at dksX1_tries_0 4 rfl rfl)
theorem dX1_tries_5 : decode cX1_tries 5 = .ok (.getfield 30, 3) := dk_180 0 30 (dk_at dksX1_tries_0 5 rfl rfl)
theorem dX1_tries_8 : decode cX1_tries 8 = .ok (.invokevirtual 230, 3) := dk_182 0 230 (dk_at dksX1_tries_0 8 rfl rfl)
theorem dX1_tries_11 : decode cX1_tries 11 = .ok (.iconst 0, 1) := dk_3 (dk_at dksX1_tries_0 11 rfl rfl)
theorem dX1_tries_12 : decode cX1_tries 12 = .ok (.istore_n 2, 1) := dk_61 (dk_at dksX1_tries_0 12 rfl rfl)
theorem dX1_tries_13 : decode cX1_tries 13 = .ok (.iload_n 2, 1) := dk_28 (dk_at dksX1_tries_0 13 rfl rfl)
theorem dX1_tries_14 : decode cX1_tries 14 = .ok (.iload_n 1, 1) := dk_27 (dk_at dksX1_tries_0 14 rfl rfl)
theorem dX1_tries_15 : decode cX1_tries 15 = .ok (.if_icmp .ge 20, 3) := dk_162 0 20 (dk_at dksX1_tries_0 15 rfl rfl)
theorem dX1_tries_18 : decode cX1_tries 18 = .ok (.aload_n 0, 1) := dk_42 (dk_at dksX1_tries_0 18 rfl rfl)
theorem dX1_tries_19 : decode cX1_tries 19 = .ok (.getfield 34, 3) := dk_180 0 34 (dk_at dksX1_tries_0 19 rfl rfl)
theorem dX1_tries_22 : decode cX1_tries 22 = .ok (.aload_n 0, 1) := dk_42 (dk_at dksX1_tries_0 22 rfl rfl)
theorem dX1_tries_23 : decode cX1_tries 23 = .ok (.getfield 10, 3) := dk_180 0 10 (dk_at dksX1_tries_1 0 rfl rfl)
theorem dX1_tries_26 : decode cX1_tries 26 = .ok (.invokevirtual 214, 3) := dk_182 0 214 (dk_at dksX1_tries_1 3 rfl rfl)
theorem dX1_tries_29 : decode cX1_tries 29 = .ok (.iinc 2 1, 3) := dk_132 2 1 (dk_at dksX1_tries_1 6 rfl rfl)
theorem dX1_tries_32 : decode cX1_tries 32 = .ok (.goto (-19), 3) := dk_167 255 237 (dk_at dksX1_tries_1 9 rfl rfl)
theorem dX1_tries_35 : decode cX1_tries 35 = .ok (.return_, 1) := dk_177 (dk_at dksX1_tries_1 12 rfl rfl)
abbrev cX1_toRest : ByteArray := prog_1_method_37_code
def yX1_toRest : MethodName := ⟨RX1, "toRest", "()I"⟩
def dkwX1_toRest_3 : List UInt8 := [167, 0, 8, 29, 61, 21, 4, 60, 132, 3, 1, 167, 255, 191, 28, 172]
abbrev dktX1_toRest_3 : List UInt8 := dkwX1_toRest_3 ++ []
def dkwX1_toRest_2 : List UInt8 := [180, 0, 158, 4, 29, 120, 128, 181, 0, 158, 42, 182, 1, 0, 54, 4, 21, 4, 27, 161, 0, 6]
abbrev dktX1_toRest_2 : List UInt8 := dkwX1_toRest_2 ++ dktX1_toRest_3
def dkwX1_toRest_1 : List UInt8 := [180, 0, 30, 29, 182, 0, 217, 153, 0, 6, 167, 0, 43, 42, 3, 182, 0, 234, 42, 180, 0, 34, 89]
abbrev dktX1_toRest_1 : List UInt8 := dkwX1_toRest_1 ++ dktX1_toRest_2
def dkwX1_toRest_0 : List UInt8 := [42, 3, 182, 0, 234, 42, 182, 1, 0, 60, 2, 61, 3, 62, 29, 42, 182, 0, 86, 162, 0, 63, 42]
abbrev dktX1_toRest_0 : List UInt8 := dkwX1_toRest_0 ++ dktX1_toRest_1
theorem dksX1_toRest_0 : cX1_toRest.data.toList.drop 0 = dktX1_toRest_0 := by decide +kernel
theorem dksX1_toRest_1 : cX1_toRest.data.toList.drop 23 = dktX1_toRest_1 := dk_seg dksX1_toRest_0 23 rfl rfl
theorem dksX1_toRest_2 : cX1_toRest.data.toList.drop 46 = dktX1_toRest_2 := dk_seg dksX1_toRest_1 23 rfl rfl
theorem dksX1_toRest_3 : cX1_toRest.data.toList.drop 68 = dktX1_toRest_3 := dk_seg dksX1_toRest_2 22 rfl rfl
theorem dX1_toRest_0 : decode cX1_toRest 0 = .ok (.aload_n 0, 1) := dk_42 (dk_at dksX1_toRest_0 0 rfl rfl)
theorem dX1_toRest_1 : decode cX1_toRest 1 = .ok (.iconst 0, 1) := dk_3 (dk_at dksX1_toRest_0 1 rfl rfl)
theorem dX1_toRest_2 : decode cX1_toRest 2 = .ok (.invokevirtual 234, 3) := dk_182 0 234 (dk_at dksX1_toRest_0 2 rfl rfl)
theorem dX1_toRest_5 : decode cX1_toRest 5 = .ok (.aload_n 0, 1) := dk_42 (dk_at dksX1_toRest_0 5 rfl rfl)
theorem dX1_toRest_6 : decode cX1_toRest 6 = .ok (.invokevirtual 256, 3) := dk_182 1 0 (dk_at dksX1_toRest_0 6 rfl rfl)
theorem dX1_toRest_9 : decode cX1_toRest 9 = .ok (.istore_n 1, 1) := dk_60 (dk_at dksX1_toRest_0 9 rfl rfl)
theorem dX1_toRest_10 : decode cX1_toRest 10 = .ok (.iconst (-1), 1) := dk_2 (dk_at dksX1_toRest_0 10 rfl rfl)
theorem dX1_toRest_11 : decode cX1_toRest 11 = .ok (.istore_n 2, 1) := dk_61 (dk_at dksX1_toRest_0 11 rfl rfl)
theorem dX1_toRest_12 : decode cX1_toRest 12 = .ok (.iconst 0, 1) := dk_3 (dk_at dksX1_toRest_0 12 rfl rfl)
theorem dX1_toRest_13 : decode cX1_toRest 13 = .ok (.istore_n 3, 1) := dk_62 (dk_at dksX1_toRest_0 13 rfl rfl)
theorem dX1_toRest_14 : decode cX1_toRest 14 = .ok (.iload_n 3, 1) := dk_29 (dk_at dksX1_toRest_0 14 rfl rfl)
theorem dX1_toRest_15 : decode cX1_toRest 15 = .ok (.aload_n 0, 1) := dk_42 (dk_at dksX1_toRest_0 15 rfl rfl)
theorem dX1_toRest_16 : decode cX1_toRest 16 = .ok (.invokevirtual 86, 3) := dk_182 0 86 (dk_at dksX1_toRest_0 16 rfl rfl)
theorem dX1_toRest_19 : decode cX1_toRest 19 = .ok (.if_icmp .ge 63, 3) := dk_162 0 63 (dk_at dksX1_toRest_0 19 rfl rfl)
theorem dX1_toRest_22 : decode cX1_toRest 22 = .ok (.aload_n 0, 1) := dk_42 (dk_at dksX1_toRest_0 22 rfl rfl)
theorem dX1_toRest_23 : decode cX1_toRest 23 = .ok (.getfield 30, 3) := dk_180 0 30 (dk_at dksX1_toRest_1 0 rfl rfl)
theorem dX1_toRest_26 : decode cX1_toRest 26 = .ok (.iload_n 3, 1) := dk_29 (dk_at dksX1_toRest_1 3 rfl rfl)
theorem dX1_toRest_27 : decode cX1_toRest 27 = .ok (.invokevirtual 217, 3) := dk_182 0 217 (dk_at dksX1_toRest_1 4 rfl rfl)
theorem dX1_toRest_30 : decode cX1_toRest 30 = .ok (.ifCond .eq 6, 3) := dk_153 0 6 (dk_at dksX1_toRest_1 7 rfl rfl)
theorem dX1_toRest_33 : decode cX1_toRest 33 = .ok (.goto 43, 3) := dk_167 0 43 (dk_at dksX1_toRest_1 10 rfl rfl)
theorem dX1_toRest_36 : decode cX1_toRest 36 = .ok (.aload_n 0, 1) := dk_42 (dk_at dksX1_toRest_1 13 rfl rfl)
theorem dX1_toRest_37 : decode cX1_toRest 37 = .ok (.iconst 0, 1) := dk_3 (dk_at dksX1_toRest_1 14 rfl rfl)
theorem dX1_toRest_38 : decode cX1_toRest 38 = .ok (.invokevirtual 234, 3) := dk_182 0 234 (dk_at dksX1_toRest_1 15 rfl rfl)
theorem dX1_toRest_41 : decode cX1_toRest 41 = .ok (.aload_n 0, 1) := dk_42 (dk_at dksX1_toRest_1 18 rfl rfl)
theorem dX1_toRest_42 : decode cX1_toRest 42 = .ok (.getfield 34, 3) := dk_180 0 34 (dk_at dksX1_toRest_1 19 rfl rfl)
theorem dX1_toRest_45 : decode cX1_toRest 45 = .ok (.dup, 1) := dk_89 (dk_at dksX1_toRest_1 22 rfl rfl)
theorem dX1_toRest_46 : decode cX1_toRest 46 = .ok (.getfield 158, 3) := dk_180 0 158 (dk_at dksX1_toRest_2 0 rfl rfl)
theorem dX1_toRest_49 : decode cX1_toRest 49 = .ok (.iconst 1, 1) := dk_4 (dk_at dksX1_toRest_2 3 rfl rfl)
theorem dX1_toRest_50 : decode cX1_toRest 50 = .ok (.iload_n 3, 1) := dk_29 (dk_at dksX1_toRest_2 4 rfl rfl)
theorem dX1_toRest_51 : decode cX1_toRest 51 = .ok (.ishl, 1) := dk_120 (dk_at dksX1_toRest_2 5 rfl rfl)
theorem dX1_toRest_52 : decode cX1_toRest 52 = .ok (.ior, 1) := dk_128 (dk_at dksX1_toRest_2 6 rfl rfl)
theorem dX1_toRest_53 : decode cX1_toRest 53 = .ok (.putfield 158, 3) := dk_181 0 158 (dk_at dksX1_toRest_2 7 rfl rfl)
theorem dX1_toRest_56 : decode cX1_toRest 56 = .ok (.aload_n 0, 1) := dk_42 (dk_at dksX1_toRest_2 10 rfl rfl)
theorem dX1_toRest_57 : decode cX1_toRest 57 = .ok (.invokevirtual 256, 3) := dk_182 1 0 (dk_at dksX1_toRest_2 11 rfl rfl)
theorem dX1_toRest_60 : decode cX1_toRest 60 = .ok (.istore 4, 2) := dk_54 4 (dk_at dksX1_toRest_2 14 rfl rfl)
theorem dX1_toRest_62 : decode cX1_toRest 62 = .ok (.iload 4, 2) := dk_21 4 (dk_at dksX1_toRest_2 16 rfl rfl)
theorem dX1_toRest_64 : decode cX1_toRest 64 = .ok (.iload_n 1, 1) := dk_27 (dk_at dksX1_toRest_2 18 rfl rfl)
theorem dX1_toRest_65 : decode cX1_toRest 65 = .ok (.if_icmp .lt 6, 3) := dk_161 0 6 (dk_at dksX1_toRest_2 19 rfl rfl)
theorem dX1_toRest_68 : decode cX1_toRest 68 = .ok (.goto 8, 3) := dk_167 0 8 (dk_at dksX1_toRest_3 0 rfl rfl)
theorem dX1_toRest_71 : decode cX1_toRest 71 = .ok (.iload_n 3, 1) := dk_29 (dk_at dksX1_toRest_3 3 rfl rfl)
theorem dX1_toRest_72 : decode cX1_toRest 72 = .ok (.istore_n 2, 1) := dk_61 (dk_at dksX1_toRest_3 4 rfl rfl)
theorem dX1_toRest_73 : decode cX1_toRest 73 = .ok (.iload 4, 2) := dk_21 4 (dk_at dksX1_toRest_3 5 rfl rfl)
theorem dX1_toRest_75 : decode cX1_toRest 75 = .ok (.istore_n 1, 1) := dk_60 (dk_at dksX1_toRest_3 7 rfl rfl)
theorem dX1_toRest_76 : decode cX1_toRest 76 = .ok (.iinc 3 1, 3) := dk_132 3 1 (dk_at dksX1_toRest_3 8 rfl rfl)
theorem dX1_toRest_79 : decode cX1_toRest 79 = .ok (.goto (-65), 3) := dk_167 255 191 (dk_at dksX1_toRest_3 11 rfl rfl)
theorem dX1_toRest_82 : decode cX1_toRest 82 = .ok (.iload_n 2, 1) := dk_28 (dk_at dksX1_toRest_3 14 rfl rfl)
theorem dX1_toRest_83 : decode cX1_toRest 83 = .ok (.ireturn, 1) := dk_172 (dk_at dksX1_toRest_3 15 rfl rfl)
abbrev cX1_unevenNext : ByteArray := prog_1_method_36_code
def yX1_unevenNext : MethodName := ⟨RX1, "unevenNext", "()I"⟩
def dkwX1_unevenNext_0 : List UInt8 := [42, 180, 0, 34, 42, 180, 0, 10, 182, 0, 214, 42, 180, 0, 34, 42, 180, 0, 10, 182, 0, 237, 172]
abbrev dktX1_unevenNext_0 : List UInt8 := dkwX1_unevenNext_0 ++ []
theorem dksX1_unevenNext_0 : cX1_unevenNext.data.toList.drop 0 = dktX1_unevenNext_0 := by decide +kernel
theorem dX1_unevenNext_0 : decode cX1_unevenNext 0 = .ok (.aload_n 0, 1) := dk_42 (dk_at dksX1_unevenNext_0 0 rfl rfl)
theorem dX1_unevenNext_1 : decode cX1_unevenNext 1 = .ok (.getfield 34, 3) := dk_180 0 34 (dk_at dksX1_unevenNext_0 1 rfl rfl)
theorem dX1_unevenNext_4 : decode cX1_unevenNext 4 = .ok (.aload_n 0, 1) := dk_42 (dk_at dksX1_unevenNext_0 4 rfl rfl)
theorem dX1_unevenNext_5 : decode cX1_unevenNext 5 = .ok (.getfield 10, 3) := dk_180 0 10 (dk_at dksX1_unevenNext_0 5 rfl rfl)
theorem dX1_unevenNext_8 : decode cX1_unevenNext 8 = .ok (.invokevirtual 214, 3) := dk_182 0 214 (dk_at dksX1_unevenNext_0 8 rfl rfl)
theorem dX1_unevenNext_11 : decode cX1_unevenNext 11 = .ok (.aload_n 0, 1) := dk_42 (dk_at dksX1_unevenNext_0 11 rfl rfl)
theorem dX1_unevenNext_12 : decode cX1_unevenNext 12 = .ok (.getfield 34, 3) := dk_180 0 34 (dk_at dksX1_unevenNext_0 12 rfl rfl)
theorem dX1_unevenNext_15 : decode cX1_unevenNext 15 = .ok (.aload_n 0, 1) := dk_42 (dk_at dksX1_unevenNext_0 15 rfl rfl)
theorem dX1_unevenNext_16 : decode cX1_unevenNext 16 = .ok (.getfield 10, 3) := dk_180 0 10 (dk_at dksX1_unevenNext_0 16 rfl rfl)
theorem dX1_unevenNext_19 : decode cX1_unevenNext 19 = .ok (.invokevirtual 237, 3) := dk_182 0 237 (dk_at dksX1_unevenNext_0 19 rfl rfl)
theorem dX1_unevenNext_22 : decode cX1_unevenNext 22 = .ok (.ireturn, 1) := dk_172 (dk_at dksX1_unevenNext_0 22 rfl rfl)
abbrev cX1_girls : ByteArray := prog_1_method_6_code
def yX1_girls : MethodName := ⟨RX1, "girls", "()I"⟩
def dkwX1_girls_0 : List UInt8 := [42, 180, 0, 10, 180, 0, 72, 182, 0, 76, 172]
abbrev dktX1_girls_0 : List UInt8 := dkwX1_girls_0 ++ []
theorem dksX1_girls_0 : cX1_girls.data.toList.drop 0 = dktX1_girls_0 := by decide +kernel
theorem dX1_girls_0 : decode cX1_girls 0 = .ok (.aload_n 0, 1) := dk_42 (dk_at dksX1_girls_0 0 rfl rfl)
theorem dX1_girls_1 : decode cX1_girls 1 = .ok (.getfield 10, 3) := dk_180 0 10 (dk_at dksX1_girls_0 1 rfl rfl)
theorem dX1_girls_4 : decode cX1_girls 4 = .ok (.getfield 72, 3) := dk_180 0 72 (dk_at dksX1_girls_0 4 rfl rfl)
theorem dX1_girls_7 : decode cX1_girls 7 = .ok (.invokevirtual 76, 3) := dk_182 0 76 (dk_at dksX1_girls_0 7 rfl rfl)
theorem dX1_girls_10 : decode cX1_girls 10 = .ok (.ireturn, 1) := dk_172 (dk_at dksX1_girls_0 10 rfl rfl)
abbrev cX1_steady : ByteArray := prog_1_method_44_code
def yX1_steady : MethodName := ⟨RX1, "steady", "()I"⟩
def dkwX1_steady_4 : List UInt8 := [132, 1, 1, 167, 255, 168, 2, 172]
abbrev dktX1_steady_4 : List UInt8 := dkwX1_steady_4 ++ []
def dkwX1_steady_3 : List UInt8 := [160, 0, 7, 4, 167, 0, 4, 3, 126, 61, 132, 3, 1, 167, 255, 219, 28, 153, 0, 5, 27, 172]
abbrev dktX1_steady_3 : List UInt8 := dkwX1_steady_3 ++ dktX1_steady_4
def dkwX1_steady_2 : List UInt8 := [29, 42, 182, 0, 81, 162, 0, 35, 28, 42, 180, 0, 34, 180, 0, 172, 29, 46, 42, 180, 0, 52, 29, 46]
abbrev dktX1_steady_2 : List UInt8 := dkwX1_steady_2 ++ dktX1_steady_3
def dkwX1_steady_1 : List UInt8 := [180, 0, 52, 3, 16, 30, 184, 1, 20, 42, 180, 0, 34, 42, 180, 0, 10, 182, 0, 214, 4, 61, 3, 62]
abbrev dktX1_steady_1 : List UInt8 := dkwX1_steady_1 ++ dktX1_steady_2
def dkwX1_steady_0 : List UInt8 := [42, 3, 182, 0, 234, 4, 60, 27, 16, 40, 163, 0, 88, 42, 180, 0, 34, 180, 0, 172, 3, 42]
abbrev dktX1_steady_0 : List UInt8 := dkwX1_steady_0 ++ dktX1_steady_1
theorem dksX1_steady_0 : cX1_steady.data.toList.drop 0 = dktX1_steady_0 := by decide +kernel
theorem dksX1_steady_1 : cX1_steady.data.toList.drop 22 = dktX1_steady_1 := dk_seg dksX1_steady_0 22 rfl rfl
theorem dksX1_steady_2 : cX1_steady.data.toList.drop 46 = dktX1_steady_2 := dk_seg dksX1_steady_1 24 rfl rfl
theorem dksX1_steady_3 : cX1_steady.data.toList.drop 70 = dktX1_steady_3 := dk_seg dksX1_steady_2 24 rfl rfl
theorem dksX1_steady_4 : cX1_steady.data.toList.drop 92 = dktX1_steady_4 := dk_seg dksX1_steady_3 22 rfl rfl
theorem dX1_steady_0 : decode cX1_steady 0 = .ok (.aload_n 0, 1) := dk_42 (dk_at dksX1_steady_0 0 rfl rfl)
theorem dX1_steady_1 : decode cX1_steady 1 = .ok (.iconst 0, 1) := dk_3 (dk_at dksX1_steady_0 1 rfl rfl)
theorem dX1_steady_2 : decode cX1_steady 2 = .ok (.invokevirtual 234, 3) := dk_182 0 234 (dk_at dksX1_steady_0 2 rfl rfl)
theorem dX1_steady_5 : decode cX1_steady 5 = .ok (.iconst 1, 1) := dk_4 (dk_at dksX1_steady_0 5 rfl rfl)
theorem dX1_steady_6 : decode cX1_steady 6 = .ok (.istore_n 1, 1) := dk_60 (dk_at dksX1_steady_0 6 rfl rfl)
theorem dX1_steady_7 : decode cX1_steady 7 = .ok (.iload_n 1, 1) := dk_27 (dk_at dksX1_steady_0 7 rfl rfl)
theorem dX1_steady_8 : decode cX1_steady 8 = .ok (.bipush 40, 2) := dk_16 40 (dk_at dksX1_steady_0 8 rfl rfl)
theorem dX1_steady_10 : decode cX1_steady 10 = .ok (.if_icmp .gt 88, 3) := dk_163 0 88 (dk_at dksX1_steady_0 10 rfl rfl)
theorem dX1_steady_13 : decode cX1_steady 13 = .ok (.aload_n 0, 1) := dk_42 (dk_at dksX1_steady_0 13 rfl rfl)
theorem dX1_steady_14 : decode cX1_steady 14 = .ok (.getfield 34, 3) := dk_180 0 34 (dk_at dksX1_steady_0 14 rfl rfl)
theorem dX1_steady_17 : decode cX1_steady 17 = .ok (.getfield 172, 3) := dk_180 0 172 (dk_at dksX1_steady_0 17 rfl rfl)
theorem dX1_steady_20 : decode cX1_steady 20 = .ok (.iconst 0, 1) := dk_3 (dk_at dksX1_steady_0 20 rfl rfl)
theorem dX1_steady_21 : decode cX1_steady 21 = .ok (.aload_n 0, 1) := dk_42 (dk_at dksX1_steady_0 21 rfl rfl)
theorem dX1_steady_22 : decode cX1_steady 22 = .ok (.getfield 52, 3) := dk_180 0 52 (dk_at dksX1_steady_1 0 rfl rfl)
theorem dX1_steady_25 : decode cX1_steady 25 = .ok (.iconst 0, 1) := dk_3 (dk_at dksX1_steady_1 3 rfl rfl)
theorem dX1_steady_26 : decode cX1_steady 26 = .ok (.bipush 30, 2) := dk_16 30 (dk_at dksX1_steady_1 4 rfl rfl)
theorem dX1_steady_28 : decode cX1_steady 28 = .ok (.invokestatic 276, 3) := dk_184 1 20 (dk_at dksX1_steady_1 6 rfl rfl)
theorem dX1_steady_31 : decode cX1_steady 31 = .ok (.aload_n 0, 1) := dk_42 (dk_at dksX1_steady_1 9 rfl rfl)
theorem dX1_steady_32 : decode cX1_steady 32 = .ok (.getfield 34, 3) := dk_180 0 34 (dk_at dksX1_steady_1 10 rfl rfl)
theorem dX1_steady_35 : decode cX1_steady 35 = .ok (.aload_n 0, 1) := dk_42 (dk_at dksX1_steady_1 13 rfl rfl)
theorem dX1_steady_36 : decode cX1_steady 36 = .ok (.getfield 10, 3) := dk_180 0 10 (dk_at dksX1_steady_1 14 rfl rfl)
theorem dX1_steady_39 : decode cX1_steady 39 = .ok (.invokevirtual 214, 3) := dk_182 0 214 (dk_at dksX1_steady_1 17 rfl rfl)
theorem dX1_steady_42 : decode cX1_steady 42 = .ok (.iconst 1, 1) := dk_4 (dk_at dksX1_steady_1 20 rfl rfl)
theorem dX1_steady_43 : decode cX1_steady 43 = .ok (.istore_n 2, 1) := dk_61 (dk_at dksX1_steady_1 21 rfl rfl)
theorem dX1_steady_44 : decode cX1_steady 44 = .ok (.iconst 0, 1) := dk_3 (dk_at dksX1_steady_1 22 rfl rfl)
theorem dX1_steady_45 : decode cX1_steady 45 = .ok (.istore_n 3, 1) := dk_62 (dk_at dksX1_steady_1 23 rfl rfl)
theorem dX1_steady_46 : decode cX1_steady 46 = .ok (.iload_n 3, 1) := dk_29 (dk_at dksX1_steady_2 0 rfl rfl)
theorem dX1_steady_47 : decode cX1_steady 47 = .ok (.aload_n 0, 1) := dk_42 (dk_at dksX1_steady_2 1 rfl rfl)
theorem dX1_steady_48 : decode cX1_steady 48 = .ok (.invokevirtual 81, 3) := dk_182 0 81 (dk_at dksX1_steady_2 2 rfl rfl)
theorem dX1_steady_51 : decode cX1_steady 51 = .ok (.if_icmp .ge 35, 3) := dk_162 0 35 (dk_at dksX1_steady_2 5 rfl rfl)
theorem dX1_steady_54 : decode cX1_steady 54 = .ok (.iload_n 2, 1) := dk_28 (dk_at dksX1_steady_2 8 rfl rfl)
theorem dX1_steady_55 : decode cX1_steady 55 = .ok (.aload_n 0, 1) := dk_42 (dk_at dksX1_steady_2 9 rfl rfl)
theorem dX1_steady_56 : decode cX1_steady 56 = .ok (.getfield 34, 3) := dk_180 0 34 (dk_at dksX1_steady_2 10 rfl rfl)
theorem dX1_steady_59 : decode cX1_steady 59 = .ok (.getfield 172, 3) := dk_180 0 172 (dk_at dksX1_steady_2 13 rfl rfl)
theorem dX1_steady_62 : decode cX1_steady 62 = .ok (.iload_n 3, 1) := dk_29 (dk_at dksX1_steady_2 16 rfl rfl)
theorem dX1_steady_63 : decode cX1_steady 63 = .ok (.iaload, 1) := dk_46 (dk_at dksX1_steady_2 17 rfl rfl)
theorem dX1_steady_64 : decode cX1_steady 64 = .ok (.aload_n 0, 1) := dk_42 (dk_at dksX1_steady_2 18 rfl rfl)
theorem dX1_steady_65 : decode cX1_steady 65 = .ok (.getfield 52, 3) := dk_180 0 52 (dk_at dksX1_steady_2 19 rfl rfl)
theorem dX1_steady_68 : decode cX1_steady 68 = .ok (.iload_n 3, 1) := dk_29 (dk_at dksX1_steady_2 22 rfl rfl)
theorem dX1_steady_69 : decode cX1_steady 69 = .ok (.iaload, 1) := dk_46 (dk_at dksX1_steady_2 23 rfl rfl)
theorem dX1_steady_70 : decode cX1_steady 70 = .ok (.if_icmp .ne 7, 3) := dk_160 0 7 (dk_at dksX1_steady_3 0 rfl rfl)
theorem dX1_steady_73 : decode cX1_steady 73 = .ok (.iconst 1, 1) := dk_4 (dk_at dksX1_steady_3 3 rfl rfl)
theorem dX1_steady_74 : decode cX1_steady 74 = .ok (.goto 4, 3) := dk_167 0 4 (dk_at dksX1_steady_3 4 rfl rfl)
theorem dX1_steady_77 : decode cX1_steady 77 = .ok (.iconst 0, 1) := dk_3 (dk_at dksX1_steady_3 7 rfl rfl)
theorem dX1_steady_78 : decode cX1_steady 78 = .ok (.iand, 1) := dk_126 (dk_at dksX1_steady_3 8 rfl rfl)
theorem dX1_steady_79 : decode cX1_steady 79 = .ok (.istore_n 2, 1) := dk_61 (dk_at dksX1_steady_3 9 rfl rfl)
theorem dX1_steady_80 : decode cX1_steady 80 = .ok (.iinc 3 1, 3) := dk_132 3 1 (dk_at dksX1_steady_3 10 rfl rfl)
theorem dX1_steady_83 : decode cX1_steady 83 = .ok (.goto (-37), 3) := dk_167 255 219 (dk_at dksX1_steady_3 13 rfl rfl)
theorem dX1_steady_86 : decode cX1_steady 86 = .ok (.iload_n 2, 1) := dk_28 (dk_at dksX1_steady_3 16 rfl rfl)
theorem dX1_steady_87 : decode cX1_steady 87 = .ok (.ifCond .eq 5, 3) := dk_153 0 5 (dk_at dksX1_steady_3 17 rfl rfl)
theorem dX1_steady_90 : decode cX1_steady 90 = .ok (.iload_n 1, 1) := dk_27 (dk_at dksX1_steady_3 20 rfl rfl)
theorem dX1_steady_91 : decode cX1_steady 91 = .ok (.ireturn, 1) := dk_172 (dk_at dksX1_steady_3 21 rfl rfl)
theorem dX1_steady_92 : decode cX1_steady 92 = .ok (.iinc 1 1, 3) := dk_132 1 1 (dk_at dksX1_steady_4 0 rfl rfl)
theorem dX1_steady_95 : decode cX1_steady 95 = .ok (.goto (-88), 3) := dk_167 255 168 (dk_at dksX1_steady_4 3 rfl rfl)
theorem dX1_steady_98 : decode cX1_steady 98 = .ok (.iconst (-1), 1) := dk_2 (dk_at dksX1_steady_4 6 rfl rfl)
theorem dX1_steady_99 : decode cX1_steady 99 = .ok (.ireturn, 1) := dk_172 (dk_at dksX1_steady_4 7 rfl rfl)
abbrev cX1_cells : ByteArray := prog_1_method_5_code
def yX1_cells : MethodName := ⟨RX1, "cells", "()I"⟩
def dkwX1_cells_0 : List UInt8 := [42, 180, 0, 10, 182, 0, 68, 172]
abbrev dktX1_cells_0 : List UInt8 := dkwX1_cells_0 ++ []
theorem dksX1_cells_0 : cX1_cells.data.toList.drop 0 = dktX1_cells_0 := by decide +kernel
theorem dX1_cells_0 : decode cX1_cells 0 = .ok (.aload_n 0, 1) := dk_42 (dk_at dksX1_cells_0 0 rfl rfl)
theorem dX1_cells_1 : decode cX1_cells 1 = .ok (.getfield 10, 3) := dk_180 0 10 (dk_at dksX1_cells_0 1 rfl rfl)
theorem dX1_cells_4 : decode cX1_cells 4 = .ok (.invokevirtual 68, 3) := dk_182 0 68 (dk_at dksX1_cells_0 4 rfl rfl)
theorem dX1_cells_7 : decode cX1_cells 7 = .ok (.ireturn, 1) := dk_172 (dk_at dksX1_cells_0 7 rfl rfl)
abbrev cX1_forget : ByteArray := prog_1_method_56_code
def yX1_forget : MethodName := ⟨RX1, "forget", "()V"⟩
def dkwX1_forget_0 : List UInt8 := [42, 180, 0, 19, 3, 181, 0, 126, 177]
abbrev dktX1_forget_0 : List UInt8 := dkwX1_forget_0 ++ []
theorem dksX1_forget_0 : cX1_forget.data.toList.drop 0 = dktX1_forget_0 := by decide +kernel
theorem dX1_forget_0 : decode cX1_forget 0 = .ok (.aload_n 0, 1) := dk_42 (dk_at dksX1_forget_0 0 rfl rfl)
theorem dX1_forget_1 : decode cX1_forget 1 = .ok (.getfield 19, 3) := dk_180 0 19 (dk_at dksX1_forget_0 1 rfl rfl)
theorem dX1_forget_4 : decode cX1_forget 4 = .ok (.iconst 0, 1) := dk_3 (dk_at dksX1_forget_0 4 rfl rfl)
theorem dX1_forget_5 : decode cX1_forget 5 = .ok (.putfield 126, 3) := dk_181 0 126 (dk_at dksX1_forget_0 5 rfl rfl)
theorem dX1_forget_8 : decode cX1_forget 8 = .ok (.return_, 1) := dk_177 (dk_at dksX1_forget_0 8 rfl rfl)
abbrev cX1_image : ByteArray := prog_1_method_62_code
def yX1_image : MethodName := ⟨RX1, "image", "()V"⟩
def dkwX1_image_0 : List UInt8 := [42, 180, 0, 23, 42, 180, 0, 19, 182, 1, 69, 42, 4, 181, 0, 129, 177]
abbrev dktX1_image_0 : List UInt8 := dkwX1_image_0 ++ []
theorem dksX1_image_0 : cX1_image.data.toList.drop 0 = dktX1_image_0 := by decide +kernel
theorem dX1_image_0 : decode cX1_image 0 = .ok (.aload_n 0, 1) := dk_42 (dk_at dksX1_image_0 0 rfl rfl)
theorem dX1_image_1 : decode cX1_image 1 = .ok (.getfield 23, 3) := dk_180 0 23 (dk_at dksX1_image_0 1 rfl rfl)
theorem dX1_image_4 : decode cX1_image 4 = .ok (.aload_n 0, 1) := dk_42 (dk_at dksX1_image_0 4 rfl rfl)
theorem dX1_image_5 : decode cX1_image 5 = .ok (.getfield 19, 3) := dk_180 0 19 (dk_at dksX1_image_0 5 rfl rfl)
theorem dX1_image_8 : decode cX1_image 8 = .ok (.invokevirtual 325, 3) := dk_182 1 69 (dk_at dksX1_image_0 8 rfl rfl)
theorem dX1_image_11 : decode cX1_image 11 = .ok (.aload_n 0, 1) := dk_42 (dk_at dksX1_image_0 11 rfl rfl)
theorem dX1_image_12 : decode cX1_image 12 = .ok (.iconst 1, 1) := dk_4 (dk_at dksX1_image_0 12 rfl rfl)
theorem dX1_image_13 : decode cX1_image 13 = .ok (.putfield 129, 3) := dk_181 0 129 (dk_at dksX1_image_0 13 rfl rfl)
theorem dX1_image_16 : decode cX1_image 16 = .ok (.return_, 1) := dk_177 (dk_at dksX1_image_0 16 rfl rfl)
abbrev cX1_restore : ByteArray := prog_1_method_63_code
def yX1_restore : MethodName := ⟨RX1, "restore", "()Z"⟩
def dkwX1_restore_0 : List UInt8 := [42, 180, 0, 129, 154, 0, 5, 3, 172, 42, 180, 0, 19, 42, 180, 0, 23, 182, 1, 69, 4, 172]
abbrev dktX1_restore_0 : List UInt8 := dkwX1_restore_0 ++ []
theorem dksX1_restore_0 : cX1_restore.data.toList.drop 0 = dktX1_restore_0 := by decide +kernel
theorem dX1_restore_0 : decode cX1_restore 0 = .ok (.aload_n 0, 1) := dk_42 (dk_at dksX1_restore_0 0 rfl rfl)
theorem dX1_restore_1 : decode cX1_restore 1 = .ok (.getfield 129, 3) := dk_180 0 129 (dk_at dksX1_restore_0 1 rfl rfl)
theorem dX1_restore_4 : decode cX1_restore 4 = .ok (.ifCond .ne 5, 3) := dk_154 0 5 (dk_at dksX1_restore_0 4 rfl rfl)
theorem dX1_restore_7 : decode cX1_restore 7 = .ok (.iconst 0, 1) := dk_3 (dk_at dksX1_restore_0 7 rfl rfl)
theorem dX1_restore_8 : decode cX1_restore 8 = .ok (.ireturn, 1) := dk_172 (dk_at dksX1_restore_0 8 rfl rfl)
theorem dX1_restore_9 : decode cX1_restore 9 = .ok (.aload_n 0, 1) := dk_42 (dk_at dksX1_restore_0 9 rfl rfl)
theorem dX1_restore_10 : decode cX1_restore 10 = .ok (.getfield 19, 3) := dk_180 0 19 (dk_at dksX1_restore_0 10 rfl rfl)
theorem dX1_restore_13 : decode cX1_restore 13 = .ok (.aload_n 0, 1) := dk_42 (dk_at dksX1_restore_0 13 rfl rfl)
theorem dX1_restore_14 : decode cX1_restore 14 = .ok (.getfield 23, 3) := dk_180 0 23 (dk_at dksX1_restore_0 14 rfl rfl)
theorem dX1_restore_17 : decode cX1_restore 17 = .ok (.invokevirtual 325, 3) := dk_182 1 69 (dk_at dksX1_restore_0 17 rfl rfl)
theorem dX1_restore_20 : decode cX1_restore 20 = .ok (.iconst 1, 1) := dk_4 (dk_at dksX1_restore_0 20 rfl rfl)
theorem dX1_restore_21 : decode cX1_restore 21 = .ok (.ireturn, 1) := dk_172 (dk_at dksX1_restore_0 21 rfl rfl)
abbrev cX1_coast : ByteArray := prog_1_method_11_code
def yX1_coast : MethodName := ⟨RX1, "coast", "(I)I"⟩
def dkwX1_coast_4 : List UInt8 := [3, 181, 0, 123, 42, 180, 0, 19, 3, 181, 0, 126, 42, 3, 181, 0, 129, 3, 172]
abbrev dktX1_coast_4 : List UInt8 := dkwX1_coast_4 ++ []
def dkwX1_coast_3 : List UInt8 := [46, 4, 96, 79, 44, 180, 0, 120, 172, 42, 180, 0, 30, 42, 180, 0, 10, 182, 0, 58, 42, 180, 0, 19]
abbrev dktX1_coast_3 : List UInt8 := dkwX1_coast_3 ++ dktX1_coast_4
def dkwX1_coast_2 : List UInt8 := [181, 0, 10, 167, 0, 30, 77, 42, 44, 180, 0, 114, 181, 0, 41, 42, 180, 0, 19, 180, 0, 117, 3, 92]
abbrev dktX1_coast_2 : List UInt8 := dkwX1_coast_2 ++ dktX1_coast_3
def dkwX1_coast_1 : List UInt8 := [181, 0, 94, 42, 2, 181, 0, 41, 42, 187, 0, 104, 89, 42, 180, 0, 37, 27, 183, 0, 106, 182, 0, 109]
abbrev dktX1_coast_1 : List UInt8 := dkwX1_coast_1 ++ dktX1_coast_2
def dkwX1_coast_0 : List UInt8 := [27, 155, 0, 15, 27, 42, 180, 0, 94, 163, 0, 7, 4, 167, 0, 4, 3, 184, 0, 101, 42, 3]
abbrev dktX1_coast_0 : List UInt8 := dkwX1_coast_0 ++ dktX1_coast_1
theorem dksX1_coast_0 : cX1_coast.data.toList.drop 0 = dktX1_coast_0 := by decide +kernel
theorem dksX1_coast_1 : cX1_coast.data.toList.drop 22 = dktX1_coast_1 := dk_seg dksX1_coast_0 22 rfl rfl
theorem dksX1_coast_2 : cX1_coast.data.toList.drop 46 = dktX1_coast_2 := dk_seg dksX1_coast_1 24 rfl rfl
theorem dksX1_coast_3 : cX1_coast.data.toList.drop 70 = dktX1_coast_3 := dk_seg dksX1_coast_2 24 rfl rfl
theorem dksX1_coast_4 : cX1_coast.data.toList.drop 94 = dktX1_coast_4 := dk_seg dksX1_coast_3 24 rfl rfl
theorem dX1_coast_0 : decode cX1_coast 0 = .ok (.iload_n 1, 1) := dk_27 (dk_at dksX1_coast_0 0 rfl rfl)
theorem dX1_coast_1 : decode cX1_coast 1 = .ok (.ifCond .lt 15, 3) := dk_155 0 15 (dk_at dksX1_coast_0 1 rfl rfl)
theorem dX1_coast_4 : decode cX1_coast 4 = .ok (.iload_n 1, 1) := dk_27 (dk_at dksX1_coast_0 4 rfl rfl)
theorem dX1_coast_5 : decode cX1_coast 5 = .ok (.aload_n 0, 1) := dk_42 (dk_at dksX1_coast_0 5 rfl rfl)
theorem dX1_coast_6 : decode cX1_coast 6 = .ok (.getfield 94, 3) := dk_180 0 94 (dk_at dksX1_coast_0 6 rfl rfl)
theorem dX1_coast_9 : decode cX1_coast 9 = .ok (.if_icmp .gt 7, 3) := dk_163 0 7 (dk_at dksX1_coast_0 9 rfl rfl)
theorem dX1_coast_12 : decode cX1_coast 12 = .ok (.iconst 1, 1) := dk_4 (dk_at dksX1_coast_0 12 rfl rfl)
theorem dX1_coast_13 : decode cX1_coast 13 = .ok (.goto 4, 3) := dk_167 0 4 (dk_at dksX1_coast_0 13 rfl rfl)
theorem dX1_coast_16 : decode cX1_coast 16 = .ok (.iconst 0, 1) := dk_3 (dk_at dksX1_coast_0 16 rfl rfl)
theorem dX1_coast_17 : decode cX1_coast 17 = .ok (.invokestatic 101, 3) := dk_184 0 101 (dk_at dksX1_coast_0 17 rfl rfl)
theorem dX1_coast_20 : decode cX1_coast 20 = .ok (.aload_n 0, 1) := dk_42 (dk_at dksX1_coast_0 20 rfl rfl)
theorem dX1_coast_21 : decode cX1_coast 21 = .ok (.iconst 0, 1) := dk_3 (dk_at dksX1_coast_0 21 rfl rfl)
theorem dX1_coast_22 : decode cX1_coast 22 = .ok (.putfield 94, 3) := dk_181 0 94 (dk_at dksX1_coast_1 0 rfl rfl)
theorem dX1_coast_25 : decode cX1_coast 25 = .ok (.aload_n 0, 1) := dk_42 (dk_at dksX1_coast_1 3 rfl rfl)
theorem dX1_coast_26 : decode cX1_coast 26 = .ok (.iconst (-1), 1) := dk_2 (dk_at dksX1_coast_1 4 rfl rfl)
theorem dX1_coast_27 : decode cX1_coast 27 = .ok (.putfield 41, 3) := dk_181 0 41 (dk_at dksX1_coast_1 5 rfl rfl)
theorem dX1_coast_30 : decode cX1_coast 30 = .ok (.aload_n 0, 1) := dk_42 (dk_at dksX1_coast_1 8 rfl rfl)
theorem dX1_coast_31 : decode cX1_coast 31 = .ok (.new 104, 3) := dk_187 0 104 (dk_at dksX1_coast_1 9 rfl rfl)
theorem dX1_coast_34 : decode cX1_coast 34 = .ok (.dup, 1) := dk_89 (dk_at dksX1_coast_1 12 rfl rfl)
theorem dX1_coast_35 : decode cX1_coast 35 = .ok (.aload_n 0, 1) := dk_42 (dk_at dksX1_coast_1 13 rfl rfl)
theorem dX1_coast_36 : decode cX1_coast 36 = .ok (.getfield 37, 3) := dk_180 0 37 (dk_at dksX1_coast_1 14 rfl rfl)
theorem dX1_coast_39 : decode cX1_coast 39 = .ok (.iload_n 1, 1) := dk_27 (dk_at dksX1_coast_1 17 rfl rfl)
theorem dX1_coast_40 : decode cX1_coast 40 = .ok (.invokespecial 106, 3) := dk_183 0 106 (dk_at dksX1_coast_1 18 rfl rfl)
theorem dX1_coast_43 : decode cX1_coast 43 = .ok (.invokevirtual 109, 3) := dk_182 0 109 (dk_at dksX1_coast_1 21 rfl rfl)
theorem dX1_coast_46 : decode cX1_coast 46 = .ok (.putfield 10, 3) := dk_181 0 10 (dk_at dksX1_coast_2 0 rfl rfl)
theorem dX1_coast_49 : decode cX1_coast 49 = .ok (.goto 30, 3) := dk_167 0 30 (dk_at dksX1_coast_2 3 rfl rfl)
theorem dX1_coast_52 : decode cX1_coast 52 = .ok (.astore_n 2, 1) := dk_77 (dk_at dksX1_coast_2 6 rfl rfl)
theorem dX1_coast_53 : decode cX1_coast 53 = .ok (.aload_n 0, 1) := dk_42 (dk_at dksX1_coast_2 7 rfl rfl)
theorem dX1_coast_54 : decode cX1_coast 54 = .ok (.aload_n 2, 1) := dk_44 (dk_at dksX1_coast_2 8 rfl rfl)
theorem dX1_coast_55 : decode cX1_coast 55 = .ok (.getfield 114, 3) := dk_180 0 114 (dk_at dksX1_coast_2 9 rfl rfl)
theorem dX1_coast_58 : decode cX1_coast 58 = .ok (.putfield 41, 3) := dk_181 0 41 (dk_at dksX1_coast_2 12 rfl rfl)
theorem dX1_coast_61 : decode cX1_coast 61 = .ok (.aload_n 0, 1) := dk_42 (dk_at dksX1_coast_2 15 rfl rfl)
theorem dX1_coast_62 : decode cX1_coast 62 = .ok (.getfield 19, 3) := dk_180 0 19 (dk_at dksX1_coast_2 16 rfl rfl)
theorem dX1_coast_65 : decode cX1_coast 65 = .ok (.getfield 117, 3) := dk_180 0 117 (dk_at dksX1_coast_2 19 rfl rfl)
theorem dX1_coast_68 : decode cX1_coast 68 = .ok (.iconst 0, 1) := dk_3 (dk_at dksX1_coast_2 22 rfl rfl)
theorem dX1_coast_69 : decode cX1_coast 69 = .ok (.dup2, 1) := dk_92 (dk_at dksX1_coast_2 23 rfl rfl)
theorem dX1_coast_70 : decode cX1_coast 70 = .ok (.iaload, 1) := dk_46 (dk_at dksX1_coast_3 0 rfl rfl)
theorem dX1_coast_71 : decode cX1_coast 71 = .ok (.iconst 1, 1) := dk_4 (dk_at dksX1_coast_3 1 rfl rfl)
theorem dX1_coast_72 : decode cX1_coast 72 = .ok (.iadd, 1) := dk_96 (dk_at dksX1_coast_3 2 rfl rfl)
theorem dX1_coast_73 : decode cX1_coast 73 = .ok (.iastore, 1) := dk_79 (dk_at dksX1_coast_3 3 rfl rfl)
theorem dX1_coast_74 : decode cX1_coast 74 = .ok (.aload_n 2, 1) := dk_44 (dk_at dksX1_coast_3 4 rfl rfl)
theorem dX1_coast_75 : decode cX1_coast 75 = .ok (.getfield 120, 3) := dk_180 0 120 (dk_at dksX1_coast_3 5 rfl rfl)
theorem dX1_coast_78 : decode cX1_coast 78 = .ok (.ireturn, 1) := dk_172 (dk_at dksX1_coast_3 8 rfl rfl)
theorem dX1_coast_79 : decode cX1_coast 79 = .ok (.aload_n 0, 1) := dk_42 (dk_at dksX1_coast_3 9 rfl rfl)
theorem dX1_coast_80 : decode cX1_coast 80 = .ok (.getfield 30, 3) := dk_180 0 30 (dk_at dksX1_coast_3 10 rfl rfl)
theorem dX1_coast_83 : decode cX1_coast 83 = .ok (.aload_n 0, 1) := dk_42 (dk_at dksX1_coast_3 13 rfl rfl)
theorem dX1_coast_84 : decode cX1_coast 84 = .ok (.getfield 10, 3) := dk_180 0 10 (dk_at dksX1_coast_3 14 rfl rfl)
theorem dX1_coast_87 : decode cX1_coast 87 = .ok (.invokevirtual 58, 3) := dk_182 0 58 (dk_at dksX1_coast_3 17 rfl rfl)
theorem dX1_coast_90 : decode cX1_coast 90 = .ok (.aload_n 0, 1) := dk_42 (dk_at dksX1_coast_3 20 rfl rfl)
theorem dX1_coast_91 : decode cX1_coast 91 = .ok (.getfield 19, 3) := dk_180 0 19 (dk_at dksX1_coast_3 21 rfl rfl)
theorem dX1_coast_94 : decode cX1_coast 94 = .ok (.iconst 0, 1) := dk_3 (dk_at dksX1_coast_4 0 rfl rfl)
theorem dX1_coast_95 : decode cX1_coast 95 = .ok (.putfield 123, 3) := dk_181 0 123 (dk_at dksX1_coast_4 1 rfl rfl)
theorem dX1_coast_98 : decode cX1_coast 98 = .ok (.aload_n 0, 1) := dk_42 (dk_at dksX1_coast_4 4 rfl rfl)
theorem dX1_coast_99 : decode cX1_coast 99 = .ok (.getfield 19, 3) := dk_180 0 19 (dk_at dksX1_coast_4 5 rfl rfl)
theorem dX1_coast_102 : decode cX1_coast 102 = .ok (.iconst 0, 1) := dk_3 (dk_at dksX1_coast_4 8 rfl rfl)
theorem dX1_coast_103 : decode cX1_coast 103 = .ok (.putfield 126, 3) := dk_181 0 126 (dk_at dksX1_coast_4 9 rfl rfl)
theorem dX1_coast_106 : decode cX1_coast 106 = .ok (.aload_n 0, 1) := dk_42 (dk_at dksX1_coast_4 12 rfl rfl)
theorem dX1_coast_107 : decode cX1_coast 107 = .ok (.iconst 0, 1) := dk_3 (dk_at dksX1_coast_4 13 rfl rfl)
theorem dX1_coast_108 : decode cX1_coast 108 = .ok (.putfield 129, 3) := dk_181 0 129 (dk_at dksX1_coast_4 14 rfl rfl)
theorem dX1_coast_111 : decode cX1_coast 111 = .ok (.iconst 0, 1) := dk_3 (dk_at dksX1_coast_4 17 rfl rfl)
theorem dX1_coast_112 : decode cX1_coast 112 = .ok (.ireturn, 1) := dk_172 (dk_at dksX1_coast_4 18 rfl rfl)
abbrev cX1_right : ByteArray := prog_1_method_2_code
def yX1_right : MethodName := ⟨RX1, "right", "(Z)V"⟩
def dkwX1_right_0 : List UInt8 := [26, 154, 0, 11, 187, 0, 62, 89, 183, 0, 64, 191, 177]
abbrev dktX1_right_0 : List UInt8 := dkwX1_right_0 ++ []
theorem dksX1_right_0 : cX1_right.data.toList.drop 0 = dktX1_right_0 := by decide +kernel
theorem dX1_right_0 : decode cX1_right 0 = .ok (.iload_n 0, 1) := dk_26 (dk_at dksX1_right_0 0 rfl rfl)
theorem dX1_right_1 : decode cX1_right 1 = .ok (.ifCond .ne 11, 3) := dk_154 0 11 (dk_at dksX1_right_0 1 rfl rfl)
theorem dX1_right_4 : decode cX1_right 4 = .ok (.new 62, 3) := dk_187 0 62 (dk_at dksX1_right_0 4 rfl rfl)
theorem dX1_right_7 : decode cX1_right 7 = .ok (.dup, 1) := dk_89 (dk_at dksX1_right_0 7 rfl rfl)
theorem dX1_right_8 : decode cX1_right 8 = .ok (.invokespecial 64, 3) := dk_183 0 64 (dk_at dksX1_right_0 8 rfl rfl)
theorem dX1_right_11 : decode cX1_right 11 = .ok (.athrow, 1) := dk_191 (dk_at dksX1_right_0 11 rfl rfl)
theorem dX1_right_12 : decode cX1_right 12 = .ok (.return_, 1) := dk_177 (dk_at dksX1_right_0 12 rfl rfl)
abbrev cX1_count : ByteArray := prog_1_method_13_code
def yX1_count : MethodName := ⟨RX1, "count", "(I)I"⟩
def dkwX1_count_7 : List UInt8 := [46, 172]
abbrev dktX1_count_7 : List UInt8 := dkwX1_count_7 ++ []
def dkwX1_count_6 : List UInt8 := [42, 180, 0, 19, 180, 0, 126, 172, 42, 180, 0, 94, 172, 42, 180, 0, 19, 180, 0, 117, 27, 16, 14, 100]
abbrev dktX1_count_6 : List UInt8 := dkwX1_count_6 ++ dktX1_count_7
def dkwX1_count_5 : List UInt8 := [180, 0, 158, 172, 42, 180, 0, 30, 42, 182, 0, 81, 182, 0, 161, 172, 42, 180, 0, 19, 180, 0, 123, 172]
abbrev dktX1_count_5 : List UInt8 := dkwX1_count_5 ++ dktX1_count_6
def dkwX1_count_4 : List UInt8 := [180, 0, 149, 172, 42, 180, 0, 30, 180, 0, 152, 172, 42, 180, 0, 30, 180, 0, 155, 172, 42, 180, 0, 30]
abbrev dktX1_count_4 : List UInt8 := dkwX1_count_4 ++ dktX1_count_5
def dkwX1_count_3 : List UInt8 := [180, 0, 140, 172, 42, 180, 0, 30, 180, 0, 143, 172, 42, 180, 0, 10, 180, 0, 146, 172, 42, 180, 0, 10]
abbrev dktX1_count_3 : List UInt8 := dkwX1_count_3 ++ dktX1_count_4
def dkwX1_count_2 : List UInt8 := [42, 182, 0, 81, 172, 42, 180, 0, 10, 180, 0, 137, 172, 42, 182, 0, 86, 172, 42, 180, 0, 30]
abbrev dktX1_count_2 : List UInt8 := dkwX1_count_2 ++ dktX1_count_3
def dkwX1_count_1 : List UInt8 := [170, 0, 0, 0, 176, 0, 0, 0, 0, 0, 0, 0, 13, 0, 0, 0, 69, 0, 0, 0, 74, 0, 0, 0, 82, 0, 0, 0, 87, 0, 0, 0, 95, 0, 0, 0, 103, 0, 0, 0, 111, 0, 0, 0, 119, 0, 0, 0, 127, 0, 0, 0, 135, 0, 0, 0, 143, 0, 0, 0, 155, 0, 0, 0, 163, 0, 0, 0, 171]
abbrev dktX1_count_1 : List UInt8 := dkwX1_count_1 ++ dktX1_count_2
def dkwX1_count_0 : List UInt8 := [27, 3, 16, 16, 184, 0, 133, 184, 0, 82, 27]
abbrev dktX1_count_0 : List UInt8 := dkwX1_count_0 ++ dktX1_count_1
theorem dksX1_count_0 : cX1_count.data.toList.drop 0 = dktX1_count_0 := by decide +kernel
theorem dksX1_count_1 : cX1_count.data.toList.drop 11 = dktX1_count_1 := dk_seg dksX1_count_0 11 rfl rfl
theorem dksX1_count_2 : cX1_count.data.toList.drop 80 = dktX1_count_2 := dk_seg dksX1_count_1 69 rfl rfl
theorem dksX1_count_3 : cX1_count.data.toList.drop 102 = dktX1_count_3 := dk_seg dksX1_count_2 22 rfl rfl
theorem dksX1_count_4 : cX1_count.data.toList.drop 126 = dktX1_count_4 := dk_seg dksX1_count_3 24 rfl rfl
theorem dksX1_count_5 : cX1_count.data.toList.drop 150 = dktX1_count_5 := dk_seg dksX1_count_4 24 rfl rfl
theorem dksX1_count_6 : cX1_count.data.toList.drop 174 = dktX1_count_6 := dk_seg dksX1_count_5 24 rfl rfl
theorem dksX1_count_7 : cX1_count.data.toList.drop 198 = dktX1_count_7 := dk_seg dksX1_count_6 24 rfl rfl
theorem dX1_count_0 : decode cX1_count 0 = .ok (.iload_n 1, 1) := dk_27 (dk_at dksX1_count_0 0 rfl rfl)
theorem dX1_count_1 : decode cX1_count 1 = .ok (.iconst 0, 1) := dk_3 (dk_at dksX1_count_0 1 rfl rfl)
theorem dX1_count_2 : decode cX1_count 2 = .ok (.bipush 16, 2) := dk_16 16 (dk_at dksX1_count_0 2 rfl rfl)
theorem dX1_count_4 : decode cX1_count 4 = .ok (.invokestatic 133, 3) := dk_184 0 133 (dk_at dksX1_count_0 4 rfl rfl)
theorem dX1_count_7 : decode cX1_count 7 = .ok (.invokestatic 82, 3) := dk_184 0 82 (dk_at dksX1_count_0 7 rfl rfl)
theorem dX1_count_10 : decode cX1_count 10 = .ok (.iload_n 1, 1) := dk_27 (dk_at dksX1_count_0 10 rfl rfl)
theorem dX1_count_11 : decode cX1_count 11 = .ok (.tableswitch 176 0 13 #[69, 74, 82, 87, 95, 103, 111, 119, 127, 135, 143, 155, 163, 171], 69) := by decide +kernel
theorem dX1_count_80 : decode cX1_count 80 = .ok (.aload_n 0, 1) := dk_42 (dk_at dksX1_count_2 0 rfl rfl)
theorem dX1_count_81 : decode cX1_count 81 = .ok (.invokevirtual 81, 3) := dk_182 0 81 (dk_at dksX1_count_2 1 rfl rfl)
theorem dX1_count_84 : decode cX1_count 84 = .ok (.ireturn, 1) := dk_172 (dk_at dksX1_count_2 4 rfl rfl)
theorem dX1_count_85 : decode cX1_count 85 = .ok (.aload_n 0, 1) := dk_42 (dk_at dksX1_count_2 5 rfl rfl)
theorem dX1_count_86 : decode cX1_count 86 = .ok (.getfield 10, 3) := dk_180 0 10 (dk_at dksX1_count_2 6 rfl rfl)
theorem dX1_count_89 : decode cX1_count 89 = .ok (.getfield 137, 3) := dk_180 0 137 (dk_at dksX1_count_2 9 rfl rfl)
theorem dX1_count_92 : decode cX1_count 92 = .ok (.ireturn, 1) := dk_172 (dk_at dksX1_count_2 12 rfl rfl)
theorem dX1_count_93 : decode cX1_count 93 = .ok (.aload_n 0, 1) := dk_42 (dk_at dksX1_count_2 13 rfl rfl)
theorem dX1_count_94 : decode cX1_count 94 = .ok (.invokevirtual 86, 3) := dk_182 0 86 (dk_at dksX1_count_2 14 rfl rfl)
theorem dX1_count_97 : decode cX1_count 97 = .ok (.ireturn, 1) := dk_172 (dk_at dksX1_count_2 17 rfl rfl)
theorem dX1_count_98 : decode cX1_count 98 = .ok (.aload_n 0, 1) := dk_42 (dk_at dksX1_count_2 18 rfl rfl)
theorem dX1_count_99 : decode cX1_count 99 = .ok (.getfield 30, 3) := dk_180 0 30 (dk_at dksX1_count_2 19 rfl rfl)
theorem dX1_count_102 : decode cX1_count 102 = .ok (.getfield 140, 3) := dk_180 0 140 (dk_at dksX1_count_3 0 rfl rfl)
theorem dX1_count_105 : decode cX1_count 105 = .ok (.ireturn, 1) := dk_172 (dk_at dksX1_count_3 3 rfl rfl)
theorem dX1_count_106 : decode cX1_count 106 = .ok (.aload_n 0, 1) := dk_42 (dk_at dksX1_count_3 4 rfl rfl)
theorem dX1_count_107 : decode cX1_count 107 = .ok (.getfield 30, 3) := dk_180 0 30 (dk_at dksX1_count_3 5 rfl rfl)
theorem dX1_count_110 : decode cX1_count 110 = .ok (.getfield 143, 3) := dk_180 0 143 (dk_at dksX1_count_3 8 rfl rfl)
theorem dX1_count_113 : decode cX1_count 113 = .ok (.ireturn, 1) := dk_172 (dk_at dksX1_count_3 11 rfl rfl)
theorem dX1_count_114 : decode cX1_count 114 = .ok (.aload_n 0, 1) := dk_42 (dk_at dksX1_count_3 12 rfl rfl)
theorem dX1_count_115 : decode cX1_count 115 = .ok (.getfield 10, 3) := dk_180 0 10 (dk_at dksX1_count_3 13 rfl rfl)
theorem dX1_count_118 : decode cX1_count 118 = .ok (.getfield 146, 3) := dk_180 0 146 (dk_at dksX1_count_3 16 rfl rfl)
theorem dX1_count_121 : decode cX1_count 121 = .ok (.ireturn, 1) := dk_172 (dk_at dksX1_count_3 19 rfl rfl)
theorem dX1_count_122 : decode cX1_count 122 = .ok (.aload_n 0, 1) := dk_42 (dk_at dksX1_count_3 20 rfl rfl)
theorem dX1_count_123 : decode cX1_count 123 = .ok (.getfield 10, 3) := dk_180 0 10 (dk_at dksX1_count_3 21 rfl rfl)
theorem dX1_count_126 : decode cX1_count 126 = .ok (.getfield 149, 3) := dk_180 0 149 (dk_at dksX1_count_4 0 rfl rfl)
theorem dX1_count_129 : decode cX1_count 129 = .ok (.ireturn, 1) := dk_172 (dk_at dksX1_count_4 3 rfl rfl)
theorem dX1_count_130 : decode cX1_count 130 = .ok (.aload_n 0, 1) := dk_42 (dk_at dksX1_count_4 4 rfl rfl)
theorem dX1_count_131 : decode cX1_count 131 = .ok (.getfield 30, 3) := dk_180 0 30 (dk_at dksX1_count_4 5 rfl rfl)
theorem dX1_count_134 : decode cX1_count 134 = .ok (.getfield 152, 3) := dk_180 0 152 (dk_at dksX1_count_4 8 rfl rfl)
theorem dX1_count_137 : decode cX1_count 137 = .ok (.ireturn, 1) := dk_172 (dk_at dksX1_count_4 11 rfl rfl)
theorem dX1_count_138 : decode cX1_count 138 = .ok (.aload_n 0, 1) := dk_42 (dk_at dksX1_count_4 12 rfl rfl)
theorem dX1_count_139 : decode cX1_count 139 = .ok (.getfield 30, 3) := dk_180 0 30 (dk_at dksX1_count_4 13 rfl rfl)
theorem dX1_count_142 : decode cX1_count 142 = .ok (.getfield 155, 3) := dk_180 0 155 (dk_at dksX1_count_4 16 rfl rfl)
theorem dX1_count_145 : decode cX1_count 145 = .ok (.ireturn, 1) := dk_172 (dk_at dksX1_count_4 19 rfl rfl)
theorem dX1_count_146 : decode cX1_count 146 = .ok (.aload_n 0, 1) := dk_42 (dk_at dksX1_count_4 20 rfl rfl)
theorem dX1_count_147 : decode cX1_count 147 = .ok (.getfield 30, 3) := dk_180 0 30 (dk_at dksX1_count_4 21 rfl rfl)
theorem dX1_count_150 : decode cX1_count 150 = .ok (.getfield 158, 3) := dk_180 0 158 (dk_at dksX1_count_5 0 rfl rfl)
theorem dX1_count_153 : decode cX1_count 153 = .ok (.ireturn, 1) := dk_172 (dk_at dksX1_count_5 3 rfl rfl)
theorem dX1_count_154 : decode cX1_count 154 = .ok (.aload_n 0, 1) := dk_42 (dk_at dksX1_count_5 4 rfl rfl)
theorem dX1_count_155 : decode cX1_count 155 = .ok (.getfield 30, 3) := dk_180 0 30 (dk_at dksX1_count_5 5 rfl rfl)
theorem dX1_count_158 : decode cX1_count 158 = .ok (.aload_n 0, 1) := dk_42 (dk_at dksX1_count_5 8 rfl rfl)
theorem dX1_count_159 : decode cX1_count 159 = .ok (.invokevirtual 81, 3) := dk_182 0 81 (dk_at dksX1_count_5 9 rfl rfl)
theorem dX1_count_162 : decode cX1_count 162 = .ok (.invokevirtual 161, 3) := dk_182 0 161 (dk_at dksX1_count_5 12 rfl rfl)
theorem dX1_count_165 : decode cX1_count 165 = .ok (.ireturn, 1) := dk_172 (dk_at dksX1_count_5 15 rfl rfl)
theorem dX1_count_166 : decode cX1_count 166 = .ok (.aload_n 0, 1) := dk_42 (dk_at dksX1_count_5 16 rfl rfl)
theorem dX1_count_167 : decode cX1_count 167 = .ok (.getfield 19, 3) := dk_180 0 19 (dk_at dksX1_count_5 17 rfl rfl)
theorem dX1_count_170 : decode cX1_count 170 = .ok (.getfield 123, 3) := dk_180 0 123 (dk_at dksX1_count_5 20 rfl rfl)
theorem dX1_count_173 : decode cX1_count 173 = .ok (.ireturn, 1) := dk_172 (dk_at dksX1_count_5 23 rfl rfl)
theorem dX1_count_174 : decode cX1_count 174 = .ok (.aload_n 0, 1) := dk_42 (dk_at dksX1_count_6 0 rfl rfl)
theorem dX1_count_175 : decode cX1_count 175 = .ok (.getfield 19, 3) := dk_180 0 19 (dk_at dksX1_count_6 1 rfl rfl)
theorem dX1_count_178 : decode cX1_count 178 = .ok (.getfield 126, 3) := dk_180 0 126 (dk_at dksX1_count_6 4 rfl rfl)
theorem dX1_count_181 : decode cX1_count 181 = .ok (.ireturn, 1) := dk_172 (dk_at dksX1_count_6 7 rfl rfl)
theorem dX1_count_182 : decode cX1_count 182 = .ok (.aload_n 0, 1) := dk_42 (dk_at dksX1_count_6 8 rfl rfl)
theorem dX1_count_183 : decode cX1_count 183 = .ok (.getfield 94, 3) := dk_180 0 94 (dk_at dksX1_count_6 9 rfl rfl)
theorem dX1_count_186 : decode cX1_count 186 = .ok (.ireturn, 1) := dk_172 (dk_at dksX1_count_6 12 rfl rfl)
theorem dX1_count_187 : decode cX1_count 187 = .ok (.aload_n 0, 1) := dk_42 (dk_at dksX1_count_6 13 rfl rfl)
theorem dX1_count_188 : decode cX1_count 188 = .ok (.getfield 19, 3) := dk_180 0 19 (dk_at dksX1_count_6 14 rfl rfl)
theorem dX1_count_191 : decode cX1_count 191 = .ok (.getfield 117, 3) := dk_180 0 117 (dk_at dksX1_count_6 17 rfl rfl)
theorem dX1_count_194 : decode cX1_count 194 = .ok (.iload_n 1, 1) := dk_27 (dk_at dksX1_count_6 20 rfl rfl)
theorem dX1_count_195 : decode cX1_count 195 = .ok (.bipush 14, 2) := dk_16 14 (dk_at dksX1_count_6 21 rfl rfl)
theorem dX1_count_197 : decode cX1_count 197 = .ok (.isub, 1) := dk_100 (dk_at dksX1_count_6 23 rfl rfl)
theorem dX1_count_198 : decode cX1_count 198 = .ok (.iaload, 1) := dk_46 (dk_at dksX1_count_7 0 rfl rfl)
theorem dX1_count_199 : decode cX1_count 199 = .ok (.ireturn, 1) := dk_172 (dk_at dksX1_count_7 1 rfl rfl)
abbrev cX1_there : ByteArray := prog_1_method_3_code
def yX1_there : MethodName := ⟨RX1, "there", "(Z)V"⟩
def dkwX1_there_0 : List UInt8 := [26, 154, 0, 11, 187, 0, 65, 89, 183, 0, 67, 191, 177]
abbrev dktX1_there_0 : List UInt8 := dkwX1_there_0 ++ []
theorem dksX1_there_0 : cX1_there.data.toList.drop 0 = dktX1_there_0 := by decide +kernel
theorem dX1_there_0 : decode cX1_there 0 = .ok (.iload_n 0, 1) := dk_26 (dk_at dksX1_there_0 0 rfl rfl)
theorem dX1_there_1 : decode cX1_there 1 = .ok (.ifCond .ne 11, 3) := dk_154 0 11 (dk_at dksX1_there_0 1 rfl rfl)
theorem dX1_there_4 : decode cX1_there 4 = .ok (.new 65, 3) := dk_187 0 65 (dk_at dksX1_there_0 4 rfl rfl)
theorem dX1_there_7 : decode cX1_there 7 = .ok (.dup, 1) := dk_89 (dk_at dksX1_there_0 7 rfl rfl)
theorem dX1_there_8 : decode cX1_there 8 = .ok (.invokespecial 67, 3) := dk_183 0 67 (dk_at dksX1_there_0 8 rfl rfl)
theorem dX1_there_11 : decode cX1_there 11 = .ok (.athrow, 1) := dk_191 (dk_at dksX1_there_0 11 rfl rfl)
theorem dX1_there_12 : decode cX1_there 12 = .ok (.return_, 1) := dk_177 (dk_at dksX1_there_0 12 rfl rfl)
abbrev cX1_cell : ByteArray := prog_1_method_15_code
def yX1_cell : MethodName := ⟨RX1, "cell", "(II)I"⟩
def dkwX1_cell_4 : List UInt8 := [120, 128, 62, 132, 4, 1, 167, 255, 223, 29, 172, 42, 27, 3, 182, 0, 181, 172]
abbrev dktX1_cell_4 : List UInt8 := dkwX1_cell_4 ++ []
def dkwX1_cell_3 : List UInt8 := [182, 0, 86, 162, 0, 30, 42, 180, 0, 30, 180, 0, 178, 21, 4, 46, 27, 160, 0, 10, 29, 4, 21, 4]
abbrev dktX1_cell_3 : List UInt8 := dkwX1_cell_3 ++ dktX1_cell_4
def dkwX1_cell_2 : List UInt8 := [42, 180, 0, 30, 180, 0, 172, 27, 46, 172, 42, 27, 182, 0, 175, 172, 3, 54, 4, 21, 4, 42]
abbrev dktX1_cell_2 : List UInt8 := dkwX1_cell_2 ++ dktX1_cell_3
def dkwX1_cell_1 : List UInt8 := [170, 0, 0, 0, 0, 0, 84, 0, 0, 0, 0, 0, 0, 0, 2, 0, 0, 0, 27, 0, 0, 0, 37, 0, 0, 0, 43]
abbrev dktX1_cell_1 : List UInt8 := dkwX1_cell_1 ++ dktX1_cell_2
def dkwX1_cell_0 : List UInt8 := [42, 27, 182, 0, 169, 28, 3, 6, 184, 0, 133, 184, 0, 82, 3, 62, 28]
abbrev dktX1_cell_0 : List UInt8 := dkwX1_cell_0 ++ dktX1_cell_1
theorem dksX1_cell_0 : cX1_cell.data.toList.drop 0 = dktX1_cell_0 := by decide +kernel
theorem dksX1_cell_1 : cX1_cell.data.toList.drop 17 = dktX1_cell_1 := dk_seg dksX1_cell_0 17 rfl rfl
theorem dksX1_cell_2 : cX1_cell.data.toList.drop 44 = dktX1_cell_2 := dk_seg dksX1_cell_1 27 rfl rfl
theorem dksX1_cell_3 : cX1_cell.data.toList.drop 66 = dktX1_cell_3 := dk_seg dksX1_cell_2 22 rfl rfl
theorem dksX1_cell_4 : cX1_cell.data.toList.drop 90 = dktX1_cell_4 := dk_seg dksX1_cell_3 24 rfl rfl
theorem dX1_cell_0 : decode cX1_cell 0 = .ok (.aload_n 0, 1) := dk_42 (dk_at dksX1_cell_0 0 rfl rfl)
theorem dX1_cell_1 : decode cX1_cell 1 = .ok (.iload_n 1, 1) := dk_27 (dk_at dksX1_cell_0 1 rfl rfl)
theorem dX1_cell_2 : decode cX1_cell 2 = .ok (.invokevirtual 169, 3) := dk_182 0 169 (dk_at dksX1_cell_0 2 rfl rfl)
theorem dX1_cell_5 : decode cX1_cell 5 = .ok (.iload_n 2, 1) := dk_28 (dk_at dksX1_cell_0 5 rfl rfl)
theorem dX1_cell_6 : decode cX1_cell 6 = .ok (.iconst 0, 1) := dk_3 (dk_at dksX1_cell_0 6 rfl rfl)
theorem dX1_cell_7 : decode cX1_cell 7 = .ok (.iconst 3, 1) := dk_6 (dk_at dksX1_cell_0 7 rfl rfl)
theorem dX1_cell_8 : decode cX1_cell 8 = .ok (.invokestatic 133, 3) := dk_184 0 133 (dk_at dksX1_cell_0 8 rfl rfl)
theorem dX1_cell_11 : decode cX1_cell 11 = .ok (.invokestatic 82, 3) := dk_184 0 82 (dk_at dksX1_cell_0 11 rfl rfl)
theorem dX1_cell_14 : decode cX1_cell 14 = .ok (.iconst 0, 1) := dk_3 (dk_at dksX1_cell_0 14 rfl rfl)
theorem dX1_cell_15 : decode cX1_cell 15 = .ok (.istore_n 3, 1) := dk_62 (dk_at dksX1_cell_0 15 rfl rfl)
theorem dX1_cell_16 : decode cX1_cell 16 = .ok (.iload_n 2, 1) := dk_28 (dk_at dksX1_cell_0 16 rfl rfl)
theorem dX1_cell_17 : decode cX1_cell 17 = .ok (.tableswitch 84 0 2 #[27, 37, 43], 27) := by decide +kernel
theorem dX1_cell_44 : decode cX1_cell 44 = .ok (.aload_n 0, 1) := dk_42 (dk_at dksX1_cell_2 0 rfl rfl)
theorem dX1_cell_45 : decode cX1_cell 45 = .ok (.getfield 30, 3) := dk_180 0 30 (dk_at dksX1_cell_2 1 rfl rfl)
theorem dX1_cell_48 : decode cX1_cell 48 = .ok (.getfield 172, 3) := dk_180 0 172 (dk_at dksX1_cell_2 4 rfl rfl)
theorem dX1_cell_51 : decode cX1_cell 51 = .ok (.iload_n 1, 1) := dk_27 (dk_at dksX1_cell_2 7 rfl rfl)
theorem dX1_cell_52 : decode cX1_cell 52 = .ok (.iaload, 1) := dk_46 (dk_at dksX1_cell_2 8 rfl rfl)
theorem dX1_cell_53 : decode cX1_cell 53 = .ok (.ireturn, 1) := dk_172 (dk_at dksX1_cell_2 9 rfl rfl)
theorem dX1_cell_54 : decode cX1_cell 54 = .ok (.aload_n 0, 1) := dk_42 (dk_at dksX1_cell_2 10 rfl rfl)
theorem dX1_cell_55 : decode cX1_cell 55 = .ok (.iload_n 1, 1) := dk_27 (dk_at dksX1_cell_2 11 rfl rfl)
theorem dX1_cell_56 : decode cX1_cell 56 = .ok (.invokevirtual 175, 3) := dk_182 0 175 (dk_at dksX1_cell_2 12 rfl rfl)
theorem dX1_cell_59 : decode cX1_cell 59 = .ok (.ireturn, 1) := dk_172 (dk_at dksX1_cell_2 15 rfl rfl)
theorem dX1_cell_60 : decode cX1_cell 60 = .ok (.iconst 0, 1) := dk_3 (dk_at dksX1_cell_2 16 rfl rfl)
theorem dX1_cell_61 : decode cX1_cell 61 = .ok (.istore 4, 2) := dk_54 4 (dk_at dksX1_cell_2 17 rfl rfl)
theorem dX1_cell_63 : decode cX1_cell 63 = .ok (.iload 4, 2) := dk_21 4 (dk_at dksX1_cell_2 19 rfl rfl)
theorem dX1_cell_65 : decode cX1_cell 65 = .ok (.aload_n 0, 1) := dk_42 (dk_at dksX1_cell_2 21 rfl rfl)
theorem dX1_cell_66 : decode cX1_cell 66 = .ok (.invokevirtual 86, 3) := dk_182 0 86 (dk_at dksX1_cell_3 0 rfl rfl)
theorem dX1_cell_69 : decode cX1_cell 69 = .ok (.if_icmp .ge 30, 3) := dk_162 0 30 (dk_at dksX1_cell_3 3 rfl rfl)
theorem dX1_cell_72 : decode cX1_cell 72 = .ok (.aload_n 0, 1) := dk_42 (dk_at dksX1_cell_3 6 rfl rfl)
theorem dX1_cell_73 : decode cX1_cell 73 = .ok (.getfield 30, 3) := dk_180 0 30 (dk_at dksX1_cell_3 7 rfl rfl)
theorem dX1_cell_76 : decode cX1_cell 76 = .ok (.getfield 178, 3) := dk_180 0 178 (dk_at dksX1_cell_3 10 rfl rfl)
theorem dX1_cell_79 : decode cX1_cell 79 = .ok (.iload 4, 2) := dk_21 4 (dk_at dksX1_cell_3 13 rfl rfl)
theorem dX1_cell_81 : decode cX1_cell 81 = .ok (.iaload, 1) := dk_46 (dk_at dksX1_cell_3 15 rfl rfl)
theorem dX1_cell_82 : decode cX1_cell 82 = .ok (.iload_n 1, 1) := dk_27 (dk_at dksX1_cell_3 16 rfl rfl)
theorem dX1_cell_83 : decode cX1_cell 83 = .ok (.if_icmp .ne 10, 3) := dk_160 0 10 (dk_at dksX1_cell_3 17 rfl rfl)
theorem dX1_cell_86 : decode cX1_cell 86 = .ok (.iload_n 3, 1) := dk_29 (dk_at dksX1_cell_3 20 rfl rfl)
theorem dX1_cell_87 : decode cX1_cell 87 = .ok (.iconst 1, 1) := dk_4 (dk_at dksX1_cell_3 21 rfl rfl)
theorem dX1_cell_88 : decode cX1_cell 88 = .ok (.iload 4, 2) := dk_21 4 (dk_at dksX1_cell_3 22 rfl rfl)
theorem dX1_cell_90 : decode cX1_cell 90 = .ok (.ishl, 1) := dk_120 (dk_at dksX1_cell_4 0 rfl rfl)
theorem dX1_cell_91 : decode cX1_cell 91 = .ok (.ior, 1) := dk_128 (dk_at dksX1_cell_4 1 rfl rfl)
theorem dX1_cell_92 : decode cX1_cell 92 = .ok (.istore_n 3, 1) := dk_62 (dk_at dksX1_cell_4 2 rfl rfl)
theorem dX1_cell_93 : decode cX1_cell 93 = .ok (.iinc 4 1, 3) := dk_132 4 1 (dk_at dksX1_cell_4 3 rfl rfl)
theorem dX1_cell_96 : decode cX1_cell 96 = .ok (.goto (-33), 3) := dk_167 255 223 (dk_at dksX1_cell_4 6 rfl rfl)
theorem dX1_cell_99 : decode cX1_cell 99 = .ok (.iload_n 3, 1) := dk_29 (dk_at dksX1_cell_4 9 rfl rfl)
theorem dX1_cell_100 : decode cX1_cell 100 = .ok (.ireturn, 1) := dk_172 (dk_at dksX1_cell_4 10 rfl rfl)
theorem dX1_cell_101 : decode cX1_cell 101 = .ok (.aload_n 0, 1) := dk_42 (dk_at dksX1_cell_4 11 rfl rfl)
theorem dX1_cell_102 : decode cX1_cell 102 = .ok (.iload_n 1, 1) := dk_27 (dk_at dksX1_cell_4 12 rfl rfl)
theorem dX1_cell_103 : decode cX1_cell 103 = .ok (.iconst 0, 1) := dk_3 (dk_at dksX1_cell_4 13 rfl rfl)
theorem dX1_cell_104 : decode cX1_cell 104 = .ok (.invokevirtual 181, 3) := dk_182 0 181 (dk_at dksX1_cell_4 14 rfl rfl)
theorem dX1_cell_107 : decode cX1_cell 107 = .ok (.ireturn, 1) := dk_172 (dk_at dksX1_cell_4 17 rfl rfl)
abbrev cX1_cellAt : ByteArray := prog_1_method_7_code
def yX1_cellAt : MethodName := ⟨RX1, "cellAt", "(I)V"⟩
def dkwX1_cellAt_0 : List UInt8 := [27, 155, 0, 15, 27, 42, 182, 0, 81, 162, 0, 7, 4, 167, 0, 4, 3, 184, 0, 82, 177]
abbrev dktX1_cellAt_0 : List UInt8 := dkwX1_cellAt_0 ++ []
theorem dksX1_cellAt_0 : cX1_cellAt.data.toList.drop 0 = dktX1_cellAt_0 := by decide +kernel
theorem dX1_cellAt_0 : decode cX1_cellAt 0 = .ok (.iload_n 1, 1) := dk_27 (dk_at dksX1_cellAt_0 0 rfl rfl)
theorem dX1_cellAt_1 : decode cX1_cellAt 1 = .ok (.ifCond .lt 15, 3) := dk_155 0 15 (dk_at dksX1_cellAt_0 1 rfl rfl)
theorem dX1_cellAt_4 : decode cX1_cellAt 4 = .ok (.iload_n 1, 1) := dk_27 (dk_at dksX1_cellAt_0 4 rfl rfl)
theorem dX1_cellAt_5 : decode cX1_cellAt 5 = .ok (.aload_n 0, 1) := dk_42 (dk_at dksX1_cellAt_0 5 rfl rfl)
theorem dX1_cellAt_6 : decode cX1_cellAt 6 = .ok (.invokevirtual 81, 3) := dk_182 0 81 (dk_at dksX1_cellAt_0 6 rfl rfl)
theorem dX1_cellAt_9 : decode cX1_cellAt 9 = .ok (.if_icmp .ge 7, 3) := dk_162 0 7 (dk_at dksX1_cellAt_0 9 rfl rfl)
theorem dX1_cellAt_12 : decode cX1_cellAt 12 = .ok (.iconst 1, 1) := dk_4 (dk_at dksX1_cellAt_0 12 rfl rfl)
theorem dX1_cellAt_13 : decode cX1_cellAt 13 = .ok (.goto 4, 3) := dk_167 0 4 (dk_at dksX1_cellAt_0 13 rfl rfl)
theorem dX1_cellAt_16 : decode cX1_cellAt 16 = .ok (.iconst 0, 1) := dk_3 (dk_at dksX1_cellAt_0 16 rfl rfl)
theorem dX1_cellAt_17 : decode cX1_cellAt 17 = .ok (.invokestatic 82, 3) := dk_184 0 82 (dk_at dksX1_cellAt_0 17 rfl rfl)
theorem dX1_cellAt_20 : decode cX1_cellAt 20 = .ok (.return_, 1) := dk_177 (dk_at dksX1_cellAt_0 20 rfl rfl)
abbrev cX1_besideOf : ByteArray := prog_1_method_14_code
def yX1_besideOf : MethodName := ⟨RX1, "besideOf", "(I)I"⟩
def dkwX1_besideOf_1 : List UInt8 := [160, 0, 9, 28, 4, 29, 120, 128, 61, 132, 3, 1, 167, 255, 226, 28, 172]
abbrev dktX1_besideOf_1 : List UInt8 := dkwX1_besideOf_1 ++ []
def dkwX1_besideOf_0 : List UInt8 := [3, 61, 3, 62, 29, 42, 182, 0, 81, 162, 0, 28, 42, 180, 0, 10, 27, 29, 182, 0, 165, 4]
abbrev dktX1_besideOf_0 : List UInt8 := dkwX1_besideOf_0 ++ dktX1_besideOf_1
theorem dksX1_besideOf_0 : cX1_besideOf.data.toList.drop 0 = dktX1_besideOf_0 := by decide +kernel
theorem dksX1_besideOf_1 : cX1_besideOf.data.toList.drop 22 = dktX1_besideOf_1 := dk_seg dksX1_besideOf_0 22 rfl rfl
theorem dX1_besideOf_0 : decode cX1_besideOf 0 = .ok (.iconst 0, 1) := dk_3 (dk_at dksX1_besideOf_0 0 rfl rfl)
theorem dX1_besideOf_1 : decode cX1_besideOf 1 = .ok (.istore_n 2, 1) := dk_61 (dk_at dksX1_besideOf_0 1 rfl rfl)
theorem dX1_besideOf_2 : decode cX1_besideOf 2 = .ok (.iconst 0, 1) := dk_3 (dk_at dksX1_besideOf_0 2 rfl rfl)
theorem dX1_besideOf_3 : decode cX1_besideOf 3 = .ok (.istore_n 3, 1) := dk_62 (dk_at dksX1_besideOf_0 3 rfl rfl)
theorem dX1_besideOf_4 : decode cX1_besideOf 4 = .ok (.iload_n 3, 1) := dk_29 (dk_at dksX1_besideOf_0 4 rfl rfl)
theorem dX1_besideOf_5 : decode cX1_besideOf 5 = .ok (.aload_n 0, 1) := dk_42 (dk_at dksX1_besideOf_0 5 rfl rfl)
theorem dX1_besideOf_6 : decode cX1_besideOf 6 = .ok (.invokevirtual 81, 3) := dk_182 0 81 (dk_at dksX1_besideOf_0 6 rfl rfl)
theorem dX1_besideOf_9 : decode cX1_besideOf 9 = .ok (.if_icmp .ge 28, 3) := dk_162 0 28 (dk_at dksX1_besideOf_0 9 rfl rfl)
theorem dX1_besideOf_12 : decode cX1_besideOf 12 = .ok (.aload_n 0, 1) := dk_42 (dk_at dksX1_besideOf_0 12 rfl rfl)
theorem dX1_besideOf_13 : decode cX1_besideOf 13 = .ok (.getfield 10, 3) := dk_180 0 10 (dk_at dksX1_besideOf_0 13 rfl rfl)
theorem dX1_besideOf_16 : decode cX1_besideOf 16 = .ok (.iload_n 1, 1) := dk_27 (dk_at dksX1_besideOf_0 16 rfl rfl)
theorem dX1_besideOf_17 : decode cX1_besideOf 17 = .ok (.iload_n 3, 1) := dk_29 (dk_at dksX1_besideOf_0 17 rfl rfl)
theorem dX1_besideOf_18 : decode cX1_besideOf 18 = .ok (.invokevirtual 165, 3) := dk_182 0 165 (dk_at dksX1_besideOf_0 18 rfl rfl)
theorem dX1_besideOf_21 : decode cX1_besideOf 21 = .ok (.iconst 1, 1) := dk_4 (dk_at dksX1_besideOf_0 21 rfl rfl)
theorem dX1_besideOf_22 : decode cX1_besideOf 22 = .ok (.if_icmp .ne 9, 3) := dk_160 0 9 (dk_at dksX1_besideOf_1 0 rfl rfl)
theorem dX1_besideOf_25 : decode cX1_besideOf 25 = .ok (.iload_n 2, 1) := dk_28 (dk_at dksX1_besideOf_1 3 rfl rfl)
theorem dX1_besideOf_26 : decode cX1_besideOf 26 = .ok (.iconst 1, 1) := dk_4 (dk_at dksX1_besideOf_1 4 rfl rfl)
theorem dX1_besideOf_27 : decode cX1_besideOf 27 = .ok (.iload_n 3, 1) := dk_29 (dk_at dksX1_besideOf_1 5 rfl rfl)
theorem dX1_besideOf_28 : decode cX1_besideOf 28 = .ok (.ishl, 1) := dk_120 (dk_at dksX1_besideOf_1 6 rfl rfl)
theorem dX1_besideOf_29 : decode cX1_besideOf 29 = .ok (.ior, 1) := dk_128 (dk_at dksX1_besideOf_1 7 rfl rfl)
theorem dX1_besideOf_30 : decode cX1_besideOf 30 = .ok (.istore_n 2, 1) := dk_61 (dk_at dksX1_besideOf_1 8 rfl rfl)
theorem dX1_besideOf_31 : decode cX1_besideOf 31 = .ok (.iinc 3 1, 3) := dk_132 3 1 (dk_at dksX1_besideOf_1 9 rfl rfl)
theorem dX1_besideOf_34 : decode cX1_besideOf 34 = .ok (.goto (-30), 3) := dk_167 255 226 (dk_at dksX1_besideOf_1 12 rfl rfl)
theorem dX1_besideOf_37 : decode cX1_besideOf 37 = .ok (.iload_n 2, 1) := dk_28 (dk_at dksX1_besideOf_1 15 rfl rfl)
theorem dX1_besideOf_38 : decode cX1_besideOf 38 = .ok (.ireturn, 1) := dk_172 (dk_at dksX1_besideOf_1 16 rfl rfl)
abbrev cX1_patchOf : ByteArray := prog_1_method_32_code
def yX1_patchOf : MethodName := ⟨RX1, "patchOf", "(II)I"⟩
def dkwX1_patchOf_5 : List UInt8 := [132, 4, 1, 167, 255, 146, 29, 172]
abbrev dktX1_patchOf_5 : List UInt8 := dkwX1_patchOf_5 ++ []
def dkwX1_patchOf_4 : List UInt8 := [163, 0, 10, 29, 4, 21, 6, 120, 128, 62, 132, 6, 1, 167, 255, 194, 132, 5, 1, 167, 255, 164]
abbrev dktX1_patchOf_4 : List UInt8 := dkwX1_patchOf_4 ++ dktX1_patchOf_5
def dkwX1_patchOf_3 : List UInt8 := [180, 0, 30, 180, 0, 172, 21, 5, 46, 42, 180, 0, 30, 180, 0, 172, 21, 6, 46, 100, 184, 0, 248, 28]
abbrev dktX1_patchOf_3 : List UInt8 := dkwX1_patchOf_3 ++ dktX1_patchOf_4
def dkwX1_patchOf_2 : List UInt8 := [182, 0, 81, 162, 0, 59, 42, 180, 0, 10, 21, 5, 21, 6, 182, 0, 165, 4, 160, 0, 38, 42]
abbrev dktX1_patchOf_2 : List UInt8 := dkwX1_patchOf_2 ++ dktX1_patchOf_3
def dkwX1_patchOf_1 : List UInt8 := [182, 0, 81, 162, 0, 89, 29, 21, 5, 122, 4, 126, 154, 0, 6, 167, 0, 71, 3, 54, 6, 21, 6, 42]
abbrev dktX1_patchOf_1 : List UInt8 := dkwX1_patchOf_1 ++ dktX1_patchOf_2
def dkwX1_patchOf_0 : List UInt8 := [4, 27, 120, 62, 3, 54, 4, 21, 4, 42, 182, 0, 81, 162, 0, 107, 3, 54, 5, 21, 5, 42]
abbrev dktX1_patchOf_0 : List UInt8 := dkwX1_patchOf_0 ++ dktX1_patchOf_1
theorem dksX1_patchOf_0 : cX1_patchOf.data.toList.drop 0 = dktX1_patchOf_0 := by decide +kernel
theorem dksX1_patchOf_1 : cX1_patchOf.data.toList.drop 22 = dktX1_patchOf_1 := dk_seg dksX1_patchOf_0 22 rfl rfl
theorem dksX1_patchOf_2 : cX1_patchOf.data.toList.drop 46 = dktX1_patchOf_2 := dk_seg dksX1_patchOf_1 24 rfl rfl
theorem dksX1_patchOf_3 : cX1_patchOf.data.toList.drop 68 = dktX1_patchOf_3 := dk_seg dksX1_patchOf_2 22 rfl rfl
theorem dksX1_patchOf_4 : cX1_patchOf.data.toList.drop 92 = dktX1_patchOf_4 := dk_seg dksX1_patchOf_3 24 rfl rfl
theorem dksX1_patchOf_5 : cX1_patchOf.data.toList.drop 114 = dktX1_patchOf_5 := dk_seg dksX1_patchOf_4 22 rfl rfl
theorem dX1_patchOf_0 : decode cX1_patchOf 0 = .ok (.iconst 1, 1) := dk_4 (dk_at dksX1_patchOf_0 0 rfl rfl)
theorem dX1_patchOf_1 : decode cX1_patchOf 1 = .ok (.iload_n 1, 1) := dk_27 (dk_at dksX1_patchOf_0 1 rfl rfl)
theorem dX1_patchOf_2 : decode cX1_patchOf 2 = .ok (.ishl, 1) := dk_120 (dk_at dksX1_patchOf_0 2 rfl rfl)
theorem dX1_patchOf_3 : decode cX1_patchOf 3 = .ok (.istore_n 3, 1) := dk_62 (dk_at dksX1_patchOf_0 3 rfl rfl)
theorem dX1_patchOf_4 : decode cX1_patchOf 4 = .ok (.iconst 0, 1) := dk_3 (dk_at dksX1_patchOf_0 4 rfl rfl)
theorem dX1_patchOf_5 : decode cX1_patchOf 5 = .ok (.istore 4, 2) := dk_54 4 (dk_at dksX1_patchOf_0 5 rfl rfl)
theorem dX1_patchOf_7 : decode cX1_patchOf 7 = .ok (.iload 4, 2) := dk_21 4 (dk_at dksX1_patchOf_0 7 rfl rfl)
theorem dX1_patchOf_9 : decode cX1_patchOf 9 = .ok (.aload_n 0, 1) := dk_42 (dk_at dksX1_patchOf_0 9 rfl rfl)
theorem dX1_patchOf_10 : decode cX1_patchOf 10 = .ok (.invokevirtual 81, 3) := dk_182 0 81 (dk_at dksX1_patchOf_0 10 rfl rfl)
theorem dX1_patchOf_13 : decode cX1_patchOf 13 = .ok (.if_icmp .ge 107, 3) := dk_162 0 107 (dk_at dksX1_patchOf_0 13 rfl rfl)
theorem dX1_patchOf_16 : decode cX1_patchOf 16 = .ok (.iconst 0, 1) := dk_3 (dk_at dksX1_patchOf_0 16 rfl rfl)
theorem dX1_patchOf_17 : decode cX1_patchOf 17 = .ok (.istore 5, 2) := dk_54 5 (dk_at dksX1_patchOf_0 17 rfl rfl)
theorem dX1_patchOf_19 : decode cX1_patchOf 19 = .ok (.iload 5, 2) := dk_21 5 (dk_at dksX1_patchOf_0 19 rfl rfl)
theorem dX1_patchOf_21 : decode cX1_patchOf 21 = .ok (.aload_n 0, 1) := dk_42 (dk_at dksX1_patchOf_0 21 rfl rfl)
theorem dX1_patchOf_22 : decode cX1_patchOf 22 = .ok (.invokevirtual 81, 3) := dk_182 0 81 (dk_at dksX1_patchOf_1 0 rfl rfl)
theorem dX1_patchOf_25 : decode cX1_patchOf 25 = .ok (.if_icmp .ge 89, 3) := dk_162 0 89 (dk_at dksX1_patchOf_1 3 rfl rfl)
theorem dX1_patchOf_28 : decode cX1_patchOf 28 = .ok (.iload_n 3, 1) := dk_29 (dk_at dksX1_patchOf_1 6 rfl rfl)
theorem dX1_patchOf_29 : decode cX1_patchOf 29 = .ok (.iload 5, 2) := dk_21 5 (dk_at dksX1_patchOf_1 7 rfl rfl)
theorem dX1_patchOf_31 : decode cX1_patchOf 31 = .ok (.ishr, 1) := dk_122 (dk_at dksX1_patchOf_1 9 rfl rfl)
theorem dX1_patchOf_32 : decode cX1_patchOf 32 = .ok (.iconst 1, 1) := dk_4 (dk_at dksX1_patchOf_1 10 rfl rfl)
theorem dX1_patchOf_33 : decode cX1_patchOf 33 = .ok (.iand, 1) := dk_126 (dk_at dksX1_patchOf_1 11 rfl rfl)
theorem dX1_patchOf_34 : decode cX1_patchOf 34 = .ok (.ifCond .ne 6, 3) := dk_154 0 6 (dk_at dksX1_patchOf_1 12 rfl rfl)
theorem dX1_patchOf_37 : decode cX1_patchOf 37 = .ok (.goto 71, 3) := dk_167 0 71 (dk_at dksX1_patchOf_1 15 rfl rfl)
theorem dX1_patchOf_40 : decode cX1_patchOf 40 = .ok (.iconst 0, 1) := dk_3 (dk_at dksX1_patchOf_1 18 rfl rfl)
theorem dX1_patchOf_41 : decode cX1_patchOf 41 = .ok (.istore 6, 2) := dk_54 6 (dk_at dksX1_patchOf_1 19 rfl rfl)
theorem dX1_patchOf_43 : decode cX1_patchOf 43 = .ok (.iload 6, 2) := dk_21 6 (dk_at dksX1_patchOf_1 21 rfl rfl)
theorem dX1_patchOf_45 : decode cX1_patchOf 45 = .ok (.aload_n 0, 1) := dk_42 (dk_at dksX1_patchOf_1 23 rfl rfl)
theorem dX1_patchOf_46 : decode cX1_patchOf 46 = .ok (.invokevirtual 81, 3) := dk_182 0 81 (dk_at dksX1_patchOf_2 0 rfl rfl)
theorem dX1_patchOf_49 : decode cX1_patchOf 49 = .ok (.if_icmp .ge 59, 3) := dk_162 0 59 (dk_at dksX1_patchOf_2 3 rfl rfl)
theorem dX1_patchOf_52 : decode cX1_patchOf 52 = .ok (.aload_n 0, 1) := dk_42 (dk_at dksX1_patchOf_2 6 rfl rfl)
theorem dX1_patchOf_53 : decode cX1_patchOf 53 = .ok (.getfield 10, 3) := dk_180 0 10 (dk_at dksX1_patchOf_2 7 rfl rfl)
theorem dX1_patchOf_56 : decode cX1_patchOf 56 = .ok (.iload 5, 2) := dk_21 5 (dk_at dksX1_patchOf_2 10 rfl rfl)
theorem dX1_patchOf_58 : decode cX1_patchOf 58 = .ok (.iload 6, 2) := dk_21 6 (dk_at dksX1_patchOf_2 12 rfl rfl)
theorem dX1_patchOf_60 : decode cX1_patchOf 60 = .ok (.invokevirtual 165, 3) := dk_182 0 165 (dk_at dksX1_patchOf_2 14 rfl rfl)
theorem dX1_patchOf_63 : decode cX1_patchOf 63 = .ok (.iconst 1, 1) := dk_4 (dk_at dksX1_patchOf_2 17 rfl rfl)
theorem dX1_patchOf_64 : decode cX1_patchOf 64 = .ok (.if_icmp .ne 38, 3) := dk_160 0 38 (dk_at dksX1_patchOf_2 18 rfl rfl)
theorem dX1_patchOf_67 : decode cX1_patchOf 67 = .ok (.aload_n 0, 1) := dk_42 (dk_at dksX1_patchOf_2 21 rfl rfl)
theorem dX1_patchOf_68 : decode cX1_patchOf 68 = .ok (.getfield 30, 3) := dk_180 0 30 (dk_at dksX1_patchOf_3 0 rfl rfl)
theorem dX1_patchOf_71 : decode cX1_patchOf 71 = .ok (.getfield 172, 3) := dk_180 0 172 (dk_at dksX1_patchOf_3 3 rfl rfl)
theorem dX1_patchOf_74 : decode cX1_patchOf 74 = .ok (.iload 5, 2) := dk_21 5 (dk_at dksX1_patchOf_3 6 rfl rfl)
theorem dX1_patchOf_76 : decode cX1_patchOf 76 = .ok (.iaload, 1) := dk_46 (dk_at dksX1_patchOf_3 8 rfl rfl)
theorem dX1_patchOf_77 : decode cX1_patchOf 77 = .ok (.aload_n 0, 1) := dk_42 (dk_at dksX1_patchOf_3 9 rfl rfl)
theorem dX1_patchOf_78 : decode cX1_patchOf 78 = .ok (.getfield 30, 3) := dk_180 0 30 (dk_at dksX1_patchOf_3 10 rfl rfl)
theorem dX1_patchOf_81 : decode cX1_patchOf 81 = .ok (.getfield 172, 3) := dk_180 0 172 (dk_at dksX1_patchOf_3 13 rfl rfl)
theorem dX1_patchOf_84 : decode cX1_patchOf 84 = .ok (.iload 6, 2) := dk_21 6 (dk_at dksX1_patchOf_3 16 rfl rfl)
theorem dX1_patchOf_86 : decode cX1_patchOf 86 = .ok (.iaload, 1) := dk_46 (dk_at dksX1_patchOf_3 18 rfl rfl)
theorem dX1_patchOf_87 : decode cX1_patchOf 87 = .ok (.isub, 1) := dk_100 (dk_at dksX1_patchOf_3 19 rfl rfl)
theorem dX1_patchOf_88 : decode cX1_patchOf 88 = .ok (.invokestatic 248, 3) := dk_184 0 248 (dk_at dksX1_patchOf_3 20 rfl rfl)
theorem dX1_patchOf_91 : decode cX1_patchOf 91 = .ok (.iload_n 2, 1) := dk_28 (dk_at dksX1_patchOf_3 23 rfl rfl)
theorem dX1_patchOf_92 : decode cX1_patchOf 92 = .ok (.if_icmp .gt 10, 3) := dk_163 0 10 (dk_at dksX1_patchOf_4 0 rfl rfl)
theorem dX1_patchOf_95 : decode cX1_patchOf 95 = .ok (.iload_n 3, 1) := dk_29 (dk_at dksX1_patchOf_4 3 rfl rfl)
theorem dX1_patchOf_96 : decode cX1_patchOf 96 = .ok (.iconst 1, 1) := dk_4 (dk_at dksX1_patchOf_4 4 rfl rfl)
theorem dX1_patchOf_97 : decode cX1_patchOf 97 = .ok (.iload 6, 2) := dk_21 6 (dk_at dksX1_patchOf_4 5 rfl rfl)
theorem dX1_patchOf_99 : decode cX1_patchOf 99 = .ok (.ishl, 1) := dk_120 (dk_at dksX1_patchOf_4 7 rfl rfl)
theorem dX1_patchOf_100 : decode cX1_patchOf 100 = .ok (.ior, 1) := dk_128 (dk_at dksX1_patchOf_4 8 rfl rfl)
theorem dX1_patchOf_101 : decode cX1_patchOf 101 = .ok (.istore_n 3, 1) := dk_62 (dk_at dksX1_patchOf_4 9 rfl rfl)
theorem dX1_patchOf_102 : decode cX1_patchOf 102 = .ok (.iinc 6 1, 3) := dk_132 6 1 (dk_at dksX1_patchOf_4 10 rfl rfl)
theorem dX1_patchOf_105 : decode cX1_patchOf 105 = .ok (.goto (-62), 3) := dk_167 255 194 (dk_at dksX1_patchOf_4 13 rfl rfl)
theorem dX1_patchOf_108 : decode cX1_patchOf 108 = .ok (.iinc 5 1, 3) := dk_132 5 1 (dk_at dksX1_patchOf_4 16 rfl rfl)
theorem dX1_patchOf_111 : decode cX1_patchOf 111 = .ok (.goto (-92), 3) := dk_167 255 164 (dk_at dksX1_patchOf_4 19 rfl rfl)
theorem dX1_patchOf_114 : decode cX1_patchOf 114 = .ok (.iinc 4 1, 3) := dk_132 4 1 (dk_at dksX1_patchOf_5 0 rfl rfl)
theorem dX1_patchOf_117 : decode cX1_patchOf 117 = .ok (.goto (-110), 3) := dk_167 255 146 (dk_at dksX1_patchOf_5 3 rfl rfl)
theorem dX1_patchOf_120 : decode cX1_patchOf 120 = .ok (.iload_n 3, 1) := dk_29 (dk_at dksX1_patchOf_5 6 rfl rfl)
theorem dX1_patchOf_121 : decode cX1_patchOf 121 = .ok (.ireturn, 1) := dk_172 (dk_at dksX1_patchOf_5 7 rfl rfl)
abbrev cX1_girl : ByteArray := prog_1_method_16_code
def yX1_girl : MethodName := ⟨RX1, "girl", "(II)I"⟩
def dkwX1_girl_3 : List UInt8 := [184, 0, 191, 182, 0, 196, 167, 0, 15, 45, 182, 0, 200, 153, 0, 7, 4, 167, 0, 4, 3, 172]
abbrev dktX1_girl_3 : List UInt8 := dkwX1_girl_3 ++ []
def dkwX1_girl_2 : List UInt8 := [160, 0, 31, 42, 180, 0, 30, 42, 180, 0, 10, 27, 3, 42, 180, 0, 30, 180, 0, 143, 4, 100]
abbrev dktX1_girl_2 : List UInt8 := dkwX1_girl_2 ++ dktX1_girl_3
def dkwX1_girl_1 : List UInt8 := [167, 0, 65, 28, 4, 160, 0, 15, 42, 180, 0, 30, 180, 0, 178, 27, 46, 167, 0, 48, 28, 6]
abbrev dktX1_girl_1 : List UInt8 := dkwX1_girl_1 ++ dktX1_girl_2
def dkwX1_girl_0 : List UInt8 := [42, 27, 182, 0, 184, 78, 28, 3, 6, 184, 0, 133, 184, 0, 82, 28, 154, 0, 10, 45, 180, 0, 188]
abbrev dktX1_girl_0 : List UInt8 := dkwX1_girl_0 ++ dktX1_girl_1
theorem dksX1_girl_0 : cX1_girl.data.toList.drop 0 = dktX1_girl_0 := by decide +kernel
theorem dksX1_girl_1 : cX1_girl.data.toList.drop 23 = dktX1_girl_1 := dk_seg dksX1_girl_0 23 rfl rfl
theorem dksX1_girl_2 : cX1_girl.data.toList.drop 45 = dktX1_girl_2 := dk_seg dksX1_girl_1 22 rfl rfl
theorem dksX1_girl_3 : cX1_girl.data.toList.drop 67 = dktX1_girl_3 := dk_seg dksX1_girl_2 22 rfl rfl
theorem dX1_girl_0 : decode cX1_girl 0 = .ok (.aload_n 0, 1) := dk_42 (dk_at dksX1_girl_0 0 rfl rfl)
theorem dX1_girl_1 : decode cX1_girl 1 = .ok (.iload_n 1, 1) := dk_27 (dk_at dksX1_girl_0 1 rfl rfl)
theorem dX1_girl_2 : decode cX1_girl 2 = .ok (.invokevirtual 184, 3) := dk_182 0 184 (dk_at dksX1_girl_0 2 rfl rfl)
theorem dX1_girl_5 : decode cX1_girl 5 = .ok (.astore_n 3, 1) := dk_78 (dk_at dksX1_girl_0 5 rfl rfl)
theorem dX1_girl_6 : decode cX1_girl 6 = .ok (.iload_n 2, 1) := dk_28 (dk_at dksX1_girl_0 6 rfl rfl)
theorem dX1_girl_7 : decode cX1_girl 7 = .ok (.iconst 0, 1) := dk_3 (dk_at dksX1_girl_0 7 rfl rfl)
theorem dX1_girl_8 : decode cX1_girl 8 = .ok (.iconst 3, 1) := dk_6 (dk_at dksX1_girl_0 8 rfl rfl)
theorem dX1_girl_9 : decode cX1_girl 9 = .ok (.invokestatic 133, 3) := dk_184 0 133 (dk_at dksX1_girl_0 9 rfl rfl)
theorem dX1_girl_12 : decode cX1_girl 12 = .ok (.invokestatic 82, 3) := dk_184 0 82 (dk_at dksX1_girl_0 12 rfl rfl)
theorem dX1_girl_15 : decode cX1_girl 15 = .ok (.iload_n 2, 1) := dk_28 (dk_at dksX1_girl_0 15 rfl rfl)
theorem dX1_girl_16 : decode cX1_girl 16 = .ok (.ifCond .ne 10, 3) := dk_154 0 10 (dk_at dksX1_girl_0 16 rfl rfl)
theorem dX1_girl_19 : decode cX1_girl 19 = .ok (.aload_n 3, 1) := dk_45 (dk_at dksX1_girl_0 19 rfl rfl)
theorem dX1_girl_20 : decode cX1_girl 20 = .ok (.getfield 188, 3) := dk_180 0 188 (dk_at dksX1_girl_0 20 rfl rfl)
theorem dX1_girl_23 : decode cX1_girl 23 = .ok (.goto 65, 3) := dk_167 0 65 (dk_at dksX1_girl_1 0 rfl rfl)
theorem dX1_girl_26 : decode cX1_girl 26 = .ok (.iload_n 2, 1) := dk_28 (dk_at dksX1_girl_1 3 rfl rfl)
theorem dX1_girl_27 : decode cX1_girl 27 = .ok (.iconst 1, 1) := dk_4 (dk_at dksX1_girl_1 4 rfl rfl)
theorem dX1_girl_28 : decode cX1_girl 28 = .ok (.if_icmp .ne 15, 3) := dk_160 0 15 (dk_at dksX1_girl_1 5 rfl rfl)
theorem dX1_girl_31 : decode cX1_girl 31 = .ok (.aload_n 0, 1) := dk_42 (dk_at dksX1_girl_1 8 rfl rfl)
theorem dX1_girl_32 : decode cX1_girl 32 = .ok (.getfield 30, 3) := dk_180 0 30 (dk_at dksX1_girl_1 9 rfl rfl)
theorem dX1_girl_35 : decode cX1_girl 35 = .ok (.getfield 178, 3) := dk_180 0 178 (dk_at dksX1_girl_1 12 rfl rfl)
theorem dX1_girl_38 : decode cX1_girl 38 = .ok (.iload_n 1, 1) := dk_27 (dk_at dksX1_girl_1 15 rfl rfl)
theorem dX1_girl_39 : decode cX1_girl 39 = .ok (.iaload, 1) := dk_46 (dk_at dksX1_girl_1 16 rfl rfl)
theorem dX1_girl_40 : decode cX1_girl 40 = .ok (.goto 48, 3) := dk_167 0 48 (dk_at dksX1_girl_1 17 rfl rfl)
theorem dX1_girl_43 : decode cX1_girl 43 = .ok (.iload_n 2, 1) := dk_28 (dk_at dksX1_girl_1 20 rfl rfl)
theorem dX1_girl_44 : decode cX1_girl 44 = .ok (.iconst 3, 1) := dk_6 (dk_at dksX1_girl_1 21 rfl rfl)
theorem dX1_girl_45 : decode cX1_girl 45 = .ok (.if_icmp .ne 31, 3) := dk_160 0 31 (dk_at dksX1_girl_2 0 rfl rfl)
theorem dX1_girl_48 : decode cX1_girl 48 = .ok (.aload_n 0, 1) := dk_42 (dk_at dksX1_girl_2 3 rfl rfl)
theorem dX1_girl_49 : decode cX1_girl 49 = .ok (.getfield 30, 3) := dk_180 0 30 (dk_at dksX1_girl_2 4 rfl rfl)
theorem dX1_girl_52 : decode cX1_girl 52 = .ok (.aload_n 0, 1) := dk_42 (dk_at dksX1_girl_2 7 rfl rfl)
theorem dX1_girl_53 : decode cX1_girl 53 = .ok (.getfield 10, 3) := dk_180 0 10 (dk_at dksX1_girl_2 8 rfl rfl)
theorem dX1_girl_56 : decode cX1_girl 56 = .ok (.iload_n 1, 1) := dk_27 (dk_at dksX1_girl_2 11 rfl rfl)
theorem dX1_girl_57 : decode cX1_girl 57 = .ok (.iconst 0, 1) := dk_3 (dk_at dksX1_girl_2 12 rfl rfl)
theorem dX1_girl_58 : decode cX1_girl 58 = .ok (.aload_n 0, 1) := dk_42 (dk_at dksX1_girl_2 13 rfl rfl)
theorem dX1_girl_59 : decode cX1_girl 59 = .ok (.getfield 30, 3) := dk_180 0 30 (dk_at dksX1_girl_2 14 rfl rfl)
theorem dX1_girl_62 : decode cX1_girl 62 = .ok (.getfield 143, 3) := dk_180 0 143 (dk_at dksX1_girl_2 17 rfl rfl)
theorem dX1_girl_65 : decode cX1_girl 65 = .ok (.iconst 1, 1) := dk_4 (dk_at dksX1_girl_2 20 rfl rfl)
theorem dX1_girl_66 : decode cX1_girl 66 = .ok (.isub, 1) := dk_100 (dk_at dksX1_girl_2 21 rfl rfl)
theorem dX1_girl_67 : decode cX1_girl 67 = .ok (.invokestatic 191, 3) := dk_184 0 191 (dk_at dksX1_girl_3 0 rfl rfl)
theorem dX1_girl_70 : decode cX1_girl 70 = .ok (.invokevirtual 196, 3) := dk_182 0 196 (dk_at dksX1_girl_3 3 rfl rfl)
theorem dX1_girl_73 : decode cX1_girl 73 = .ok (.goto 15, 3) := dk_167 0 15 (dk_at dksX1_girl_3 6 rfl rfl)
theorem dX1_girl_76 : decode cX1_girl 76 = .ok (.aload_n 3, 1) := dk_45 (dk_at dksX1_girl_3 9 rfl rfl)
theorem dX1_girl_77 : decode cX1_girl 77 = .ok (.invokevirtual 200, 3) := dk_182 0 200 (dk_at dksX1_girl_3 10 rfl rfl)
theorem dX1_girl_80 : decode cX1_girl 80 = .ok (.ifCond .eq 7, 3) := dk_153 0 7 (dk_at dksX1_girl_3 13 rfl rfl)
theorem dX1_girl_83 : decode cX1_girl 83 = .ok (.iconst 1, 1) := dk_4 (dk_at dksX1_girl_3 16 rfl rfl)
theorem dX1_girl_84 : decode cX1_girl 84 = .ok (.goto 4, 3) := dk_167 0 4 (dk_at dksX1_girl_3 17 rfl rfl)
theorem dX1_girl_87 : decode cX1_girl 87 = .ok (.iconst 0, 1) := dk_3 (dk_at dksX1_girl_3 20 rfl rfl)
theorem dX1_girl_88 : decode cX1_girl 88 = .ok (.ireturn, 1) := dk_172 (dk_at dksX1_girl_3 21 rfl rfl)
abbrev cX1_girlAt : ByteArray := prog_1_method_8_code
def yX1_girlAt : MethodName := ⟨RX1, "girlAt", "(I)LBlueBag$Girl;"⟩
def dkwX1_girlAt_1 : List UInt8 := [180, 0, 72, 27, 182, 0, 88, 192, 0, 92, 176]
abbrev dktX1_girlAt_1 : List UInt8 := dkwX1_girlAt_1 ++ []
def dkwX1_girlAt_0 : List UInt8 := [27, 155, 0, 15, 27, 42, 182, 0, 86, 162, 0, 7, 4, 167, 0, 4, 3, 184, 0, 82, 42, 180, 0, 10]
abbrev dktX1_girlAt_0 : List UInt8 := dkwX1_girlAt_0 ++ dktX1_girlAt_1
theorem dksX1_girlAt_0 : cX1_girlAt.data.toList.drop 0 = dktX1_girlAt_0 := by decide +kernel
theorem dksX1_girlAt_1 : cX1_girlAt.data.toList.drop 24 = dktX1_girlAt_1 := dk_seg dksX1_girlAt_0 24 rfl rfl
theorem dX1_girlAt_0 : decode cX1_girlAt 0 = .ok (.iload_n 1, 1) := dk_27 (dk_at dksX1_girlAt_0 0 rfl rfl)
theorem dX1_girlAt_1 : decode cX1_girlAt 1 = .ok (.ifCond .lt 15, 3) := dk_155 0 15 (dk_at dksX1_girlAt_0 1 rfl rfl)
theorem dX1_girlAt_4 : decode cX1_girlAt 4 = .ok (.iload_n 1, 1) := dk_27 (dk_at dksX1_girlAt_0 4 rfl rfl)
theorem dX1_girlAt_5 : decode cX1_girlAt 5 = .ok (.aload_n 0, 1) := dk_42 (dk_at dksX1_girlAt_0 5 rfl rfl)
theorem dX1_girlAt_6 : decode cX1_girlAt 6 = .ok (.invokevirtual 86, 3) := dk_182 0 86 (dk_at dksX1_girlAt_0 6 rfl rfl)
theorem dX1_girlAt_9 : decode cX1_girlAt 9 = .ok (.if_icmp .ge 7, 3) := dk_162 0 7 (dk_at dksX1_girlAt_0 9 rfl rfl)
theorem dX1_girlAt_12 : decode cX1_girlAt 12 = .ok (.iconst 1, 1) := dk_4 (dk_at dksX1_girlAt_0 12 rfl rfl)
theorem dX1_girlAt_13 : decode cX1_girlAt 13 = .ok (.goto 4, 3) := dk_167 0 4 (dk_at dksX1_girlAt_0 13 rfl rfl)
theorem dX1_girlAt_16 : decode cX1_girlAt 16 = .ok (.iconst 0, 1) := dk_3 (dk_at dksX1_girlAt_0 16 rfl rfl)
theorem dX1_girlAt_17 : decode cX1_girlAt 17 = .ok (.invokestatic 82, 3) := dk_184 0 82 (dk_at dksX1_girlAt_0 17 rfl rfl)
theorem dX1_girlAt_20 : decode cX1_girlAt 20 = .ok (.aload_n 0, 1) := dk_42 (dk_at dksX1_girlAt_0 20 rfl rfl)
theorem dX1_girlAt_21 : decode cX1_girlAt 21 = .ok (.getfield 10, 3) := dk_180 0 10 (dk_at dksX1_girlAt_0 21 rfl rfl)
theorem dX1_girlAt_24 : decode cX1_girlAt 24 = .ok (.getfield 72, 3) := dk_180 0 72 (dk_at dksX1_girlAt_1 0 rfl rfl)
theorem dX1_girlAt_27 : decode cX1_girlAt 27 = .ok (.iload_n 1, 1) := dk_27 (dk_at dksX1_girlAt_1 3 rfl rfl)
theorem dX1_girlAt_28 : decode cX1_girlAt 28 = .ok (.invokevirtual 88, 3) := dk_182 0 88 (dk_at dksX1_girlAt_1 4 rfl rfl)
theorem dX1_girlAt_31 : decode cX1_girlAt 31 = .ok (.checkcast 92, 3) := dk_192 0 92 (dk_at dksX1_girlAt_1 7 rfl rfl)
theorem dX1_girlAt_34 : decode cX1_girlAt 34 = .ok (.areturn, 1) := dk_176 (dk_at dksX1_girlAt_1 10 rfl rfl)
abbrev cX1_rest : ByteArray := prog_1_method_20_code
def yX1_rest : MethodName := ⟨RX1, "rest", "(IZ)Z"⟩
def dkwX1_rest_2 : List UInt8 := [172]
abbrev dktX1_rest_2 : List UInt8 := dkwX1_rest_2 ++ []
def dkwX1_rest_1 : List UInt8 := [182, 0, 210, 154, 0, 5, 3, 172, 42, 180, 0, 30, 89, 180, 0, 158, 4, 27, 120, 130, 181, 0, 158, 4]
abbrev dktX1_rest_1 : List UInt8 := dkwX1_rest_1 ++ dktX1_rest_2
def dkwX1_rest_0 : List UInt8 := [42, 27, 182, 0, 184, 87, 42, 42, 180, 0, 30, 27, 182, 0, 217, 28, 159, 0, 7, 4, 167, 0, 4, 3]
abbrev dktX1_rest_0 : List UInt8 := dkwX1_rest_0 ++ dktX1_rest_1
theorem dksX1_rest_0 : cX1_rest.data.toList.drop 0 = dktX1_rest_0 := by decide +kernel
theorem dksX1_rest_1 : cX1_rest.data.toList.drop 24 = dktX1_rest_1 := dk_seg dksX1_rest_0 24 rfl rfl
theorem dksX1_rest_2 : cX1_rest.data.toList.drop 48 = dktX1_rest_2 := dk_seg dksX1_rest_1 24 rfl rfl
theorem dX1_rest_0 : decode cX1_rest 0 = .ok (.aload_n 0, 1) := dk_42 (dk_at dksX1_rest_0 0 rfl rfl)
theorem dX1_rest_1 : decode cX1_rest 1 = .ok (.iload_n 1, 1) := dk_27 (dk_at dksX1_rest_0 1 rfl rfl)
theorem dX1_rest_2 : decode cX1_rest 2 = .ok (.invokevirtual 184, 3) := dk_182 0 184 (dk_at dksX1_rest_0 2 rfl rfl)
theorem dX1_rest_5 : decode cX1_rest 5 = .ok (.pop, 1) := dk_87 (dk_at dksX1_rest_0 5 rfl rfl)
theorem dX1_rest_6 : decode cX1_rest 6 = .ok (.aload_n 0, 1) := dk_42 (dk_at dksX1_rest_0 6 rfl rfl)
theorem dX1_rest_7 : decode cX1_rest 7 = .ok (.aload_n 0, 1) := dk_42 (dk_at dksX1_rest_0 7 rfl rfl)
theorem dX1_rest_8 : decode cX1_rest 8 = .ok (.getfield 30, 3) := dk_180 0 30 (dk_at dksX1_rest_0 8 rfl rfl)
theorem dX1_rest_11 : decode cX1_rest 11 = .ok (.iload_n 1, 1) := dk_27 (dk_at dksX1_rest_0 11 rfl rfl)
theorem dX1_rest_12 : decode cX1_rest 12 = .ok (.invokevirtual 217, 3) := dk_182 0 217 (dk_at dksX1_rest_0 12 rfl rfl)
theorem dX1_rest_15 : decode cX1_rest 15 = .ok (.iload_n 2, 1) := dk_28 (dk_at dksX1_rest_0 15 rfl rfl)
theorem dX1_rest_16 : decode cX1_rest 16 = .ok (.if_icmp .eq 7, 3) := dk_159 0 7 (dk_at dksX1_rest_0 16 rfl rfl)
theorem dX1_rest_19 : decode cX1_rest 19 = .ok (.iconst 1, 1) := dk_4 (dk_at dksX1_rest_0 19 rfl rfl)
theorem dX1_rest_20 : decode cX1_rest 20 = .ok (.goto 4, 3) := dk_167 0 4 (dk_at dksX1_rest_0 20 rfl rfl)
theorem dX1_rest_23 : decode cX1_rest 23 = .ok (.iconst 0, 1) := dk_3 (dk_at dksX1_rest_0 23 rfl rfl)
theorem dX1_rest_24 : decode cX1_rest 24 = .ok (.invokevirtual 210, 3) := dk_182 0 210 (dk_at dksX1_rest_1 0 rfl rfl)
theorem dX1_rest_27 : decode cX1_rest 27 = .ok (.ifCond .ne 5, 3) := dk_154 0 5 (dk_at dksX1_rest_1 3 rfl rfl)
theorem dX1_rest_30 : decode cX1_rest 30 = .ok (.iconst 0, 1) := dk_3 (dk_at dksX1_rest_1 6 rfl rfl)
theorem dX1_rest_31 : decode cX1_rest 31 = .ok (.ireturn, 1) := dk_172 (dk_at dksX1_rest_1 7 rfl rfl)
theorem dX1_rest_32 : decode cX1_rest 32 = .ok (.aload_n 0, 1) := dk_42 (dk_at dksX1_rest_1 8 rfl rfl)
theorem dX1_rest_33 : decode cX1_rest 33 = .ok (.getfield 30, 3) := dk_180 0 30 (dk_at dksX1_rest_1 9 rfl rfl)
theorem dX1_rest_36 : decode cX1_rest 36 = .ok (.dup, 1) := dk_89 (dk_at dksX1_rest_1 12 rfl rfl)
theorem dX1_rest_37 : decode cX1_rest 37 = .ok (.getfield 158, 3) := dk_180 0 158 (dk_at dksX1_rest_1 13 rfl rfl)
theorem dX1_rest_40 : decode cX1_rest 40 = .ok (.iconst 1, 1) := dk_4 (dk_at dksX1_rest_1 16 rfl rfl)
theorem dX1_rest_41 : decode cX1_rest 41 = .ok (.iload_n 1, 1) := dk_27 (dk_at dksX1_rest_1 17 rfl rfl)
theorem dX1_rest_42 : decode cX1_rest 42 = .ok (.ishl, 1) := dk_120 (dk_at dksX1_rest_1 18 rfl rfl)
theorem dX1_rest_43 : decode cX1_rest 43 = .ok (.ixor, 1) := dk_130 (dk_at dksX1_rest_1 19 rfl rfl)
theorem dX1_rest_44 : decode cX1_rest 44 = .ok (.putfield 158, 3) := dk_181 0 158 (dk_at dksX1_rest_1 20 rfl rfl)
theorem dX1_rest_47 : decode cX1_rest 47 = .ok (.iconst 1, 1) := dk_4 (dk_at dksX1_rest_1 23 rfl rfl)
theorem dX1_rest_48 : decode cX1_rest 48 = .ok (.ireturn, 1) := dk_172 (dk_at dksX1_rest_2 0 rfl rfl)
abbrev cX1_go : ByteArray := prog_1_method_21_code
def yX1_go : MethodName := ⟨RX1, "go", "(II)I"⟩
def dkwX1_go_2 : List UInt8 := [28, 79, 29, 172]
abbrev dktX1_go_2 : List UInt8 := dkwX1_go_2 ++ []
def dkwX1_go_1 : List UInt8 := [159, 0, 7, 4, 167, 0, 4, 3, 182, 0, 210, 154, 0, 5, 2, 172, 42, 180, 0, 30, 180, 0, 178, 27]
abbrev dktX1_go_1 : List UInt8 := dkwX1_go_1 ++ dktX1_go_2
def dkwX1_go_0 : List UInt8 := [42, 27, 182, 0, 184, 87, 42, 28, 182, 0, 169, 42, 180, 0, 30, 180, 0, 178, 27, 46, 62, 42, 29, 28]
abbrev dktX1_go_0 : List UInt8 := dkwX1_go_0 ++ dktX1_go_1
theorem dksX1_go_0 : cX1_go.data.toList.drop 0 = dktX1_go_0 := by decide +kernel
theorem dksX1_go_1 : cX1_go.data.toList.drop 24 = dktX1_go_1 := dk_seg dksX1_go_0 24 rfl rfl
theorem dksX1_go_2 : cX1_go.data.toList.drop 48 = dktX1_go_2 := dk_seg dksX1_go_1 24 rfl rfl
theorem dX1_go_0 : decode cX1_go 0 = .ok (.aload_n 0, 1) := dk_42 (dk_at dksX1_go_0 0 rfl rfl)
theorem dX1_go_1 : decode cX1_go 1 = .ok (.iload_n 1, 1) := dk_27 (dk_at dksX1_go_0 1 rfl rfl)
theorem dX1_go_2 : decode cX1_go 2 = .ok (.invokevirtual 184, 3) := dk_182 0 184 (dk_at dksX1_go_0 2 rfl rfl)
theorem dX1_go_5 : decode cX1_go 5 = .ok (.pop, 1) := dk_87 (dk_at dksX1_go_0 5 rfl rfl)
theorem dX1_go_6 : decode cX1_go 6 = .ok (.aload_n 0, 1) := dk_42 (dk_at dksX1_go_0 6 rfl rfl)
theorem dX1_go_7 : decode cX1_go 7 = .ok (.iload_n 2, 1) := dk_28 (dk_at dksX1_go_0 7 rfl rfl)
theorem dX1_go_8 : decode cX1_go 8 = .ok (.invokevirtual 169, 3) := dk_182 0 169 (dk_at dksX1_go_0 8 rfl rfl)
theorem dX1_go_11 : decode cX1_go 11 = .ok (.aload_n 0, 1) := dk_42 (dk_at dksX1_go_0 11 rfl rfl)
theorem dX1_go_12 : decode cX1_go 12 = .ok (.getfield 30, 3) := dk_180 0 30 (dk_at dksX1_go_0 12 rfl rfl)
theorem dX1_go_15 : decode cX1_go 15 = .ok (.getfield 178, 3) := dk_180 0 178 (dk_at dksX1_go_0 15 rfl rfl)
theorem dX1_go_18 : decode cX1_go 18 = .ok (.iload_n 1, 1) := dk_27 (dk_at dksX1_go_0 18 rfl rfl)
theorem dX1_go_19 : decode cX1_go 19 = .ok (.iaload, 1) := dk_46 (dk_at dksX1_go_0 19 rfl rfl)
theorem dX1_go_20 : decode cX1_go 20 = .ok (.istore_n 3, 1) := dk_62 (dk_at dksX1_go_0 20 rfl rfl)
theorem dX1_go_21 : decode cX1_go 21 = .ok (.aload_n 0, 1) := dk_42 (dk_at dksX1_go_0 21 rfl rfl)
theorem dX1_go_22 : decode cX1_go 22 = .ok (.iload_n 3, 1) := dk_29 (dk_at dksX1_go_0 22 rfl rfl)
theorem dX1_go_23 : decode cX1_go 23 = .ok (.iload_n 2, 1) := dk_28 (dk_at dksX1_go_0 23 rfl rfl)
theorem dX1_go_24 : decode cX1_go 24 = .ok (.if_icmp .eq 7, 3) := dk_159 0 7 (dk_at dksX1_go_1 0 rfl rfl)
theorem dX1_go_27 : decode cX1_go 27 = .ok (.iconst 1, 1) := dk_4 (dk_at dksX1_go_1 3 rfl rfl)
theorem dX1_go_28 : decode cX1_go 28 = .ok (.goto 4, 3) := dk_167 0 4 (dk_at dksX1_go_1 4 rfl rfl)
theorem dX1_go_31 : decode cX1_go 31 = .ok (.iconst 0, 1) := dk_3 (dk_at dksX1_go_1 7 rfl rfl)
theorem dX1_go_32 : decode cX1_go 32 = .ok (.invokevirtual 210, 3) := dk_182 0 210 (dk_at dksX1_go_1 8 rfl rfl)
theorem dX1_go_35 : decode cX1_go 35 = .ok (.ifCond .ne 5, 3) := dk_154 0 5 (dk_at dksX1_go_1 11 rfl rfl)
theorem dX1_go_38 : decode cX1_go 38 = .ok (.iconst (-1), 1) := dk_2 (dk_at dksX1_go_1 14 rfl rfl)
theorem dX1_go_39 : decode cX1_go 39 = .ok (.ireturn, 1) := dk_172 (dk_at dksX1_go_1 15 rfl rfl)
theorem dX1_go_40 : decode cX1_go 40 = .ok (.aload_n 0, 1) := dk_42 (dk_at dksX1_go_1 16 rfl rfl)
theorem dX1_go_41 : decode cX1_go 41 = .ok (.getfield 30, 3) := dk_180 0 30 (dk_at dksX1_go_1 17 rfl rfl)
theorem dX1_go_44 : decode cX1_go 44 = .ok (.getfield 178, 3) := dk_180 0 178 (dk_at dksX1_go_1 20 rfl rfl)
theorem dX1_go_47 : decode cX1_go 47 = .ok (.iload_n 1, 1) := dk_27 (dk_at dksX1_go_1 23 rfl rfl)
theorem dX1_go_48 : decode cX1_go 48 = .ok (.iload_n 2, 1) := dk_28 (dk_at dksX1_go_2 0 rfl rfl)
theorem dX1_go_49 : decode cX1_go 49 = .ok (.iastore, 1) := dk_79 (dk_at dksX1_go_2 1 rfl rfl)
theorem dX1_go_50 : decode cX1_go 50 = .ok (.iload_n 3, 1) := dk_29 (dk_at dksX1_go_2 2 rfl rfl)
theorem dX1_go_51 : decode cX1_go 51 = .ok (.ireturn, 1) := dk_172 (dk_at dksX1_go_2 3 rfl rfl)
abbrev cX1_peg : ByteArray := prog_1_method_23_code
def yX1_peg : MethodName := ⟨RX1, "peg", "(IZ)I"⟩
def dkwX1_peg_2 : List UInt8 := [180, 0, 155, 4, 27, 120, 130, 181, 0, 155, 42, 180, 0, 30, 180, 0, 172, 27, 3, 79, 29, 172]
abbrev dktX1_peg_2 : List UInt8 := dkwX1_peg_2 ++ []
def dkwX1_peg_1 : List UInt8 := [182, 0, 210, 154, 0, 5, 2, 172, 42, 180, 0, 30, 180, 0, 172, 27, 46, 62, 42, 180, 0, 30, 89]
abbrev dktX1_peg_1 : List UInt8 := dkwX1_peg_1 ++ dktX1_peg_2
def dkwX1_peg_0 : List UInt8 := [42, 27, 182, 0, 169, 42, 42, 180, 0, 30, 27, 182, 0, 224, 28, 159, 0, 7, 4, 167, 0, 4, 3]
abbrev dktX1_peg_0 : List UInt8 := dkwX1_peg_0 ++ dktX1_peg_1
theorem dksX1_peg_0 : cX1_peg.data.toList.drop 0 = dktX1_peg_0 := by decide +kernel
theorem dksX1_peg_1 : cX1_peg.data.toList.drop 23 = dktX1_peg_1 := dk_seg dksX1_peg_0 23 rfl rfl
theorem dksX1_peg_2 : cX1_peg.data.toList.drop 46 = dktX1_peg_2 := dk_seg dksX1_peg_1 23 rfl rfl
theorem dX1_peg_0 : decode cX1_peg 0 = .ok (.aload_n 0, 1) := dk_42 (dk_at dksX1_peg_0 0 rfl rfl)
theorem dX1_peg_1 : decode cX1_peg 1 = .ok (.iload_n 1, 1) := dk_27 (dk_at dksX1_peg_0 1 rfl rfl)
theorem dX1_peg_2 : decode cX1_peg 2 = .ok (.invokevirtual 169, 3) := dk_182 0 169 (dk_at dksX1_peg_0 2 rfl rfl)
theorem dX1_peg_5 : decode cX1_peg 5 = .ok (.aload_n 0, 1) := dk_42 (dk_at dksX1_peg_0 5 rfl rfl)
theorem dX1_peg_6 : decode cX1_peg 6 = .ok (.aload_n 0, 1) := dk_42 (dk_at dksX1_peg_0 6 rfl rfl)
theorem dX1_peg_7 : decode cX1_peg 7 = .ok (.getfield 30, 3) := dk_180 0 30 (dk_at dksX1_peg_0 7 rfl rfl)
theorem dX1_peg_10 : decode cX1_peg 10 = .ok (.iload_n 1, 1) := dk_27 (dk_at dksX1_peg_0 10 rfl rfl)
theorem dX1_peg_11 : decode cX1_peg 11 = .ok (.invokevirtual 224, 3) := dk_182 0 224 (dk_at dksX1_peg_0 11 rfl rfl)
theorem dX1_peg_14 : decode cX1_peg 14 = .ok (.iload_n 2, 1) := dk_28 (dk_at dksX1_peg_0 14 rfl rfl)
theorem dX1_peg_15 : decode cX1_peg 15 = .ok (.if_icmp .eq 7, 3) := dk_159 0 7 (dk_at dksX1_peg_0 15 rfl rfl)
theorem dX1_peg_18 : decode cX1_peg 18 = .ok (.iconst 1, 1) := dk_4 (dk_at dksX1_peg_0 18 rfl rfl)
theorem dX1_peg_19 : decode cX1_peg 19 = .ok (.goto 4, 3) := dk_167 0 4 (dk_at dksX1_peg_0 19 rfl rfl)
theorem dX1_peg_22 : decode cX1_peg 22 = .ok (.iconst 0, 1) := dk_3 (dk_at dksX1_peg_0 22 rfl rfl)
theorem dX1_peg_23 : decode cX1_peg 23 = .ok (.invokevirtual 210, 3) := dk_182 0 210 (dk_at dksX1_peg_1 0 rfl rfl)
theorem dX1_peg_26 : decode cX1_peg 26 = .ok (.ifCond .ne 5, 3) := dk_154 0 5 (dk_at dksX1_peg_1 3 rfl rfl)
theorem dX1_peg_29 : decode cX1_peg 29 = .ok (.iconst (-1), 1) := dk_2 (dk_at dksX1_peg_1 6 rfl rfl)
theorem dX1_peg_30 : decode cX1_peg 30 = .ok (.ireturn, 1) := dk_172 (dk_at dksX1_peg_1 7 rfl rfl)
theorem dX1_peg_31 : decode cX1_peg 31 = .ok (.aload_n 0, 1) := dk_42 (dk_at dksX1_peg_1 8 rfl rfl)
theorem dX1_peg_32 : decode cX1_peg 32 = .ok (.getfield 30, 3) := dk_180 0 30 (dk_at dksX1_peg_1 9 rfl rfl)
theorem dX1_peg_35 : decode cX1_peg 35 = .ok (.getfield 172, 3) := dk_180 0 172 (dk_at dksX1_peg_1 12 rfl rfl)
theorem dX1_peg_38 : decode cX1_peg 38 = .ok (.iload_n 1, 1) := dk_27 (dk_at dksX1_peg_1 15 rfl rfl)
theorem dX1_peg_39 : decode cX1_peg 39 = .ok (.iaload, 1) := dk_46 (dk_at dksX1_peg_1 16 rfl rfl)
theorem dX1_peg_40 : decode cX1_peg 40 = .ok (.istore_n 3, 1) := dk_62 (dk_at dksX1_peg_1 17 rfl rfl)
theorem dX1_peg_41 : decode cX1_peg 41 = .ok (.aload_n 0, 1) := dk_42 (dk_at dksX1_peg_1 18 rfl rfl)
theorem dX1_peg_42 : decode cX1_peg 42 = .ok (.getfield 30, 3) := dk_180 0 30 (dk_at dksX1_peg_1 19 rfl rfl)
theorem dX1_peg_45 : decode cX1_peg 45 = .ok (.dup, 1) := dk_89 (dk_at dksX1_peg_1 22 rfl rfl)
theorem dX1_peg_46 : decode cX1_peg 46 = .ok (.getfield 155, 3) := dk_180 0 155 (dk_at dksX1_peg_2 0 rfl rfl)
theorem dX1_peg_49 : decode cX1_peg 49 = .ok (.iconst 1, 1) := dk_4 (dk_at dksX1_peg_2 3 rfl rfl)
theorem dX1_peg_50 : decode cX1_peg 50 = .ok (.iload_n 1, 1) := dk_27 (dk_at dksX1_peg_2 4 rfl rfl)
theorem dX1_peg_51 : decode cX1_peg 51 = .ok (.ishl, 1) := dk_120 (dk_at dksX1_peg_2 5 rfl rfl)
theorem dX1_peg_52 : decode cX1_peg 52 = .ok (.ixor, 1) := dk_130 (dk_at dksX1_peg_2 6 rfl rfl)
theorem dX1_peg_53 : decode cX1_peg 53 = .ok (.putfield 155, 3) := dk_181 0 155 (dk_at dksX1_peg_2 7 rfl rfl)
theorem dX1_peg_56 : decode cX1_peg 56 = .ok (.aload_n 0, 1) := dk_42 (dk_at dksX1_peg_2 10 rfl rfl)
theorem dX1_peg_57 : decode cX1_peg 57 = .ok (.getfield 30, 3) := dk_180 0 30 (dk_at dksX1_peg_2 11 rfl rfl)
theorem dX1_peg_60 : decode cX1_peg 60 = .ok (.getfield 172, 3) := dk_180 0 172 (dk_at dksX1_peg_2 14 rfl rfl)
theorem dX1_peg_63 : decode cX1_peg 63 = .ok (.iload_n 1, 1) := dk_27 (dk_at dksX1_peg_2 17 rfl rfl)
theorem dX1_peg_64 : decode cX1_peg 64 = .ok (.iconst 0, 1) := dk_3 (dk_at dksX1_peg_2 18 rfl rfl)
theorem dX1_peg_65 : decode cX1_peg 65 = .ok (.iastore, 1) := dk_79 (dk_at dksX1_peg_2 19 rfl rfl)
theorem dX1_peg_66 : decode cX1_peg 66 = .ok (.iload_n 3, 1) := dk_29 (dk_at dksX1_peg_2 20 rfl rfl)
theorem dX1_peg_67 : decode cX1_peg 67 = .ok (.ireturn, 1) := dk_172 (dk_at dksX1_peg_2 21 rfl rfl)
abbrev cX1_then : ByteArray := prog_1_method_26_code
def yX1_then : MethodName := ⟨RX1, "then", "(II)I"⟩
def dkwX1_then_1 : List UInt8 := [180, 0, 172, 27, 46, 172]
abbrev dktX1_then_1 : List UInt8 := dkwX1_then_1 ++ []
def dkwX1_then_0 : List UInt8 := [42, 27, 182, 0, 169, 28, 3, 16, 40, 184, 0, 133, 184, 0, 101, 42, 28, 182, 0, 234, 42, 180, 0, 34]
abbrev dktX1_then_0 : List UInt8 := dkwX1_then_0 ++ dktX1_then_1
theorem dksX1_then_0 : cX1_then.data.toList.drop 0 = dktX1_then_0 := by decide +kernel
theorem dksX1_then_1 : cX1_then.data.toList.drop 24 = dktX1_then_1 := dk_seg dksX1_then_0 24 rfl rfl
theorem dX1_then_0 : decode cX1_then 0 = .ok (.aload_n 0, 1) := dk_42 (dk_at dksX1_then_0 0 rfl rfl)
theorem dX1_then_1 : decode cX1_then 1 = .ok (.iload_n 1, 1) := dk_27 (dk_at dksX1_then_0 1 rfl rfl)
theorem dX1_then_2 : decode cX1_then 2 = .ok (.invokevirtual 169, 3) := dk_182 0 169 (dk_at dksX1_then_0 2 rfl rfl)
theorem dX1_then_5 : decode cX1_then 5 = .ok (.iload_n 2, 1) := dk_28 (dk_at dksX1_then_0 5 rfl rfl)
theorem dX1_then_6 : decode cX1_then 6 = .ok (.iconst 0, 1) := dk_3 (dk_at dksX1_then_0 6 rfl rfl)
theorem dX1_then_7 : decode cX1_then 7 = .ok (.bipush 40, 2) := dk_16 40 (dk_at dksX1_then_0 7 rfl rfl)
theorem dX1_then_9 : decode cX1_then 9 = .ok (.invokestatic 133, 3) := dk_184 0 133 (dk_at dksX1_then_0 9 rfl rfl)
theorem dX1_then_12 : decode cX1_then 12 = .ok (.invokestatic 101, 3) := dk_184 0 101 (dk_at dksX1_then_0 12 rfl rfl)
theorem dX1_then_15 : decode cX1_then 15 = .ok (.aload_n 0, 1) := dk_42 (dk_at dksX1_then_0 15 rfl rfl)
theorem dX1_then_16 : decode cX1_then 16 = .ok (.iload_n 2, 1) := dk_28 (dk_at dksX1_then_0 16 rfl rfl)
theorem dX1_then_17 : decode cX1_then 17 = .ok (.invokevirtual 234, 3) := dk_182 0 234 (dk_at dksX1_then_0 17 rfl rfl)
theorem dX1_then_20 : decode cX1_then 20 = .ok (.aload_n 0, 1) := dk_42 (dk_at dksX1_then_0 20 rfl rfl)
theorem dX1_then_21 : decode cX1_then 21 = .ok (.getfield 34, 3) := dk_180 0 34 (dk_at dksX1_then_0 21 rfl rfl)
theorem dX1_then_24 : decode cX1_then 24 = .ok (.getfield 172, 3) := dk_180 0 172 (dk_at dksX1_then_1 0 rfl rfl)
theorem dX1_then_27 : decode cX1_then 27 = .ok (.iload_n 1, 1) := dk_27 (dk_at dksX1_then_1 3 rfl rfl)
theorem dX1_then_28 : decode cX1_then 28 = .ok (.iaload, 1) := dk_46 (dk_at dksX1_then_1 4 rfl rfl)
theorem dX1_then_29 : decode cX1_then 29 = .ok (.ireturn, 1) := dk_172 (dk_at dksX1_then_1 5 rfl rfl)
abbrev cX1_sky : ByteArray := prog_1_method_27_code
def yX1_sky : MethodName := ⟨RX1, "sky", "(II)I"⟩
def dkwX1_sky_4 : List UInt8 := [172]
abbrev dktX1_sky_4 : List UInt8 := dkwX1_sky_4 ++ []
def dkwX1_sky_3 : List UInt8 := [167, 0, 24, 42, 180, 0, 34, 42, 180, 0, 10, 28, 6, 160, 0, 7, 4, 167, 0, 4, 3, 182, 0, 241]
abbrev dktX1_sky_3 : List UInt8 := dkwX1_sky_3 ++ dktX1_sky_4
def dkwX1_sky_2 : List UInt8 := [180, 0, 152, 167, 0, 43, 28, 5, 160, 0, 17, 42, 180, 0, 34, 42, 180, 0, 10, 182, 0, 237]
abbrev dktX1_sky_2 : List UInt8 := dkwX1_sky_2 ++ dktX1_sky_3
def dkwX1_sky_1 : List UInt8 := [28, 154, 0, 13, 42, 180, 0, 34, 180, 0, 143, 167, 0, 58, 28, 4, 160, 0, 13, 42, 180, 0, 34]
abbrev dktX1_sky_1 : List UInt8 := dkwX1_sky_1 ++ dktX1_sky_2
def dkwX1_sky_0 : List UInt8 := [28, 3, 7, 184, 0, 133, 184, 0, 82, 27, 3, 16, 40, 184, 0, 133, 184, 0, 101, 42, 27, 182, 0, 234]
abbrev dktX1_sky_0 : List UInt8 := dkwX1_sky_0 ++ dktX1_sky_1
theorem dksX1_sky_0 : cX1_sky.data.toList.drop 0 = dktX1_sky_0 := by decide +kernel
theorem dksX1_sky_1 : cX1_sky.data.toList.drop 24 = dktX1_sky_1 := dk_seg dksX1_sky_0 24 rfl rfl
theorem dksX1_sky_2 : cX1_sky.data.toList.drop 47 = dktX1_sky_2 := dk_seg dksX1_sky_1 23 rfl rfl
theorem dksX1_sky_3 : cX1_sky.data.toList.drop 69 = dktX1_sky_3 := dk_seg dksX1_sky_2 22 rfl rfl
theorem dksX1_sky_4 : cX1_sky.data.toList.drop 93 = dktX1_sky_4 := dk_seg dksX1_sky_3 24 rfl rfl
theorem dX1_sky_0 : decode cX1_sky 0 = .ok (.iload_n 2, 1) := dk_28 (dk_at dksX1_sky_0 0 rfl rfl)
theorem dX1_sky_1 : decode cX1_sky 1 = .ok (.iconst 0, 1) := dk_3 (dk_at dksX1_sky_0 1 rfl rfl)
theorem dX1_sky_2 : decode cX1_sky 2 = .ok (.iconst 4, 1) := dk_7 (dk_at dksX1_sky_0 2 rfl rfl)
theorem dX1_sky_3 : decode cX1_sky 3 = .ok (.invokestatic 133, 3) := dk_184 0 133 (dk_at dksX1_sky_0 3 rfl rfl)
theorem dX1_sky_6 : decode cX1_sky 6 = .ok (.invokestatic 82, 3) := dk_184 0 82 (dk_at dksX1_sky_0 6 rfl rfl)
theorem dX1_sky_9 : decode cX1_sky 9 = .ok (.iload_n 1, 1) := dk_27 (dk_at dksX1_sky_0 9 rfl rfl)
theorem dX1_sky_10 : decode cX1_sky 10 = .ok (.iconst 0, 1) := dk_3 (dk_at dksX1_sky_0 10 rfl rfl)
theorem dX1_sky_11 : decode cX1_sky 11 = .ok (.bipush 40, 2) := dk_16 40 (dk_at dksX1_sky_0 11 rfl rfl)
theorem dX1_sky_13 : decode cX1_sky 13 = .ok (.invokestatic 133, 3) := dk_184 0 133 (dk_at dksX1_sky_0 13 rfl rfl)
theorem dX1_sky_16 : decode cX1_sky 16 = .ok (.invokestatic 101, 3) := dk_184 0 101 (dk_at dksX1_sky_0 16 rfl rfl)
theorem dX1_sky_19 : decode cX1_sky 19 = .ok (.aload_n 0, 1) := dk_42 (dk_at dksX1_sky_0 19 rfl rfl)
theorem dX1_sky_20 : decode cX1_sky 20 = .ok (.iload_n 1, 1) := dk_27 (dk_at dksX1_sky_0 20 rfl rfl)
theorem dX1_sky_21 : decode cX1_sky 21 = .ok (.invokevirtual 234, 3) := dk_182 0 234 (dk_at dksX1_sky_0 21 rfl rfl)
theorem dX1_sky_24 : decode cX1_sky 24 = .ok (.iload_n 2, 1) := dk_28 (dk_at dksX1_sky_1 0 rfl rfl)
theorem dX1_sky_25 : decode cX1_sky 25 = .ok (.ifCond .ne 13, 3) := dk_154 0 13 (dk_at dksX1_sky_1 1 rfl rfl)
theorem dX1_sky_28 : decode cX1_sky 28 = .ok (.aload_n 0, 1) := dk_42 (dk_at dksX1_sky_1 4 rfl rfl)
theorem dX1_sky_29 : decode cX1_sky 29 = .ok (.getfield 34, 3) := dk_180 0 34 (dk_at dksX1_sky_1 5 rfl rfl)
theorem dX1_sky_32 : decode cX1_sky 32 = .ok (.getfield 143, 3) := dk_180 0 143 (dk_at dksX1_sky_1 8 rfl rfl)
theorem dX1_sky_35 : decode cX1_sky 35 = .ok (.goto 58, 3) := dk_167 0 58 (dk_at dksX1_sky_1 11 rfl rfl)
theorem dX1_sky_38 : decode cX1_sky 38 = .ok (.iload_n 2, 1) := dk_28 (dk_at dksX1_sky_1 14 rfl rfl)
theorem dX1_sky_39 : decode cX1_sky 39 = .ok (.iconst 1, 1) := dk_4 (dk_at dksX1_sky_1 15 rfl rfl)
theorem dX1_sky_40 : decode cX1_sky 40 = .ok (.if_icmp .ne 13, 3) := dk_160 0 13 (dk_at dksX1_sky_1 16 rfl rfl)
theorem dX1_sky_43 : decode cX1_sky 43 = .ok (.aload_n 0, 1) := dk_42 (dk_at dksX1_sky_1 19 rfl rfl)
theorem dX1_sky_44 : decode cX1_sky 44 = .ok (.getfield 34, 3) := dk_180 0 34 (dk_at dksX1_sky_1 20 rfl rfl)
theorem dX1_sky_47 : decode cX1_sky 47 = .ok (.getfield 152, 3) := dk_180 0 152 (dk_at dksX1_sky_2 0 rfl rfl)
theorem dX1_sky_50 : decode cX1_sky 50 = .ok (.goto 43, 3) := dk_167 0 43 (dk_at dksX1_sky_2 3 rfl rfl)
theorem dX1_sky_53 : decode cX1_sky 53 = .ok (.iload_n 2, 1) := dk_28 (dk_at dksX1_sky_2 6 rfl rfl)
theorem dX1_sky_54 : decode cX1_sky 54 = .ok (.iconst 2, 1) := dk_5 (dk_at dksX1_sky_2 7 rfl rfl)
theorem dX1_sky_55 : decode cX1_sky 55 = .ok (.if_icmp .ne 17, 3) := dk_160 0 17 (dk_at dksX1_sky_2 8 rfl rfl)
theorem dX1_sky_58 : decode cX1_sky 58 = .ok (.aload_n 0, 1) := dk_42 (dk_at dksX1_sky_2 11 rfl rfl)
theorem dX1_sky_59 : decode cX1_sky 59 = .ok (.getfield 34, 3) := dk_180 0 34 (dk_at dksX1_sky_2 12 rfl rfl)
theorem dX1_sky_62 : decode cX1_sky 62 = .ok (.aload_n 0, 1) := dk_42 (dk_at dksX1_sky_2 15 rfl rfl)
theorem dX1_sky_63 : decode cX1_sky 63 = .ok (.getfield 10, 3) := dk_180 0 10 (dk_at dksX1_sky_2 16 rfl rfl)
theorem dX1_sky_66 : decode cX1_sky 66 = .ok (.invokevirtual 237, 3) := dk_182 0 237 (dk_at dksX1_sky_2 19 rfl rfl)
theorem dX1_sky_69 : decode cX1_sky 69 = .ok (.goto 24, 3) := dk_167 0 24 (dk_at dksX1_sky_3 0 rfl rfl)
theorem dX1_sky_72 : decode cX1_sky 72 = .ok (.aload_n 0, 1) := dk_42 (dk_at dksX1_sky_3 3 rfl rfl)
theorem dX1_sky_73 : decode cX1_sky 73 = .ok (.getfield 34, 3) := dk_180 0 34 (dk_at dksX1_sky_3 4 rfl rfl)
theorem dX1_sky_76 : decode cX1_sky 76 = .ok (.aload_n 0, 1) := dk_42 (dk_at dksX1_sky_3 7 rfl rfl)
theorem dX1_sky_77 : decode cX1_sky 77 = .ok (.getfield 10, 3) := dk_180 0 10 (dk_at dksX1_sky_3 8 rfl rfl)
theorem dX1_sky_80 : decode cX1_sky 80 = .ok (.iload_n 2, 1) := dk_28 (dk_at dksX1_sky_3 11 rfl rfl)
theorem dX1_sky_81 : decode cX1_sky 81 = .ok (.iconst 3, 1) := dk_6 (dk_at dksX1_sky_3 12 rfl rfl)
theorem dX1_sky_82 : decode cX1_sky 82 = .ok (.if_icmp .ne 7, 3) := dk_160 0 7 (dk_at dksX1_sky_3 13 rfl rfl)
theorem dX1_sky_85 : decode cX1_sky 85 = .ok (.iconst 1, 1) := dk_4 (dk_at dksX1_sky_3 16 rfl rfl)
theorem dX1_sky_86 : decode cX1_sky 86 = .ok (.goto 4, 3) := dk_167 0 4 (dk_at dksX1_sky_3 17 rfl rfl)
theorem dX1_sky_89 : decode cX1_sky 89 = .ok (.iconst 0, 1) := dk_3 (dk_at dksX1_sky_3 20 rfl rfl)
theorem dX1_sky_90 : decode cX1_sky 90 = .ok (.invokevirtual 241, 3) := dk_182 0 241 (dk_at dksX1_sky_3 21 rfl rfl)
theorem dX1_sky_93 : decode cX1_sky 93 = .ok (.ireturn, 1) := dk_172 (dk_at dksX1_sky_4 0 rfl rfl)
abbrev cX1_overdone : ByteArray := prog_1_method_28_code
def yX1_overdone : MethodName := ⟨RX1, "overdone", "(I)I"⟩
def dkwX1_overdone_0 : List UInt8 := [27, 4, 16, 40, 184, 0, 133, 184, 0, 101, 42, 27, 182, 0, 234, 42, 180, 0, 34, 180, 0, 245, 172]
abbrev dktX1_overdone_0 : List UInt8 := dkwX1_overdone_0 ++ []
theorem dksX1_overdone_0 : cX1_overdone.data.toList.drop 0 = dktX1_overdone_0 := by decide +kernel
theorem dX1_overdone_0 : decode cX1_overdone 0 = .ok (.iload_n 1, 1) := dk_27 (dk_at dksX1_overdone_0 0 rfl rfl)
theorem dX1_overdone_1 : decode cX1_overdone 1 = .ok (.iconst 1, 1) := dk_4 (dk_at dksX1_overdone_0 1 rfl rfl)
theorem dX1_overdone_2 : decode cX1_overdone 2 = .ok (.bipush 40, 2) := dk_16 40 (dk_at dksX1_overdone_0 2 rfl rfl)
theorem dX1_overdone_4 : decode cX1_overdone 4 = .ok (.invokestatic 133, 3) := dk_184 0 133 (dk_at dksX1_overdone_0 4 rfl rfl)
theorem dX1_overdone_7 : decode cX1_overdone 7 = .ok (.invokestatic 101, 3) := dk_184 0 101 (dk_at dksX1_overdone_0 7 rfl rfl)
theorem dX1_overdone_10 : decode cX1_overdone 10 = .ok (.aload_n 0, 1) := dk_42 (dk_at dksX1_overdone_0 10 rfl rfl)
theorem dX1_overdone_11 : decode cX1_overdone 11 = .ok (.iload_n 1, 1) := dk_27 (dk_at dksX1_overdone_0 11 rfl rfl)
theorem dX1_overdone_12 : decode cX1_overdone 12 = .ok (.invokevirtual 234, 3) := dk_182 0 234 (dk_at dksX1_overdone_0 12 rfl rfl)
theorem dX1_overdone_15 : decode cX1_overdone 15 = .ok (.aload_n 0, 1) := dk_42 (dk_at dksX1_overdone_0 15 rfl rfl)
theorem dX1_overdone_16 : decode cX1_overdone 16 = .ok (.getfield 34, 3) := dk_180 0 34 (dk_at dksX1_overdone_0 16 rfl rfl)
theorem dX1_overdone_19 : decode cX1_overdone 19 = .ok (.getfield 245, 3) := dk_180 0 245 (dk_at dksX1_overdone_0 19 rfl rfl)
theorem dX1_overdone_22 : decode cX1_overdone 22 = .ok (.ireturn, 1) := dk_172 (dk_at dksX1_overdone_0 22 rfl rfl)
abbrev cX1_first : ByteArray := prog_1_method_29_code
def yX1_first : MethodName := ⟨RX1, "first", "(I)I"⟩
def dkwX1_first_2 : List UInt8 := [132, 2, 1, 167, 255, 219, 2, 172]
abbrev dktX1_first_2 : List UInt8 := dkwX1_first_2 ++ []
def dkwX1_first_1 : List UInt8 := [180, 0, 10, 182, 0, 214, 42, 180, 0, 34, 180, 0, 245, 27, 122, 4, 126, 4, 160, 0, 5, 28, 172]
abbrev dktX1_first_1 : List UInt8 := dkwX1_first_1 ++ dktX1_first_2
def dkwX1_first_0 : List UInt8 := [42, 27, 182, 0, 169, 42, 3, 182, 0, 234, 4, 61, 28, 16, 40, 163, 0, 37, 42, 180, 0, 34, 42]
abbrev dktX1_first_0 : List UInt8 := dkwX1_first_0 ++ dktX1_first_1
theorem dksX1_first_0 : cX1_first.data.toList.drop 0 = dktX1_first_0 := by decide +kernel
theorem dksX1_first_1 : cX1_first.data.toList.drop 23 = dktX1_first_1 := dk_seg dksX1_first_0 23 rfl rfl
theorem dksX1_first_2 : cX1_first.data.toList.drop 46 = dktX1_first_2 := dk_seg dksX1_first_1 23 rfl rfl
theorem dX1_first_0 : decode cX1_first 0 = .ok (.aload_n 0, 1) := dk_42 (dk_at dksX1_first_0 0 rfl rfl)
theorem dX1_first_1 : decode cX1_first 1 = .ok (.iload_n 1, 1) := dk_27 (dk_at dksX1_first_0 1 rfl rfl)
theorem dX1_first_2 : decode cX1_first 2 = .ok (.invokevirtual 169, 3) := dk_182 0 169 (dk_at dksX1_first_0 2 rfl rfl)
theorem dX1_first_5 : decode cX1_first 5 = .ok (.aload_n 0, 1) := dk_42 (dk_at dksX1_first_0 5 rfl rfl)
theorem dX1_first_6 : decode cX1_first 6 = .ok (.iconst 0, 1) := dk_3 (dk_at dksX1_first_0 6 rfl rfl)
theorem dX1_first_7 : decode cX1_first 7 = .ok (.invokevirtual 234, 3) := dk_182 0 234 (dk_at dksX1_first_0 7 rfl rfl)
theorem dX1_first_10 : decode cX1_first 10 = .ok (.iconst 1, 1) := dk_4 (dk_at dksX1_first_0 10 rfl rfl)
theorem dX1_first_11 : decode cX1_first 11 = .ok (.istore_n 2, 1) := dk_61 (dk_at dksX1_first_0 11 rfl rfl)
theorem dX1_first_12 : decode cX1_first 12 = .ok (.iload_n 2, 1) := dk_28 (dk_at dksX1_first_0 12 rfl rfl)
theorem dX1_first_13 : decode cX1_first 13 = .ok (.bipush 40, 2) := dk_16 40 (dk_at dksX1_first_0 13 rfl rfl)
theorem dX1_first_15 : decode cX1_first 15 = .ok (.if_icmp .gt 37, 3) := dk_163 0 37 (dk_at dksX1_first_0 15 rfl rfl)
theorem dX1_first_18 : decode cX1_first 18 = .ok (.aload_n 0, 1) := dk_42 (dk_at dksX1_first_0 18 rfl rfl)
theorem dX1_first_19 : decode cX1_first 19 = .ok (.getfield 34, 3) := dk_180 0 34 (dk_at dksX1_first_0 19 rfl rfl)
theorem dX1_first_22 : decode cX1_first 22 = .ok (.aload_n 0, 1) := dk_42 (dk_at dksX1_first_0 22 rfl rfl)
theorem dX1_first_23 : decode cX1_first 23 = .ok (.getfield 10, 3) := dk_180 0 10 (dk_at dksX1_first_1 0 rfl rfl)
theorem dX1_first_26 : decode cX1_first 26 = .ok (.invokevirtual 214, 3) := dk_182 0 214 (dk_at dksX1_first_1 3 rfl rfl)
theorem dX1_first_29 : decode cX1_first 29 = .ok (.aload_n 0, 1) := dk_42 (dk_at dksX1_first_1 6 rfl rfl)
theorem dX1_first_30 : decode cX1_first 30 = .ok (.getfield 34, 3) := dk_180 0 34 (dk_at dksX1_first_1 7 rfl rfl)
theorem dX1_first_33 : decode cX1_first 33 = .ok (.getfield 245, 3) := dk_180 0 245 (dk_at dksX1_first_1 10 rfl rfl)
theorem dX1_first_36 : decode cX1_first 36 = .ok (.iload_n 1, 1) := dk_27 (dk_at dksX1_first_1 13 rfl rfl)
theorem dX1_first_37 : decode cX1_first 37 = .ok (.ishr, 1) := dk_122 (dk_at dksX1_first_1 14 rfl rfl)
theorem dX1_first_38 : decode cX1_first 38 = .ok (.iconst 1, 1) := dk_4 (dk_at dksX1_first_1 15 rfl rfl)
theorem dX1_first_39 : decode cX1_first 39 = .ok (.iand, 1) := dk_126 (dk_at dksX1_first_1 16 rfl rfl)
theorem dX1_first_40 : decode cX1_first 40 = .ok (.iconst 1, 1) := dk_4 (dk_at dksX1_first_1 17 rfl rfl)
theorem dX1_first_41 : decode cX1_first 41 = .ok (.if_icmp .ne 5, 3) := dk_160 0 5 (dk_at dksX1_first_1 18 rfl rfl)
theorem dX1_first_44 : decode cX1_first 44 = .ok (.iload_n 2, 1) := dk_28 (dk_at dksX1_first_1 21 rfl rfl)
theorem dX1_first_45 : decode cX1_first 45 = .ok (.ireturn, 1) := dk_172 (dk_at dksX1_first_1 22 rfl rfl)
theorem dX1_first_46 : decode cX1_first 46 = .ok (.iinc 2 1, 3) := dk_132 2 1 (dk_at dksX1_first_2 0 rfl rfl)
theorem dX1_first_49 : decode cX1_first 49 = .ok (.goto (-37), 3) := dk_167 255 219 (dk_at dksX1_first_2 3 rfl rfl)
theorem dX1_first_52 : decode cX1_first 52 = .ok (.iconst (-1), 1) := dk_2 (dk_at dksX1_first_2 6 rfl rfl)
theorem dX1_first_53 : decode cX1_first 53 = .ok (.ireturn, 1) := dk_172 (dk_at dksX1_first_2 7 rfl rfl)
abbrev cX1_streak : ByteArray := prog_1_method_31_code
def yX1_streak : MethodName := ⟨RX1, "streak", "(I)I"⟩
def dkwX1_streak_4 : List UInt8 := [4, 96, 62, 132, 5, 1, 167, 255, 176, 27, 154, 0, 7, 28, 167, 0, 4, 29, 172]
abbrev dktX1_streak_4 : List UInt8 := dkwX1_streak_4 ++ []
def dkwX1_streak_3 : List UInt8 := [96, 167, 0, 4, 4, 54, 4, 21, 4, 28, 163, 0, 6, 167, 0, 14, 21, 4, 61, 21, 5, 21, 4, 100]
abbrev dktX1_streak_3 : List UInt8 := dkwX1_streak_3 ++ dktX1_streak_4
def dkwX1_streak_2 : List UInt8 := [180, 0, 172, 21, 5, 46, 42, 180, 0, 30, 180, 0, 172, 21, 5, 4, 100, 46, 160, 0, 10, 21, 4, 4]
abbrev dktX1_streak_2 : List UInt8 := dkwX1_streak_2 ++ dktX1_streak_3
def dkwX1_streak_1 : List UInt8 := [182, 0, 81, 162, 0, 77, 21, 5, 42, 180, 0, 10, 180, 0, 137, 112, 158, 0, 35, 42, 180, 0, 30]
abbrev dktX1_streak_1 : List UInt8 := dkwX1_streak_1 ++ dktX1_streak_2
def dkwX1_streak_0 : List UInt8 := [27, 3, 4, 184, 0, 133, 184, 0, 82, 3, 61, 3, 62, 3, 54, 4, 3, 54, 5, 21, 5, 42]
abbrev dktX1_streak_0 : List UInt8 := dkwX1_streak_0 ++ dktX1_streak_1
theorem dksX1_streak_0 : cX1_streak.data.toList.drop 0 = dktX1_streak_0 := by decide +kernel
theorem dksX1_streak_1 : cX1_streak.data.toList.drop 22 = dktX1_streak_1 := dk_seg dksX1_streak_0 22 rfl rfl
theorem dksX1_streak_2 : cX1_streak.data.toList.drop 45 = dktX1_streak_2 := dk_seg dksX1_streak_1 23 rfl rfl
theorem dksX1_streak_3 : cX1_streak.data.toList.drop 69 = dktX1_streak_3 := dk_seg dksX1_streak_2 24 rfl rfl
theorem dksX1_streak_4 : cX1_streak.data.toList.drop 93 = dktX1_streak_4 := dk_seg dksX1_streak_3 24 rfl rfl
theorem dX1_streak_0 : decode cX1_streak 0 = .ok (.iload_n 1, 1) := dk_27 (dk_at dksX1_streak_0 0 rfl rfl)
theorem dX1_streak_1 : decode cX1_streak 1 = .ok (.iconst 0, 1) := dk_3 (dk_at dksX1_streak_0 1 rfl rfl)
theorem dX1_streak_2 : decode cX1_streak 2 = .ok (.iconst 1, 1) := dk_4 (dk_at dksX1_streak_0 2 rfl rfl)
theorem dX1_streak_3 : decode cX1_streak 3 = .ok (.invokestatic 133, 3) := dk_184 0 133 (dk_at dksX1_streak_0 3 rfl rfl)
theorem dX1_streak_6 : decode cX1_streak 6 = .ok (.invokestatic 82, 3) := dk_184 0 82 (dk_at dksX1_streak_0 6 rfl rfl)
theorem dX1_streak_9 : decode cX1_streak 9 = .ok (.iconst 0, 1) := dk_3 (dk_at dksX1_streak_0 9 rfl rfl)
theorem dX1_streak_10 : decode cX1_streak 10 = .ok (.istore_n 2, 1) := dk_61 (dk_at dksX1_streak_0 10 rfl rfl)
theorem dX1_streak_11 : decode cX1_streak 11 = .ok (.iconst 0, 1) := dk_3 (dk_at dksX1_streak_0 11 rfl rfl)
theorem dX1_streak_12 : decode cX1_streak 12 = .ok (.istore_n 3, 1) := dk_62 (dk_at dksX1_streak_0 12 rfl rfl)
theorem dX1_streak_13 : decode cX1_streak 13 = .ok (.iconst 0, 1) := dk_3 (dk_at dksX1_streak_0 13 rfl rfl)
theorem dX1_streak_14 : decode cX1_streak 14 = .ok (.istore 4, 2) := dk_54 4 (dk_at dksX1_streak_0 14 rfl rfl)
theorem dX1_streak_16 : decode cX1_streak 16 = .ok (.iconst 0, 1) := dk_3 (dk_at dksX1_streak_0 16 rfl rfl)
theorem dX1_streak_17 : decode cX1_streak 17 = .ok (.istore 5, 2) := dk_54 5 (dk_at dksX1_streak_0 17 rfl rfl)
theorem dX1_streak_19 : decode cX1_streak 19 = .ok (.iload 5, 2) := dk_21 5 (dk_at dksX1_streak_0 19 rfl rfl)
theorem dX1_streak_21 : decode cX1_streak 21 = .ok (.aload_n 0, 1) := dk_42 (dk_at dksX1_streak_0 21 rfl rfl)
theorem dX1_streak_22 : decode cX1_streak 22 = .ok (.invokevirtual 81, 3) := dk_182 0 81 (dk_at dksX1_streak_1 0 rfl rfl)
theorem dX1_streak_25 : decode cX1_streak 25 = .ok (.if_icmp .ge 77, 3) := dk_162 0 77 (dk_at dksX1_streak_1 3 rfl rfl)
theorem dX1_streak_28 : decode cX1_streak 28 = .ok (.iload 5, 2) := dk_21 5 (dk_at dksX1_streak_1 6 rfl rfl)
theorem dX1_streak_30 : decode cX1_streak 30 = .ok (.aload_n 0, 1) := dk_42 (dk_at dksX1_streak_1 8 rfl rfl)
theorem dX1_streak_31 : decode cX1_streak 31 = .ok (.getfield 10, 3) := dk_180 0 10 (dk_at dksX1_streak_1 9 rfl rfl)
theorem dX1_streak_34 : decode cX1_streak 34 = .ok (.getfield 137, 3) := dk_180 0 137 (dk_at dksX1_streak_1 12 rfl rfl)
theorem dX1_streak_37 : decode cX1_streak 37 = .ok (.irem, 1) := dk_112 (dk_at dksX1_streak_1 15 rfl rfl)
theorem dX1_streak_38 : decode cX1_streak 38 = .ok (.ifCond .le 35, 3) := dk_158 0 35 (dk_at dksX1_streak_1 16 rfl rfl)
theorem dX1_streak_41 : decode cX1_streak 41 = .ok (.aload_n 0, 1) := dk_42 (dk_at dksX1_streak_1 19 rfl rfl)
theorem dX1_streak_42 : decode cX1_streak 42 = .ok (.getfield 30, 3) := dk_180 0 30 (dk_at dksX1_streak_1 20 rfl rfl)
theorem dX1_streak_45 : decode cX1_streak 45 = .ok (.getfield 172, 3) := dk_180 0 172 (dk_at dksX1_streak_2 0 rfl rfl)
theorem dX1_streak_48 : decode cX1_streak 48 = .ok (.iload 5, 2) := dk_21 5 (dk_at dksX1_streak_2 3 rfl rfl)
theorem dX1_streak_50 : decode cX1_streak 50 = .ok (.iaload, 1) := dk_46 (dk_at dksX1_streak_2 5 rfl rfl)
theorem dX1_streak_51 : decode cX1_streak 51 = .ok (.aload_n 0, 1) := dk_42 (dk_at dksX1_streak_2 6 rfl rfl)
theorem dX1_streak_52 : decode cX1_streak 52 = .ok (.getfield 30, 3) := dk_180 0 30 (dk_at dksX1_streak_2 7 rfl rfl)
theorem dX1_streak_55 : decode cX1_streak 55 = .ok (.getfield 172, 3) := dk_180 0 172 (dk_at dksX1_streak_2 10 rfl rfl)
theorem dX1_streak_58 : decode cX1_streak 58 = .ok (.iload 5, 2) := dk_21 5 (dk_at dksX1_streak_2 13 rfl rfl)
theorem dX1_streak_60 : decode cX1_streak 60 = .ok (.iconst 1, 1) := dk_4 (dk_at dksX1_streak_2 15 rfl rfl)
theorem dX1_streak_61 : decode cX1_streak 61 = .ok (.isub, 1) := dk_100 (dk_at dksX1_streak_2 16 rfl rfl)
theorem dX1_streak_62 : decode cX1_streak 62 = .ok (.iaload, 1) := dk_46 (dk_at dksX1_streak_2 17 rfl rfl)
theorem dX1_streak_63 : decode cX1_streak 63 = .ok (.if_icmp .ne 10, 3) := dk_160 0 10 (dk_at dksX1_streak_2 18 rfl rfl)
theorem dX1_streak_66 : decode cX1_streak 66 = .ok (.iload 4, 2) := dk_21 4 (dk_at dksX1_streak_2 21 rfl rfl)
theorem dX1_streak_68 : decode cX1_streak 68 = .ok (.iconst 1, 1) := dk_4 (dk_at dksX1_streak_2 23 rfl rfl)
theorem dX1_streak_69 : decode cX1_streak 69 = .ok (.iadd, 1) := dk_96 (dk_at dksX1_streak_3 0 rfl rfl)
theorem dX1_streak_70 : decode cX1_streak 70 = .ok (.goto 4, 3) := dk_167 0 4 (dk_at dksX1_streak_3 1 rfl rfl)
theorem dX1_streak_73 : decode cX1_streak 73 = .ok (.iconst 1, 1) := dk_4 (dk_at dksX1_streak_3 4 rfl rfl)
theorem dX1_streak_74 : decode cX1_streak 74 = .ok (.istore 4, 2) := dk_54 4 (dk_at dksX1_streak_3 5 rfl rfl)
theorem dX1_streak_76 : decode cX1_streak 76 = .ok (.iload 4, 2) := dk_21 4 (dk_at dksX1_streak_3 7 rfl rfl)
theorem dX1_streak_78 : decode cX1_streak 78 = .ok (.iload_n 2, 1) := dk_28 (dk_at dksX1_streak_3 9 rfl rfl)
theorem dX1_streak_79 : decode cX1_streak 79 = .ok (.if_icmp .gt 6, 3) := dk_163 0 6 (dk_at dksX1_streak_3 10 rfl rfl)
theorem dX1_streak_82 : decode cX1_streak 82 = .ok (.goto 14, 3) := dk_167 0 14 (dk_at dksX1_streak_3 13 rfl rfl)
theorem dX1_streak_85 : decode cX1_streak 85 = .ok (.iload 4, 2) := dk_21 4 (dk_at dksX1_streak_3 16 rfl rfl)
theorem dX1_streak_87 : decode cX1_streak 87 = .ok (.istore_n 2, 1) := dk_61 (dk_at dksX1_streak_3 18 rfl rfl)
theorem dX1_streak_88 : decode cX1_streak 88 = .ok (.iload 5, 2) := dk_21 5 (dk_at dksX1_streak_3 19 rfl rfl)
theorem dX1_streak_90 : decode cX1_streak 90 = .ok (.iload 4, 2) := dk_21 4 (dk_at dksX1_streak_3 21 rfl rfl)
theorem dX1_streak_92 : decode cX1_streak 92 = .ok (.isub, 1) := dk_100 (dk_at dksX1_streak_3 23 rfl rfl)
theorem dX1_streak_93 : decode cX1_streak 93 = .ok (.iconst 1, 1) := dk_4 (dk_at dksX1_streak_4 0 rfl rfl)
theorem dX1_streak_94 : decode cX1_streak 94 = .ok (.iadd, 1) := dk_96 (dk_at dksX1_streak_4 1 rfl rfl)
theorem dX1_streak_95 : decode cX1_streak 95 = .ok (.istore_n 3, 1) := dk_62 (dk_at dksX1_streak_4 2 rfl rfl)
theorem dX1_streak_96 : decode cX1_streak 96 = .ok (.iinc 5 1, 3) := dk_132 5 1 (dk_at dksX1_streak_4 3 rfl rfl)
theorem dX1_streak_99 : decode cX1_streak 99 = .ok (.goto (-80), 3) := dk_167 255 176 (dk_at dksX1_streak_4 6 rfl rfl)
theorem dX1_streak_102 : decode cX1_streak 102 = .ok (.iload_n 1, 1) := dk_27 (dk_at dksX1_streak_4 9 rfl rfl)
theorem dX1_streak_103 : decode cX1_streak 103 = .ok (.ifCond .ne 7, 3) := dk_154 0 7 (dk_at dksX1_streak_4 10 rfl rfl)
theorem dX1_streak_106 : decode cX1_streak 106 = .ok (.iload_n 2, 1) := dk_28 (dk_at dksX1_streak_4 13 rfl rfl)
theorem dX1_streak_107 : decode cX1_streak 107 = .ok (.goto 4, 3) := dk_167 0 4 (dk_at dksX1_streak_4 14 rfl rfl)
theorem dX1_streak_110 : decode cX1_streak 110 = .ok (.iload_n 3, 1) := dk_29 (dk_at dksX1_streak_4 17 rfl rfl)
theorem dX1_streak_111 : decode cX1_streak 111 = .ok (.ireturn, 1) := dk_172 (dk_at dksX1_streak_4 18 rfl rfl)
abbrev cX1_patch : ByteArray := prog_1_method_33_code
def yX1_patch : MethodName := ⟨RX1, "patch", "(II)I"⟩
def dkwX1_patch_0 : List UInt8 := [42, 27, 182, 0, 169, 28, 3, 16, 99, 184, 0, 133, 184, 0, 101, 42, 27, 28, 182, 0, 181, 172]
abbrev dktX1_patch_0 : List UInt8 := dkwX1_patch_0 ++ []
theorem dksX1_patch_0 : cX1_patch.data.toList.drop 0 = dktX1_patch_0 := by decide +kernel
theorem dX1_patch_0 : decode cX1_patch 0 = .ok (.aload_n 0, 1) := dk_42 (dk_at dksX1_patch_0 0 rfl rfl)
theorem dX1_patch_1 : decode cX1_patch 1 = .ok (.iload_n 1, 1) := dk_27 (dk_at dksX1_patch_0 1 rfl rfl)
theorem dX1_patch_2 : decode cX1_patch 2 = .ok (.invokevirtual 169, 3) := dk_182 0 169 (dk_at dksX1_patch_0 2 rfl rfl)
theorem dX1_patch_5 : decode cX1_patch 5 = .ok (.iload_n 2, 1) := dk_28 (dk_at dksX1_patch_0 5 rfl rfl)
theorem dX1_patch_6 : decode cX1_patch 6 = .ok (.iconst 0, 1) := dk_3 (dk_at dksX1_patch_0 6 rfl rfl)
theorem dX1_patch_7 : decode cX1_patch 7 = .ok (.bipush 99, 2) := dk_16 99 (dk_at dksX1_patch_0 7 rfl rfl)
theorem dX1_patch_9 : decode cX1_patch 9 = .ok (.invokestatic 133, 3) := dk_184 0 133 (dk_at dksX1_patch_0 9 rfl rfl)
theorem dX1_patch_12 : decode cX1_patch 12 = .ok (.invokestatic 101, 3) := dk_184 0 101 (dk_at dksX1_patch_0 12 rfl rfl)
theorem dX1_patch_15 : decode cX1_patch 15 = .ok (.aload_n 0, 1) := dk_42 (dk_at dksX1_patch_0 15 rfl rfl)
theorem dX1_patch_16 : decode cX1_patch 16 = .ok (.iload_n 1, 1) := dk_27 (dk_at dksX1_patch_0 16 rfl rfl)
theorem dX1_patch_17 : decode cX1_patch 17 = .ok (.iload_n 2, 1) := dk_28 (dk_at dksX1_patch_0 17 rfl rfl)
theorem dX1_patch_18 : decode cX1_patch 18 = .ok (.invokevirtual 181, 3) := dk_182 0 181 (dk_at dksX1_patch_0 18 rfl rfl)
theorem dX1_patch_21 : decode cX1_patch 21 = .ok (.ireturn, 1) := dk_172 (dk_at dksX1_patch_0 21 rfl rfl)
abbrev cX1_patches : ByteArray := prog_1_method_34_code
def yX1_patches : MethodName := ⟨RX1, "patches", "(I)I"⟩
def dkwX1_patches_2 : List UInt8 := [172]
abbrev dktX1_patches_2 : List UInt8 := dkwX1_patches_2 ++ []
def dkwX1_patches_1 : List UInt8 := [153, 0, 23, 29, 42, 29, 184, 0, 251, 27, 182, 0, 181, 2, 130, 126, 62, 132, 2, 1, 167, 255, 235, 28]
abbrev dktX1_patches_1 : List UInt8 := dkwX1_patches_1 ++ dktX1_patches_2
def dkwX1_patches_0 : List UInt8 := [27, 3, 16, 99, 184, 0, 133, 184, 0, 101, 3, 61, 4, 42, 182, 0, 81, 120, 4, 100, 62, 29]
abbrev dktX1_patches_0 : List UInt8 := dkwX1_patches_0 ++ dktX1_patches_1
theorem dksX1_patches_0 : cX1_patches.data.toList.drop 0 = dktX1_patches_0 := by decide +kernel
theorem dksX1_patches_1 : cX1_patches.data.toList.drop 22 = dktX1_patches_1 := dk_seg dksX1_patches_0 22 rfl rfl
theorem dksX1_patches_2 : cX1_patches.data.toList.drop 46 = dktX1_patches_2 := dk_seg dksX1_patches_1 24 rfl rfl
theorem dX1_patches_0 : decode cX1_patches 0 = .ok (.iload_n 1, 1) := dk_27 (dk_at dksX1_patches_0 0 rfl rfl)
theorem dX1_patches_1 : decode cX1_patches 1 = .ok (.iconst 0, 1) := dk_3 (dk_at dksX1_patches_0 1 rfl rfl)
theorem dX1_patches_2 : decode cX1_patches 2 = .ok (.bipush 99, 2) := dk_16 99 (dk_at dksX1_patches_0 2 rfl rfl)
theorem dX1_patches_4 : decode cX1_patches 4 = .ok (.invokestatic 133, 3) := dk_184 0 133 (dk_at dksX1_patches_0 4 rfl rfl)
theorem dX1_patches_7 : decode cX1_patches 7 = .ok (.invokestatic 101, 3) := dk_184 0 101 (dk_at dksX1_patches_0 7 rfl rfl)
theorem dX1_patches_10 : decode cX1_patches 10 = .ok (.iconst 0, 1) := dk_3 (dk_at dksX1_patches_0 10 rfl rfl)
theorem dX1_patches_11 : decode cX1_patches 11 = .ok (.istore_n 2, 1) := dk_61 (dk_at dksX1_patches_0 11 rfl rfl)
theorem dX1_patches_12 : decode cX1_patches 12 = .ok (.iconst 1, 1) := dk_4 (dk_at dksX1_patches_0 12 rfl rfl)
theorem dX1_patches_13 : decode cX1_patches 13 = .ok (.aload_n 0, 1) := dk_42 (dk_at dksX1_patches_0 13 rfl rfl)
theorem dX1_patches_14 : decode cX1_patches 14 = .ok (.invokevirtual 81, 3) := dk_182 0 81 (dk_at dksX1_patches_0 14 rfl rfl)
theorem dX1_patches_17 : decode cX1_patches 17 = .ok (.ishl, 1) := dk_120 (dk_at dksX1_patches_0 17 rfl rfl)
theorem dX1_patches_18 : decode cX1_patches 18 = .ok (.iconst 1, 1) := dk_4 (dk_at dksX1_patches_0 18 rfl rfl)
theorem dX1_patches_19 : decode cX1_patches 19 = .ok (.isub, 1) := dk_100 (dk_at dksX1_patches_0 19 rfl rfl)
theorem dX1_patches_20 : decode cX1_patches 20 = .ok (.istore_n 3, 1) := dk_62 (dk_at dksX1_patches_0 20 rfl rfl)
theorem dX1_patches_21 : decode cX1_patches 21 = .ok (.iload_n 3, 1) := dk_29 (dk_at dksX1_patches_0 21 rfl rfl)
theorem dX1_patches_22 : decode cX1_patches 22 = .ok (.ifCond .eq 23, 3) := dk_153 0 23 (dk_at dksX1_patches_1 0 rfl rfl)
theorem dX1_patches_25 : decode cX1_patches 25 = .ok (.iload_n 3, 1) := dk_29 (dk_at dksX1_patches_1 3 rfl rfl)
theorem dX1_patches_26 : decode cX1_patches 26 = .ok (.aload_n 0, 1) := dk_42 (dk_at dksX1_patches_1 4 rfl rfl)
theorem dX1_patches_27 : decode cX1_patches 27 = .ok (.iload_n 3, 1) := dk_29 (dk_at dksX1_patches_1 5 rfl rfl)
theorem dX1_patches_28 : decode cX1_patches 28 = .ok (.invokestatic 251, 3) := dk_184 0 251 (dk_at dksX1_patches_1 6 rfl rfl)
theorem dX1_patches_31 : decode cX1_patches 31 = .ok (.iload_n 1, 1) := dk_27 (dk_at dksX1_patches_1 9 rfl rfl)
theorem dX1_patches_32 : decode cX1_patches 32 = .ok (.invokevirtual 181, 3) := dk_182 0 181 (dk_at dksX1_patches_1 10 rfl rfl)
theorem dX1_patches_35 : decode cX1_patches 35 = .ok (.iconst (-1), 1) := dk_2 (dk_at dksX1_patches_1 13 rfl rfl)
theorem dX1_patches_36 : decode cX1_patches 36 = .ok (.ixor, 1) := dk_130 (dk_at dksX1_patches_1 14 rfl rfl)
theorem dX1_patches_37 : decode cX1_patches 37 = .ok (.iand, 1) := dk_126 (dk_at dksX1_patches_1 15 rfl rfl)
theorem dX1_patches_38 : decode cX1_patches 38 = .ok (.istore_n 3, 1) := dk_62 (dk_at dksX1_patches_1 16 rfl rfl)
theorem dX1_patches_39 : decode cX1_patches 39 = .ok (.iinc 2 1, 3) := dk_132 2 1 (dk_at dksX1_patches_1 17 rfl rfl)
theorem dX1_patches_42 : decode cX1_patches 42 = .ok (.goto (-21), 3) := dk_167 255 235 (dk_at dksX1_patches_1 20 rfl rfl)
theorem dX1_patches_45 : decode cX1_patches 45 = .ok (.iload_n 2, 1) := dk_28 (dk_at dksX1_patches_1 23 rfl rfl)
theorem dX1_patches_46 : decode cX1_patches 46 = .ok (.ireturn, 1) := dk_172 (dk_at dksX1_patches_2 0 rfl rfl)
abbrev cX1_way : ByteArray := prog_1_method_35_code
def yX1_way : MethodName := ⟨RX1, "way", "(II)I"⟩
def dkwX1_way_4 : List UInt8 := [180, 0, 30, 180, 0, 155, 2, 130, 126, 62, 132, 4, 1, 167, 255, 177, 2, 172]
abbrev dktX1_way_4 : List UInt8 := dkwX1_way_4 ++ []
def dkwX1_way_3 : List UInt8 := [160, 0, 14, 21, 5, 42, 21, 6, 182, 0, 175, 128, 54, 5, 132, 6, 1, 167, 255, 223, 21, 5, 42]
abbrev dktX1_way_3 : List UInt8 := dkwX1_way_3 ++ dktX1_way_4
def dkwX1_way_2 : List UInt8 := [29, 54, 5, 3, 54, 6, 21, 6, 42, 182, 0, 81, 162, 0, 30, 29, 21, 6, 122, 4, 126, 4]
abbrev dktX1_way_2 : List UInt8 := dkwX1_way_2 ++ dktX1_way_3
def dkwX1_way_1 : List UInt8 := [3, 54, 4, 21, 4, 42, 182, 0, 81, 162, 0, 76, 29, 28, 122, 4, 126, 4, 160, 0, 6, 21, 4, 172]
abbrev dktX1_way_1 : List UInt8 := dkwX1_way_1 ++ dktX1_way_2
def dkwX1_way_0 : List UInt8 := [42, 27, 182, 0, 169, 42, 28, 182, 0, 169, 4, 27, 120, 42, 180, 0, 30, 180, 0, 155, 2, 130, 126, 62]
abbrev dktX1_way_0 : List UInt8 := dkwX1_way_0 ++ dktX1_way_1
theorem dksX1_way_0 : cX1_way.data.toList.drop 0 = dktX1_way_0 := by decide +kernel
theorem dksX1_way_1 : cX1_way.data.toList.drop 24 = dktX1_way_1 := dk_seg dksX1_way_0 24 rfl rfl
theorem dksX1_way_2 : cX1_way.data.toList.drop 48 = dktX1_way_2 := dk_seg dksX1_way_1 24 rfl rfl
theorem dksX1_way_3 : cX1_way.data.toList.drop 70 = dktX1_way_3 := dk_seg dksX1_way_2 22 rfl rfl
theorem dksX1_way_4 : cX1_way.data.toList.drop 93 = dktX1_way_4 := dk_seg dksX1_way_3 23 rfl rfl
theorem dX1_way_0 : decode cX1_way 0 = .ok (.aload_n 0, 1) := dk_42 (dk_at dksX1_way_0 0 rfl rfl)
theorem dX1_way_1 : decode cX1_way 1 = .ok (.iload_n 1, 1) := dk_27 (dk_at dksX1_way_0 1 rfl rfl)
theorem dX1_way_2 : decode cX1_way 2 = .ok (.invokevirtual 169, 3) := dk_182 0 169 (dk_at dksX1_way_0 2 rfl rfl)
theorem dX1_way_5 : decode cX1_way 5 = .ok (.aload_n 0, 1) := dk_42 (dk_at dksX1_way_0 5 rfl rfl)
theorem dX1_way_6 : decode cX1_way 6 = .ok (.iload_n 2, 1) := dk_28 (dk_at dksX1_way_0 6 rfl rfl)
theorem dX1_way_7 : decode cX1_way 7 = .ok (.invokevirtual 169, 3) := dk_182 0 169 (dk_at dksX1_way_0 7 rfl rfl)
theorem dX1_way_10 : decode cX1_way 10 = .ok (.iconst 1, 1) := dk_4 (dk_at dksX1_way_0 10 rfl rfl)
theorem dX1_way_11 : decode cX1_way 11 = .ok (.iload_n 1, 1) := dk_27 (dk_at dksX1_way_0 11 rfl rfl)
theorem dX1_way_12 : decode cX1_way 12 = .ok (.ishl, 1) := dk_120 (dk_at dksX1_way_0 12 rfl rfl)
theorem dX1_way_13 : decode cX1_way 13 = .ok (.aload_n 0, 1) := dk_42 (dk_at dksX1_way_0 13 rfl rfl)
theorem dX1_way_14 : decode cX1_way 14 = .ok (.getfield 30, 3) := dk_180 0 30 (dk_at dksX1_way_0 14 rfl rfl)
theorem dX1_way_17 : decode cX1_way 17 = .ok (.getfield 155, 3) := dk_180 0 155 (dk_at dksX1_way_0 17 rfl rfl)
theorem dX1_way_20 : decode cX1_way 20 = .ok (.iconst (-1), 1) := dk_2 (dk_at dksX1_way_0 20 rfl rfl)
theorem dX1_way_21 : decode cX1_way 21 = .ok (.ixor, 1) := dk_130 (dk_at dksX1_way_0 21 rfl rfl)
theorem dX1_way_22 : decode cX1_way 22 = .ok (.iand, 1) := dk_126 (dk_at dksX1_way_0 22 rfl rfl)
theorem dX1_way_23 : decode cX1_way 23 = .ok (.istore_n 3, 1) := dk_62 (dk_at dksX1_way_0 23 rfl rfl)
theorem dX1_way_24 : decode cX1_way 24 = .ok (.iconst 0, 1) := dk_3 (dk_at dksX1_way_1 0 rfl rfl)
theorem dX1_way_25 : decode cX1_way 25 = .ok (.istore 4, 2) := dk_54 4 (dk_at dksX1_way_1 1 rfl rfl)
theorem dX1_way_27 : decode cX1_way 27 = .ok (.iload 4, 2) := dk_21 4 (dk_at dksX1_way_1 3 rfl rfl)
theorem dX1_way_29 : decode cX1_way 29 = .ok (.aload_n 0, 1) := dk_42 (dk_at dksX1_way_1 5 rfl rfl)
theorem dX1_way_30 : decode cX1_way 30 = .ok (.invokevirtual 81, 3) := dk_182 0 81 (dk_at dksX1_way_1 6 rfl rfl)
theorem dX1_way_33 : decode cX1_way 33 = .ok (.if_icmp .ge 76, 3) := dk_162 0 76 (dk_at dksX1_way_1 9 rfl rfl)
theorem dX1_way_36 : decode cX1_way 36 = .ok (.iload_n 3, 1) := dk_29 (dk_at dksX1_way_1 12 rfl rfl)
theorem dX1_way_37 : decode cX1_way 37 = .ok (.iload_n 2, 1) := dk_28 (dk_at dksX1_way_1 13 rfl rfl)
theorem dX1_way_38 : decode cX1_way 38 = .ok (.ishr, 1) := dk_122 (dk_at dksX1_way_1 14 rfl rfl)
theorem dX1_way_39 : decode cX1_way 39 = .ok (.iconst 1, 1) := dk_4 (dk_at dksX1_way_1 15 rfl rfl)
theorem dX1_way_40 : decode cX1_way 40 = .ok (.iand, 1) := dk_126 (dk_at dksX1_way_1 16 rfl rfl)
theorem dX1_way_41 : decode cX1_way 41 = .ok (.iconst 1, 1) := dk_4 (dk_at dksX1_way_1 17 rfl rfl)
theorem dX1_way_42 : decode cX1_way 42 = .ok (.if_icmp .ne 6, 3) := dk_160 0 6 (dk_at dksX1_way_1 18 rfl rfl)
theorem dX1_way_45 : decode cX1_way 45 = .ok (.iload 4, 2) := dk_21 4 (dk_at dksX1_way_1 21 rfl rfl)
theorem dX1_way_47 : decode cX1_way 47 = .ok (.ireturn, 1) := dk_172 (dk_at dksX1_way_1 23 rfl rfl)
theorem dX1_way_48 : decode cX1_way 48 = .ok (.iload_n 3, 1) := dk_29 (dk_at dksX1_way_2 0 rfl rfl)
theorem dX1_way_49 : decode cX1_way 49 = .ok (.istore 5, 2) := dk_54 5 (dk_at dksX1_way_2 1 rfl rfl)
theorem dX1_way_51 : decode cX1_way 51 = .ok (.iconst 0, 1) := dk_3 (dk_at dksX1_way_2 3 rfl rfl)
theorem dX1_way_52 : decode cX1_way 52 = .ok (.istore 6, 2) := dk_54 6 (dk_at dksX1_way_2 4 rfl rfl)
theorem dX1_way_54 : decode cX1_way 54 = .ok (.iload 6, 2) := dk_21 6 (dk_at dksX1_way_2 6 rfl rfl)
theorem dX1_way_56 : decode cX1_way 56 = .ok (.aload_n 0, 1) := dk_42 (dk_at dksX1_way_2 8 rfl rfl)
theorem dX1_way_57 : decode cX1_way 57 = .ok (.invokevirtual 81, 3) := dk_182 0 81 (dk_at dksX1_way_2 9 rfl rfl)
theorem dX1_way_60 : decode cX1_way 60 = .ok (.if_icmp .ge 30, 3) := dk_162 0 30 (dk_at dksX1_way_2 12 rfl rfl)
theorem dX1_way_63 : decode cX1_way 63 = .ok (.iload_n 3, 1) := dk_29 (dk_at dksX1_way_2 15 rfl rfl)
theorem dX1_way_64 : decode cX1_way 64 = .ok (.iload 6, 2) := dk_21 6 (dk_at dksX1_way_2 16 rfl rfl)
theorem dX1_way_66 : decode cX1_way 66 = .ok (.ishr, 1) := dk_122 (dk_at dksX1_way_2 18 rfl rfl)
theorem dX1_way_67 : decode cX1_way 67 = .ok (.iconst 1, 1) := dk_4 (dk_at dksX1_way_2 19 rfl rfl)
theorem dX1_way_68 : decode cX1_way 68 = .ok (.iand, 1) := dk_126 (dk_at dksX1_way_2 20 rfl rfl)
theorem dX1_way_69 : decode cX1_way 69 = .ok (.iconst 1, 1) := dk_4 (dk_at dksX1_way_2 21 rfl rfl)
theorem dX1_way_70 : decode cX1_way 70 = .ok (.if_icmp .ne 14, 3) := dk_160 0 14 (dk_at dksX1_way_3 0 rfl rfl)
theorem dX1_way_73 : decode cX1_way 73 = .ok (.iload 5, 2) := dk_21 5 (dk_at dksX1_way_3 3 rfl rfl)
theorem dX1_way_75 : decode cX1_way 75 = .ok (.aload_n 0, 1) := dk_42 (dk_at dksX1_way_3 5 rfl rfl)
theorem dX1_way_76 : decode cX1_way 76 = .ok (.iload 6, 2) := dk_21 6 (dk_at dksX1_way_3 6 rfl rfl)
theorem dX1_way_78 : decode cX1_way 78 = .ok (.invokevirtual 175, 3) := dk_182 0 175 (dk_at dksX1_way_3 8 rfl rfl)
theorem dX1_way_81 : decode cX1_way 81 = .ok (.ior, 1) := dk_128 (dk_at dksX1_way_3 11 rfl rfl)
theorem dX1_way_82 : decode cX1_way 82 = .ok (.istore 5, 2) := dk_54 5 (dk_at dksX1_way_3 12 rfl rfl)
theorem dX1_way_84 : decode cX1_way 84 = .ok (.iinc 6 1, 3) := dk_132 6 1 (dk_at dksX1_way_3 14 rfl rfl)
theorem dX1_way_87 : decode cX1_way 87 = .ok (.goto (-33), 3) := dk_167 255 223 (dk_at dksX1_way_3 17 rfl rfl)
theorem dX1_way_90 : decode cX1_way 90 = .ok (.iload 5, 2) := dk_21 5 (dk_at dksX1_way_3 20 rfl rfl)
theorem dX1_way_92 : decode cX1_way 92 = .ok (.aload_n 0, 1) := dk_42 (dk_at dksX1_way_3 22 rfl rfl)
theorem dX1_way_93 : decode cX1_way 93 = .ok (.getfield 30, 3) := dk_180 0 30 (dk_at dksX1_way_4 0 rfl rfl)
theorem dX1_way_96 : decode cX1_way 96 = .ok (.getfield 155, 3) := dk_180 0 155 (dk_at dksX1_way_4 3 rfl rfl)
theorem dX1_way_99 : decode cX1_way 99 = .ok (.iconst (-1), 1) := dk_2 (dk_at dksX1_way_4 6 rfl rfl)
theorem dX1_way_100 : decode cX1_way 100 = .ok (.ixor, 1) := dk_130 (dk_at dksX1_way_4 7 rfl rfl)
theorem dX1_way_101 : decode cX1_way 101 = .ok (.iand, 1) := dk_126 (dk_at dksX1_way_4 8 rfl rfl)
theorem dX1_way_102 : decode cX1_way 102 = .ok (.istore_n 3, 1) := dk_62 (dk_at dksX1_way_4 9 rfl rfl)
theorem dX1_way_103 : decode cX1_way 103 = .ok (.iinc 4 1, 3) := dk_132 4 1 (dk_at dksX1_way_4 10 rfl rfl)
theorem dX1_way_106 : decode cX1_way 106 = .ok (.goto (-79), 3) := dk_167 255 177 (dk_at dksX1_way_4 13 rfl rfl)
theorem dX1_way_109 : decode cX1_way 109 = .ok (.iconst (-1), 1) := dk_2 (dk_at dksX1_way_4 16 rfl rfl)
theorem dX1_way_110 : decode cX1_way 110 = .ok (.ireturn, 1) := dk_172 (dk_at dksX1_way_4 17 rfl rfl)
abbrev cX1_toStand : ByteArray := prog_1_method_38_code
def yX1_toStand : MethodName := ⟨RX1, "toStand", "(II)I"⟩
def dkwX1_toStand_3 : List UInt8 := [62, 21, 6, 54, 4, 132, 5, 1, 167, 255, 200, 28, 154, 0, 7, 29, 167, 0, 5, 21, 4, 172]
abbrev dktX1_toStand_3 : List UInt8 := dkwX1_toStand_3 ++ []
def dkwX1_toStand_2 : List UInt8 := [79, 42, 182, 1, 0, 54, 6, 29, 2, 159, 0, 13, 21, 6, 21, 4, 161, 0, 6, 167, 0, 10, 21, 5]
abbrev dktX1_toStand_2 : List UInt8 := dkwX1_toStand_2 ++ dktX1_toStand_3
def dkwX1_toStand_1 : List UInt8 := [21, 5, 42, 182, 0, 81, 162, 0, 53, 42, 3, 182, 0, 234, 42, 180, 0, 34, 180, 0, 178, 27, 21, 5]
abbrev dktX1_toStand_1 : List UInt8 := dkwX1_toStand_1 ++ dktX1_toStand_2
def dkwX1_toStand_0 : List UInt8 := [42, 27, 182, 0, 184, 87, 28, 3, 4, 184, 0, 133, 184, 0, 82, 2, 62, 3, 54, 4, 3, 54, 5]
abbrev dktX1_toStand_0 : List UInt8 := dkwX1_toStand_0 ++ dktX1_toStand_1
theorem dksX1_toStand_0 : cX1_toStand.data.toList.drop 0 = dktX1_toStand_0 := by decide +kernel
theorem dksX1_toStand_1 : cX1_toStand.data.toList.drop 23 = dktX1_toStand_1 := dk_seg dksX1_toStand_0 23 rfl rfl
theorem dksX1_toStand_2 : cX1_toStand.data.toList.drop 47 = dktX1_toStand_2 := dk_seg dksX1_toStand_1 24 rfl rfl
theorem dksX1_toStand_3 : cX1_toStand.data.toList.drop 71 = dktX1_toStand_3 := dk_seg dksX1_toStand_2 24 rfl rfl
theorem dX1_toStand_0 : decode cX1_toStand 0 = .ok (.aload_n 0, 1) := dk_42 (dk_at dksX1_toStand_0 0 rfl rfl)
theorem dX1_toStand_1 : decode cX1_toStand 1 = .ok (.iload_n 1, 1) := dk_27 (dk_at dksX1_toStand_0 1 rfl rfl)
theorem dX1_toStand_2 : decode cX1_toStand 2 = .ok (.invokevirtual 184, 3) := dk_182 0 184 (dk_at dksX1_toStand_0 2 rfl rfl)
theorem dX1_toStand_5 : decode cX1_toStand 5 = .ok (.pop, 1) := dk_87 (dk_at dksX1_toStand_0 5 rfl rfl)
theorem dX1_toStand_6 : decode cX1_toStand 6 = .ok (.iload_n 2, 1) := dk_28 (dk_at dksX1_toStand_0 6 rfl rfl)
theorem dX1_toStand_7 : decode cX1_toStand 7 = .ok (.iconst 0, 1) := dk_3 (dk_at dksX1_toStand_0 7 rfl rfl)
theorem dX1_toStand_8 : decode cX1_toStand 8 = .ok (.iconst 1, 1) := dk_4 (dk_at dksX1_toStand_0 8 rfl rfl)
theorem dX1_toStand_9 : decode cX1_toStand 9 = .ok (.invokestatic 133, 3) := dk_184 0 133 (dk_at dksX1_toStand_0 9 rfl rfl)
theorem dX1_toStand_12 : decode cX1_toStand 12 = .ok (.invokestatic 82, 3) := dk_184 0 82 (dk_at dksX1_toStand_0 12 rfl rfl)
theorem dX1_toStand_15 : decode cX1_toStand 15 = .ok (.iconst (-1), 1) := dk_2 (dk_at dksX1_toStand_0 15 rfl rfl)
theorem dX1_toStand_16 : decode cX1_toStand 16 = .ok (.istore_n 3, 1) := dk_62 (dk_at dksX1_toStand_0 16 rfl rfl)
theorem dX1_toStand_17 : decode cX1_toStand 17 = .ok (.iconst 0, 1) := dk_3 (dk_at dksX1_toStand_0 17 rfl rfl)
theorem dX1_toStand_18 : decode cX1_toStand 18 = .ok (.istore 4, 2) := dk_54 4 (dk_at dksX1_toStand_0 18 rfl rfl)
theorem dX1_toStand_20 : decode cX1_toStand 20 = .ok (.iconst 0, 1) := dk_3 (dk_at dksX1_toStand_0 20 rfl rfl)
theorem dX1_toStand_21 : decode cX1_toStand 21 = .ok (.istore 5, 2) := dk_54 5 (dk_at dksX1_toStand_0 21 rfl rfl)
theorem dX1_toStand_23 : decode cX1_toStand 23 = .ok (.iload 5, 2) := dk_21 5 (dk_at dksX1_toStand_1 0 rfl rfl)
theorem dX1_toStand_25 : decode cX1_toStand 25 = .ok (.aload_n 0, 1) := dk_42 (dk_at dksX1_toStand_1 2 rfl rfl)
theorem dX1_toStand_26 : decode cX1_toStand 26 = .ok (.invokevirtual 81, 3) := dk_182 0 81 (dk_at dksX1_toStand_1 3 rfl rfl)
theorem dX1_toStand_29 : decode cX1_toStand 29 = .ok (.if_icmp .ge 53, 3) := dk_162 0 53 (dk_at dksX1_toStand_1 6 rfl rfl)
theorem dX1_toStand_32 : decode cX1_toStand 32 = .ok (.aload_n 0, 1) := dk_42 (dk_at dksX1_toStand_1 9 rfl rfl)
theorem dX1_toStand_33 : decode cX1_toStand 33 = .ok (.iconst 0, 1) := dk_3 (dk_at dksX1_toStand_1 10 rfl rfl)
theorem dX1_toStand_34 : decode cX1_toStand 34 = .ok (.invokevirtual 234, 3) := dk_182 0 234 (dk_at dksX1_toStand_1 11 rfl rfl)
theorem dX1_toStand_37 : decode cX1_toStand 37 = .ok (.aload_n 0, 1) := dk_42 (dk_at dksX1_toStand_1 14 rfl rfl)
theorem dX1_toStand_38 : decode cX1_toStand 38 = .ok (.getfield 34, 3) := dk_180 0 34 (dk_at dksX1_toStand_1 15 rfl rfl)
theorem dX1_toStand_41 : decode cX1_toStand 41 = .ok (.getfield 178, 3) := dk_180 0 178 (dk_at dksX1_toStand_1 18 rfl rfl)
theorem dX1_toStand_44 : decode cX1_toStand 44 = .ok (.iload_n 1, 1) := dk_27 (dk_at dksX1_toStand_1 21 rfl rfl)
theorem dX1_toStand_45 : decode cX1_toStand 45 = .ok (.iload 5, 2) := dk_21 5 (dk_at dksX1_toStand_1 22 rfl rfl)
theorem dX1_toStand_47 : decode cX1_toStand 47 = .ok (.iastore, 1) := dk_79 (dk_at dksX1_toStand_2 0 rfl rfl)
theorem dX1_toStand_48 : decode cX1_toStand 48 = .ok (.aload_n 0, 1) := dk_42 (dk_at dksX1_toStand_2 1 rfl rfl)
theorem dX1_toStand_49 : decode cX1_toStand 49 = .ok (.invokevirtual 256, 3) := dk_182 1 0 (dk_at dksX1_toStand_2 2 rfl rfl)
theorem dX1_toStand_52 : decode cX1_toStand 52 = .ok (.istore 6, 2) := dk_54 6 (dk_at dksX1_toStand_2 5 rfl rfl)
theorem dX1_toStand_54 : decode cX1_toStand 54 = .ok (.iload_n 3, 1) := dk_29 (dk_at dksX1_toStand_2 7 rfl rfl)
theorem dX1_toStand_55 : decode cX1_toStand 55 = .ok (.iconst (-1), 1) := dk_2 (dk_at dksX1_toStand_2 8 rfl rfl)
theorem dX1_toStand_56 : decode cX1_toStand 56 = .ok (.if_icmp .eq 13, 3) := dk_159 0 13 (dk_at dksX1_toStand_2 9 rfl rfl)
theorem dX1_toStand_59 : decode cX1_toStand 59 = .ok (.iload 6, 2) := dk_21 6 (dk_at dksX1_toStand_2 12 rfl rfl)
theorem dX1_toStand_61 : decode cX1_toStand 61 = .ok (.iload 4, 2) := dk_21 4 (dk_at dksX1_toStand_2 14 rfl rfl)
theorem dX1_toStand_63 : decode cX1_toStand 63 = .ok (.if_icmp .lt 6, 3) := dk_161 0 6 (dk_at dksX1_toStand_2 16 rfl rfl)
theorem dX1_toStand_66 : decode cX1_toStand 66 = .ok (.goto 10, 3) := dk_167 0 10 (dk_at dksX1_toStand_2 19 rfl rfl)
theorem dX1_toStand_69 : decode cX1_toStand 69 = .ok (.iload 5, 2) := dk_21 5 (dk_at dksX1_toStand_2 22 rfl rfl)
theorem dX1_toStand_71 : decode cX1_toStand 71 = .ok (.istore_n 3, 1) := dk_62 (dk_at dksX1_toStand_3 0 rfl rfl)
theorem dX1_toStand_72 : decode cX1_toStand 72 = .ok (.iload 6, 2) := dk_21 6 (dk_at dksX1_toStand_3 1 rfl rfl)
theorem dX1_toStand_74 : decode cX1_toStand 74 = .ok (.istore 4, 2) := dk_54 4 (dk_at dksX1_toStand_3 3 rfl rfl)
theorem dX1_toStand_76 : decode cX1_toStand 76 = .ok (.iinc 5 1, 3) := dk_132 5 1 (dk_at dksX1_toStand_3 5 rfl rfl)
theorem dX1_toStand_79 : decode cX1_toStand 79 = .ok (.goto (-56), 3) := dk_167 255 200 (dk_at dksX1_toStand_3 8 rfl rfl)
theorem dX1_toStand_82 : decode cX1_toStand 82 = .ok (.iload_n 2, 1) := dk_28 (dk_at dksX1_toStand_3 11 rfl rfl)
theorem dX1_toStand_83 : decode cX1_toStand 83 = .ok (.ifCond .ne 7, 3) := dk_154 0 7 (dk_at dksX1_toStand_3 12 rfl rfl)
theorem dX1_toStand_86 : decode cX1_toStand 86 = .ok (.iload_n 3, 1) := dk_29 (dk_at dksX1_toStand_3 15 rfl rfl)
theorem dX1_toStand_87 : decode cX1_toStand 87 = .ok (.goto 5, 3) := dk_167 0 5 (dk_at dksX1_toStand_3 16 rfl rfl)
theorem dX1_toStand_90 : decode cX1_toStand 90 = .ok (.iload 4, 2) := dk_21 4 (dk_at dksX1_toStand_3 19 rfl rfl)
theorem dX1_toStand_92 : decode cX1_toStand 92 = .ok (.ireturn, 1) := dk_172 (dk_at dksX1_toStand_3 21 rfl rfl)
abbrev cX1_toSwish : ByteArray := prog_1_method_39_code
def yX1_toSwish : MethodName := ⟨RX1, "toSwish", "(II)I"⟩
def dkwX1_toSwish_3 : List UInt8 := [172]
abbrev dktX1_toSwish_3 : List UInt8 := dkwX1_toSwish_3 ++ []
def dkwX1_toSwish_2 : List UInt8 := [161, 0, 5, 29, 172, 42, 180, 0, 34, 42, 180, 0, 10, 27, 182, 1, 3, 132, 3, 1, 167, 255, 212, 2]
abbrev dktX1_toSwish_2 : List UInt8 := dkwX1_toSwish_2 ++ dktX1_toSwish_3
def dkwX1_toSwish_1 : List UInt8 := [16, 20, 163, 0, 44, 42, 180, 0, 34, 180, 0, 172, 42, 180, 0, 34, 180, 0, 178, 27, 46, 46, 28]
abbrev dktX1_toSwish_1 : List UInt8 := dkwX1_toSwish_1 ++ dktX1_toSwish_2
def dkwX1_toSwish_0 : List UInt8 := [42, 27, 182, 0, 184, 87, 28, 3, 16, 99, 184, 0, 133, 184, 0, 101, 42, 3, 182, 0, 234, 3, 62, 29]
abbrev dktX1_toSwish_0 : List UInt8 := dkwX1_toSwish_0 ++ dktX1_toSwish_1
theorem dksX1_toSwish_0 : cX1_toSwish.data.toList.drop 0 = dktX1_toSwish_0 := by decide +kernel
theorem dksX1_toSwish_1 : cX1_toSwish.data.toList.drop 24 = dktX1_toSwish_1 := dk_seg dksX1_toSwish_0 24 rfl rfl
theorem dksX1_toSwish_2 : cX1_toSwish.data.toList.drop 47 = dktX1_toSwish_2 := dk_seg dksX1_toSwish_1 23 rfl rfl
theorem dksX1_toSwish_3 : cX1_toSwish.data.toList.drop 71 = dktX1_toSwish_3 := dk_seg dksX1_toSwish_2 24 rfl rfl
theorem dX1_toSwish_0 : decode cX1_toSwish 0 = .ok (.aload_n 0, 1) := dk_42 (dk_at dksX1_toSwish_0 0 rfl rfl)
theorem dX1_toSwish_1 : decode cX1_toSwish 1 = .ok (.iload_n 1, 1) := dk_27 (dk_at dksX1_toSwish_0 1 rfl rfl)
theorem dX1_toSwish_2 : decode cX1_toSwish 2 = .ok (.invokevirtual 184, 3) := dk_182 0 184 (dk_at dksX1_toSwish_0 2 rfl rfl)
theorem dX1_toSwish_5 : decode cX1_toSwish 5 = .ok (.pop, 1) := dk_87 (dk_at dksX1_toSwish_0 5 rfl rfl)
theorem dX1_toSwish_6 : decode cX1_toSwish 6 = .ok (.iload_n 2, 1) := dk_28 (dk_at dksX1_toSwish_0 6 rfl rfl)
theorem dX1_toSwish_7 : decode cX1_toSwish 7 = .ok (.iconst 0, 1) := dk_3 (dk_at dksX1_toSwish_0 7 rfl rfl)
theorem dX1_toSwish_8 : decode cX1_toSwish 8 = .ok (.bipush 99, 2) := dk_16 99 (dk_at dksX1_toSwish_0 8 rfl rfl)
theorem dX1_toSwish_10 : decode cX1_toSwish 10 = .ok (.invokestatic 133, 3) := dk_184 0 133 (dk_at dksX1_toSwish_0 10 rfl rfl)
theorem dX1_toSwish_13 : decode cX1_toSwish 13 = .ok (.invokestatic 101, 3) := dk_184 0 101 (dk_at dksX1_toSwish_0 13 rfl rfl)
theorem dX1_toSwish_16 : decode cX1_toSwish 16 = .ok (.aload_n 0, 1) := dk_42 (dk_at dksX1_toSwish_0 16 rfl rfl)
theorem dX1_toSwish_17 : decode cX1_toSwish 17 = .ok (.iconst 0, 1) := dk_3 (dk_at dksX1_toSwish_0 17 rfl rfl)
theorem dX1_toSwish_18 : decode cX1_toSwish 18 = .ok (.invokevirtual 234, 3) := dk_182 0 234 (dk_at dksX1_toSwish_0 18 rfl rfl)
theorem dX1_toSwish_21 : decode cX1_toSwish 21 = .ok (.iconst 0, 1) := dk_3 (dk_at dksX1_toSwish_0 21 rfl rfl)
theorem dX1_toSwish_22 : decode cX1_toSwish 22 = .ok (.istore_n 3, 1) := dk_62 (dk_at dksX1_toSwish_0 22 rfl rfl)
theorem dX1_toSwish_23 : decode cX1_toSwish 23 = .ok (.iload_n 3, 1) := dk_29 (dk_at dksX1_toSwish_0 23 rfl rfl)
theorem dX1_toSwish_24 : decode cX1_toSwish 24 = .ok (.bipush 20, 2) := dk_16 20 (dk_at dksX1_toSwish_1 0 rfl rfl)
theorem dX1_toSwish_26 : decode cX1_toSwish 26 = .ok (.if_icmp .gt 44, 3) := dk_163 0 44 (dk_at dksX1_toSwish_1 2 rfl rfl)
theorem dX1_toSwish_29 : decode cX1_toSwish 29 = .ok (.aload_n 0, 1) := dk_42 (dk_at dksX1_toSwish_1 5 rfl rfl)
theorem dX1_toSwish_30 : decode cX1_toSwish 30 = .ok (.getfield 34, 3) := dk_180 0 34 (dk_at dksX1_toSwish_1 6 rfl rfl)
theorem dX1_toSwish_33 : decode cX1_toSwish 33 = .ok (.getfield 172, 3) := dk_180 0 172 (dk_at dksX1_toSwish_1 9 rfl rfl)
theorem dX1_toSwish_36 : decode cX1_toSwish 36 = .ok (.aload_n 0, 1) := dk_42 (dk_at dksX1_toSwish_1 12 rfl rfl)
theorem dX1_toSwish_37 : decode cX1_toSwish 37 = .ok (.getfield 34, 3) := dk_180 0 34 (dk_at dksX1_toSwish_1 13 rfl rfl)
theorem dX1_toSwish_40 : decode cX1_toSwish 40 = .ok (.getfield 178, 3) := dk_180 0 178 (dk_at dksX1_toSwish_1 16 rfl rfl)
theorem dX1_toSwish_43 : decode cX1_toSwish 43 = .ok (.iload_n 1, 1) := dk_27 (dk_at dksX1_toSwish_1 19 rfl rfl)
theorem dX1_toSwish_44 : decode cX1_toSwish 44 = .ok (.iaload, 1) := dk_46 (dk_at dksX1_toSwish_1 20 rfl rfl)
theorem dX1_toSwish_45 : decode cX1_toSwish 45 = .ok (.iaload, 1) := dk_46 (dk_at dksX1_toSwish_1 21 rfl rfl)
theorem dX1_toSwish_46 : decode cX1_toSwish 46 = .ok (.iload_n 2, 1) := dk_28 (dk_at dksX1_toSwish_1 22 rfl rfl)
theorem dX1_toSwish_47 : decode cX1_toSwish 47 = .ok (.if_icmp .lt 5, 3) := dk_161 0 5 (dk_at dksX1_toSwish_2 0 rfl rfl)
theorem dX1_toSwish_50 : decode cX1_toSwish 50 = .ok (.iload_n 3, 1) := dk_29 (dk_at dksX1_toSwish_2 3 rfl rfl)
theorem dX1_toSwish_51 : decode cX1_toSwish 51 = .ok (.ireturn, 1) := dk_172 (dk_at dksX1_toSwish_2 4 rfl rfl)
theorem dX1_toSwish_52 : decode cX1_toSwish 52 = .ok (.aload_n 0, 1) := dk_42 (dk_at dksX1_toSwish_2 5 rfl rfl)
theorem dX1_toSwish_53 : decode cX1_toSwish 53 = .ok (.getfield 34, 3) := dk_180 0 34 (dk_at dksX1_toSwish_2 6 rfl rfl)
theorem dX1_toSwish_56 : decode cX1_toSwish 56 = .ok (.aload_n 0, 1) := dk_42 (dk_at dksX1_toSwish_2 9 rfl rfl)
theorem dX1_toSwish_57 : decode cX1_toSwish 57 = .ok (.getfield 10, 3) := dk_180 0 10 (dk_at dksX1_toSwish_2 10 rfl rfl)
theorem dX1_toSwish_60 : decode cX1_toSwish 60 = .ok (.iload_n 1, 1) := dk_27 (dk_at dksX1_toSwish_2 13 rfl rfl)
theorem dX1_toSwish_61 : decode cX1_toSwish 61 = .ok (.invokevirtual 259, 3) := dk_182 1 3 (dk_at dksX1_toSwish_2 14 rfl rfl)
theorem dX1_toSwish_64 : decode cX1_toSwish 64 = .ok (.iinc 3 1, 3) := dk_132 3 1 (dk_at dksX1_toSwish_2 17 rfl rfl)
theorem dX1_toSwish_67 : decode cX1_toSwish 67 = .ok (.goto (-44), 3) := dk_167 255 212 (dk_at dksX1_toSwish_2 20 rfl rfl)
theorem dX1_toSwish_70 : decode cX1_toSwish 70 = .ok (.iconst (-1), 1) := dk_2 (dk_at dksX1_toSwish_2 23 rfl rfl)
theorem dX1_toSwish_71 : decode cX1_toSwish 71 = .ok (.ireturn, 1) := dk_172 (dk_at dksX1_toSwish_3 0 rfl rfl)
abbrev cX1_sent : ByteArray := prog_1_method_42_code
def yX1_sent : MethodName := ⟨RX1, "sent", "(II)I"⟩
def dkwX1_sent_9 : List UInt8 := [54, 4, 132, 5, 1, 167, 255, 184]
abbrev dktX1_sent_9 : List UInt8 := dkwX1_sent_9 ++ []
def dkwX1_sent_8 : List UInt8 := [167, 255, 216, 42, 180, 0, 49, 21, 5, 46, 28, 160, 0, 6, 21, 6, 172, 21, 4, 4, 21, 6, 120, 128]
abbrev dktX1_sent_8 : List UInt8 := dkwX1_sent_8 ++ dktX1_sent_9
def dkwX1_sent_7 : List UInt8 := [182, 1, 7, 42, 180, 0, 45, 21, 5, 16, 6, 120, 21, 4, 96, 46, 159, 0, 9, 132, 6, 1]
abbrev dktX1_sent_7 : List UInt8 := dkwX1_sent_7 ++ dktX1_sent_8
def dkwX1_sent_6 : List UInt8 := [54, 5, 3, 54, 6, 21, 4, 21, 6, 122, 4, 126, 4, 159, 0, 29, 42, 21, 5, 21, 6, 21, 4]
abbrev dktX1_sent_6 : List UInt8 := dkwX1_sent_6 ++ dktX1_sent_7
def dkwX1_sent_5 : List UInt8 := [16, 254, 172, 42, 29, 182, 1, 14, 28, 2, 160, 0, 10, 42, 180, 0, 45, 3, 46, 172, 3, 54, 4, 3]
abbrev dktX1_sent_5 : List UInt8 := dkwX1_sent_5 ++ dktX1_sent_6
def dkwX1_sent_4 : List UInt8 := [180, 0, 49, 29, 21, 4, 79, 132, 3, 1, 132, 4, 1, 167, 255, 221, 29, 42, 182, 0, 86, 164, 0, 6]
abbrev dktX1_sent_4 : List UInt8 := dkwX1_sent_4 ++ dktX1_sent_5
def dkwX1_sent_3 : List UInt8 := [54, 4, 21, 4, 42, 182, 0, 81, 162, 0, 32, 27, 21, 4, 122, 4, 126, 154, 0, 6, 167, 0, 14, 42]
abbrev dktX1_sent_3 : List UInt8 := dkwX1_sent_3 ++ dktX1_sent_4
def dkwX1_sent_2 : List UInt8 := [153, 0, 16, 27, 28, 122, 4, 126, 4, 160, 0, 7, 4, 167, 0, 4, 3, 184, 0, 82, 3, 62, 3]
abbrev dktX1_sent_2 : List UInt8 := dkwX1_sent_2 ++ dktX1_sent_3
def dkwX1_sent_1 : List UInt8 := [167, 0, 4, 3, 184, 0, 101, 28, 2, 159, 0, 26, 28, 3, 42, 182, 0, 81, 4, 100, 184, 0, 133]
abbrev dktX1_sent_1 : List UInt8 := dkwX1_sent_1 ++ dktX1_sent_2
def dkwX1_sent_0 : List UInt8 := [27, 155, 0, 26, 27, 4, 42, 182, 0, 81, 120, 162, 0, 16, 27, 184, 1, 11, 16, 6, 163, 0, 7, 4]
abbrev dktX1_sent_0 : List UInt8 := dkwX1_sent_0 ++ dktX1_sent_1
theorem dksX1_sent_0 : cX1_sent.data.toList.drop 0 = dktX1_sent_0 := by decide +kernel
theorem dksX1_sent_1 : cX1_sent.data.toList.drop 24 = dktX1_sent_1 := dk_seg dksX1_sent_0 24 rfl rfl
theorem dksX1_sent_2 : cX1_sent.data.toList.drop 47 = dktX1_sent_2 := dk_seg dksX1_sent_1 23 rfl rfl
theorem dksX1_sent_3 : cX1_sent.data.toList.drop 70 = dktX1_sent_3 := dk_seg dksX1_sent_2 23 rfl rfl
theorem dksX1_sent_4 : cX1_sent.data.toList.drop 94 = dktX1_sent_4 := dk_seg dksX1_sent_3 24 rfl rfl
theorem dksX1_sent_5 : cX1_sent.data.toList.drop 118 = dktX1_sent_5 := dk_seg dksX1_sent_4 24 rfl rfl
theorem dksX1_sent_6 : cX1_sent.data.toList.drop 142 = dktX1_sent_6 := dk_seg dksX1_sent_5 24 rfl rfl
theorem dksX1_sent_7 : cX1_sent.data.toList.drop 165 = dktX1_sent_7 := dk_seg dksX1_sent_6 23 rfl rfl
theorem dksX1_sent_8 : cX1_sent.data.toList.drop 187 = dktX1_sent_8 := dk_seg dksX1_sent_7 22 rfl rfl
theorem dksX1_sent_9 : cX1_sent.data.toList.drop 211 = dktX1_sent_9 := dk_seg dksX1_sent_8 24 rfl rfl
theorem dX1_sent_0 : decode cX1_sent 0 = .ok (.iload_n 1, 1) := dk_27 (dk_at dksX1_sent_0 0 rfl rfl)
theorem dX1_sent_1 : decode cX1_sent 1 = .ok (.ifCond .lt 26, 3) := dk_155 0 26 (dk_at dksX1_sent_0 1 rfl rfl)
theorem dX1_sent_4 : decode cX1_sent 4 = .ok (.iload_n 1, 1) := dk_27 (dk_at dksX1_sent_0 4 rfl rfl)
theorem dX1_sent_5 : decode cX1_sent 5 = .ok (.iconst 1, 1) := dk_4 (dk_at dksX1_sent_0 5 rfl rfl)
theorem dX1_sent_6 : decode cX1_sent 6 = .ok (.aload_n 0, 1) := dk_42 (dk_at dksX1_sent_0 6 rfl rfl)
theorem dX1_sent_7 : decode cX1_sent 7 = .ok (.invokevirtual 81, 3) := dk_182 0 81 (dk_at dksX1_sent_0 7 rfl rfl)
theorem dX1_sent_10 : decode cX1_sent 10 = .ok (.ishl, 1) := dk_120 (dk_at dksX1_sent_0 10 rfl rfl)
theorem dX1_sent_11 : decode cX1_sent 11 = .ok (.if_icmp .ge 16, 3) := dk_162 0 16 (dk_at dksX1_sent_0 11 rfl rfl)
theorem dX1_sent_14 : decode cX1_sent 14 = .ok (.iload_n 1, 1) := dk_27 (dk_at dksX1_sent_0 14 rfl rfl)
theorem dX1_sent_15 : decode cX1_sent 15 = .ok (.invokestatic 267, 3) := dk_184 1 11 (dk_at dksX1_sent_0 15 rfl rfl)
theorem dX1_sent_18 : decode cX1_sent 18 = .ok (.bipush 6, 2) := dk_16 6 (dk_at dksX1_sent_0 18 rfl rfl)
theorem dX1_sent_20 : decode cX1_sent 20 = .ok (.if_icmp .gt 7, 3) := dk_163 0 7 (dk_at dksX1_sent_0 20 rfl rfl)
theorem dX1_sent_23 : decode cX1_sent 23 = .ok (.iconst 1, 1) := dk_4 (dk_at dksX1_sent_0 23 rfl rfl)
theorem dX1_sent_24 : decode cX1_sent 24 = .ok (.goto 4, 3) := dk_167 0 4 (dk_at dksX1_sent_1 0 rfl rfl)
theorem dX1_sent_27 : decode cX1_sent 27 = .ok (.iconst 0, 1) := dk_3 (dk_at dksX1_sent_1 3 rfl rfl)
theorem dX1_sent_28 : decode cX1_sent 28 = .ok (.invokestatic 101, 3) := dk_184 0 101 (dk_at dksX1_sent_1 4 rfl rfl)
theorem dX1_sent_31 : decode cX1_sent 31 = .ok (.iload_n 2, 1) := dk_28 (dk_at dksX1_sent_1 7 rfl rfl)
theorem dX1_sent_32 : decode cX1_sent 32 = .ok (.iconst (-1), 1) := dk_2 (dk_at dksX1_sent_1 8 rfl rfl)
theorem dX1_sent_33 : decode cX1_sent 33 = .ok (.if_icmp .eq 26, 3) := dk_159 0 26 (dk_at dksX1_sent_1 9 rfl rfl)
theorem dX1_sent_36 : decode cX1_sent 36 = .ok (.iload_n 2, 1) := dk_28 (dk_at dksX1_sent_1 12 rfl rfl)
theorem dX1_sent_37 : decode cX1_sent 37 = .ok (.iconst 0, 1) := dk_3 (dk_at dksX1_sent_1 13 rfl rfl)
theorem dX1_sent_38 : decode cX1_sent 38 = .ok (.aload_n 0, 1) := dk_42 (dk_at dksX1_sent_1 14 rfl rfl)
theorem dX1_sent_39 : decode cX1_sent 39 = .ok (.invokevirtual 81, 3) := dk_182 0 81 (dk_at dksX1_sent_1 15 rfl rfl)
theorem dX1_sent_42 : decode cX1_sent 42 = .ok (.iconst 1, 1) := dk_4 (dk_at dksX1_sent_1 18 rfl rfl)
theorem dX1_sent_43 : decode cX1_sent 43 = .ok (.isub, 1) := dk_100 (dk_at dksX1_sent_1 19 rfl rfl)
theorem dX1_sent_44 : decode cX1_sent 44 = .ok (.invokestatic 133, 3) := dk_184 0 133 (dk_at dksX1_sent_1 20 rfl rfl)
theorem dX1_sent_47 : decode cX1_sent 47 = .ok (.ifCond .eq 16, 3) := dk_153 0 16 (dk_at dksX1_sent_2 0 rfl rfl)
theorem dX1_sent_50 : decode cX1_sent 50 = .ok (.iload_n 1, 1) := dk_27 (dk_at dksX1_sent_2 3 rfl rfl)
theorem dX1_sent_51 : decode cX1_sent 51 = .ok (.iload_n 2, 1) := dk_28 (dk_at dksX1_sent_2 4 rfl rfl)
theorem dX1_sent_52 : decode cX1_sent 52 = .ok (.ishr, 1) := dk_122 (dk_at dksX1_sent_2 5 rfl rfl)
theorem dX1_sent_53 : decode cX1_sent 53 = .ok (.iconst 1, 1) := dk_4 (dk_at dksX1_sent_2 6 rfl rfl)
theorem dX1_sent_54 : decode cX1_sent 54 = .ok (.iand, 1) := dk_126 (dk_at dksX1_sent_2 7 rfl rfl)
theorem dX1_sent_55 : decode cX1_sent 55 = .ok (.iconst 1, 1) := dk_4 (dk_at dksX1_sent_2 8 rfl rfl)
theorem dX1_sent_56 : decode cX1_sent 56 = .ok (.if_icmp .ne 7, 3) := dk_160 0 7 (dk_at dksX1_sent_2 9 rfl rfl)
theorem dX1_sent_59 : decode cX1_sent 59 = .ok (.iconst 1, 1) := dk_4 (dk_at dksX1_sent_2 12 rfl rfl)
theorem dX1_sent_60 : decode cX1_sent 60 = .ok (.goto 4, 3) := dk_167 0 4 (dk_at dksX1_sent_2 13 rfl rfl)
theorem dX1_sent_63 : decode cX1_sent 63 = .ok (.iconst 0, 1) := dk_3 (dk_at dksX1_sent_2 16 rfl rfl)
theorem dX1_sent_64 : decode cX1_sent 64 = .ok (.invokestatic 82, 3) := dk_184 0 82 (dk_at dksX1_sent_2 17 rfl rfl)
theorem dX1_sent_67 : decode cX1_sent 67 = .ok (.iconst 0, 1) := dk_3 (dk_at dksX1_sent_2 20 rfl rfl)
theorem dX1_sent_68 : decode cX1_sent 68 = .ok (.istore_n 3, 1) := dk_62 (dk_at dksX1_sent_2 21 rfl rfl)
theorem dX1_sent_69 : decode cX1_sent 69 = .ok (.iconst 0, 1) := dk_3 (dk_at dksX1_sent_2 22 rfl rfl)
theorem dX1_sent_70 : decode cX1_sent 70 = .ok (.istore 4, 2) := dk_54 4 (dk_at dksX1_sent_3 0 rfl rfl)
theorem dX1_sent_72 : decode cX1_sent 72 = .ok (.iload 4, 2) := dk_21 4 (dk_at dksX1_sent_3 2 rfl rfl)
theorem dX1_sent_74 : decode cX1_sent 74 = .ok (.aload_n 0, 1) := dk_42 (dk_at dksX1_sent_3 4 rfl rfl)
theorem dX1_sent_75 : decode cX1_sent 75 = .ok (.invokevirtual 81, 3) := dk_182 0 81 (dk_at dksX1_sent_3 5 rfl rfl)
theorem dX1_sent_78 : decode cX1_sent 78 = .ok (.if_icmp .ge 32, 3) := dk_162 0 32 (dk_at dksX1_sent_3 8 rfl rfl)
theorem dX1_sent_81 : decode cX1_sent 81 = .ok (.iload_n 1, 1) := dk_27 (dk_at dksX1_sent_3 11 rfl rfl)
theorem dX1_sent_82 : decode cX1_sent 82 = .ok (.iload 4, 2) := dk_21 4 (dk_at dksX1_sent_3 12 rfl rfl)
theorem dX1_sent_84 : decode cX1_sent 84 = .ok (.ishr, 1) := dk_122 (dk_at dksX1_sent_3 14 rfl rfl)
theorem dX1_sent_85 : decode cX1_sent 85 = .ok (.iconst 1, 1) := dk_4 (dk_at dksX1_sent_3 15 rfl rfl)
theorem dX1_sent_86 : decode cX1_sent 86 = .ok (.iand, 1) := dk_126 (dk_at dksX1_sent_3 16 rfl rfl)
theorem dX1_sent_87 : decode cX1_sent 87 = .ok (.ifCond .ne 6, 3) := dk_154 0 6 (dk_at dksX1_sent_3 17 rfl rfl)
theorem dX1_sent_90 : decode cX1_sent 90 = .ok (.goto 14, 3) := dk_167 0 14 (dk_at dksX1_sent_3 20 rfl rfl)
theorem dX1_sent_93 : decode cX1_sent 93 = .ok (.aload_n 0, 1) := dk_42 (dk_at dksX1_sent_3 23 rfl rfl)
theorem dX1_sent_94 : decode cX1_sent 94 = .ok (.getfield 49, 3) := dk_180 0 49 (dk_at dksX1_sent_4 0 rfl rfl)
theorem dX1_sent_97 : decode cX1_sent 97 = .ok (.iload_n 3, 1) := dk_29 (dk_at dksX1_sent_4 3 rfl rfl)
theorem dX1_sent_98 : decode cX1_sent 98 = .ok (.iload 4, 2) := dk_21 4 (dk_at dksX1_sent_4 4 rfl rfl)
theorem dX1_sent_100 : decode cX1_sent 100 = .ok (.iastore, 1) := dk_79 (dk_at dksX1_sent_4 6 rfl rfl)
theorem dX1_sent_101 : decode cX1_sent 101 = .ok (.iinc 3 1, 3) := dk_132 3 1 (dk_at dksX1_sent_4 7 rfl rfl)
theorem dX1_sent_104 : decode cX1_sent 104 = .ok (.iinc 4 1, 3) := dk_132 4 1 (dk_at dksX1_sent_4 10 rfl rfl)
theorem dX1_sent_107 : decode cX1_sent 107 = .ok (.goto (-35), 3) := dk_167 255 221 (dk_at dksX1_sent_4 13 rfl rfl)
theorem dX1_sent_110 : decode cX1_sent 110 = .ok (.iload_n 3, 1) := dk_29 (dk_at dksX1_sent_4 16 rfl rfl)
theorem dX1_sent_111 : decode cX1_sent 111 = .ok (.aload_n 0, 1) := dk_42 (dk_at dksX1_sent_4 17 rfl rfl)
theorem dX1_sent_112 : decode cX1_sent 112 = .ok (.invokevirtual 86, 3) := dk_182 0 86 (dk_at dksX1_sent_4 18 rfl rfl)
theorem dX1_sent_115 : decode cX1_sent 115 = .ok (.if_icmp .le 6, 3) := dk_164 0 6 (dk_at dksX1_sent_4 21 rfl rfl)
theorem dX1_sent_118 : decode cX1_sent 118 = .ok (.bipush (-2), 2) := dk_16 254 (dk_at dksX1_sent_5 0 rfl rfl)
theorem dX1_sent_120 : decode cX1_sent 120 = .ok (.ireturn, 1) := dk_172 (dk_at dksX1_sent_5 2 rfl rfl)
theorem dX1_sent_121 : decode cX1_sent 121 = .ok (.aload_n 0, 1) := dk_42 (dk_at dksX1_sent_5 3 rfl rfl)
theorem dX1_sent_122 : decode cX1_sent 122 = .ok (.iload_n 3, 1) := dk_29 (dk_at dksX1_sent_5 4 rfl rfl)
theorem dX1_sent_123 : decode cX1_sent 123 = .ok (.invokevirtual 270, 3) := dk_182 1 14 (dk_at dksX1_sent_5 5 rfl rfl)
theorem dX1_sent_126 : decode cX1_sent 126 = .ok (.iload_n 2, 1) := dk_28 (dk_at dksX1_sent_5 8 rfl rfl)
theorem dX1_sent_127 : decode cX1_sent 127 = .ok (.iconst (-1), 1) := dk_2 (dk_at dksX1_sent_5 9 rfl rfl)
theorem dX1_sent_128 : decode cX1_sent 128 = .ok (.if_icmp .ne 10, 3) := dk_160 0 10 (dk_at dksX1_sent_5 10 rfl rfl)
theorem dX1_sent_131 : decode cX1_sent 131 = .ok (.aload_n 0, 1) := dk_42 (dk_at dksX1_sent_5 13 rfl rfl)
theorem dX1_sent_132 : decode cX1_sent 132 = .ok (.getfield 45, 3) := dk_180 0 45 (dk_at dksX1_sent_5 14 rfl rfl)
theorem dX1_sent_135 : decode cX1_sent 135 = .ok (.iconst 0, 1) := dk_3 (dk_at dksX1_sent_5 17 rfl rfl)
theorem dX1_sent_136 : decode cX1_sent 136 = .ok (.iaload, 1) := dk_46 (dk_at dksX1_sent_5 18 rfl rfl)
theorem dX1_sent_137 : decode cX1_sent 137 = .ok (.ireturn, 1) := dk_172 (dk_at dksX1_sent_5 19 rfl rfl)
theorem dX1_sent_138 : decode cX1_sent 138 = .ok (.iconst 0, 1) := dk_3 (dk_at dksX1_sent_5 20 rfl rfl)
theorem dX1_sent_139 : decode cX1_sent 139 = .ok (.istore 4, 2) := dk_54 4 (dk_at dksX1_sent_5 21 rfl rfl)
theorem dX1_sent_141 : decode cX1_sent 141 = .ok (.iconst 0, 1) := dk_3 (dk_at dksX1_sent_5 23 rfl rfl)
theorem dX1_sent_142 : decode cX1_sent 142 = .ok (.istore 5, 2) := dk_54 5 (dk_at dksX1_sent_6 0 rfl rfl)
theorem dX1_sent_144 : decode cX1_sent 144 = .ok (.iconst 0, 1) := dk_3 (dk_at dksX1_sent_6 2 rfl rfl)
theorem dX1_sent_145 : decode cX1_sent 145 = .ok (.istore 6, 2) := dk_54 6 (dk_at dksX1_sent_6 3 rfl rfl)
theorem dX1_sent_147 : decode cX1_sent 147 = .ok (.iload 4, 2) := dk_21 4 (dk_at dksX1_sent_6 5 rfl rfl)
theorem dX1_sent_149 : decode cX1_sent 149 = .ok (.iload 6, 2) := dk_21 6 (dk_at dksX1_sent_6 7 rfl rfl)
theorem dX1_sent_151 : decode cX1_sent 151 = .ok (.ishr, 1) := dk_122 (dk_at dksX1_sent_6 9 rfl rfl)
theorem dX1_sent_152 : decode cX1_sent 152 = .ok (.iconst 1, 1) := dk_4 (dk_at dksX1_sent_6 10 rfl rfl)
theorem dX1_sent_153 : decode cX1_sent 153 = .ok (.iand, 1) := dk_126 (dk_at dksX1_sent_6 11 rfl rfl)
theorem dX1_sent_154 : decode cX1_sent 154 = .ok (.iconst 1, 1) := dk_4 (dk_at dksX1_sent_6 12 rfl rfl)
theorem dX1_sent_155 : decode cX1_sent 155 = .ok (.if_icmp .eq 29, 3) := dk_159 0 29 (dk_at dksX1_sent_6 13 rfl rfl)
theorem dX1_sent_158 : decode cX1_sent 158 = .ok (.aload_n 0, 1) := dk_42 (dk_at dksX1_sent_6 16 rfl rfl)
theorem dX1_sent_159 : decode cX1_sent 159 = .ok (.iload 5, 2) := dk_21 5 (dk_at dksX1_sent_6 17 rfl rfl)
theorem dX1_sent_161 : decode cX1_sent 161 = .ok (.iload 6, 2) := dk_21 6 (dk_at dksX1_sent_6 19 rfl rfl)
theorem dX1_sent_163 : decode cX1_sent 163 = .ok (.iload 4, 2) := dk_21 4 (dk_at dksX1_sent_6 21 rfl rfl)
theorem dX1_sent_165 : decode cX1_sent 165 = .ok (.invokevirtual 263, 3) := dk_182 1 7 (dk_at dksX1_sent_7 0 rfl rfl)
theorem dX1_sent_168 : decode cX1_sent 168 = .ok (.aload_n 0, 1) := dk_42 (dk_at dksX1_sent_7 3 rfl rfl)
theorem dX1_sent_169 : decode cX1_sent 169 = .ok (.getfield 45, 3) := dk_180 0 45 (dk_at dksX1_sent_7 4 rfl rfl)
theorem dX1_sent_172 : decode cX1_sent 172 = .ok (.iload 5, 2) := dk_21 5 (dk_at dksX1_sent_7 7 rfl rfl)
theorem dX1_sent_174 : decode cX1_sent 174 = .ok (.bipush 6, 2) := dk_16 6 (dk_at dksX1_sent_7 9 rfl rfl)
theorem dX1_sent_176 : decode cX1_sent 176 = .ok (.ishl, 1) := dk_120 (dk_at dksX1_sent_7 11 rfl rfl)
theorem dX1_sent_177 : decode cX1_sent 177 = .ok (.iload 4, 2) := dk_21 4 (dk_at dksX1_sent_7 12 rfl rfl)
theorem dX1_sent_179 : decode cX1_sent 179 = .ok (.iadd, 1) := dk_96 (dk_at dksX1_sent_7 14 rfl rfl)
theorem dX1_sent_180 : decode cX1_sent 180 = .ok (.iaload, 1) := dk_46 (dk_at dksX1_sent_7 15 rfl rfl)
theorem dX1_sent_181 : decode cX1_sent 181 = .ok (.if_icmp .eq 9, 3) := dk_159 0 9 (dk_at dksX1_sent_7 16 rfl rfl)
theorem dX1_sent_184 : decode cX1_sent 184 = .ok (.iinc 6 1, 3) := dk_132 6 1 (dk_at dksX1_sent_7 19 rfl rfl)
theorem dX1_sent_187 : decode cX1_sent 187 = .ok (.goto (-40), 3) := dk_167 255 216 (dk_at dksX1_sent_8 0 rfl rfl)
theorem dX1_sent_190 : decode cX1_sent 190 = .ok (.aload_n 0, 1) := dk_42 (dk_at dksX1_sent_8 3 rfl rfl)
theorem dX1_sent_191 : decode cX1_sent 191 = .ok (.getfield 49, 3) := dk_180 0 49 (dk_at dksX1_sent_8 4 rfl rfl)
theorem dX1_sent_194 : decode cX1_sent 194 = .ok (.iload 5, 2) := dk_21 5 (dk_at dksX1_sent_8 7 rfl rfl)
theorem dX1_sent_196 : decode cX1_sent 196 = .ok (.iaload, 1) := dk_46 (dk_at dksX1_sent_8 9 rfl rfl)
theorem dX1_sent_197 : decode cX1_sent 197 = .ok (.iload_n 2, 1) := dk_28 (dk_at dksX1_sent_8 10 rfl rfl)
theorem dX1_sent_198 : decode cX1_sent 198 = .ok (.if_icmp .ne 6, 3) := dk_160 0 6 (dk_at dksX1_sent_8 11 rfl rfl)
theorem dX1_sent_201 : decode cX1_sent 201 = .ok (.iload 6, 2) := dk_21 6 (dk_at dksX1_sent_8 14 rfl rfl)
theorem dX1_sent_203 : decode cX1_sent 203 = .ok (.ireturn, 1) := dk_172 (dk_at dksX1_sent_8 16 rfl rfl)
theorem dX1_sent_204 : decode cX1_sent 204 = .ok (.iload 4, 2) := dk_21 4 (dk_at dksX1_sent_8 17 rfl rfl)
theorem dX1_sent_206 : decode cX1_sent 206 = .ok (.iconst 1, 1) := dk_4 (dk_at dksX1_sent_8 19 rfl rfl)
theorem dX1_sent_207 : decode cX1_sent 207 = .ok (.iload 6, 2) := dk_21 6 (dk_at dksX1_sent_8 20 rfl rfl)
theorem dX1_sent_209 : decode cX1_sent 209 = .ok (.ishl, 1) := dk_120 (dk_at dksX1_sent_8 22 rfl rfl)
theorem dX1_sent_210 : decode cX1_sent 210 = .ok (.ior, 1) := dk_128 (dk_at dksX1_sent_8 23 rfl rfl)
theorem dX1_sent_211 : decode cX1_sent 211 = .ok (.istore 4, 2) := dk_54 4 (dk_at dksX1_sent_9 0 rfl rfl)
theorem dX1_sent_213 : decode cX1_sent 213 = .ok (.iinc 5 1, 3) := dk_132 5 1 (dk_at dksX1_sent_9 2 rfl rfl)
theorem dX1_sent_216 : decode cX1_sent 216 = .ok (.goto (-72), 3) := dk_167 255 184 (dk_at dksX1_sent_9 5 rfl rfl)
abbrev cX1_sends : ByteArray := prog_1_method_41_code
def yX1_sends : MethodName := ⟨RX1, "sends", "(I)V"⟩
def dkwX1_sends_5 : List UInt8 := [132, 2, 255, 167, 255, 171, 177]
abbrev dktX1_sends_5 : List UInt8 := dkwX1_sends_5 ++ []
def dkwX1_sends_4 : List UInt8 := [167, 255, 220, 42, 180, 0, 45, 28, 16, 6, 120, 29, 96, 21, 4, 79, 132, 3, 1, 167, 255, 183]
abbrev dktX1_sends_4 : List UInt8 := dkwX1_sends_4 ++ dktX1_sends_5
def dkwX1_sends_3 : List UInt8 := [4, 126, 154, 0, 18, 21, 4, 42, 28, 21, 5, 29, 182, 1, 7, 184, 0, 221, 54, 4, 132, 5, 1]
abbrev dktX1_sends_3 : List UInt8 := dkwX1_sends_3 ++ dktX1_sends_4
def dkwX1_sends_2 : List UInt8 := [162, 0, 69, 17, 39, 15, 54, 4, 3, 54, 5, 21, 5, 42, 182, 0, 86, 162, 0, 33, 29, 21, 5, 122]
abbrev dktX1_sends_2 : List UInt8 := dkwX1_sends_2 ++ dktX1_sends_3
def dkwX1_sends_1 : List UInt8 := [132, 2, 1, 167, 255, 231, 27, 4, 100, 61, 28, 155, 0, 87, 3, 62, 29, 4, 42, 182, 0, 86, 120]
abbrev dktX1_sends_1 : List UInt8 := dkwX1_sends_1 ++ dktX1_sends_2
def dkwX1_sends_0 : List UInt8 := [3, 61, 28, 4, 42, 182, 0, 86, 120, 162, 0, 21, 42, 180, 0, 45, 27, 16, 6, 120, 28, 96, 3, 79]
abbrev dktX1_sends_0 : List UInt8 := dkwX1_sends_0 ++ dktX1_sends_1
theorem dksX1_sends_0 : cX1_sends.data.toList.drop 0 = dktX1_sends_0 := by decide +kernel
theorem dksX1_sends_1 : cX1_sends.data.toList.drop 24 = dktX1_sends_1 := dk_seg dksX1_sends_0 24 rfl rfl
theorem dksX1_sends_2 : cX1_sends.data.toList.drop 47 = dktX1_sends_2 := dk_seg dksX1_sends_1 23 rfl rfl
theorem dksX1_sends_3 : cX1_sends.data.toList.drop 71 = dktX1_sends_3 := dk_seg dksX1_sends_2 24 rfl rfl
theorem dksX1_sends_4 : cX1_sends.data.toList.drop 94 = dktX1_sends_4 := dk_seg dksX1_sends_3 23 rfl rfl
theorem dksX1_sends_5 : cX1_sends.data.toList.drop 116 = dktX1_sends_5 := dk_seg dksX1_sends_4 22 rfl rfl
theorem dX1_sends_0 : decode cX1_sends 0 = .ok (.iconst 0, 1) := dk_3 (dk_at dksX1_sends_0 0 rfl rfl)
theorem dX1_sends_1 : decode cX1_sends 1 = .ok (.istore_n 2, 1) := dk_61 (dk_at dksX1_sends_0 1 rfl rfl)
theorem dX1_sends_2 : decode cX1_sends 2 = .ok (.iload_n 2, 1) := dk_28 (dk_at dksX1_sends_0 2 rfl rfl)
theorem dX1_sends_3 : decode cX1_sends 3 = .ok (.iconst 1, 1) := dk_4 (dk_at dksX1_sends_0 3 rfl rfl)
theorem dX1_sends_4 : decode cX1_sends 4 = .ok (.aload_n 0, 1) := dk_42 (dk_at dksX1_sends_0 4 rfl rfl)
theorem dX1_sends_5 : decode cX1_sends 5 = .ok (.invokevirtual 86, 3) := dk_182 0 86 (dk_at dksX1_sends_0 5 rfl rfl)
theorem dX1_sends_8 : decode cX1_sends 8 = .ok (.ishl, 1) := dk_120 (dk_at dksX1_sends_0 8 rfl rfl)
theorem dX1_sends_9 : decode cX1_sends 9 = .ok (.if_icmp .ge 21, 3) := dk_162 0 21 (dk_at dksX1_sends_0 9 rfl rfl)
theorem dX1_sends_12 : decode cX1_sends 12 = .ok (.aload_n 0, 1) := dk_42 (dk_at dksX1_sends_0 12 rfl rfl)
theorem dX1_sends_13 : decode cX1_sends 13 = .ok (.getfield 45, 3) := dk_180 0 45 (dk_at dksX1_sends_0 13 rfl rfl)
theorem dX1_sends_16 : decode cX1_sends 16 = .ok (.iload_n 1, 1) := dk_27 (dk_at dksX1_sends_0 16 rfl rfl)
theorem dX1_sends_17 : decode cX1_sends 17 = .ok (.bipush 6, 2) := dk_16 6 (dk_at dksX1_sends_0 17 rfl rfl)
theorem dX1_sends_19 : decode cX1_sends 19 = .ok (.ishl, 1) := dk_120 (dk_at dksX1_sends_0 19 rfl rfl)
theorem dX1_sends_20 : decode cX1_sends 20 = .ok (.iload_n 2, 1) := dk_28 (dk_at dksX1_sends_0 20 rfl rfl)
theorem dX1_sends_21 : decode cX1_sends 21 = .ok (.iadd, 1) := dk_96 (dk_at dksX1_sends_0 21 rfl rfl)
theorem dX1_sends_22 : decode cX1_sends 22 = .ok (.iconst 0, 1) := dk_3 (dk_at dksX1_sends_0 22 rfl rfl)
theorem dX1_sends_23 : decode cX1_sends 23 = .ok (.iastore, 1) := dk_79 (dk_at dksX1_sends_0 23 rfl rfl)
theorem dX1_sends_24 : decode cX1_sends 24 = .ok (.iinc 2 1, 3) := dk_132 2 1 (dk_at dksX1_sends_1 0 rfl rfl)
theorem dX1_sends_27 : decode cX1_sends 27 = .ok (.goto (-25), 3) := dk_167 255 231 (dk_at dksX1_sends_1 3 rfl rfl)
theorem dX1_sends_30 : decode cX1_sends 30 = .ok (.iload_n 1, 1) := dk_27 (dk_at dksX1_sends_1 6 rfl rfl)
theorem dX1_sends_31 : decode cX1_sends 31 = .ok (.iconst 1, 1) := dk_4 (dk_at dksX1_sends_1 7 rfl rfl)
theorem dX1_sends_32 : decode cX1_sends 32 = .ok (.isub, 1) := dk_100 (dk_at dksX1_sends_1 8 rfl rfl)
theorem dX1_sends_33 : decode cX1_sends 33 = .ok (.istore_n 2, 1) := dk_61 (dk_at dksX1_sends_1 9 rfl rfl)
theorem dX1_sends_34 : decode cX1_sends 34 = .ok (.iload_n 2, 1) := dk_28 (dk_at dksX1_sends_1 10 rfl rfl)
theorem dX1_sends_35 : decode cX1_sends 35 = .ok (.ifCond .lt 87, 3) := dk_155 0 87 (dk_at dksX1_sends_1 11 rfl rfl)
theorem dX1_sends_38 : decode cX1_sends 38 = .ok (.iconst 0, 1) := dk_3 (dk_at dksX1_sends_1 14 rfl rfl)
theorem dX1_sends_39 : decode cX1_sends 39 = .ok (.istore_n 3, 1) := dk_62 (dk_at dksX1_sends_1 15 rfl rfl)
theorem dX1_sends_40 : decode cX1_sends 40 = .ok (.iload_n 3, 1) := dk_29 (dk_at dksX1_sends_1 16 rfl rfl)
theorem dX1_sends_41 : decode cX1_sends 41 = .ok (.iconst 1, 1) := dk_4 (dk_at dksX1_sends_1 17 rfl rfl)
theorem dX1_sends_42 : decode cX1_sends 42 = .ok (.aload_n 0, 1) := dk_42 (dk_at dksX1_sends_1 18 rfl rfl)
theorem dX1_sends_43 : decode cX1_sends 43 = .ok (.invokevirtual 86, 3) := dk_182 0 86 (dk_at dksX1_sends_1 19 rfl rfl)
theorem dX1_sends_46 : decode cX1_sends 46 = .ok (.ishl, 1) := dk_120 (dk_at dksX1_sends_1 22 rfl rfl)
theorem dX1_sends_47 : decode cX1_sends 47 = .ok (.if_icmp .ge 69, 3) := dk_162 0 69 (dk_at dksX1_sends_2 0 rfl rfl)
theorem dX1_sends_50 : decode cX1_sends 50 = .ok (.sipush 9999, 3) := dk_17 39 15 (dk_at dksX1_sends_2 3 rfl rfl)
theorem dX1_sends_53 : decode cX1_sends 53 = .ok (.istore 4, 2) := dk_54 4 (dk_at dksX1_sends_2 6 rfl rfl)
theorem dX1_sends_55 : decode cX1_sends 55 = .ok (.iconst 0, 1) := dk_3 (dk_at dksX1_sends_2 8 rfl rfl)
theorem dX1_sends_56 : decode cX1_sends 56 = .ok (.istore 5, 2) := dk_54 5 (dk_at dksX1_sends_2 9 rfl rfl)
theorem dX1_sends_58 : decode cX1_sends 58 = .ok (.iload 5, 2) := dk_21 5 (dk_at dksX1_sends_2 11 rfl rfl)
theorem dX1_sends_60 : decode cX1_sends 60 = .ok (.aload_n 0, 1) := dk_42 (dk_at dksX1_sends_2 13 rfl rfl)
theorem dX1_sends_61 : decode cX1_sends 61 = .ok (.invokevirtual 86, 3) := dk_182 0 86 (dk_at dksX1_sends_2 14 rfl rfl)
theorem dX1_sends_64 : decode cX1_sends 64 = .ok (.if_icmp .ge 33, 3) := dk_162 0 33 (dk_at dksX1_sends_2 17 rfl rfl)
theorem dX1_sends_67 : decode cX1_sends 67 = .ok (.iload_n 3, 1) := dk_29 (dk_at dksX1_sends_2 20 rfl rfl)
theorem dX1_sends_68 : decode cX1_sends 68 = .ok (.iload 5, 2) := dk_21 5 (dk_at dksX1_sends_2 21 rfl rfl)
theorem dX1_sends_70 : decode cX1_sends 70 = .ok (.ishr, 1) := dk_122 (dk_at dksX1_sends_2 23 rfl rfl)
theorem dX1_sends_71 : decode cX1_sends 71 = .ok (.iconst 1, 1) := dk_4 (dk_at dksX1_sends_3 0 rfl rfl)
theorem dX1_sends_72 : decode cX1_sends 72 = .ok (.iand, 1) := dk_126 (dk_at dksX1_sends_3 1 rfl rfl)
theorem dX1_sends_73 : decode cX1_sends 73 = .ok (.ifCond .ne 18, 3) := dk_154 0 18 (dk_at dksX1_sends_3 2 rfl rfl)
theorem dX1_sends_76 : decode cX1_sends 76 = .ok (.iload 4, 2) := dk_21 4 (dk_at dksX1_sends_3 5 rfl rfl)
theorem dX1_sends_78 : decode cX1_sends 78 = .ok (.aload_n 0, 1) := dk_42 (dk_at dksX1_sends_3 7 rfl rfl)
theorem dX1_sends_79 : decode cX1_sends 79 = .ok (.iload_n 2, 1) := dk_28 (dk_at dksX1_sends_3 8 rfl rfl)
theorem dX1_sends_80 : decode cX1_sends 80 = .ok (.iload 5, 2) := dk_21 5 (dk_at dksX1_sends_3 9 rfl rfl)
theorem dX1_sends_82 : decode cX1_sends 82 = .ok (.iload_n 3, 1) := dk_29 (dk_at dksX1_sends_3 11 rfl rfl)
theorem dX1_sends_83 : decode cX1_sends 83 = .ok (.invokevirtual 263, 3) := dk_182 1 7 (dk_at dksX1_sends_3 12 rfl rfl)
theorem dX1_sends_86 : decode cX1_sends 86 = .ok (.invokestatic 221, 3) := dk_184 0 221 (dk_at dksX1_sends_3 15 rfl rfl)
theorem dX1_sends_89 : decode cX1_sends 89 = .ok (.istore 4, 2) := dk_54 4 (dk_at dksX1_sends_3 18 rfl rfl)
theorem dX1_sends_91 : decode cX1_sends 91 = .ok (.iinc 5 1, 3) := dk_132 5 1 (dk_at dksX1_sends_3 20 rfl rfl)
theorem dX1_sends_94 : decode cX1_sends 94 = .ok (.goto (-36), 3) := dk_167 255 220 (dk_at dksX1_sends_4 0 rfl rfl)
theorem dX1_sends_97 : decode cX1_sends 97 = .ok (.aload_n 0, 1) := dk_42 (dk_at dksX1_sends_4 3 rfl rfl)
theorem dX1_sends_98 : decode cX1_sends 98 = .ok (.getfield 45, 3) := dk_180 0 45 (dk_at dksX1_sends_4 4 rfl rfl)
theorem dX1_sends_101 : decode cX1_sends 101 = .ok (.iload_n 2, 1) := dk_28 (dk_at dksX1_sends_4 7 rfl rfl)
theorem dX1_sends_102 : decode cX1_sends 102 = .ok (.bipush 6, 2) := dk_16 6 (dk_at dksX1_sends_4 8 rfl rfl)
theorem dX1_sends_104 : decode cX1_sends 104 = .ok (.ishl, 1) := dk_120 (dk_at dksX1_sends_4 10 rfl rfl)
theorem dX1_sends_105 : decode cX1_sends 105 = .ok (.iload_n 3, 1) := dk_29 (dk_at dksX1_sends_4 11 rfl rfl)
theorem dX1_sends_106 : decode cX1_sends 106 = .ok (.iadd, 1) := dk_96 (dk_at dksX1_sends_4 12 rfl rfl)
theorem dX1_sends_107 : decode cX1_sends 107 = .ok (.iload 4, 2) := dk_21 4 (dk_at dksX1_sends_4 13 rfl rfl)
theorem dX1_sends_109 : decode cX1_sends 109 = .ok (.iastore, 1) := dk_79 (dk_at dksX1_sends_4 15 rfl rfl)
theorem dX1_sends_110 : decode cX1_sends 110 = .ok (.iinc 3 1, 3) := dk_132 3 1 (dk_at dksX1_sends_4 16 rfl rfl)
theorem dX1_sends_113 : decode cX1_sends 113 = .ok (.goto (-73), 3) := dk_167 255 183 (dk_at dksX1_sends_4 19 rfl rfl)
theorem dX1_sends_116 : decode cX1_sends 116 = .ok (.iinc 2 (-1), 3) := dk_132 2 255 (dk_at dksX1_sends_5 0 rfl rfl)
theorem dX1_sends_119 : decode cX1_sends 119 = .ok (.goto (-85), 3) := dk_167 255 171 (dk_at dksX1_sends_5 3 rfl rfl)
theorem dX1_sends_122 : decode cX1_sends 122 = .ok (.return_, 1) := dk_177 (dk_at dksX1_sends_5 6 rfl rfl)
abbrev cX1_by : ByteArray := prog_1_method_40_code
def yX1_by : MethodName := ⟨RX1, "by", "(III)I"⟩
def dkwX1_by_1 : List UInt8 := [180, 0, 45, 27, 4, 96, 16, 6, 120, 29, 4, 28, 120, 128, 96, 46, 96, 172]
abbrev dktX1_by_1 : List UInt8 := dkwX1_by_1 ++ []
def dkwX1_by_0 : List UInt8 := [42, 180, 0, 10, 42, 180, 0, 30, 180, 0, 178, 28, 46, 42, 180, 0, 49, 27, 46, 182, 0, 165, 42]
abbrev dktX1_by_0 : List UInt8 := dkwX1_by_0 ++ dktX1_by_1
theorem dksX1_by_0 : cX1_by.data.toList.drop 0 = dktX1_by_0 := by decide +kernel
theorem dksX1_by_1 : cX1_by.data.toList.drop 23 = dktX1_by_1 := dk_seg dksX1_by_0 23 rfl rfl
theorem dX1_by_0 : decode cX1_by 0 = .ok (.aload_n 0, 1) := dk_42 (dk_at dksX1_by_0 0 rfl rfl)
theorem dX1_by_1 : decode cX1_by 1 = .ok (.getfield 10, 3) := dk_180 0 10 (dk_at dksX1_by_0 1 rfl rfl)
theorem dX1_by_4 : decode cX1_by 4 = .ok (.aload_n 0, 1) := dk_42 (dk_at dksX1_by_0 4 rfl rfl)
theorem dX1_by_5 : decode cX1_by 5 = .ok (.getfield 30, 3) := dk_180 0 30 (dk_at dksX1_by_0 5 rfl rfl)
theorem dX1_by_8 : decode cX1_by 8 = .ok (.getfield 178, 3) := dk_180 0 178 (dk_at dksX1_by_0 8 rfl rfl)
theorem dX1_by_11 : decode cX1_by 11 = .ok (.iload_n 2, 1) := dk_28 (dk_at dksX1_by_0 11 rfl rfl)
theorem dX1_by_12 : decode cX1_by 12 = .ok (.iaload, 1) := dk_46 (dk_at dksX1_by_0 12 rfl rfl)
theorem dX1_by_13 : decode cX1_by 13 = .ok (.aload_n 0, 1) := dk_42 (dk_at dksX1_by_0 13 rfl rfl)
theorem dX1_by_14 : decode cX1_by 14 = .ok (.getfield 49, 3) := dk_180 0 49 (dk_at dksX1_by_0 14 rfl rfl)
theorem dX1_by_17 : decode cX1_by 17 = .ok (.iload_n 1, 1) := dk_27 (dk_at dksX1_by_0 17 rfl rfl)
theorem dX1_by_18 : decode cX1_by 18 = .ok (.iaload, 1) := dk_46 (dk_at dksX1_by_0 18 rfl rfl)
theorem dX1_by_19 : decode cX1_by 19 = .ok (.invokevirtual 165, 3) := dk_182 0 165 (dk_at dksX1_by_0 19 rfl rfl)
theorem dX1_by_22 : decode cX1_by 22 = .ok (.aload_n 0, 1) := dk_42 (dk_at dksX1_by_0 22 rfl rfl)
theorem dX1_by_23 : decode cX1_by 23 = .ok (.getfield 45, 3) := dk_180 0 45 (dk_at dksX1_by_1 0 rfl rfl)
theorem dX1_by_26 : decode cX1_by 26 = .ok (.iload_n 1, 1) := dk_27 (dk_at dksX1_by_1 3 rfl rfl)
theorem dX1_by_27 : decode cX1_by 27 = .ok (.iconst 1, 1) := dk_4 (dk_at dksX1_by_1 4 rfl rfl)
theorem dX1_by_28 : decode cX1_by 28 = .ok (.iadd, 1) := dk_96 (dk_at dksX1_by_1 5 rfl rfl)
theorem dX1_by_29 : decode cX1_by 29 = .ok (.bipush 6, 2) := dk_16 6 (dk_at dksX1_by_1 6 rfl rfl)
theorem dX1_by_31 : decode cX1_by 31 = .ok (.ishl, 1) := dk_120 (dk_at dksX1_by_1 8 rfl rfl)
theorem dX1_by_32 : decode cX1_by 32 = .ok (.iload_n 3, 1) := dk_29 (dk_at dksX1_by_1 9 rfl rfl)
theorem dX1_by_33 : decode cX1_by 33 = .ok (.iconst 1, 1) := dk_4 (dk_at dksX1_by_1 10 rfl rfl)
theorem dX1_by_34 : decode cX1_by 34 = .ok (.iload_n 2, 1) := dk_28 (dk_at dksX1_by_1 11 rfl rfl)
theorem dX1_by_35 : decode cX1_by 35 = .ok (.ishl, 1) := dk_120 (dk_at dksX1_by_1 12 rfl rfl)
theorem dX1_by_36 : decode cX1_by 36 = .ok (.ior, 1) := dk_128 (dk_at dksX1_by_1 13 rfl rfl)
theorem dX1_by_37 : decode cX1_by 37 = .ok (.iadd, 1) := dk_96 (dk_at dksX1_by_1 14 rfl rfl)
theorem dX1_by_38 : decode cX1_by 38 = .ok (.iaload, 1) := dk_46 (dk_at dksX1_by_1 15 rfl rfl)
theorem dX1_by_39 : decode cX1_by 39 = .ok (.iadd, 1) := dk_96 (dk_at dksX1_by_1 16 rfl rfl)
theorem dX1_by_40 : decode cX1_by 40 = .ok (.ireturn, 1) := dk_172 (dk_at dksX1_by_1 17 rfl rfl)
abbrev cX1_band : ByteArray := prog_1_method_43_code
def yX1_band : MethodName := ⟨RX1, "band", "(I)I"⟩
def dkwX1_band_4 : List UInt8 := [21, 4, 61, 21, 5, 62, 132, 4, 1, 167, 255, 176, 28, 172]
abbrev dktX1_band_4 : List UInt8 := dkwX1_band_4 ++ []
def dkwX1_band_3 : List UInt8 := [104, 21, 6, 96, 46, 96, 54, 5, 132, 6, 1, 167, 255, 215, 21, 5, 29, 163, 0, 6, 167, 0, 9]
abbrev dktX1_band_3 : List UInt8 := dkwX1_band_3 ++ dktX1_band_4
def dkwX1_band_2 : List UInt8 := [180, 0, 137, 162, 0, 35, 21, 5, 42, 180, 0, 34, 180, 0, 172, 21, 4, 42, 180, 0, 10, 180, 0, 137]
abbrev dktX1_band_2 : List UInt8 := dkwX1_band_2 ++ dktX1_band_3
def dkwX1_band_1 : List UInt8 := [42, 180, 0, 10, 180, 1, 17, 162, 0, 74, 3, 54, 5, 3, 54, 6, 21, 6, 42, 180, 0, 10]
abbrev dktX1_band_1 : List UInt8 := dkwX1_band_1 ++ dktX1_band_2
def dkwX1_band_0 : List UInt8 := [27, 3, 16, 40, 184, 0, 133, 184, 0, 101, 42, 27, 182, 0, 234, 3, 61, 2, 62, 3, 54, 4, 21, 4]
abbrev dktX1_band_0 : List UInt8 := dkwX1_band_0 ++ dktX1_band_1
theorem dksX1_band_0 : cX1_band.data.toList.drop 0 = dktX1_band_0 := by decide +kernel
theorem dksX1_band_1 : cX1_band.data.toList.drop 24 = dktX1_band_1 := dk_seg dksX1_band_0 24 rfl rfl
theorem dksX1_band_2 : cX1_band.data.toList.drop 46 = dktX1_band_2 := dk_seg dksX1_band_1 22 rfl rfl
theorem dksX1_band_3 : cX1_band.data.toList.drop 70 = dktX1_band_3 := dk_seg dksX1_band_2 24 rfl rfl
theorem dksX1_band_4 : cX1_band.data.toList.drop 93 = dktX1_band_4 := dk_seg dksX1_band_3 23 rfl rfl
theorem dX1_band_0 : decode cX1_band 0 = .ok (.iload_n 1, 1) := dk_27 (dk_at dksX1_band_0 0 rfl rfl)
theorem dX1_band_1 : decode cX1_band 1 = .ok (.iconst 0, 1) := dk_3 (dk_at dksX1_band_0 1 rfl rfl)
theorem dX1_band_2 : decode cX1_band 2 = .ok (.bipush 40, 2) := dk_16 40 (dk_at dksX1_band_0 2 rfl rfl)
theorem dX1_band_4 : decode cX1_band 4 = .ok (.invokestatic 133, 3) := dk_184 0 133 (dk_at dksX1_band_0 4 rfl rfl)
theorem dX1_band_7 : decode cX1_band 7 = .ok (.invokestatic 101, 3) := dk_184 0 101 (dk_at dksX1_band_0 7 rfl rfl)
theorem dX1_band_10 : decode cX1_band 10 = .ok (.aload_n 0, 1) := dk_42 (dk_at dksX1_band_0 10 rfl rfl)
theorem dX1_band_11 : decode cX1_band 11 = .ok (.iload_n 1, 1) := dk_27 (dk_at dksX1_band_0 11 rfl rfl)
theorem dX1_band_12 : decode cX1_band 12 = .ok (.invokevirtual 234, 3) := dk_182 0 234 (dk_at dksX1_band_0 12 rfl rfl)
theorem dX1_band_15 : decode cX1_band 15 = .ok (.iconst 0, 1) := dk_3 (dk_at dksX1_band_0 15 rfl rfl)
theorem dX1_band_16 : decode cX1_band 16 = .ok (.istore_n 2, 1) := dk_61 (dk_at dksX1_band_0 16 rfl rfl)
theorem dX1_band_17 : decode cX1_band 17 = .ok (.iconst (-1), 1) := dk_2 (dk_at dksX1_band_0 17 rfl rfl)
theorem dX1_band_18 : decode cX1_band 18 = .ok (.istore_n 3, 1) := dk_62 (dk_at dksX1_band_0 18 rfl rfl)
theorem dX1_band_19 : decode cX1_band 19 = .ok (.iconst 0, 1) := dk_3 (dk_at dksX1_band_0 19 rfl rfl)
theorem dX1_band_20 : decode cX1_band 20 = .ok (.istore 4, 2) := dk_54 4 (dk_at dksX1_band_0 20 rfl rfl)
theorem dX1_band_22 : decode cX1_band 22 = .ok (.iload 4, 2) := dk_21 4 (dk_at dksX1_band_0 22 rfl rfl)
theorem dX1_band_24 : decode cX1_band 24 = .ok (.aload_n 0, 1) := dk_42 (dk_at dksX1_band_1 0 rfl rfl)
theorem dX1_band_25 : decode cX1_band 25 = .ok (.getfield 10, 3) := dk_180 0 10 (dk_at dksX1_band_1 1 rfl rfl)
theorem dX1_band_28 : decode cX1_band 28 = .ok (.getfield 273, 3) := dk_180 1 17 (dk_at dksX1_band_1 4 rfl rfl)
theorem dX1_band_31 : decode cX1_band 31 = .ok (.if_icmp .ge 74, 3) := dk_162 0 74 (dk_at dksX1_band_1 7 rfl rfl)
theorem dX1_band_34 : decode cX1_band 34 = .ok (.iconst 0, 1) := dk_3 (dk_at dksX1_band_1 10 rfl rfl)
theorem dX1_band_35 : decode cX1_band 35 = .ok (.istore 5, 2) := dk_54 5 (dk_at dksX1_band_1 11 rfl rfl)
theorem dX1_band_37 : decode cX1_band 37 = .ok (.iconst 0, 1) := dk_3 (dk_at dksX1_band_1 13 rfl rfl)
theorem dX1_band_38 : decode cX1_band 38 = .ok (.istore 6, 2) := dk_54 6 (dk_at dksX1_band_1 14 rfl rfl)
theorem dX1_band_40 : decode cX1_band 40 = .ok (.iload 6, 2) := dk_21 6 (dk_at dksX1_band_1 16 rfl rfl)
theorem dX1_band_42 : decode cX1_band 42 = .ok (.aload_n 0, 1) := dk_42 (dk_at dksX1_band_1 18 rfl rfl)
theorem dX1_band_43 : decode cX1_band 43 = .ok (.getfield 10, 3) := dk_180 0 10 (dk_at dksX1_band_1 19 rfl rfl)
theorem dX1_band_46 : decode cX1_band 46 = .ok (.getfield 137, 3) := dk_180 0 137 (dk_at dksX1_band_2 0 rfl rfl)
theorem dX1_band_49 : decode cX1_band 49 = .ok (.if_icmp .ge 35, 3) := dk_162 0 35 (dk_at dksX1_band_2 3 rfl rfl)
theorem dX1_band_52 : decode cX1_band 52 = .ok (.iload 5, 2) := dk_21 5 (dk_at dksX1_band_2 6 rfl rfl)
theorem dX1_band_54 : decode cX1_band 54 = .ok (.aload_n 0, 1) := dk_42 (dk_at dksX1_band_2 8 rfl rfl)
theorem dX1_band_55 : decode cX1_band 55 = .ok (.getfield 34, 3) := dk_180 0 34 (dk_at dksX1_band_2 9 rfl rfl)
theorem dX1_band_58 : decode cX1_band 58 = .ok (.getfield 172, 3) := dk_180 0 172 (dk_at dksX1_band_2 12 rfl rfl)
theorem dX1_band_61 : decode cX1_band 61 = .ok (.iload 4, 2) := dk_21 4 (dk_at dksX1_band_2 15 rfl rfl)
theorem dX1_band_63 : decode cX1_band 63 = .ok (.aload_n 0, 1) := dk_42 (dk_at dksX1_band_2 17 rfl rfl)
theorem dX1_band_64 : decode cX1_band 64 = .ok (.getfield 10, 3) := dk_180 0 10 (dk_at dksX1_band_2 18 rfl rfl)
theorem dX1_band_67 : decode cX1_band 67 = .ok (.getfield 137, 3) := dk_180 0 137 (dk_at dksX1_band_2 21 rfl rfl)
theorem dX1_band_70 : decode cX1_band 70 = .ok (.imul, 1) := dk_104 (dk_at dksX1_band_3 0 rfl rfl)
theorem dX1_band_71 : decode cX1_band 71 = .ok (.iload 6, 2) := dk_21 6 (dk_at dksX1_band_3 1 rfl rfl)
theorem dX1_band_73 : decode cX1_band 73 = .ok (.iadd, 1) := dk_96 (dk_at dksX1_band_3 3 rfl rfl)
theorem dX1_band_74 : decode cX1_band 74 = .ok (.iaload, 1) := dk_46 (dk_at dksX1_band_3 4 rfl rfl)
theorem dX1_band_75 : decode cX1_band 75 = .ok (.iadd, 1) := dk_96 (dk_at dksX1_band_3 5 rfl rfl)
theorem dX1_band_76 : decode cX1_band 76 = .ok (.istore 5, 2) := dk_54 5 (dk_at dksX1_band_3 6 rfl rfl)
theorem dX1_band_78 : decode cX1_band 78 = .ok (.iinc 6 1, 3) := dk_132 6 1 (dk_at dksX1_band_3 8 rfl rfl)
theorem dX1_band_81 : decode cX1_band 81 = .ok (.goto (-41), 3) := dk_167 255 215 (dk_at dksX1_band_3 11 rfl rfl)
theorem dX1_band_84 : decode cX1_band 84 = .ok (.iload 5, 2) := dk_21 5 (dk_at dksX1_band_3 14 rfl rfl)
theorem dX1_band_86 : decode cX1_band 86 = .ok (.iload_n 3, 1) := dk_29 (dk_at dksX1_band_3 16 rfl rfl)
theorem dX1_band_87 : decode cX1_band 87 = .ok (.if_icmp .gt 6, 3) := dk_163 0 6 (dk_at dksX1_band_3 17 rfl rfl)
theorem dX1_band_90 : decode cX1_band 90 = .ok (.goto 9, 3) := dk_167 0 9 (dk_at dksX1_band_3 20 rfl rfl)
theorem dX1_band_93 : decode cX1_band 93 = .ok (.iload 4, 2) := dk_21 4 (dk_at dksX1_band_4 0 rfl rfl)
theorem dX1_band_95 : decode cX1_band 95 = .ok (.istore_n 2, 1) := dk_61 (dk_at dksX1_band_4 2 rfl rfl)
theorem dX1_band_96 : decode cX1_band 96 = .ok (.iload 5, 2) := dk_21 5 (dk_at dksX1_band_4 3 rfl rfl)
theorem dX1_band_98 : decode cX1_band 98 = .ok (.istore_n 3, 1) := dk_62 (dk_at dksX1_band_4 5 rfl rfl)
theorem dX1_band_99 : decode cX1_band 99 = .ok (.iinc 4 1, 3) := dk_132 4 1 (dk_at dksX1_band_4 6 rfl rfl)
theorem dX1_band_102 : decode cX1_band 102 = .ok (.goto (-80), 3) := dk_167 255 176 (dk_at dksX1_band_4 9 rfl rfl)
theorem dX1_band_105 : decode cX1_band 105 = .ok (.iload_n 2, 1) := dk_28 (dk_at dksX1_band_4 12 rfl rfl)
theorem dX1_band_106 : decode cX1_band 106 = .ok (.ireturn, 1) := dk_172 (dk_at dksX1_band_4 13 rfl rfl)
abbrev cX1_steps : ByteArray := prog_1_method_45_code
def yX1_steps : MethodName := ⟨RX1, "steps", "(II)I"⟩
def dkwX1_steps_1 : List UInt8 := [28, 182, 0, 165, 172]
abbrev dktX1_steps_1 : List UInt8 := dkwX1_steps_1 ++ []
def dkwX1_steps_0 : List UInt8 := [42, 27, 182, 0, 184, 87, 42, 28, 182, 0, 169, 42, 180, 0, 10, 42, 180, 0, 30, 180, 0, 178, 27, 46]
abbrev dktX1_steps_0 : List UInt8 := dkwX1_steps_0 ++ dktX1_steps_1
theorem dksX1_steps_0 : cX1_steps.data.toList.drop 0 = dktX1_steps_0 := by decide +kernel
theorem dksX1_steps_1 : cX1_steps.data.toList.drop 24 = dktX1_steps_1 := dk_seg dksX1_steps_0 24 rfl rfl
theorem dX1_steps_0 : decode cX1_steps 0 = .ok (.aload_n 0, 1) := dk_42 (dk_at dksX1_steps_0 0 rfl rfl)
theorem dX1_steps_1 : decode cX1_steps 1 = .ok (.iload_n 1, 1) := dk_27 (dk_at dksX1_steps_0 1 rfl rfl)
theorem dX1_steps_2 : decode cX1_steps 2 = .ok (.invokevirtual 184, 3) := dk_182 0 184 (dk_at dksX1_steps_0 2 rfl rfl)
theorem dX1_steps_5 : decode cX1_steps 5 = .ok (.pop, 1) := dk_87 (dk_at dksX1_steps_0 5 rfl rfl)
theorem dX1_steps_6 : decode cX1_steps 6 = .ok (.aload_n 0, 1) := dk_42 (dk_at dksX1_steps_0 6 rfl rfl)
theorem dX1_steps_7 : decode cX1_steps 7 = .ok (.iload_n 2, 1) := dk_28 (dk_at dksX1_steps_0 7 rfl rfl)
theorem dX1_steps_8 : decode cX1_steps 8 = .ok (.invokevirtual 169, 3) := dk_182 0 169 (dk_at dksX1_steps_0 8 rfl rfl)
theorem dX1_steps_11 : decode cX1_steps 11 = .ok (.aload_n 0, 1) := dk_42 (dk_at dksX1_steps_0 11 rfl rfl)
theorem dX1_steps_12 : decode cX1_steps 12 = .ok (.getfield 10, 3) := dk_180 0 10 (dk_at dksX1_steps_0 12 rfl rfl)
theorem dX1_steps_15 : decode cX1_steps 15 = .ok (.aload_n 0, 1) := dk_42 (dk_at dksX1_steps_0 15 rfl rfl)
theorem dX1_steps_16 : decode cX1_steps 16 = .ok (.getfield 30, 3) := dk_180 0 30 (dk_at dksX1_steps_0 16 rfl rfl)
theorem dX1_steps_19 : decode cX1_steps 19 = .ok (.getfield 178, 3) := dk_180 0 178 (dk_at dksX1_steps_0 19 rfl rfl)
theorem dX1_steps_22 : decode cX1_steps 22 = .ok (.iload_n 1, 1) := dk_27 (dk_at dksX1_steps_0 22 rfl rfl)
theorem dX1_steps_23 : decode cX1_steps 23 = .ok (.iaload, 1) := dk_46 (dk_at dksX1_steps_0 23 rfl rfl)
theorem dX1_steps_24 : decode cX1_steps 24 = .ok (.iload_n 2, 1) := dk_28 (dk_at dksX1_steps_1 0 rfl rfl)
theorem dX1_steps_25 : decode cX1_steps 25 = .ok (.invokevirtual 165, 3) := dk_182 0 165 (dk_at dksX1_steps_1 1 rfl rfl)
theorem dX1_steps_28 : decode cX1_steps 28 = .ok (.ireturn, 1) := dk_172 (dk_at dksX1_steps_1 4 rfl rfl)
abbrev cX1_nearest : ByteArray := prog_1_method_46_code
def yX1_nearest : MethodName := ⟨RX1, "nearest", "(I)I"⟩
def dkwX1_nearest_2 : List UInt8 := [180, 0, 178, 28, 46, 27, 182, 0, 165, 162, 0, 5, 29, 61, 132, 3, 1, 167, 255, 201, 28, 172]
abbrev dktX1_nearest_2 : List UInt8 := dkwX1_nearest_2 ++ []
def dkwX1_nearest_1 : List UInt8 := [180, 0, 10, 42, 180, 0, 30, 180, 0, 178, 29, 46, 27, 182, 0, 165, 42, 180, 0, 10, 42, 180, 0, 30]
abbrev dktX1_nearest_1 : List UInt8 := dkwX1_nearest_1 ++ dktX1_nearest_2
def dkwX1_nearest_0 : List UInt8 := [42, 27, 182, 0, 169, 2, 61, 3, 62, 29, 42, 182, 0, 86, 162, 0, 53, 28, 2, 159, 0, 40, 42]
abbrev dktX1_nearest_0 : List UInt8 := dkwX1_nearest_0 ++ dktX1_nearest_1
theorem dksX1_nearest_0 : cX1_nearest.data.toList.drop 0 = dktX1_nearest_0 := by decide +kernel
theorem dksX1_nearest_1 : cX1_nearest.data.toList.drop 23 = dktX1_nearest_1 := dk_seg dksX1_nearest_0 23 rfl rfl
theorem dksX1_nearest_2 : cX1_nearest.data.toList.drop 47 = dktX1_nearest_2 := dk_seg dksX1_nearest_1 24 rfl rfl
theorem dX1_nearest_0 : decode cX1_nearest 0 = .ok (.aload_n 0, 1) := dk_42 (dk_at dksX1_nearest_0 0 rfl rfl)
theorem dX1_nearest_1 : decode cX1_nearest 1 = .ok (.iload_n 1, 1) := dk_27 (dk_at dksX1_nearest_0 1 rfl rfl)
theorem dX1_nearest_2 : decode cX1_nearest 2 = .ok (.invokevirtual 169, 3) := dk_182 0 169 (dk_at dksX1_nearest_0 2 rfl rfl)
theorem dX1_nearest_5 : decode cX1_nearest 5 = .ok (.iconst (-1), 1) := dk_2 (dk_at dksX1_nearest_0 5 rfl rfl)
theorem dX1_nearest_6 : decode cX1_nearest 6 = .ok (.istore_n 2, 1) := dk_61 (dk_at dksX1_nearest_0 6 rfl rfl)
theorem dX1_nearest_7 : decode cX1_nearest 7 = .ok (.iconst 0, 1) := dk_3 (dk_at dksX1_nearest_0 7 rfl rfl)
theorem dX1_nearest_8 : decode cX1_nearest 8 = .ok (.istore_n 3, 1) := dk_62 (dk_at dksX1_nearest_0 8 rfl rfl)
theorem dX1_nearest_9 : decode cX1_nearest 9 = .ok (.iload_n 3, 1) := dk_29 (dk_at dksX1_nearest_0 9 rfl rfl)
theorem dX1_nearest_10 : decode cX1_nearest 10 = .ok (.aload_n 0, 1) := dk_42 (dk_at dksX1_nearest_0 10 rfl rfl)
theorem dX1_nearest_11 : decode cX1_nearest 11 = .ok (.invokevirtual 86, 3) := dk_182 0 86 (dk_at dksX1_nearest_0 11 rfl rfl)
theorem dX1_nearest_14 : decode cX1_nearest 14 = .ok (.if_icmp .ge 53, 3) := dk_162 0 53 (dk_at dksX1_nearest_0 14 rfl rfl)
theorem dX1_nearest_17 : decode cX1_nearest 17 = .ok (.iload_n 2, 1) := dk_28 (dk_at dksX1_nearest_0 17 rfl rfl)
theorem dX1_nearest_18 : decode cX1_nearest 18 = .ok (.iconst (-1), 1) := dk_2 (dk_at dksX1_nearest_0 18 rfl rfl)
theorem dX1_nearest_19 : decode cX1_nearest 19 = .ok (.if_icmp .eq 40, 3) := dk_159 0 40 (dk_at dksX1_nearest_0 19 rfl rfl)
theorem dX1_nearest_22 : decode cX1_nearest 22 = .ok (.aload_n 0, 1) := dk_42 (dk_at dksX1_nearest_0 22 rfl rfl)
theorem dX1_nearest_23 : decode cX1_nearest 23 = .ok (.getfield 10, 3) := dk_180 0 10 (dk_at dksX1_nearest_1 0 rfl rfl)
theorem dX1_nearest_26 : decode cX1_nearest 26 = .ok (.aload_n 0, 1) := dk_42 (dk_at dksX1_nearest_1 3 rfl rfl)
theorem dX1_nearest_27 : decode cX1_nearest 27 = .ok (.getfield 30, 3) := dk_180 0 30 (dk_at dksX1_nearest_1 4 rfl rfl)
theorem dX1_nearest_30 : decode cX1_nearest 30 = .ok (.getfield 178, 3) := dk_180 0 178 (dk_at dksX1_nearest_1 7 rfl rfl)
theorem dX1_nearest_33 : decode cX1_nearest 33 = .ok (.iload_n 3, 1) := dk_29 (dk_at dksX1_nearest_1 10 rfl rfl)
theorem dX1_nearest_34 : decode cX1_nearest 34 = .ok (.iaload, 1) := dk_46 (dk_at dksX1_nearest_1 11 rfl rfl)
theorem dX1_nearest_35 : decode cX1_nearest 35 = .ok (.iload_n 1, 1) := dk_27 (dk_at dksX1_nearest_1 12 rfl rfl)
theorem dX1_nearest_36 : decode cX1_nearest 36 = .ok (.invokevirtual 165, 3) := dk_182 0 165 (dk_at dksX1_nearest_1 13 rfl rfl)
theorem dX1_nearest_39 : decode cX1_nearest 39 = .ok (.aload_n 0, 1) := dk_42 (dk_at dksX1_nearest_1 16 rfl rfl)
theorem dX1_nearest_40 : decode cX1_nearest 40 = .ok (.getfield 10, 3) := dk_180 0 10 (dk_at dksX1_nearest_1 17 rfl rfl)
theorem dX1_nearest_43 : decode cX1_nearest 43 = .ok (.aload_n 0, 1) := dk_42 (dk_at dksX1_nearest_1 20 rfl rfl)
theorem dX1_nearest_44 : decode cX1_nearest 44 = .ok (.getfield 30, 3) := dk_180 0 30 (dk_at dksX1_nearest_1 21 rfl rfl)
theorem dX1_nearest_47 : decode cX1_nearest 47 = .ok (.getfield 178, 3) := dk_180 0 178 (dk_at dksX1_nearest_2 0 rfl rfl)
theorem dX1_nearest_50 : decode cX1_nearest 50 = .ok (.iload_n 2, 1) := dk_28 (dk_at dksX1_nearest_2 3 rfl rfl)
theorem dX1_nearest_51 : decode cX1_nearest 51 = .ok (.iaload, 1) := dk_46 (dk_at dksX1_nearest_2 4 rfl rfl)
theorem dX1_nearest_52 : decode cX1_nearest 52 = .ok (.iload_n 1, 1) := dk_27 (dk_at dksX1_nearest_2 5 rfl rfl)
theorem dX1_nearest_53 : decode cX1_nearest 53 = .ok (.invokevirtual 165, 3) := dk_182 0 165 (dk_at dksX1_nearest_2 6 rfl rfl)
theorem dX1_nearest_56 : decode cX1_nearest 56 = .ok (.if_icmp .ge 5, 3) := dk_162 0 5 (dk_at dksX1_nearest_2 9 rfl rfl)
theorem dX1_nearest_59 : decode cX1_nearest 59 = .ok (.iload_n 3, 1) := dk_29 (dk_at dksX1_nearest_2 12 rfl rfl)
theorem dX1_nearest_60 : decode cX1_nearest 60 = .ok (.istore_n 2, 1) := dk_61 (dk_at dksX1_nearest_2 13 rfl rfl)
theorem dX1_nearest_61 : decode cX1_nearest 61 = .ok (.iinc 3 1, 3) := dk_132 3 1 (dk_at dksX1_nearest_2 14 rfl rfl)
theorem dX1_nearest_64 : decode cX1_nearest 64 = .ok (.goto (-55), 3) := dk_167 255 201 (dk_at dksX1_nearest_2 17 rfl rfl)
theorem dX1_nearest_67 : decode cX1_nearest 67 = .ok (.iload_n 2, 1) := dk_28 (dk_at dksX1_nearest_2 20 rfl rfl)
theorem dX1_nearest_68 : decode cX1_nearest 68 = .ok (.ireturn, 1) := dk_172 (dk_at dksX1_nearest_2 21 rfl rfl)
abbrev cX1_missed : ByteArray := prog_1_method_48_code
def yX1_missed : MethodName := ⟨RX1, "missed", "(I)I"⟩
def dkwX1_missed_0 : List UInt8 := [42, 27, 182, 0, 184, 87, 42, 27, 3, 182, 1, 26, 42, 27, 4, 182, 1, 26, 100, 172]
abbrev dktX1_missed_0 : List UInt8 := dkwX1_missed_0 ++ []
theorem dksX1_missed_0 : cX1_missed.data.toList.drop 0 = dktX1_missed_0 := by decide +kernel
theorem dX1_missed_0 : decode cX1_missed 0 = .ok (.aload_n 0, 1) := dk_42 (dk_at dksX1_missed_0 0 rfl rfl)
theorem dX1_missed_1 : decode cX1_missed 1 = .ok (.iload_n 1, 1) := dk_27 (dk_at dksX1_missed_0 1 rfl rfl)
theorem dX1_missed_2 : decode cX1_missed 2 = .ok (.invokevirtual 184, 3) := dk_182 0 184 (dk_at dksX1_missed_0 2 rfl rfl)
theorem dX1_missed_5 : decode cX1_missed 5 = .ok (.pop, 1) := dk_87 (dk_at dksX1_missed_0 5 rfl rfl)
theorem dX1_missed_6 : decode cX1_missed 6 = .ok (.aload_n 0, 1) := dk_42 (dk_at dksX1_missed_0 6 rfl rfl)
theorem dX1_missed_7 : decode cX1_missed 7 = .ok (.iload_n 1, 1) := dk_27 (dk_at dksX1_missed_0 7 rfl rfl)
theorem dX1_missed_8 : decode cX1_missed 8 = .ok (.iconst 0, 1) := dk_3 (dk_at dksX1_missed_0 8 rfl rfl)
theorem dX1_missed_9 : decode cX1_missed 9 = .ok (.invokevirtual 282, 3) := dk_182 1 26 (dk_at dksX1_missed_0 9 rfl rfl)
theorem dX1_missed_12 : decode cX1_missed 12 = .ok (.aload_n 0, 1) := dk_42 (dk_at dksX1_missed_0 12 rfl rfl)
theorem dX1_missed_13 : decode cX1_missed 13 = .ok (.iload_n 1, 1) := dk_27 (dk_at dksX1_missed_0 13 rfl rfl)
theorem dX1_missed_14 : decode cX1_missed 14 = .ok (.iconst 1, 1) := dk_4 (dk_at dksX1_missed_0 14 rfl rfl)
theorem dX1_missed_15 : decode cX1_missed 15 = .ok (.invokevirtual 282, 3) := dk_182 1 26 (dk_at dksX1_missed_0 15 rfl rfl)
theorem dX1_missed_18 : decode cX1_missed 18 = .ok (.isub, 1) := dk_100 (dk_at dksX1_missed_0 18 rfl rfl)
theorem dX1_missed_19 : decode cX1_missed 19 = .ok (.ireturn, 1) := dk_172 (dk_at dksX1_missed_0 19 rfl rfl)
abbrev cX1_allBy : ByteArray := prog_1_method_47_code
def yX1_allBy : MethodName := ⟨RX1, "allBy", "(IZ)I"⟩
def dkwX1_allBy_2 : List UInt8 := [180, 0, 10, 182, 0, 214, 42, 180, 0, 34, 42, 182, 0, 81, 182, 0, 161, 172]
abbrev dktX1_allBy_2 : List UInt8 := dkwX1_allBy_2 ++ []
def dkwX1_allBy_1 : List UInt8 := [153, 0, 18, 42, 180, 0, 34, 89, 180, 0, 158, 4, 27, 120, 128, 181, 0, 158, 42, 180, 0, 34, 42]
abbrev dktX1_allBy_1 : List UInt8 := dkwX1_allBy_1 ++ dktX1_allBy_2
def dkwX1_allBy_0 : List UInt8 := [42, 3, 182, 0, 234, 42, 180, 0, 34, 89, 180, 0, 158, 4, 27, 120, 2, 130, 126, 181, 0, 158, 28]
abbrev dktX1_allBy_0 : List UInt8 := dkwX1_allBy_0 ++ dktX1_allBy_1
theorem dksX1_allBy_0 : cX1_allBy.data.toList.drop 0 = dktX1_allBy_0 := by decide +kernel
theorem dksX1_allBy_1 : cX1_allBy.data.toList.drop 23 = dktX1_allBy_1 := dk_seg dksX1_allBy_0 23 rfl rfl
theorem dksX1_allBy_2 : cX1_allBy.data.toList.drop 46 = dktX1_allBy_2 := dk_seg dksX1_allBy_1 23 rfl rfl
theorem dX1_allBy_0 : decode cX1_allBy 0 = .ok (.aload_n 0, 1) := dk_42 (dk_at dksX1_allBy_0 0 rfl rfl)
theorem dX1_allBy_1 : decode cX1_allBy 1 = .ok (.iconst 0, 1) := dk_3 (dk_at dksX1_allBy_0 1 rfl rfl)
theorem dX1_allBy_2 : decode cX1_allBy 2 = .ok (.invokevirtual 234, 3) := dk_182 0 234 (dk_at dksX1_allBy_0 2 rfl rfl)
theorem dX1_allBy_5 : decode cX1_allBy 5 = .ok (.aload_n 0, 1) := dk_42 (dk_at dksX1_allBy_0 5 rfl rfl)
theorem dX1_allBy_6 : decode cX1_allBy 6 = .ok (.getfield 34, 3) := dk_180 0 34 (dk_at dksX1_allBy_0 6 rfl rfl)
theorem dX1_allBy_9 : decode cX1_allBy 9 = .ok (.dup, 1) := dk_89 (dk_at dksX1_allBy_0 9 rfl rfl)
theorem dX1_allBy_10 : decode cX1_allBy 10 = .ok (.getfield 158, 3) := dk_180 0 158 (dk_at dksX1_allBy_0 10 rfl rfl)
theorem dX1_allBy_13 : decode cX1_allBy 13 = .ok (.iconst 1, 1) := dk_4 (dk_at dksX1_allBy_0 13 rfl rfl)
theorem dX1_allBy_14 : decode cX1_allBy 14 = .ok (.iload_n 1, 1) := dk_27 (dk_at dksX1_allBy_0 14 rfl rfl)
theorem dX1_allBy_15 : decode cX1_allBy 15 = .ok (.ishl, 1) := dk_120 (dk_at dksX1_allBy_0 15 rfl rfl)
theorem dX1_allBy_16 : decode cX1_allBy 16 = .ok (.iconst (-1), 1) := dk_2 (dk_at dksX1_allBy_0 16 rfl rfl)
theorem dX1_allBy_17 : decode cX1_allBy 17 = .ok (.ixor, 1) := dk_130 (dk_at dksX1_allBy_0 17 rfl rfl)
theorem dX1_allBy_18 : decode cX1_allBy 18 = .ok (.iand, 1) := dk_126 (dk_at dksX1_allBy_0 18 rfl rfl)
theorem dX1_allBy_19 : decode cX1_allBy 19 = .ok (.putfield 158, 3) := dk_181 0 158 (dk_at dksX1_allBy_0 19 rfl rfl)
theorem dX1_allBy_22 : decode cX1_allBy 22 = .ok (.iload_n 2, 1) := dk_28 (dk_at dksX1_allBy_0 22 rfl rfl)
theorem dX1_allBy_23 : decode cX1_allBy 23 = .ok (.ifCond .eq 18, 3) := dk_153 0 18 (dk_at dksX1_allBy_1 0 rfl rfl)
theorem dX1_allBy_26 : decode cX1_allBy 26 = .ok (.aload_n 0, 1) := dk_42 (dk_at dksX1_allBy_1 3 rfl rfl)
theorem dX1_allBy_27 : decode cX1_allBy 27 = .ok (.getfield 34, 3) := dk_180 0 34 (dk_at dksX1_allBy_1 4 rfl rfl)
theorem dX1_allBy_30 : decode cX1_allBy 30 = .ok (.dup, 1) := dk_89 (dk_at dksX1_allBy_1 7 rfl rfl)
theorem dX1_allBy_31 : decode cX1_allBy 31 = .ok (.getfield 158, 3) := dk_180 0 158 (dk_at dksX1_allBy_1 8 rfl rfl)
theorem dX1_allBy_34 : decode cX1_allBy 34 = .ok (.iconst 1, 1) := dk_4 (dk_at dksX1_allBy_1 11 rfl rfl)
theorem dX1_allBy_35 : decode cX1_allBy 35 = .ok (.iload_n 1, 1) := dk_27 (dk_at dksX1_allBy_1 12 rfl rfl)
theorem dX1_allBy_36 : decode cX1_allBy 36 = .ok (.ishl, 1) := dk_120 (dk_at dksX1_allBy_1 13 rfl rfl)
theorem dX1_allBy_37 : decode cX1_allBy 37 = .ok (.ior, 1) := dk_128 (dk_at dksX1_allBy_1 14 rfl rfl)
theorem dX1_allBy_38 : decode cX1_allBy 38 = .ok (.putfield 158, 3) := dk_181 0 158 (dk_at dksX1_allBy_1 15 rfl rfl)
theorem dX1_allBy_41 : decode cX1_allBy 41 = .ok (.aload_n 0, 1) := dk_42 (dk_at dksX1_allBy_1 18 rfl rfl)
theorem dX1_allBy_42 : decode cX1_allBy 42 = .ok (.getfield 34, 3) := dk_180 0 34 (dk_at dksX1_allBy_1 19 rfl rfl)
theorem dX1_allBy_45 : decode cX1_allBy 45 = .ok (.aload_n 0, 1) := dk_42 (dk_at dksX1_allBy_1 22 rfl rfl)
theorem dX1_allBy_46 : decode cX1_allBy 46 = .ok (.getfield 10, 3) := dk_180 0 10 (dk_at dksX1_allBy_2 0 rfl rfl)
theorem dX1_allBy_49 : decode cX1_allBy 49 = .ok (.invokevirtual 214, 3) := dk_182 0 214 (dk_at dksX1_allBy_2 3 rfl rfl)
theorem dX1_allBy_52 : decode cX1_allBy 52 = .ok (.aload_n 0, 1) := dk_42 (dk_at dksX1_allBy_2 6 rfl rfl)
theorem dX1_allBy_53 : decode cX1_allBy 53 = .ok (.getfield 34, 3) := dk_180 0 34 (dk_at dksX1_allBy_2 7 rfl rfl)
theorem dX1_allBy_56 : decode cX1_allBy 56 = .ok (.aload_n 0, 1) := dk_42 (dk_at dksX1_allBy_2 10 rfl rfl)
theorem dX1_allBy_57 : decode cX1_allBy 57 = .ok (.invokevirtual 81, 3) := dk_182 0 81 (dk_at dksX1_allBy_2 11 rfl rfl)
theorem dX1_allBy_60 : decode cX1_allBy 60 = .ok (.invokevirtual 161, 3) := dk_182 0 161 (dk_at dksX1_allBy_2 14 rfl rfl)
theorem dX1_allBy_63 : decode cX1_allBy 63 = .ok (.ireturn, 1) := dk_172 (dk_at dksX1_allBy_2 17 rfl rfl)
abbrev cX1_see : ByteArray := prog_1_method_49_code
def yX1_see : MethodName := ⟨RX1, "see", "(III)I"⟩
def dkwX1_see_4 : List UInt8 := [180, 0, 19, 89, 180, 0, 126, 4, 96, 181, 0, 126, 42, 180, 0, 19, 180, 0, 126, 172]
abbrev dktX1_see_4 : List UInt8 := dkwX1_see_4 ++ []
def dkwX1_see_3 : List UInt8 := [180, 0, 126, 28, 79, 42, 180, 0, 19, 180, 1, 36, 42, 180, 0, 19, 180, 0, 126, 29, 79, 42]
abbrev dktX1_see_3 : List UInt8 := dkwX1_see_3 ++ dktX1_see_4
def dkwX1_see_2 : List UInt8 := [180, 1, 30, 42, 180, 0, 19, 180, 0, 126, 27, 79, 42, 180, 0, 19, 180, 1, 33, 42, 180, 0, 19]
abbrev dktX1_see_2 : List UInt8 := dkwX1_see_2 ++ dktX1_see_3
def dkwX1_see_1 : List UInt8 := [153, 0, 13, 29, 3, 16, 99, 184, 0, 133, 154, 0, 9, 42, 5, 182, 0, 207, 172, 42, 180, 0, 19]
abbrev dktX1_see_1 : List UInt8 := dkwX1_see_1 ++ dktX1_see_2
def dkwX1_see_0 : List UInt8 := [42, 27, 182, 0, 169, 42, 180, 0, 19, 180, 0, 126, 16, 8, 159, 0, 23, 28, 3, 16, 20, 184, 0, 133]
abbrev dktX1_see_0 : List UInt8 := dkwX1_see_0 ++ dktX1_see_1
theorem dksX1_see_0 : cX1_see.data.toList.drop 0 = dktX1_see_0 := by decide +kernel
theorem dksX1_see_1 : cX1_see.data.toList.drop 24 = dktX1_see_1 := dk_seg dksX1_see_0 24 rfl rfl
theorem dksX1_see_2 : cX1_see.data.toList.drop 47 = dktX1_see_2 := dk_seg dksX1_see_1 23 rfl rfl
theorem dksX1_see_3 : cX1_see.data.toList.drop 70 = dktX1_see_3 := dk_seg dksX1_see_2 23 rfl rfl
theorem dksX1_see_4 : cX1_see.data.toList.drop 92 = dktX1_see_4 := dk_seg dksX1_see_3 22 rfl rfl
theorem dX1_see_0 : decode cX1_see 0 = .ok (.aload_n 0, 1) := dk_42 (dk_at dksX1_see_0 0 rfl rfl)
theorem dX1_see_1 : decode cX1_see 1 = .ok (.iload_n 1, 1) := dk_27 (dk_at dksX1_see_0 1 rfl rfl)
theorem dX1_see_2 : decode cX1_see 2 = .ok (.invokevirtual 169, 3) := dk_182 0 169 (dk_at dksX1_see_0 2 rfl rfl)
theorem dX1_see_5 : decode cX1_see 5 = .ok (.aload_n 0, 1) := dk_42 (dk_at dksX1_see_0 5 rfl rfl)
theorem dX1_see_6 : decode cX1_see 6 = .ok (.getfield 19, 3) := dk_180 0 19 (dk_at dksX1_see_0 6 rfl rfl)
theorem dX1_see_9 : decode cX1_see 9 = .ok (.getfield 126, 3) := dk_180 0 126 (dk_at dksX1_see_0 9 rfl rfl)
theorem dX1_see_12 : decode cX1_see 12 = .ok (.bipush 8, 2) := dk_16 8 (dk_at dksX1_see_0 12 rfl rfl)
theorem dX1_see_14 : decode cX1_see 14 = .ok (.if_icmp .eq 23, 3) := dk_159 0 23 (dk_at dksX1_see_0 14 rfl rfl)
theorem dX1_see_17 : decode cX1_see 17 = .ok (.iload_n 2, 1) := dk_28 (dk_at dksX1_see_0 17 rfl rfl)
theorem dX1_see_18 : decode cX1_see 18 = .ok (.iconst 0, 1) := dk_3 (dk_at dksX1_see_0 18 rfl rfl)
theorem dX1_see_19 : decode cX1_see 19 = .ok (.bipush 20, 2) := dk_16 20 (dk_at dksX1_see_0 19 rfl rfl)
theorem dX1_see_21 : decode cX1_see 21 = .ok (.invokestatic 133, 3) := dk_184 0 133 (dk_at dksX1_see_0 21 rfl rfl)
theorem dX1_see_24 : decode cX1_see 24 = .ok (.ifCond .eq 13, 3) := dk_153 0 13 (dk_at dksX1_see_1 0 rfl rfl)
theorem dX1_see_27 : decode cX1_see 27 = .ok (.iload_n 3, 1) := dk_29 (dk_at dksX1_see_1 3 rfl rfl)
theorem dX1_see_28 : decode cX1_see 28 = .ok (.iconst 0, 1) := dk_3 (dk_at dksX1_see_1 4 rfl rfl)
theorem dX1_see_29 : decode cX1_see 29 = .ok (.bipush 99, 2) := dk_16 99 (dk_at dksX1_see_1 5 rfl rfl)
theorem dX1_see_31 : decode cX1_see 31 = .ok (.invokestatic 133, 3) := dk_184 0 133 (dk_at dksX1_see_1 7 rfl rfl)
theorem dX1_see_34 : decode cX1_see 34 = .ok (.ifCond .ne 9, 3) := dk_154 0 9 (dk_at dksX1_see_1 10 rfl rfl)
theorem dX1_see_37 : decode cX1_see 37 = .ok (.aload_n 0, 1) := dk_42 (dk_at dksX1_see_1 13 rfl rfl)
theorem dX1_see_38 : decode cX1_see 38 = .ok (.iconst 2, 1) := dk_5 (dk_at dksX1_see_1 14 rfl rfl)
theorem dX1_see_39 : decode cX1_see 39 = .ok (.invokevirtual 207, 3) := dk_182 0 207 (dk_at dksX1_see_1 15 rfl rfl)
theorem dX1_see_42 : decode cX1_see 42 = .ok (.ireturn, 1) := dk_172 (dk_at dksX1_see_1 18 rfl rfl)
theorem dX1_see_43 : decode cX1_see 43 = .ok (.aload_n 0, 1) := dk_42 (dk_at dksX1_see_1 19 rfl rfl)
theorem dX1_see_44 : decode cX1_see 44 = .ok (.getfield 19, 3) := dk_180 0 19 (dk_at dksX1_see_1 20 rfl rfl)
theorem dX1_see_47 : decode cX1_see 47 = .ok (.getfield 286, 3) := dk_180 1 30 (dk_at dksX1_see_2 0 rfl rfl)
theorem dX1_see_50 : decode cX1_see 50 = .ok (.aload_n 0, 1) := dk_42 (dk_at dksX1_see_2 3 rfl rfl)
theorem dX1_see_51 : decode cX1_see 51 = .ok (.getfield 19, 3) := dk_180 0 19 (dk_at dksX1_see_2 4 rfl rfl)
theorem dX1_see_54 : decode cX1_see 54 = .ok (.getfield 126, 3) := dk_180 0 126 (dk_at dksX1_see_2 7 rfl rfl)
theorem dX1_see_57 : decode cX1_see 57 = .ok (.iload_n 1, 1) := dk_27 (dk_at dksX1_see_2 10 rfl rfl)
theorem dX1_see_58 : decode cX1_see 58 = .ok (.iastore, 1) := dk_79 (dk_at dksX1_see_2 11 rfl rfl)
theorem dX1_see_59 : decode cX1_see 59 = .ok (.aload_n 0, 1) := dk_42 (dk_at dksX1_see_2 12 rfl rfl)
theorem dX1_see_60 : decode cX1_see 60 = .ok (.getfield 19, 3) := dk_180 0 19 (dk_at dksX1_see_2 13 rfl rfl)
theorem dX1_see_63 : decode cX1_see 63 = .ok (.getfield 289, 3) := dk_180 1 33 (dk_at dksX1_see_2 16 rfl rfl)
theorem dX1_see_66 : decode cX1_see 66 = .ok (.aload_n 0, 1) := dk_42 (dk_at dksX1_see_2 19 rfl rfl)
theorem dX1_see_67 : decode cX1_see 67 = .ok (.getfield 19, 3) := dk_180 0 19 (dk_at dksX1_see_2 20 rfl rfl)
theorem dX1_see_70 : decode cX1_see 70 = .ok (.getfield 126, 3) := dk_180 0 126 (dk_at dksX1_see_3 0 rfl rfl)
theorem dX1_see_73 : decode cX1_see 73 = .ok (.iload_n 2, 1) := dk_28 (dk_at dksX1_see_3 3 rfl rfl)
theorem dX1_see_74 : decode cX1_see 74 = .ok (.iastore, 1) := dk_79 (dk_at dksX1_see_3 4 rfl rfl)
theorem dX1_see_75 : decode cX1_see 75 = .ok (.aload_n 0, 1) := dk_42 (dk_at dksX1_see_3 5 rfl rfl)
theorem dX1_see_76 : decode cX1_see 76 = .ok (.getfield 19, 3) := dk_180 0 19 (dk_at dksX1_see_3 6 rfl rfl)
theorem dX1_see_79 : decode cX1_see 79 = .ok (.getfield 292, 3) := dk_180 1 36 (dk_at dksX1_see_3 9 rfl rfl)
theorem dX1_see_82 : decode cX1_see 82 = .ok (.aload_n 0, 1) := dk_42 (dk_at dksX1_see_3 12 rfl rfl)
theorem dX1_see_83 : decode cX1_see 83 = .ok (.getfield 19, 3) := dk_180 0 19 (dk_at dksX1_see_3 13 rfl rfl)
theorem dX1_see_86 : decode cX1_see 86 = .ok (.getfield 126, 3) := dk_180 0 126 (dk_at dksX1_see_3 16 rfl rfl)
theorem dX1_see_89 : decode cX1_see 89 = .ok (.iload_n 3, 1) := dk_29 (dk_at dksX1_see_3 19 rfl rfl)
theorem dX1_see_90 : decode cX1_see 90 = .ok (.iastore, 1) := dk_79 (dk_at dksX1_see_3 20 rfl rfl)
theorem dX1_see_91 : decode cX1_see 91 = .ok (.aload_n 0, 1) := dk_42 (dk_at dksX1_see_3 21 rfl rfl)
theorem dX1_see_92 : decode cX1_see 92 = .ok (.getfield 19, 3) := dk_180 0 19 (dk_at dksX1_see_4 0 rfl rfl)
theorem dX1_see_95 : decode cX1_see 95 = .ok (.dup, 1) := dk_89 (dk_at dksX1_see_4 3 rfl rfl)
theorem dX1_see_96 : decode cX1_see 96 = .ok (.getfield 126, 3) := dk_180 0 126 (dk_at dksX1_see_4 4 rfl rfl)
theorem dX1_see_99 : decode cX1_see 99 = .ok (.iconst 1, 1) := dk_4 (dk_at dksX1_see_4 7 rfl rfl)
theorem dX1_see_100 : decode cX1_see 100 = .ok (.iadd, 1) := dk_96 (dk_at dksX1_see_4 8 rfl rfl)
theorem dX1_see_101 : decode cX1_see 101 = .ok (.putfield 126, 3) := dk_181 0 126 (dk_at dksX1_see_4 9 rfl rfl)
theorem dX1_see_104 : decode cX1_see 104 = .ok (.aload_n 0, 1) := dk_42 (dk_at dksX1_see_4 12 rfl rfl)
theorem dX1_see_105 : decode cX1_see 105 = .ok (.getfield 19, 3) := dk_180 0 19 (dk_at dksX1_see_4 13 rfl rfl)
theorem dX1_see_108 : decode cX1_see 108 = .ok (.getfield 126, 3) := dk_180 0 126 (dk_at dksX1_see_4 16 rfl rfl)
theorem dX1_see_111 : decode cX1_see 111 = .ok (.ireturn, 1) := dk_172 (dk_at dksX1_see_4 19 rfl rfl)
abbrev cX1_skilled : ByteArray := prog_1_method_53_code
def yX1_skilled : MethodName := ⟨RX1, "skilled", "(I)I"⟩
def dkwX1_skilled_4 : List UInt8 := [167, 0, 4, 29, 172]
abbrev dktX1_skilled_4 : List UInt8 := dkwX1_skilled_4 ++ []
def dkwX1_skilled_3 : List UInt8 := [132, 2, 1, 29, 2, 160, 0, 6, 21, 4, 62, 132, 4, 1, 167, 255, 214, 27, 154, 0, 7, 28]
abbrev dktX1_skilled_3 : List UInt8 := dkwX1_skilled_3 ++ dktX1_skilled_4
def dkwX1_skilled_2 : List UInt8 := [162, 0, 39, 42, 21, 4, 182, 1, 45, 153, 0, 24, 42, 182, 1, 39, 154, 0, 6, 167, 0, 14]
abbrev dktX1_skilled_2 : List UInt8 := dkwX1_skilled_2 ++ dktX1_skilled_3
def dkwX1_skilled_1 : List UInt8 := [153, 0, 7, 4, 167, 0, 4, 3, 172, 3, 61, 2, 62, 3, 54, 4, 21, 4, 42, 182, 1, 42]
abbrev dktX1_skilled_1 : List UInt8 := dkwX1_skilled_1 ++ dktX1_skilled_2
def dkwX1_skilled_0 : List UInt8 := [27, 3, 5, 184, 0, 133, 184, 0, 82, 27, 5, 160, 0, 21, 42, 3, 182, 0, 234, 42, 182, 1, 39]
abbrev dktX1_skilled_0 : List UInt8 := dkwX1_skilled_0 ++ dktX1_skilled_1
theorem dksX1_skilled_0 : cX1_skilled.data.toList.drop 0 = dktX1_skilled_0 := by decide +kernel
theorem dksX1_skilled_1 : cX1_skilled.data.toList.drop 23 = dktX1_skilled_1 := dk_seg dksX1_skilled_0 23 rfl rfl
theorem dksX1_skilled_2 : cX1_skilled.data.toList.drop 45 = dktX1_skilled_2 := dk_seg dksX1_skilled_1 22 rfl rfl
theorem dksX1_skilled_3 : cX1_skilled.data.toList.drop 67 = dktX1_skilled_3 := dk_seg dksX1_skilled_2 22 rfl rfl
theorem dksX1_skilled_4 : cX1_skilled.data.toList.drop 89 = dktX1_skilled_4 := dk_seg dksX1_skilled_3 22 rfl rfl
theorem dX1_skilled_0 : decode cX1_skilled 0 = .ok (.iload_n 1, 1) := dk_27 (dk_at dksX1_skilled_0 0 rfl rfl)
theorem dX1_skilled_1 : decode cX1_skilled 1 = .ok (.iconst 0, 1) := dk_3 (dk_at dksX1_skilled_0 1 rfl rfl)
theorem dX1_skilled_2 : decode cX1_skilled 2 = .ok (.iconst 2, 1) := dk_5 (dk_at dksX1_skilled_0 2 rfl rfl)
theorem dX1_skilled_3 : decode cX1_skilled 3 = .ok (.invokestatic 133, 3) := dk_184 0 133 (dk_at dksX1_skilled_0 3 rfl rfl)
theorem dX1_skilled_6 : decode cX1_skilled 6 = .ok (.invokestatic 82, 3) := dk_184 0 82 (dk_at dksX1_skilled_0 6 rfl rfl)
theorem dX1_skilled_9 : decode cX1_skilled 9 = .ok (.iload_n 1, 1) := dk_27 (dk_at dksX1_skilled_0 9 rfl rfl)
theorem dX1_skilled_10 : decode cX1_skilled 10 = .ok (.iconst 2, 1) := dk_5 (dk_at dksX1_skilled_0 10 rfl rfl)
theorem dX1_skilled_11 : decode cX1_skilled 11 = .ok (.if_icmp .ne 21, 3) := dk_160 0 21 (dk_at dksX1_skilled_0 11 rfl rfl)
theorem dX1_skilled_14 : decode cX1_skilled 14 = .ok (.aload_n 0, 1) := dk_42 (dk_at dksX1_skilled_0 14 rfl rfl)
theorem dX1_skilled_15 : decode cX1_skilled 15 = .ok (.iconst 0, 1) := dk_3 (dk_at dksX1_skilled_0 15 rfl rfl)
theorem dX1_skilled_16 : decode cX1_skilled 16 = .ok (.invokevirtual 234, 3) := dk_182 0 234 (dk_at dksX1_skilled_0 16 rfl rfl)
theorem dX1_skilled_19 : decode cX1_skilled 19 = .ok (.aload_n 0, 1) := dk_42 (dk_at dksX1_skilled_0 19 rfl rfl)
theorem dX1_skilled_20 : decode cX1_skilled 20 = .ok (.invokevirtual 295, 3) := dk_182 1 39 (dk_at dksX1_skilled_0 20 rfl rfl)
theorem dX1_skilled_23 : decode cX1_skilled 23 = .ok (.ifCond .eq 7, 3) := dk_153 0 7 (dk_at dksX1_skilled_1 0 rfl rfl)
theorem dX1_skilled_26 : decode cX1_skilled 26 = .ok (.iconst 1, 1) := dk_4 (dk_at dksX1_skilled_1 3 rfl rfl)
theorem dX1_skilled_27 : decode cX1_skilled 27 = .ok (.goto 4, 3) := dk_167 0 4 (dk_at dksX1_skilled_1 4 rfl rfl)
theorem dX1_skilled_30 : decode cX1_skilled 30 = .ok (.iconst 0, 1) := dk_3 (dk_at dksX1_skilled_1 7 rfl rfl)
theorem dX1_skilled_31 : decode cX1_skilled 31 = .ok (.ireturn, 1) := dk_172 (dk_at dksX1_skilled_1 8 rfl rfl)
theorem dX1_skilled_32 : decode cX1_skilled 32 = .ok (.iconst 0, 1) := dk_3 (dk_at dksX1_skilled_1 9 rfl rfl)
theorem dX1_skilled_33 : decode cX1_skilled 33 = .ok (.istore_n 2, 1) := dk_61 (dk_at dksX1_skilled_1 10 rfl rfl)
theorem dX1_skilled_34 : decode cX1_skilled 34 = .ok (.iconst (-1), 1) := dk_2 (dk_at dksX1_skilled_1 11 rfl rfl)
theorem dX1_skilled_35 : decode cX1_skilled 35 = .ok (.istore_n 3, 1) := dk_62 (dk_at dksX1_skilled_1 12 rfl rfl)
theorem dX1_skilled_36 : decode cX1_skilled 36 = .ok (.iconst 0, 1) := dk_3 (dk_at dksX1_skilled_1 13 rfl rfl)
theorem dX1_skilled_37 : decode cX1_skilled 37 = .ok (.istore 4, 2) := dk_54 4 (dk_at dksX1_skilled_1 14 rfl rfl)
theorem dX1_skilled_39 : decode cX1_skilled 39 = .ok (.iload 4, 2) := dk_21 4 (dk_at dksX1_skilled_1 16 rfl rfl)
theorem dX1_skilled_41 : decode cX1_skilled 41 = .ok (.aload_n 0, 1) := dk_42 (dk_at dksX1_skilled_1 18 rfl rfl)
theorem dX1_skilled_42 : decode cX1_skilled 42 = .ok (.invokevirtual 298, 3) := dk_182 1 42 (dk_at dksX1_skilled_1 19 rfl rfl)
theorem dX1_skilled_45 : decode cX1_skilled 45 = .ok (.if_icmp .ge 39, 3) := dk_162 0 39 (dk_at dksX1_skilled_2 0 rfl rfl)
theorem dX1_skilled_48 : decode cX1_skilled 48 = .ok (.aload_n 0, 1) := dk_42 (dk_at dksX1_skilled_2 3 rfl rfl)
theorem dX1_skilled_49 : decode cX1_skilled 49 = .ok (.iload 4, 2) := dk_21 4 (dk_at dksX1_skilled_2 4 rfl rfl)
theorem dX1_skilled_51 : decode cX1_skilled 51 = .ok (.invokevirtual 301, 3) := dk_182 1 45 (dk_at dksX1_skilled_2 6 rfl rfl)
theorem dX1_skilled_54 : decode cX1_skilled 54 = .ok (.ifCond .eq 24, 3) := dk_153 0 24 (dk_at dksX1_skilled_2 9 rfl rfl)
theorem dX1_skilled_57 : decode cX1_skilled 57 = .ok (.aload_n 0, 1) := dk_42 (dk_at dksX1_skilled_2 12 rfl rfl)
theorem dX1_skilled_58 : decode cX1_skilled 58 = .ok (.invokevirtual 295, 3) := dk_182 1 39 (dk_at dksX1_skilled_2 13 rfl rfl)
theorem dX1_skilled_61 : decode cX1_skilled 61 = .ok (.ifCond .ne 6, 3) := dk_154 0 6 (dk_at dksX1_skilled_2 16 rfl rfl)
theorem dX1_skilled_64 : decode cX1_skilled 64 = .ok (.goto 14, 3) := dk_167 0 14 (dk_at dksX1_skilled_2 19 rfl rfl)
theorem dX1_skilled_67 : decode cX1_skilled 67 = .ok (.iinc 2 1, 3) := dk_132 2 1 (dk_at dksX1_skilled_3 0 rfl rfl)
theorem dX1_skilled_70 : decode cX1_skilled 70 = .ok (.iload_n 3, 1) := dk_29 (dk_at dksX1_skilled_3 3 rfl rfl)
theorem dX1_skilled_71 : decode cX1_skilled 71 = .ok (.iconst (-1), 1) := dk_2 (dk_at dksX1_skilled_3 4 rfl rfl)
theorem dX1_skilled_72 : decode cX1_skilled 72 = .ok (.if_icmp .ne 6, 3) := dk_160 0 6 (dk_at dksX1_skilled_3 5 rfl rfl)
theorem dX1_skilled_75 : decode cX1_skilled 75 = .ok (.iload 4, 2) := dk_21 4 (dk_at dksX1_skilled_3 8 rfl rfl)
theorem dX1_skilled_77 : decode cX1_skilled 77 = .ok (.istore_n 3, 1) := dk_62 (dk_at dksX1_skilled_3 10 rfl rfl)
theorem dX1_skilled_78 : decode cX1_skilled 78 = .ok (.iinc 4 1, 3) := dk_132 4 1 (dk_at dksX1_skilled_3 11 rfl rfl)
theorem dX1_skilled_81 : decode cX1_skilled 81 = .ok (.goto (-42), 3) := dk_167 255 214 (dk_at dksX1_skilled_3 14 rfl rfl)
theorem dX1_skilled_84 : decode cX1_skilled 84 = .ok (.iload_n 1, 1) := dk_27 (dk_at dksX1_skilled_3 17 rfl rfl)
theorem dX1_skilled_85 : decode cX1_skilled 85 = .ok (.ifCond .ne 7, 3) := dk_154 0 7 (dk_at dksX1_skilled_3 18 rfl rfl)
theorem dX1_skilled_88 : decode cX1_skilled 88 = .ok (.iload_n 2, 1) := dk_28 (dk_at dksX1_skilled_3 21 rfl rfl)
theorem dX1_skilled_89 : decode cX1_skilled 89 = .ok (.goto 4, 3) := dk_167 0 4 (dk_at dksX1_skilled_4 0 rfl rfl)
theorem dX1_skilled_92 : decode cX1_skilled 92 = .ok (.iload_n 3, 1) := dk_29 (dk_at dksX1_skilled_4 3 rfl rfl)
theorem dX1_skilled_93 : decode cX1_skilled 93 = .ok (.ireturn, 1) := dk_172 (dk_at dksX1_skilled_4 4 rfl rfl)
abbrev cX1_isSeen : ByteArray := prog_1_method_50_code
def yX1_isSeen : MethodName := ⟨RX1, "isSeen", "()Z"⟩
def dkwX1_isSeen_4 : List UInt8 := [167, 255, 198, 42, 180, 0, 34, 42, 180, 0, 10, 182, 0, 214, 132, 1, 1, 167, 255, 150, 4, 172]
abbrev dktX1_isSeen_4 : List UInt8 := dkwX1_isSeen_4 ++ []
def dkwX1_isSeen_3 : List UInt8 := [180, 1, 30, 28, 46, 46, 42, 180, 0, 19, 180, 1, 36, 28, 46, 159, 0, 5, 3, 172, 132, 2, 1]
abbrev dktX1_isSeen_3 : List UInt8 := dkwX1_isSeen_3 ++ dktX1_isSeen_4
def dkwX1_isSeen_2 : List UInt8 := [180, 0, 19, 180, 1, 33, 28, 46, 27, 160, 0, 34, 42, 180, 0, 34, 180, 0, 172, 42, 180, 0, 19]
abbrev dktX1_isSeen_2 : List UInt8 := dkwX1_isSeen_2 ++ dktX1_isSeen_3
def dkwX1_isSeen_1 : List UInt8 := [180, 0, 52, 3, 16, 30, 184, 1, 20, 3, 61, 28, 42, 180, 0, 19, 180, 0, 126, 162, 0, 53, 42]
abbrev dktX1_isSeen_1 : List UInt8 := dkwX1_isSeen_1 ++ dktX1_isSeen_2
def dkwX1_isSeen_0 : List UInt8 := [3, 60, 27, 16, 20, 163, 0, 106, 27, 8, 160, 0, 21, 42, 180, 0, 34, 180, 0, 172, 3, 42]
abbrev dktX1_isSeen_0 : List UInt8 := dkwX1_isSeen_0 ++ dktX1_isSeen_1
theorem dksX1_isSeen_0 : cX1_isSeen.data.toList.drop 0 = dktX1_isSeen_0 := by decide +kernel
theorem dksX1_isSeen_1 : cX1_isSeen.data.toList.drop 22 = dktX1_isSeen_1 := dk_seg dksX1_isSeen_0 22 rfl rfl
theorem dksX1_isSeen_2 : cX1_isSeen.data.toList.drop 45 = dktX1_isSeen_2 := dk_seg dksX1_isSeen_1 23 rfl rfl
theorem dksX1_isSeen_3 : cX1_isSeen.data.toList.drop 68 = dktX1_isSeen_3 := dk_seg dksX1_isSeen_2 23 rfl rfl
theorem dksX1_isSeen_4 : cX1_isSeen.data.toList.drop 91 = dktX1_isSeen_4 := dk_seg dksX1_isSeen_3 23 rfl rfl
theorem dX1_isSeen_0 : decode cX1_isSeen 0 = .ok (.iconst 0, 1) := dk_3 (dk_at dksX1_isSeen_0 0 rfl rfl)
theorem dX1_isSeen_1 : decode cX1_isSeen 1 = .ok (.istore_n 1, 1) := dk_60 (dk_at dksX1_isSeen_0 1 rfl rfl)
theorem dX1_isSeen_2 : decode cX1_isSeen 2 = .ok (.iload_n 1, 1) := dk_27 (dk_at dksX1_isSeen_0 2 rfl rfl)
theorem dX1_isSeen_3 : decode cX1_isSeen 3 = .ok (.bipush 20, 2) := dk_16 20 (dk_at dksX1_isSeen_0 3 rfl rfl)
theorem dX1_isSeen_5 : decode cX1_isSeen 5 = .ok (.if_icmp .gt 106, 3) := dk_163 0 106 (dk_at dksX1_isSeen_0 5 rfl rfl)
theorem dX1_isSeen_8 : decode cX1_isSeen 8 = .ok (.iload_n 1, 1) := dk_27 (dk_at dksX1_isSeen_0 8 rfl rfl)
theorem dX1_isSeen_9 : decode cX1_isSeen 9 = .ok (.iconst 5, 1) := dk_8 (dk_at dksX1_isSeen_0 9 rfl rfl)
theorem dX1_isSeen_10 : decode cX1_isSeen 10 = .ok (.if_icmp .ne 21, 3) := dk_160 0 21 (dk_at dksX1_isSeen_0 10 rfl rfl)
theorem dX1_isSeen_13 : decode cX1_isSeen 13 = .ok (.aload_n 0, 1) := dk_42 (dk_at dksX1_isSeen_0 13 rfl rfl)
theorem dX1_isSeen_14 : decode cX1_isSeen 14 = .ok (.getfield 34, 3) := dk_180 0 34 (dk_at dksX1_isSeen_0 14 rfl rfl)
theorem dX1_isSeen_17 : decode cX1_isSeen 17 = .ok (.getfield 172, 3) := dk_180 0 172 (dk_at dksX1_isSeen_0 17 rfl rfl)
theorem dX1_isSeen_20 : decode cX1_isSeen 20 = .ok (.iconst 0, 1) := dk_3 (dk_at dksX1_isSeen_0 20 rfl rfl)
theorem dX1_isSeen_21 : decode cX1_isSeen 21 = .ok (.aload_n 0, 1) := dk_42 (dk_at dksX1_isSeen_0 21 rfl rfl)
theorem dX1_isSeen_22 : decode cX1_isSeen 22 = .ok (.getfield 52, 3) := dk_180 0 52 (dk_at dksX1_isSeen_1 0 rfl rfl)
theorem dX1_isSeen_25 : decode cX1_isSeen 25 = .ok (.iconst 0, 1) := dk_3 (dk_at dksX1_isSeen_1 3 rfl rfl)
theorem dX1_isSeen_26 : decode cX1_isSeen 26 = .ok (.bipush 30, 2) := dk_16 30 (dk_at dksX1_isSeen_1 4 rfl rfl)
theorem dX1_isSeen_28 : decode cX1_isSeen 28 = .ok (.invokestatic 276, 3) := dk_184 1 20 (dk_at dksX1_isSeen_1 6 rfl rfl)
theorem dX1_isSeen_31 : decode cX1_isSeen 31 = .ok (.iconst 0, 1) := dk_3 (dk_at dksX1_isSeen_1 9 rfl rfl)
theorem dX1_isSeen_32 : decode cX1_isSeen 32 = .ok (.istore_n 2, 1) := dk_61 (dk_at dksX1_isSeen_1 10 rfl rfl)
theorem dX1_isSeen_33 : decode cX1_isSeen 33 = .ok (.iload_n 2, 1) := dk_28 (dk_at dksX1_isSeen_1 11 rfl rfl)
theorem dX1_isSeen_34 : decode cX1_isSeen 34 = .ok (.aload_n 0, 1) := dk_42 (dk_at dksX1_isSeen_1 12 rfl rfl)
theorem dX1_isSeen_35 : decode cX1_isSeen 35 = .ok (.getfield 19, 3) := dk_180 0 19 (dk_at dksX1_isSeen_1 13 rfl rfl)
theorem dX1_isSeen_38 : decode cX1_isSeen 38 = .ok (.getfield 126, 3) := dk_180 0 126 (dk_at dksX1_isSeen_1 16 rfl rfl)
theorem dX1_isSeen_41 : decode cX1_isSeen 41 = .ok (.if_icmp .ge 53, 3) := dk_162 0 53 (dk_at dksX1_isSeen_1 19 rfl rfl)
theorem dX1_isSeen_44 : decode cX1_isSeen 44 = .ok (.aload_n 0, 1) := dk_42 (dk_at dksX1_isSeen_1 22 rfl rfl)
theorem dX1_isSeen_45 : decode cX1_isSeen 45 = .ok (.getfield 19, 3) := dk_180 0 19 (dk_at dksX1_isSeen_2 0 rfl rfl)
theorem dX1_isSeen_48 : decode cX1_isSeen 48 = .ok (.getfield 289, 3) := dk_180 1 33 (dk_at dksX1_isSeen_2 3 rfl rfl)
theorem dX1_isSeen_51 : decode cX1_isSeen 51 = .ok (.iload_n 2, 1) := dk_28 (dk_at dksX1_isSeen_2 6 rfl rfl)
theorem dX1_isSeen_52 : decode cX1_isSeen 52 = .ok (.iaload, 1) := dk_46 (dk_at dksX1_isSeen_2 7 rfl rfl)
theorem dX1_isSeen_53 : decode cX1_isSeen 53 = .ok (.iload_n 1, 1) := dk_27 (dk_at dksX1_isSeen_2 8 rfl rfl)
theorem dX1_isSeen_54 : decode cX1_isSeen 54 = .ok (.if_icmp .ne 34, 3) := dk_160 0 34 (dk_at dksX1_isSeen_2 9 rfl rfl)
theorem dX1_isSeen_57 : decode cX1_isSeen 57 = .ok (.aload_n 0, 1) := dk_42 (dk_at dksX1_isSeen_2 12 rfl rfl)
theorem dX1_isSeen_58 : decode cX1_isSeen 58 = .ok (.getfield 34, 3) := dk_180 0 34 (dk_at dksX1_isSeen_2 13 rfl rfl)
theorem dX1_isSeen_61 : decode cX1_isSeen 61 = .ok (.getfield 172, 3) := dk_180 0 172 (dk_at dksX1_isSeen_2 16 rfl rfl)
theorem dX1_isSeen_64 : decode cX1_isSeen 64 = .ok (.aload_n 0, 1) := dk_42 (dk_at dksX1_isSeen_2 19 rfl rfl)
theorem dX1_isSeen_65 : decode cX1_isSeen 65 = .ok (.getfield 19, 3) := dk_180 0 19 (dk_at dksX1_isSeen_2 20 rfl rfl)
theorem dX1_isSeen_68 : decode cX1_isSeen 68 = .ok (.getfield 286, 3) := dk_180 1 30 (dk_at dksX1_isSeen_3 0 rfl rfl)
theorem dX1_isSeen_71 : decode cX1_isSeen 71 = .ok (.iload_n 2, 1) := dk_28 (dk_at dksX1_isSeen_3 3 rfl rfl)
theorem dX1_isSeen_72 : decode cX1_isSeen 72 = .ok (.iaload, 1) := dk_46 (dk_at dksX1_isSeen_3 4 rfl rfl)
theorem dX1_isSeen_73 : decode cX1_isSeen 73 = .ok (.iaload, 1) := dk_46 (dk_at dksX1_isSeen_3 5 rfl rfl)
theorem dX1_isSeen_74 : decode cX1_isSeen 74 = .ok (.aload_n 0, 1) := dk_42 (dk_at dksX1_isSeen_3 6 rfl rfl)
theorem dX1_isSeen_75 : decode cX1_isSeen 75 = .ok (.getfield 19, 3) := dk_180 0 19 (dk_at dksX1_isSeen_3 7 rfl rfl)
theorem dX1_isSeen_78 : decode cX1_isSeen 78 = .ok (.getfield 292, 3) := dk_180 1 36 (dk_at dksX1_isSeen_3 10 rfl rfl)
theorem dX1_isSeen_81 : decode cX1_isSeen 81 = .ok (.iload_n 2, 1) := dk_28 (dk_at dksX1_isSeen_3 13 rfl rfl)
theorem dX1_isSeen_82 : decode cX1_isSeen 82 = .ok (.iaload, 1) := dk_46 (dk_at dksX1_isSeen_3 14 rfl rfl)
theorem dX1_isSeen_83 : decode cX1_isSeen 83 = .ok (.if_icmp .eq 5, 3) := dk_159 0 5 (dk_at dksX1_isSeen_3 15 rfl rfl)
theorem dX1_isSeen_86 : decode cX1_isSeen 86 = .ok (.iconst 0, 1) := dk_3 (dk_at dksX1_isSeen_3 18 rfl rfl)
theorem dX1_isSeen_87 : decode cX1_isSeen 87 = .ok (.ireturn, 1) := dk_172 (dk_at dksX1_isSeen_3 19 rfl rfl)
theorem dX1_isSeen_88 : decode cX1_isSeen 88 = .ok (.iinc 2 1, 3) := dk_132 2 1 (dk_at dksX1_isSeen_3 20 rfl rfl)
theorem dX1_isSeen_91 : decode cX1_isSeen 91 = .ok (.goto (-58), 3) := dk_167 255 198 (dk_at dksX1_isSeen_4 0 rfl rfl)
theorem dX1_isSeen_94 : decode cX1_isSeen 94 = .ok (.aload_n 0, 1) := dk_42 (dk_at dksX1_isSeen_4 3 rfl rfl)
theorem dX1_isSeen_95 : decode cX1_isSeen 95 = .ok (.getfield 34, 3) := dk_180 0 34 (dk_at dksX1_isSeen_4 4 rfl rfl)
theorem dX1_isSeen_98 : decode cX1_isSeen 98 = .ok (.aload_n 0, 1) := dk_42 (dk_at dksX1_isSeen_4 7 rfl rfl)
theorem dX1_isSeen_99 : decode cX1_isSeen 99 = .ok (.getfield 10, 3) := dk_180 0 10 (dk_at dksX1_isSeen_4 8 rfl rfl)
theorem dX1_isSeen_102 : decode cX1_isSeen 102 = .ok (.invokevirtual 214, 3) := dk_182 0 214 (dk_at dksX1_isSeen_4 11 rfl rfl)
theorem dX1_isSeen_105 : decode cX1_isSeen 105 = .ok (.iinc 1 1, 3) := dk_132 1 1 (dk_at dksX1_isSeen_4 14 rfl rfl)
theorem dX1_isSeen_108 : decode cX1_isSeen 108 = .ok (.goto (-106), 3) := dk_167 255 150 (dk_at dksX1_isSeen_4 17 rfl rfl)
theorem dX1_isSeen_111 : decode cX1_isSeen 111 = .ok (.iconst 1, 1) := dk_4 (dk_at dksX1_isSeen_4 20 rfl rfl)
theorem dX1_isSeen_112 : decode cX1_isSeen 112 = .ok (.ireturn, 1) := dk_172 (dk_at dksX1_isSeen_4 21 rfl rfl)
abbrev cX1_guesses : ByteArray := prog_1_method_52_code
def yX1_guesses : MethodName := ⟨RX1, "guesses", "()I"⟩
def dkwX1_guesses_0 : List UInt8 := [42, 182, 0, 86, 16, 10, 104, 172]
abbrev dktX1_guesses_0 : List UInt8 := dkwX1_guesses_0 ++ []
theorem dksX1_guesses_0 : cX1_guesses.data.toList.drop 0 = dktX1_guesses_0 := by decide +kernel
theorem dX1_guesses_0 : decode cX1_guesses 0 = .ok (.aload_n 0, 1) := dk_42 (dk_at dksX1_guesses_0 0 rfl rfl)
theorem dX1_guesses_1 : decode cX1_guesses 1 = .ok (.invokevirtual 86, 3) := dk_182 0 86 (dk_at dksX1_guesses_0 1 rfl rfl)
theorem dX1_guesses_4 : decode cX1_guesses 4 = .ok (.bipush 10, 2) := dk_16 10 (dk_at dksX1_guesses_0 4 rfl rfl)
theorem dX1_guesses_6 : decode cX1_guesses 6 = .ok (.imul, 1) := dk_104 (dk_at dksX1_guesses_0 6 rfl rfl)
theorem dX1_guesses_7 : decode cX1_guesses 7 = .ok (.ireturn, 1) := dk_172 (dk_at dksX1_guesses_0 7 rfl rfl)
abbrev cX1_isGuess : ByteArray := prog_1_method_51_code
def yX1_isGuess : MethodName := ⟨RX1, "isGuess", "(I)Z"⟩
def dkwX1_isGuess_1 : List UInt8 := [3, 182, 0, 234, 42, 180, 0, 34, 180, 1, 37, 28, 27, 16, 10, 112, 79, 4, 172]
abbrev dktX1_isGuess_1 : List UInt8 := dkwX1_isGuess_1 ++ []
def dkwX1_isGuess_0 : List UInt8 := [27, 16, 10, 108, 61, 42, 180, 0, 30, 180, 1, 37, 28, 46, 27, 16, 10, 112, 160, 0, 5, 3, 172, 42]
abbrev dktX1_isGuess_0 : List UInt8 := dkwX1_isGuess_0 ++ dktX1_isGuess_1
theorem dksX1_isGuess_0 : cX1_isGuess.data.toList.drop 0 = dktX1_isGuess_0 := by decide +kernel
theorem dksX1_isGuess_1 : cX1_isGuess.data.toList.drop 24 = dktX1_isGuess_1 := dk_seg dksX1_isGuess_0 24 rfl rfl
theorem dX1_isGuess_0 : decode cX1_isGuess 0 = .ok (.iload_n 1, 1) := dk_27 (dk_at dksX1_isGuess_0 0 rfl rfl)
theorem dX1_isGuess_1 : decode cX1_isGuess 1 = .ok (.bipush 10, 2) := dk_16 10 (dk_at dksX1_isGuess_0 1 rfl rfl)
theorem dX1_isGuess_3 : decode cX1_isGuess 3 = .ok (.idiv, 1) := dk_108 (dk_at dksX1_isGuess_0 3 rfl rfl)
theorem dX1_isGuess_4 : decode cX1_isGuess 4 = .ok (.istore_n 2, 1) := dk_61 (dk_at dksX1_isGuess_0 4 rfl rfl)
theorem dX1_isGuess_5 : decode cX1_isGuess 5 = .ok (.aload_n 0, 1) := dk_42 (dk_at dksX1_isGuess_0 5 rfl rfl)
theorem dX1_isGuess_6 : decode cX1_isGuess 6 = .ok (.getfield 30, 3) := dk_180 0 30 (dk_at dksX1_isGuess_0 6 rfl rfl)
theorem dX1_isGuess_9 : decode cX1_isGuess 9 = .ok (.getfield 293, 3) := dk_180 1 37 (dk_at dksX1_isGuess_0 9 rfl rfl)
theorem dX1_isGuess_12 : decode cX1_isGuess 12 = .ok (.iload_n 2, 1) := dk_28 (dk_at dksX1_isGuess_0 12 rfl rfl)
theorem dX1_isGuess_13 : decode cX1_isGuess 13 = .ok (.iaload, 1) := dk_46 (dk_at dksX1_isGuess_0 13 rfl rfl)
theorem dX1_isGuess_14 : decode cX1_isGuess 14 = .ok (.iload_n 1, 1) := dk_27 (dk_at dksX1_isGuess_0 14 rfl rfl)
theorem dX1_isGuess_15 : decode cX1_isGuess 15 = .ok (.bipush 10, 2) := dk_16 10 (dk_at dksX1_isGuess_0 15 rfl rfl)
theorem dX1_isGuess_17 : decode cX1_isGuess 17 = .ok (.irem, 1) := dk_112 (dk_at dksX1_isGuess_0 17 rfl rfl)
theorem dX1_isGuess_18 : decode cX1_isGuess 18 = .ok (.if_icmp .ne 5, 3) := dk_160 0 5 (dk_at dksX1_isGuess_0 18 rfl rfl)
theorem dX1_isGuess_21 : decode cX1_isGuess 21 = .ok (.iconst 0, 1) := dk_3 (dk_at dksX1_isGuess_0 21 rfl rfl)
theorem dX1_isGuess_22 : decode cX1_isGuess 22 = .ok (.ireturn, 1) := dk_172 (dk_at dksX1_isGuess_0 22 rfl rfl)
theorem dX1_isGuess_23 : decode cX1_isGuess 23 = .ok (.aload_n 0, 1) := dk_42 (dk_at dksX1_isGuess_0 23 rfl rfl)
theorem dX1_isGuess_24 : decode cX1_isGuess 24 = .ok (.iconst 0, 1) := dk_3 (dk_at dksX1_isGuess_1 0 rfl rfl)
theorem dX1_isGuess_25 : decode cX1_isGuess 25 = .ok (.invokevirtual 234, 3) := dk_182 0 234 (dk_at dksX1_isGuess_1 1 rfl rfl)
theorem dX1_isGuess_28 : decode cX1_isGuess 28 = .ok (.aload_n 0, 1) := dk_42 (dk_at dksX1_isGuess_1 4 rfl rfl)
theorem dX1_isGuess_29 : decode cX1_isGuess 29 = .ok (.getfield 34, 3) := dk_180 0 34 (dk_at dksX1_isGuess_1 5 rfl rfl)
theorem dX1_isGuess_32 : decode cX1_isGuess 32 = .ok (.getfield 293, 3) := dk_180 1 37 (dk_at dksX1_isGuess_1 8 rfl rfl)
theorem dX1_isGuess_35 : decode cX1_isGuess 35 = .ok (.iload_n 2, 1) := dk_28 (dk_at dksX1_isGuess_1 11 rfl rfl)
theorem dX1_isGuess_36 : decode cX1_isGuess 36 = .ok (.iload_n 1, 1) := dk_27 (dk_at dksX1_isGuess_1 12 rfl rfl)
theorem dX1_isGuess_37 : decode cX1_isGuess 37 = .ok (.bipush 10, 2) := dk_16 10 (dk_at dksX1_isGuess_1 13 rfl rfl)
theorem dX1_isGuess_39 : decode cX1_isGuess 39 = .ok (.irem, 1) := dk_112 (dk_at dksX1_isGuess_1 15 rfl rfl)
theorem dX1_isGuess_40 : decode cX1_isGuess 40 = .ok (.iastore, 1) := dk_79 (dk_at dksX1_isGuess_1 16 rfl rfl)
theorem dX1_isGuess_41 : decode cX1_isGuess 41 = .ok (.iconst 1, 1) := dk_4 (dk_at dksX1_isGuess_1 17 rfl rfl)
theorem dX1_isGuess_42 : decode cX1_isGuess 42 = .ok (.ireturn, 1) := dk_172 (dk_at dksX1_isGuess_1 18 rfl rfl)
abbrev cX1_look : ByteArray := prog_1_method_55_code
def yX1_look : MethodName := ⟨RX1, "look", "(I)I"⟩
def dkwX1_look_5 : List UInt8 := [154, 0, 7, 29, 167, 0, 5, 21, 4, 172]
abbrev dktX1_look_5 : List UInt8 := dkwX1_look_5 ++ []
def dkwX1_look_4 : List UInt8 := [21, 6, 21, 4, 163, 0, 6, 167, 0, 10, 21, 5, 62, 21, 6, 54, 4, 132, 5, 1, 167, 255, 218, 27]
abbrev dktX1_look_4 : List UInt8 := dkwX1_look_4 ++ dktX1_look_5
def dkwX1_look_3 : List UInt8 := [54, 4, 3, 54, 5, 21, 5, 42, 182, 0, 81, 162, 0, 35, 42, 21, 5, 28, 182, 1, 48, 54, 6]
abbrev dktX1_look_3 : List UInt8 := dkwX1_look_3 ++ dktX1_look_4
def dkwX1_look_2 : List UInt8 := [180, 0, 55, 16, 30, 28, 104, 16, 30, 184, 1, 20, 132, 2, 1, 132, 3, 1, 167, 255, 206, 2, 62, 3]
abbrev dktX1_look_2 : List UInt8 := dkwX1_look_2 ++ dktX1_look_3
def dkwX1_look_1 : List UInt8 := [182, 1, 45, 153, 0, 34, 42, 182, 1, 39, 154, 0, 6, 167, 0, 24, 42, 180, 0, 52, 3, 42]
abbrev dktX1_look_1 : List UInt8 := dkwX1_look_1 ++ dktX1_look_2
def dkwX1_look_0 : List UInt8 := [27, 3, 4, 184, 0, 133, 184, 0, 82, 3, 61, 3, 62, 29, 42, 182, 1, 42, 162, 0, 48, 42, 29]
abbrev dktX1_look_0 : List UInt8 := dkwX1_look_0 ++ dktX1_look_1
theorem dksX1_look_0 : cX1_look.data.toList.drop 0 = dktX1_look_0 := by decide +kernel
theorem dksX1_look_1 : cX1_look.data.toList.drop 23 = dktX1_look_1 := dk_seg dksX1_look_0 23 rfl rfl
theorem dksX1_look_2 : cX1_look.data.toList.drop 45 = dktX1_look_2 := dk_seg dksX1_look_1 22 rfl rfl
theorem dksX1_look_3 : cX1_look.data.toList.drop 69 = dktX1_look_3 := dk_seg dksX1_look_2 24 rfl rfl
theorem dksX1_look_4 : cX1_look.data.toList.drop 92 = dktX1_look_4 := dk_seg dksX1_look_3 23 rfl rfl
theorem dksX1_look_5 : cX1_look.data.toList.drop 116 = dktX1_look_5 := dk_seg dksX1_look_4 24 rfl rfl
theorem dX1_look_0 : decode cX1_look 0 = .ok (.iload_n 1, 1) := dk_27 (dk_at dksX1_look_0 0 rfl rfl)
theorem dX1_look_1 : decode cX1_look 1 = .ok (.iconst 0, 1) := dk_3 (dk_at dksX1_look_0 1 rfl rfl)
theorem dX1_look_2 : decode cX1_look 2 = .ok (.iconst 1, 1) := dk_4 (dk_at dksX1_look_0 2 rfl rfl)
theorem dX1_look_3 : decode cX1_look 3 = .ok (.invokestatic 133, 3) := dk_184 0 133 (dk_at dksX1_look_0 3 rfl rfl)
theorem dX1_look_6 : decode cX1_look 6 = .ok (.invokestatic 82, 3) := dk_184 0 82 (dk_at dksX1_look_0 6 rfl rfl)
theorem dX1_look_9 : decode cX1_look 9 = .ok (.iconst 0, 1) := dk_3 (dk_at dksX1_look_0 9 rfl rfl)
theorem dX1_look_10 : decode cX1_look 10 = .ok (.istore_n 2, 1) := dk_61 (dk_at dksX1_look_0 10 rfl rfl)
theorem dX1_look_11 : decode cX1_look 11 = .ok (.iconst 0, 1) := dk_3 (dk_at dksX1_look_0 11 rfl rfl)
theorem dX1_look_12 : decode cX1_look 12 = .ok (.istore_n 3, 1) := dk_62 (dk_at dksX1_look_0 12 rfl rfl)
theorem dX1_look_13 : decode cX1_look 13 = .ok (.iload_n 3, 1) := dk_29 (dk_at dksX1_look_0 13 rfl rfl)
theorem dX1_look_14 : decode cX1_look 14 = .ok (.aload_n 0, 1) := dk_42 (dk_at dksX1_look_0 14 rfl rfl)
theorem dX1_look_15 : decode cX1_look 15 = .ok (.invokevirtual 298, 3) := dk_182 1 42 (dk_at dksX1_look_0 15 rfl rfl)
theorem dX1_look_18 : decode cX1_look 18 = .ok (.if_icmp .ge 48, 3) := dk_162 0 48 (dk_at dksX1_look_0 18 rfl rfl)
theorem dX1_look_21 : decode cX1_look 21 = .ok (.aload_n 0, 1) := dk_42 (dk_at dksX1_look_0 21 rfl rfl)
theorem dX1_look_22 : decode cX1_look 22 = .ok (.iload_n 3, 1) := dk_29 (dk_at dksX1_look_0 22 rfl rfl)
theorem dX1_look_23 : decode cX1_look 23 = .ok (.invokevirtual 301, 3) := dk_182 1 45 (dk_at dksX1_look_1 0 rfl rfl)
theorem dX1_look_26 : decode cX1_look 26 = .ok (.ifCond .eq 34, 3) := dk_153 0 34 (dk_at dksX1_look_1 3 rfl rfl)
theorem dX1_look_29 : decode cX1_look 29 = .ok (.aload_n 0, 1) := dk_42 (dk_at dksX1_look_1 6 rfl rfl)
theorem dX1_look_30 : decode cX1_look 30 = .ok (.invokevirtual 295, 3) := dk_182 1 39 (dk_at dksX1_look_1 7 rfl rfl)
theorem dX1_look_33 : decode cX1_look 33 = .ok (.ifCond .ne 6, 3) := dk_154 0 6 (dk_at dksX1_look_1 10 rfl rfl)
theorem dX1_look_36 : decode cX1_look 36 = .ok (.goto 24, 3) := dk_167 0 24 (dk_at dksX1_look_1 13 rfl rfl)
theorem dX1_look_39 : decode cX1_look 39 = .ok (.aload_n 0, 1) := dk_42 (dk_at dksX1_look_1 16 rfl rfl)
theorem dX1_look_40 : decode cX1_look 40 = .ok (.getfield 52, 3) := dk_180 0 52 (dk_at dksX1_look_1 17 rfl rfl)
theorem dX1_look_43 : decode cX1_look 43 = .ok (.iconst 0, 1) := dk_3 (dk_at dksX1_look_1 20 rfl rfl)
theorem dX1_look_44 : decode cX1_look 44 = .ok (.aload_n 0, 1) := dk_42 (dk_at dksX1_look_1 21 rfl rfl)
theorem dX1_look_45 : decode cX1_look 45 = .ok (.getfield 55, 3) := dk_180 0 55 (dk_at dksX1_look_2 0 rfl rfl)
theorem dX1_look_48 : decode cX1_look 48 = .ok (.bipush 30, 2) := dk_16 30 (dk_at dksX1_look_2 3 rfl rfl)
theorem dX1_look_50 : decode cX1_look 50 = .ok (.iload_n 2, 1) := dk_28 (dk_at dksX1_look_2 5 rfl rfl)
theorem dX1_look_51 : decode cX1_look 51 = .ok (.imul, 1) := dk_104 (dk_at dksX1_look_2 6 rfl rfl)
theorem dX1_look_52 : decode cX1_look 52 = .ok (.bipush 30, 2) := dk_16 30 (dk_at dksX1_look_2 7 rfl rfl)
theorem dX1_look_54 : decode cX1_look 54 = .ok (.invokestatic 276, 3) := dk_184 1 20 (dk_at dksX1_look_2 9 rfl rfl)
theorem dX1_look_57 : decode cX1_look 57 = .ok (.iinc 2 1, 3) := dk_132 2 1 (dk_at dksX1_look_2 12 rfl rfl)
theorem dX1_look_60 : decode cX1_look 60 = .ok (.iinc 3 1, 3) := dk_132 3 1 (dk_at dksX1_look_2 15 rfl rfl)
theorem dX1_look_63 : decode cX1_look 63 = .ok (.goto (-50), 3) := dk_167 255 206 (dk_at dksX1_look_2 18 rfl rfl)
theorem dX1_look_66 : decode cX1_look 66 = .ok (.iconst (-1), 1) := dk_2 (dk_at dksX1_look_2 21 rfl rfl)
theorem dX1_look_67 : decode cX1_look 67 = .ok (.istore_n 3, 1) := dk_62 (dk_at dksX1_look_2 22 rfl rfl)
theorem dX1_look_68 : decode cX1_look 68 = .ok (.iconst 0, 1) := dk_3 (dk_at dksX1_look_2 23 rfl rfl)
theorem dX1_look_69 : decode cX1_look 69 = .ok (.istore 4, 2) := dk_54 4 (dk_at dksX1_look_3 0 rfl rfl)
theorem dX1_look_71 : decode cX1_look 71 = .ok (.iconst 0, 1) := dk_3 (dk_at dksX1_look_3 2 rfl rfl)
theorem dX1_look_72 : decode cX1_look 72 = .ok (.istore 5, 2) := dk_54 5 (dk_at dksX1_look_3 3 rfl rfl)
theorem dX1_look_74 : decode cX1_look 74 = .ok (.iload 5, 2) := dk_21 5 (dk_at dksX1_look_3 5 rfl rfl)
theorem dX1_look_76 : decode cX1_look 76 = .ok (.aload_n 0, 1) := dk_42 (dk_at dksX1_look_3 7 rfl rfl)
theorem dX1_look_77 : decode cX1_look 77 = .ok (.invokevirtual 81, 3) := dk_182 0 81 (dk_at dksX1_look_3 8 rfl rfl)
theorem dX1_look_80 : decode cX1_look 80 = .ok (.if_icmp .ge 35, 3) := dk_162 0 35 (dk_at dksX1_look_3 11 rfl rfl)
theorem dX1_look_83 : decode cX1_look 83 = .ok (.aload_n 0, 1) := dk_42 (dk_at dksX1_look_3 14 rfl rfl)
theorem dX1_look_84 : decode cX1_look 84 = .ok (.iload 5, 2) := dk_21 5 (dk_at dksX1_look_3 15 rfl rfl)
theorem dX1_look_86 : decode cX1_look 86 = .ok (.iload_n 2, 1) := dk_28 (dk_at dksX1_look_3 17 rfl rfl)
theorem dX1_look_87 : decode cX1_look 87 = .ok (.invokevirtual 304, 3) := dk_182 1 48 (dk_at dksX1_look_3 18 rfl rfl)
theorem dX1_look_90 : decode cX1_look 90 = .ok (.istore 6, 2) := dk_54 6 (dk_at dksX1_look_3 21 rfl rfl)
theorem dX1_look_92 : decode cX1_look 92 = .ok (.iload 6, 2) := dk_21 6 (dk_at dksX1_look_4 0 rfl rfl)
theorem dX1_look_94 : decode cX1_look 94 = .ok (.iload 4, 2) := dk_21 4 (dk_at dksX1_look_4 2 rfl rfl)
theorem dX1_look_96 : decode cX1_look 96 = .ok (.if_icmp .gt 6, 3) := dk_163 0 6 (dk_at dksX1_look_4 4 rfl rfl)
theorem dX1_look_99 : decode cX1_look 99 = .ok (.goto 10, 3) := dk_167 0 10 (dk_at dksX1_look_4 7 rfl rfl)
theorem dX1_look_102 : decode cX1_look 102 = .ok (.iload 5, 2) := dk_21 5 (dk_at dksX1_look_4 10 rfl rfl)
theorem dX1_look_104 : decode cX1_look 104 = .ok (.istore_n 3, 1) := dk_62 (dk_at dksX1_look_4 12 rfl rfl)
theorem dX1_look_105 : decode cX1_look 105 = .ok (.iload 6, 2) := dk_21 6 (dk_at dksX1_look_4 13 rfl rfl)
theorem dX1_look_107 : decode cX1_look 107 = .ok (.istore 4, 2) := dk_54 4 (dk_at dksX1_look_4 15 rfl rfl)
theorem dX1_look_109 : decode cX1_look 109 = .ok (.iinc 5 1, 3) := dk_132 5 1 (dk_at dksX1_look_4 17 rfl rfl)
theorem dX1_look_112 : decode cX1_look 112 = .ok (.goto (-38), 3) := dk_167 255 218 (dk_at dksX1_look_4 20 rfl rfl)
theorem dX1_look_115 : decode cX1_look 115 = .ok (.iload_n 1, 1) := dk_27 (dk_at dksX1_look_4 23 rfl rfl)
theorem dX1_look_116 : decode cX1_look 116 = .ok (.ifCond .ne 7, 3) := dk_154 0 7 (dk_at dksX1_look_5 0 rfl rfl)
theorem dX1_look_119 : decode cX1_look 119 = .ok (.iload_n 3, 1) := dk_29 (dk_at dksX1_look_5 3 rfl rfl)
theorem dX1_look_120 : decode cX1_look 120 = .ok (.goto 5, 3) := dk_167 0 5 (dk_at dksX1_look_5 4 rfl rfl)
theorem dX1_look_123 : decode cX1_look 123 = .ok (.iload 4, 2) := dk_21 4 (dk_at dksX1_look_5 7 rfl rfl)
theorem dX1_look_125 : decode cX1_look 125 = .ok (.ireturn, 1) := dk_172 (dk_at dksX1_look_5 9 rfl rfl)
abbrev cX1_unlike : ByteArray := prog_1_method_54_code
def yX1_unlike : MethodName := ⟨RX1, "unlike", "(II)I"⟩
def dkwX1_unlike_3 : List UInt8 := [167, 255, 194, 29, 172]
abbrev dktX1_unlike_3 : List UInt8 := dkwX1_unlike_3 ++ []
def dkwX1_unlike_2 : List UInt8 := [159, 0, 9, 132, 5, 1, 167, 255, 219, 21, 5, 21, 4, 160, 0, 6, 132, 3, 1, 132, 4, 1]
abbrev dktX1_unlike_2 : List UInt8 := dkwX1_unlike_2 ++ dktX1_unlike_3
def dkwX1_unlike_1 : List UInt8 := [180, 0, 55, 16, 30, 21, 5, 104, 27, 96, 46, 42, 180, 0, 55, 16, 30, 21, 4, 104, 27, 96, 46]
abbrev dktX1_unlike_1 : List UInt8 := dkwX1_unlike_1 ++ dktX1_unlike_2
def dkwX1_unlike_0 : List UInt8 := [3, 62, 3, 54, 4, 21, 4, 28, 162, 0, 62, 3, 54, 5, 21, 5, 21, 4, 162, 0, 36, 42]
abbrev dktX1_unlike_0 : List UInt8 := dkwX1_unlike_0 ++ dktX1_unlike_1
theorem dksX1_unlike_0 : cX1_unlike.data.toList.drop 0 = dktX1_unlike_0 := by decide +kernel
theorem dksX1_unlike_1 : cX1_unlike.data.toList.drop 22 = dktX1_unlike_1 := dk_seg dksX1_unlike_0 22 rfl rfl
theorem dksX1_unlike_2 : cX1_unlike.data.toList.drop 45 = dktX1_unlike_2 := dk_seg dksX1_unlike_1 23 rfl rfl
theorem dksX1_unlike_3 : cX1_unlike.data.toList.drop 67 = dktX1_unlike_3 := dk_seg dksX1_unlike_2 22 rfl rfl
theorem dX1_unlike_0 : decode cX1_unlike 0 = .ok (.iconst 0, 1) := dk_3 (dk_at dksX1_unlike_0 0 rfl rfl)
theorem dX1_unlike_1 : decode cX1_unlike 1 = .ok (.istore_n 3, 1) := dk_62 (dk_at dksX1_unlike_0 1 rfl rfl)
theorem dX1_unlike_2 : decode cX1_unlike 2 = .ok (.iconst 0, 1) := dk_3 (dk_at dksX1_unlike_0 2 rfl rfl)
theorem dX1_unlike_3 : decode cX1_unlike 3 = .ok (.istore 4, 2) := dk_54 4 (dk_at dksX1_unlike_0 3 rfl rfl)
theorem dX1_unlike_5 : decode cX1_unlike 5 = .ok (.iload 4, 2) := dk_21 4 (dk_at dksX1_unlike_0 5 rfl rfl)
theorem dX1_unlike_7 : decode cX1_unlike 7 = .ok (.iload_n 2, 1) := dk_28 (dk_at dksX1_unlike_0 7 rfl rfl)
theorem dX1_unlike_8 : decode cX1_unlike 8 = .ok (.if_icmp .ge 62, 3) := dk_162 0 62 (dk_at dksX1_unlike_0 8 rfl rfl)
theorem dX1_unlike_11 : decode cX1_unlike 11 = .ok (.iconst 0, 1) := dk_3 (dk_at dksX1_unlike_0 11 rfl rfl)
theorem dX1_unlike_12 : decode cX1_unlike 12 = .ok (.istore 5, 2) := dk_54 5 (dk_at dksX1_unlike_0 12 rfl rfl)
theorem dX1_unlike_14 : decode cX1_unlike 14 = .ok (.iload 5, 2) := dk_21 5 (dk_at dksX1_unlike_0 14 rfl rfl)
theorem dX1_unlike_16 : decode cX1_unlike 16 = .ok (.iload 4, 2) := dk_21 4 (dk_at dksX1_unlike_0 16 rfl rfl)
theorem dX1_unlike_18 : decode cX1_unlike 18 = .ok (.if_icmp .ge 36, 3) := dk_162 0 36 (dk_at dksX1_unlike_0 18 rfl rfl)
theorem dX1_unlike_21 : decode cX1_unlike 21 = .ok (.aload_n 0, 1) := dk_42 (dk_at dksX1_unlike_0 21 rfl rfl)
theorem dX1_unlike_22 : decode cX1_unlike 22 = .ok (.getfield 55, 3) := dk_180 0 55 (dk_at dksX1_unlike_1 0 rfl rfl)
theorem dX1_unlike_25 : decode cX1_unlike 25 = .ok (.bipush 30, 2) := dk_16 30 (dk_at dksX1_unlike_1 3 rfl rfl)
theorem dX1_unlike_27 : decode cX1_unlike 27 = .ok (.iload 5, 2) := dk_21 5 (dk_at dksX1_unlike_1 5 rfl rfl)
theorem dX1_unlike_29 : decode cX1_unlike 29 = .ok (.imul, 1) := dk_104 (dk_at dksX1_unlike_1 7 rfl rfl)
theorem dX1_unlike_30 : decode cX1_unlike 30 = .ok (.iload_n 1, 1) := dk_27 (dk_at dksX1_unlike_1 8 rfl rfl)
theorem dX1_unlike_31 : decode cX1_unlike 31 = .ok (.iadd, 1) := dk_96 (dk_at dksX1_unlike_1 9 rfl rfl)
theorem dX1_unlike_32 : decode cX1_unlike 32 = .ok (.iaload, 1) := dk_46 (dk_at dksX1_unlike_1 10 rfl rfl)
theorem dX1_unlike_33 : decode cX1_unlike 33 = .ok (.aload_n 0, 1) := dk_42 (dk_at dksX1_unlike_1 11 rfl rfl)
theorem dX1_unlike_34 : decode cX1_unlike 34 = .ok (.getfield 55, 3) := dk_180 0 55 (dk_at dksX1_unlike_1 12 rfl rfl)
theorem dX1_unlike_37 : decode cX1_unlike 37 = .ok (.bipush 30, 2) := dk_16 30 (dk_at dksX1_unlike_1 15 rfl rfl)
theorem dX1_unlike_39 : decode cX1_unlike 39 = .ok (.iload 4, 2) := dk_21 4 (dk_at dksX1_unlike_1 17 rfl rfl)
theorem dX1_unlike_41 : decode cX1_unlike 41 = .ok (.imul, 1) := dk_104 (dk_at dksX1_unlike_1 19 rfl rfl)
theorem dX1_unlike_42 : decode cX1_unlike 42 = .ok (.iload_n 1, 1) := dk_27 (dk_at dksX1_unlike_1 20 rfl rfl)
theorem dX1_unlike_43 : decode cX1_unlike 43 = .ok (.iadd, 1) := dk_96 (dk_at dksX1_unlike_1 21 rfl rfl)
theorem dX1_unlike_44 : decode cX1_unlike 44 = .ok (.iaload, 1) := dk_46 (dk_at dksX1_unlike_1 22 rfl rfl)
theorem dX1_unlike_45 : decode cX1_unlike 45 = .ok (.if_icmp .eq 9, 3) := dk_159 0 9 (dk_at dksX1_unlike_2 0 rfl rfl)
theorem dX1_unlike_48 : decode cX1_unlike 48 = .ok (.iinc 5 1, 3) := dk_132 5 1 (dk_at dksX1_unlike_2 3 rfl rfl)
theorem dX1_unlike_51 : decode cX1_unlike 51 = .ok (.goto (-37), 3) := dk_167 255 219 (dk_at dksX1_unlike_2 6 rfl rfl)
theorem dX1_unlike_54 : decode cX1_unlike 54 = .ok (.iload 5, 2) := dk_21 5 (dk_at dksX1_unlike_2 9 rfl rfl)
theorem dX1_unlike_56 : decode cX1_unlike 56 = .ok (.iload 4, 2) := dk_21 4 (dk_at dksX1_unlike_2 11 rfl rfl)
theorem dX1_unlike_58 : decode cX1_unlike 58 = .ok (.if_icmp .ne 6, 3) := dk_160 0 6 (dk_at dksX1_unlike_2 13 rfl rfl)
theorem dX1_unlike_61 : decode cX1_unlike 61 = .ok (.iinc 3 1, 3) := dk_132 3 1 (dk_at dksX1_unlike_2 16 rfl rfl)
theorem dX1_unlike_64 : decode cX1_unlike 64 = .ok (.iinc 4 1, 3) := dk_132 4 1 (dk_at dksX1_unlike_2 19 rfl rfl)
theorem dX1_unlike_67 : decode cX1_unlike 67 = .ok (.goto (-62), 3) := dk_167 255 194 (dk_at dksX1_unlike_3 0 rfl rfl)
theorem dX1_unlike_70 : decode cX1_unlike 70 = .ok (.iload_n 3, 1) := dk_29 (dk_at dksX1_unlike_3 3 rfl rfl)
theorem dX1_unlike_71 : decode cX1_unlike 71 = .ok (.ireturn, 1) := dk_172 (dk_at dksX1_unlike_3 4 rfl rfl)
abbrev cX1_game : ByteArray := prog_1_method_58_code
def yX1_game : MethodName := ⟨RX1, "game", "(III)I"⟩
def dkwX1_game_7 : List UInt8 := [54, 5, 132, 6, 1, 167, 255, 131, 29, 154, 0, 8, 21, 4, 167, 0, 5, 21, 5, 172]
abbrev dktX1_game_7 : List UInt8 := dkwX1_game_7 ++ []
def dkwX1_game_6 : List UInt8 := [167, 0, 26, 132, 4, 1, 21, 5, 2, 160, 0, 17, 21, 6, 5, 108, 16, 10, 104, 21, 6, 5, 112, 96]
abbrev dktX1_game_6 : List UInt8 := dkwX1_game_6 ++ dktX1_game_7
def dkwX1_game_5 : List UInt8 := [4, 167, 0, 4, 3, 21, 7, 182, 1, 51, 42, 28, 27, 21, 8, 21, 7, 182, 1, 51, 164, 0, 6]
abbrev dktX1_game_5 : List UInt8 := dkwX1_game_5 ++ dktX1_game_6
def dkwX1_game_4 : List UInt8 := [182, 1, 51, 42, 27, 28, 21, 7, 21, 8, 182, 1, 51, 163, 0, 60, 42, 28, 27, 21, 8, 154, 0, 7]
abbrev dktX1_game_4 : List UInt8 := dkwX1_game_4 ++ dktX1_game_5
def dkwX1_game_3 : List UInt8 := [4, 167, 0, 4, 3, 54, 8, 42, 27, 28, 21, 7, 154, 0, 7, 4, 167, 0, 4, 3, 21, 8]
abbrev dktX1_game_3 : List UInt8 := dkwX1_game_3 ++ dktX1_game_4
def dkwX1_game_2 : List UInt8 := [162, 0, 125, 21, 6, 4, 164, 0, 7, 4, 167, 0, 4, 3, 54, 7, 21, 6, 5, 112, 4, 160, 0, 7]
abbrev dktX1_game_2 : List UInt8 := dkwX1_game_2 ++ dktX1_game_3
def dkwX1_game_1 : List UInt8 := [159, 0, 7, 4, 167, 0, 4, 3, 184, 0, 101, 3, 54, 4, 2, 54, 5, 3, 54, 6, 21, 6, 7]
abbrev dktX1_game_1 : List UInt8 := dkwX1_game_1 ++ dktX1_game_2
def dkwX1_game_0 : List UInt8 := [42, 27, 182, 0, 184, 87, 42, 28, 182, 0, 184, 87, 29, 3, 4, 184, 0, 133, 184, 0, 82, 27, 28]
abbrev dktX1_game_0 : List UInt8 := dkwX1_game_0 ++ dktX1_game_1
theorem dksX1_game_0 : cX1_game.data.toList.drop 0 = dktX1_game_0 := by decide +kernel
theorem dksX1_game_1 : cX1_game.data.toList.drop 23 = dktX1_game_1 := dk_seg dksX1_game_0 23 rfl rfl
theorem dksX1_game_2 : cX1_game.data.toList.drop 46 = dktX1_game_2 := dk_seg dksX1_game_1 23 rfl rfl
theorem dksX1_game_3 : cX1_game.data.toList.drop 70 = dktX1_game_3 := dk_seg dksX1_game_2 24 rfl rfl
theorem dksX1_game_4 : cX1_game.data.toList.drop 92 = dktX1_game_4 := dk_seg dksX1_game_3 22 rfl rfl
theorem dksX1_game_5 : cX1_game.data.toList.drop 116 = dktX1_game_5 := dk_seg dksX1_game_4 24 rfl rfl
theorem dksX1_game_6 : cX1_game.data.toList.drop 139 = dktX1_game_6 := dk_seg dksX1_game_5 23 rfl rfl
theorem dksX1_game_7 : cX1_game.data.toList.drop 163 = dktX1_game_7 := dk_seg dksX1_game_6 24 rfl rfl
theorem dX1_game_0 : decode cX1_game 0 = .ok (.aload_n 0, 1) := dk_42 (dk_at dksX1_game_0 0 rfl rfl)
theorem dX1_game_1 : decode cX1_game 1 = .ok (.iload_n 1, 1) := dk_27 (dk_at dksX1_game_0 1 rfl rfl)
theorem dX1_game_2 : decode cX1_game 2 = .ok (.invokevirtual 184, 3) := dk_182 0 184 (dk_at dksX1_game_0 2 rfl rfl)
theorem dX1_game_5 : decode cX1_game 5 = .ok (.pop, 1) := dk_87 (dk_at dksX1_game_0 5 rfl rfl)
theorem dX1_game_6 : decode cX1_game 6 = .ok (.aload_n 0, 1) := dk_42 (dk_at dksX1_game_0 6 rfl rfl)
theorem dX1_game_7 : decode cX1_game 7 = .ok (.iload_n 2, 1) := dk_28 (dk_at dksX1_game_0 7 rfl rfl)
theorem dX1_game_8 : decode cX1_game 8 = .ok (.invokevirtual 184, 3) := dk_182 0 184 (dk_at dksX1_game_0 8 rfl rfl)
theorem dX1_game_11 : decode cX1_game 11 = .ok (.pop, 1) := dk_87 (dk_at dksX1_game_0 11 rfl rfl)
theorem dX1_game_12 : decode cX1_game 12 = .ok (.iload_n 3, 1) := dk_29 (dk_at dksX1_game_0 12 rfl rfl)
theorem dX1_game_13 : decode cX1_game 13 = .ok (.iconst 0, 1) := dk_3 (dk_at dksX1_game_0 13 rfl rfl)
theorem dX1_game_14 : decode cX1_game 14 = .ok (.iconst 1, 1) := dk_4 (dk_at dksX1_game_0 14 rfl rfl)
theorem dX1_game_15 : decode cX1_game 15 = .ok (.invokestatic 133, 3) := dk_184 0 133 (dk_at dksX1_game_0 15 rfl rfl)
theorem dX1_game_18 : decode cX1_game 18 = .ok (.invokestatic 82, 3) := dk_184 0 82 (dk_at dksX1_game_0 18 rfl rfl)
theorem dX1_game_21 : decode cX1_game 21 = .ok (.iload_n 1, 1) := dk_27 (dk_at dksX1_game_0 21 rfl rfl)
theorem dX1_game_22 : decode cX1_game 22 = .ok (.iload_n 2, 1) := dk_28 (dk_at dksX1_game_0 22 rfl rfl)
theorem dX1_game_23 : decode cX1_game 23 = .ok (.if_icmp .eq 7, 3) := dk_159 0 7 (dk_at dksX1_game_1 0 rfl rfl)
theorem dX1_game_26 : decode cX1_game 26 = .ok (.iconst 1, 1) := dk_4 (dk_at dksX1_game_1 3 rfl rfl)
theorem dX1_game_27 : decode cX1_game 27 = .ok (.goto 4, 3) := dk_167 0 4 (dk_at dksX1_game_1 4 rfl rfl)
theorem dX1_game_30 : decode cX1_game 30 = .ok (.iconst 0, 1) := dk_3 (dk_at dksX1_game_1 7 rfl rfl)
theorem dX1_game_31 : decode cX1_game 31 = .ok (.invokestatic 101, 3) := dk_184 0 101 (dk_at dksX1_game_1 8 rfl rfl)
theorem dX1_game_34 : decode cX1_game 34 = .ok (.iconst 0, 1) := dk_3 (dk_at dksX1_game_1 11 rfl rfl)
theorem dX1_game_35 : decode cX1_game 35 = .ok (.istore 4, 2) := dk_54 4 (dk_at dksX1_game_1 12 rfl rfl)
theorem dX1_game_37 : decode cX1_game 37 = .ok (.iconst (-1), 1) := dk_2 (dk_at dksX1_game_1 14 rfl rfl)
theorem dX1_game_38 : decode cX1_game 38 = .ok (.istore 5, 2) := dk_54 5 (dk_at dksX1_game_1 15 rfl rfl)
theorem dX1_game_40 : decode cX1_game 40 = .ok (.iconst 0, 1) := dk_3 (dk_at dksX1_game_1 17 rfl rfl)
theorem dX1_game_41 : decode cX1_game 41 = .ok (.istore 6, 2) := dk_54 6 (dk_at dksX1_game_1 18 rfl rfl)
theorem dX1_game_43 : decode cX1_game 43 = .ok (.iload 6, 2) := dk_21 6 (dk_at dksX1_game_1 20 rfl rfl)
theorem dX1_game_45 : decode cX1_game 45 = .ok (.iconst 4, 1) := dk_7 (dk_at dksX1_game_1 22 rfl rfl)
theorem dX1_game_46 : decode cX1_game 46 = .ok (.if_icmp .ge 125, 3) := dk_162 0 125 (dk_at dksX1_game_2 0 rfl rfl)
theorem dX1_game_49 : decode cX1_game 49 = .ok (.iload 6, 2) := dk_21 6 (dk_at dksX1_game_2 3 rfl rfl)
theorem dX1_game_51 : decode cX1_game 51 = .ok (.iconst 1, 1) := dk_4 (dk_at dksX1_game_2 5 rfl rfl)
theorem dX1_game_52 : decode cX1_game 52 = .ok (.if_icmp .le 7, 3) := dk_164 0 7 (dk_at dksX1_game_2 6 rfl rfl)
theorem dX1_game_55 : decode cX1_game 55 = .ok (.iconst 1, 1) := dk_4 (dk_at dksX1_game_2 9 rfl rfl)
theorem dX1_game_56 : decode cX1_game 56 = .ok (.goto 4, 3) := dk_167 0 4 (dk_at dksX1_game_2 10 rfl rfl)
theorem dX1_game_59 : decode cX1_game 59 = .ok (.iconst 0, 1) := dk_3 (dk_at dksX1_game_2 13 rfl rfl)
theorem dX1_game_60 : decode cX1_game 60 = .ok (.istore 7, 2) := dk_54 7 (dk_at dksX1_game_2 14 rfl rfl)
theorem dX1_game_62 : decode cX1_game 62 = .ok (.iload 6, 2) := dk_21 6 (dk_at dksX1_game_2 16 rfl rfl)
theorem dX1_game_64 : decode cX1_game 64 = .ok (.iconst 2, 1) := dk_5 (dk_at dksX1_game_2 18 rfl rfl)
theorem dX1_game_65 : decode cX1_game 65 = .ok (.irem, 1) := dk_112 (dk_at dksX1_game_2 19 rfl rfl)
theorem dX1_game_66 : decode cX1_game 66 = .ok (.iconst 1, 1) := dk_4 (dk_at dksX1_game_2 20 rfl rfl)
theorem dX1_game_67 : decode cX1_game 67 = .ok (.if_icmp .ne 7, 3) := dk_160 0 7 (dk_at dksX1_game_2 21 rfl rfl)
theorem dX1_game_70 : decode cX1_game 70 = .ok (.iconst 1, 1) := dk_4 (dk_at dksX1_game_3 0 rfl rfl)
theorem dX1_game_71 : decode cX1_game 71 = .ok (.goto 4, 3) := dk_167 0 4 (dk_at dksX1_game_3 1 rfl rfl)
theorem dX1_game_74 : decode cX1_game 74 = .ok (.iconst 0, 1) := dk_3 (dk_at dksX1_game_3 4 rfl rfl)
theorem dX1_game_75 : decode cX1_game 75 = .ok (.istore 8, 2) := dk_54 8 (dk_at dksX1_game_3 5 rfl rfl)
theorem dX1_game_77 : decode cX1_game 77 = .ok (.aload_n 0, 1) := dk_42 (dk_at dksX1_game_3 7 rfl rfl)
theorem dX1_game_78 : decode cX1_game 78 = .ok (.iload_n 1, 1) := dk_27 (dk_at dksX1_game_3 8 rfl rfl)
theorem dX1_game_79 : decode cX1_game 79 = .ok (.iload_n 2, 1) := dk_28 (dk_at dksX1_game_3 9 rfl rfl)
theorem dX1_game_80 : decode cX1_game 80 = .ok (.iload 7, 2) := dk_21 7 (dk_at dksX1_game_3 10 rfl rfl)
theorem dX1_game_82 : decode cX1_game 82 = .ok (.ifCond .ne 7, 3) := dk_154 0 7 (dk_at dksX1_game_3 12 rfl rfl)
theorem dX1_game_85 : decode cX1_game 85 = .ok (.iconst 1, 1) := dk_4 (dk_at dksX1_game_3 15 rfl rfl)
theorem dX1_game_86 : decode cX1_game 86 = .ok (.goto 4, 3) := dk_167 0 4 (dk_at dksX1_game_3 16 rfl rfl)
theorem dX1_game_89 : decode cX1_game 89 = .ok (.iconst 0, 1) := dk_3 (dk_at dksX1_game_3 19 rfl rfl)
theorem dX1_game_90 : decode cX1_game 90 = .ok (.iload 8, 2) := dk_21 8 (dk_at dksX1_game_3 20 rfl rfl)
theorem dX1_game_92 : decode cX1_game 92 = .ok (.invokevirtual 307, 3) := dk_182 1 51 (dk_at dksX1_game_4 0 rfl rfl)
theorem dX1_game_95 : decode cX1_game 95 = .ok (.aload_n 0, 1) := dk_42 (dk_at dksX1_game_4 3 rfl rfl)
theorem dX1_game_96 : decode cX1_game 96 = .ok (.iload_n 1, 1) := dk_27 (dk_at dksX1_game_4 4 rfl rfl)
theorem dX1_game_97 : decode cX1_game 97 = .ok (.iload_n 2, 1) := dk_28 (dk_at dksX1_game_4 5 rfl rfl)
theorem dX1_game_98 : decode cX1_game 98 = .ok (.iload 7, 2) := dk_21 7 (dk_at dksX1_game_4 6 rfl rfl)
theorem dX1_game_100 : decode cX1_game 100 = .ok (.iload 8, 2) := dk_21 8 (dk_at dksX1_game_4 8 rfl rfl)
theorem dX1_game_102 : decode cX1_game 102 = .ok (.invokevirtual 307, 3) := dk_182 1 51 (dk_at dksX1_game_4 10 rfl rfl)
theorem dX1_game_105 : decode cX1_game 105 = .ok (.if_icmp .gt 60, 3) := dk_163 0 60 (dk_at dksX1_game_4 13 rfl rfl)
theorem dX1_game_108 : decode cX1_game 108 = .ok (.aload_n 0, 1) := dk_42 (dk_at dksX1_game_4 16 rfl rfl)
theorem dX1_game_109 : decode cX1_game 109 = .ok (.iload_n 2, 1) := dk_28 (dk_at dksX1_game_4 17 rfl rfl)
theorem dX1_game_110 : decode cX1_game 110 = .ok (.iload_n 1, 1) := dk_27 (dk_at dksX1_game_4 18 rfl rfl)
theorem dX1_game_111 : decode cX1_game 111 = .ok (.iload 8, 2) := dk_21 8 (dk_at dksX1_game_4 19 rfl rfl)
theorem dX1_game_113 : decode cX1_game 113 = .ok (.ifCond .ne 7, 3) := dk_154 0 7 (dk_at dksX1_game_4 21 rfl rfl)
theorem dX1_game_116 : decode cX1_game 116 = .ok (.iconst 1, 1) := dk_4 (dk_at dksX1_game_5 0 rfl rfl)
theorem dX1_game_117 : decode cX1_game 117 = .ok (.goto 4, 3) := dk_167 0 4 (dk_at dksX1_game_5 1 rfl rfl)
theorem dX1_game_120 : decode cX1_game 120 = .ok (.iconst 0, 1) := dk_3 (dk_at dksX1_game_5 4 rfl rfl)
theorem dX1_game_121 : decode cX1_game 121 = .ok (.iload 7, 2) := dk_21 7 (dk_at dksX1_game_5 5 rfl rfl)
theorem dX1_game_123 : decode cX1_game 123 = .ok (.invokevirtual 307, 3) := dk_182 1 51 (dk_at dksX1_game_5 7 rfl rfl)
theorem dX1_game_126 : decode cX1_game 126 = .ok (.aload_n 0, 1) := dk_42 (dk_at dksX1_game_5 10 rfl rfl)
theorem dX1_game_127 : decode cX1_game 127 = .ok (.iload_n 2, 1) := dk_28 (dk_at dksX1_game_5 11 rfl rfl)
theorem dX1_game_128 : decode cX1_game 128 = .ok (.iload_n 1, 1) := dk_27 (dk_at dksX1_game_5 12 rfl rfl)
theorem dX1_game_129 : decode cX1_game 129 = .ok (.iload 8, 2) := dk_21 8 (dk_at dksX1_game_5 13 rfl rfl)
theorem dX1_game_131 : decode cX1_game 131 = .ok (.iload 7, 2) := dk_21 7 (dk_at dksX1_game_5 15 rfl rfl)
theorem dX1_game_133 : decode cX1_game 133 = .ok (.invokevirtual 307, 3) := dk_182 1 51 (dk_at dksX1_game_5 17 rfl rfl)
theorem dX1_game_136 : decode cX1_game 136 = .ok (.if_icmp .le 6, 3) := dk_164 0 6 (dk_at dksX1_game_5 20 rfl rfl)
theorem dX1_game_139 : decode cX1_game 139 = .ok (.goto 26, 3) := dk_167 0 26 (dk_at dksX1_game_6 0 rfl rfl)
theorem dX1_game_142 : decode cX1_game 142 = .ok (.iinc 4 1, 3) := dk_132 4 1 (dk_at dksX1_game_6 3 rfl rfl)
theorem dX1_game_145 : decode cX1_game 145 = .ok (.iload 5, 2) := dk_21 5 (dk_at dksX1_game_6 6 rfl rfl)
theorem dX1_game_147 : decode cX1_game 147 = .ok (.iconst (-1), 1) := dk_2 (dk_at dksX1_game_6 8 rfl rfl)
theorem dX1_game_148 : decode cX1_game 148 = .ok (.if_icmp .ne 17, 3) := dk_160 0 17 (dk_at dksX1_game_6 9 rfl rfl)
theorem dX1_game_151 : decode cX1_game 151 = .ok (.iload 6, 2) := dk_21 6 (dk_at dksX1_game_6 12 rfl rfl)
theorem dX1_game_153 : decode cX1_game 153 = .ok (.iconst 2, 1) := dk_5 (dk_at dksX1_game_6 14 rfl rfl)
theorem dX1_game_154 : decode cX1_game 154 = .ok (.idiv, 1) := dk_108 (dk_at dksX1_game_6 15 rfl rfl)
theorem dX1_game_155 : decode cX1_game 155 = .ok (.bipush 10, 2) := dk_16 10 (dk_at dksX1_game_6 16 rfl rfl)
theorem dX1_game_157 : decode cX1_game 157 = .ok (.imul, 1) := dk_104 (dk_at dksX1_game_6 18 rfl rfl)
theorem dX1_game_158 : decode cX1_game 158 = .ok (.iload 6, 2) := dk_21 6 (dk_at dksX1_game_6 19 rfl rfl)
theorem dX1_game_160 : decode cX1_game 160 = .ok (.iconst 2, 1) := dk_5 (dk_at dksX1_game_6 21 rfl rfl)
theorem dX1_game_161 : decode cX1_game 161 = .ok (.irem, 1) := dk_112 (dk_at dksX1_game_6 22 rfl rfl)
theorem dX1_game_162 : decode cX1_game 162 = .ok (.iadd, 1) := dk_96 (dk_at dksX1_game_6 23 rfl rfl)
theorem dX1_game_163 : decode cX1_game 163 = .ok (.istore 5, 2) := dk_54 5 (dk_at dksX1_game_7 0 rfl rfl)
theorem dX1_game_165 : decode cX1_game 165 = .ok (.iinc 6 1, 3) := dk_132 6 1 (dk_at dksX1_game_7 2 rfl rfl)
theorem dX1_game_168 : decode cX1_game 168 = .ok (.goto (-125), 3) := dk_167 255 131 (dk_at dksX1_game_7 5 rfl rfl)
theorem dX1_game_171 : decode cX1_game 171 = .ok (.iload_n 3, 1) := dk_29 (dk_at dksX1_game_7 8 rfl rfl)
theorem dX1_game_172 : decode cX1_game 172 = .ok (.ifCond .ne 8, 3) := dk_154 0 8 (dk_at dksX1_game_7 9 rfl rfl)
theorem dX1_game_175 : decode cX1_game 175 = .ok (.iload 4, 2) := dk_21 4 (dk_at dksX1_game_7 12 rfl rfl)
theorem dX1_game_177 : decode cX1_game 177 = .ok (.goto 5, 3) := dk_167 0 5 (dk_at dksX1_game_7 14 rfl rfl)
theorem dX1_game_180 : decode cX1_game 180 = .ok (.iload 5, 2) := dk_21 5 (dk_at dksX1_game_7 17 rfl rfl)
theorem dX1_game_182 : decode cX1_game 182 = .ok (.ireturn, 1) := dk_172 (dk_at dksX1_game_7 19 rfl rfl)
abbrev cX1_gains : ByteArray := prog_1_method_57_code
def yX1_gains : MethodName := ⟨RX1, "gains", "(IIZZ)I"⟩
def dkwX1_gains_5 : List UInt8 := [172]
abbrev dktX1_gains_5 : List UInt8 := dkwX1_gains_5 ++ []
def dkwX1_gains_4 : List UInt8 := [16, 10, 42, 180, 0, 34, 180, 0, 245, 184, 1, 11, 104, 100, 29, 153, 0, 7, 5, 167, 0, 4, 3, 100]
abbrev dktX1_gains_4 : List UInt8 := dkwX1_gains_4 ++ dktX1_gains_5
def dkwX1_gains_3 : List UInt8 := [180, 0, 10, 182, 0, 214, 42, 180, 0, 34, 180, 0, 172, 42, 180, 0, 34, 180, 0, 178, 27, 46, 46]
abbrev dktX1_gains_3 : List UInt8 := dkwX1_gains_3 ++ dktX1_gains_4
def dkwX1_gains_2 : List UInt8 := [154, 0, 18, 42, 180, 0, 34, 89, 180, 0, 158, 4, 28, 120, 128, 181, 0, 158, 42, 180, 0, 34, 42]
abbrev dktX1_gains_2 : List UInt8 := dkwX1_gains_2 ++ dktX1_gains_3
def dkwX1_gains_1 : List UInt8 := [181, 0, 158, 29, 154, 0, 18, 42, 180, 0, 34, 89, 180, 0, 158, 4, 27, 120, 128, 181, 0, 158, 21, 4]
abbrev dktX1_gains_1 : List UInt8 := dkwX1_gains_1 ++ dktX1_gains_2
def dkwX1_gains_0 : List UInt8 := [42, 3, 182, 0, 234, 42, 180, 0, 34, 89, 180, 0, 158, 4, 27, 120, 4, 28, 120, 128, 2, 130, 126]
abbrev dktX1_gains_0 : List UInt8 := dkwX1_gains_0 ++ dktX1_gains_1
theorem dksX1_gains_0 : cX1_gains.data.toList.drop 0 = dktX1_gains_0 := by decide +kernel
theorem dksX1_gains_1 : cX1_gains.data.toList.drop 23 = dktX1_gains_1 := dk_seg dksX1_gains_0 23 rfl rfl
theorem dksX1_gains_2 : cX1_gains.data.toList.drop 47 = dktX1_gains_2 := dk_seg dksX1_gains_1 24 rfl rfl
theorem dksX1_gains_3 : cX1_gains.data.toList.drop 70 = dktX1_gains_3 := dk_seg dksX1_gains_2 23 rfl rfl
theorem dksX1_gains_4 : cX1_gains.data.toList.drop 93 = dktX1_gains_4 := dk_seg dksX1_gains_3 23 rfl rfl
theorem dksX1_gains_5 : cX1_gains.data.toList.drop 117 = dktX1_gains_5 := dk_seg dksX1_gains_4 24 rfl rfl
theorem dX1_gains_0 : decode cX1_gains 0 = .ok (.aload_n 0, 1) := dk_42 (dk_at dksX1_gains_0 0 rfl rfl)
theorem dX1_gains_1 : decode cX1_gains 1 = .ok (.iconst 0, 1) := dk_3 (dk_at dksX1_gains_0 1 rfl rfl)
theorem dX1_gains_2 : decode cX1_gains 2 = .ok (.invokevirtual 234, 3) := dk_182 0 234 (dk_at dksX1_gains_0 2 rfl rfl)
theorem dX1_gains_5 : decode cX1_gains 5 = .ok (.aload_n 0, 1) := dk_42 (dk_at dksX1_gains_0 5 rfl rfl)
theorem dX1_gains_6 : decode cX1_gains 6 = .ok (.getfield 34, 3) := dk_180 0 34 (dk_at dksX1_gains_0 6 rfl rfl)
theorem dX1_gains_9 : decode cX1_gains 9 = .ok (.dup, 1) := dk_89 (dk_at dksX1_gains_0 9 rfl rfl)
theorem dX1_gains_10 : decode cX1_gains 10 = .ok (.getfield 158, 3) := dk_180 0 158 (dk_at dksX1_gains_0 10 rfl rfl)
theorem dX1_gains_13 : decode cX1_gains 13 = .ok (.iconst 1, 1) := dk_4 (dk_at dksX1_gains_0 13 rfl rfl)
theorem dX1_gains_14 : decode cX1_gains 14 = .ok (.iload_n 1, 1) := dk_27 (dk_at dksX1_gains_0 14 rfl rfl)
theorem dX1_gains_15 : decode cX1_gains 15 = .ok (.ishl, 1) := dk_120 (dk_at dksX1_gains_0 15 rfl rfl)
theorem dX1_gains_16 : decode cX1_gains 16 = .ok (.iconst 1, 1) := dk_4 (dk_at dksX1_gains_0 16 rfl rfl)
theorem dX1_gains_17 : decode cX1_gains 17 = .ok (.iload_n 2, 1) := dk_28 (dk_at dksX1_gains_0 17 rfl rfl)
theorem dX1_gains_18 : decode cX1_gains 18 = .ok (.ishl, 1) := dk_120 (dk_at dksX1_gains_0 18 rfl rfl)
theorem dX1_gains_19 : decode cX1_gains 19 = .ok (.ior, 1) := dk_128 (dk_at dksX1_gains_0 19 rfl rfl)
theorem dX1_gains_20 : decode cX1_gains 20 = .ok (.iconst (-1), 1) := dk_2 (dk_at dksX1_gains_0 20 rfl rfl)
theorem dX1_gains_21 : decode cX1_gains 21 = .ok (.ixor, 1) := dk_130 (dk_at dksX1_gains_0 21 rfl rfl)
theorem dX1_gains_22 : decode cX1_gains 22 = .ok (.iand, 1) := dk_126 (dk_at dksX1_gains_0 22 rfl rfl)
theorem dX1_gains_23 : decode cX1_gains 23 = .ok (.putfield 158, 3) := dk_181 0 158 (dk_at dksX1_gains_1 0 rfl rfl)
theorem dX1_gains_26 : decode cX1_gains 26 = .ok (.iload_n 3, 1) := dk_29 (dk_at dksX1_gains_1 3 rfl rfl)
theorem dX1_gains_27 : decode cX1_gains 27 = .ok (.ifCond .ne 18, 3) := dk_154 0 18 (dk_at dksX1_gains_1 4 rfl rfl)
theorem dX1_gains_30 : decode cX1_gains 30 = .ok (.aload_n 0, 1) := dk_42 (dk_at dksX1_gains_1 7 rfl rfl)
theorem dX1_gains_31 : decode cX1_gains 31 = .ok (.getfield 34, 3) := dk_180 0 34 (dk_at dksX1_gains_1 8 rfl rfl)
theorem dX1_gains_34 : decode cX1_gains 34 = .ok (.dup, 1) := dk_89 (dk_at dksX1_gains_1 11 rfl rfl)
theorem dX1_gains_35 : decode cX1_gains 35 = .ok (.getfield 158, 3) := dk_180 0 158 (dk_at dksX1_gains_1 12 rfl rfl)
theorem dX1_gains_38 : decode cX1_gains 38 = .ok (.iconst 1, 1) := dk_4 (dk_at dksX1_gains_1 15 rfl rfl)
theorem dX1_gains_39 : decode cX1_gains 39 = .ok (.iload_n 1, 1) := dk_27 (dk_at dksX1_gains_1 16 rfl rfl)
theorem dX1_gains_40 : decode cX1_gains 40 = .ok (.ishl, 1) := dk_120 (dk_at dksX1_gains_1 17 rfl rfl)
theorem dX1_gains_41 : decode cX1_gains 41 = .ok (.ior, 1) := dk_128 (dk_at dksX1_gains_1 18 rfl rfl)
theorem dX1_gains_42 : decode cX1_gains 42 = .ok (.putfield 158, 3) := dk_181 0 158 (dk_at dksX1_gains_1 19 rfl rfl)
theorem dX1_gains_45 : decode cX1_gains 45 = .ok (.iload 4, 2) := dk_21 4 (dk_at dksX1_gains_1 22 rfl rfl)
theorem dX1_gains_47 : decode cX1_gains 47 = .ok (.ifCond .ne 18, 3) := dk_154 0 18 (dk_at dksX1_gains_2 0 rfl rfl)
theorem dX1_gains_50 : decode cX1_gains 50 = .ok (.aload_n 0, 1) := dk_42 (dk_at dksX1_gains_2 3 rfl rfl)
theorem dX1_gains_51 : decode cX1_gains 51 = .ok (.getfield 34, 3) := dk_180 0 34 (dk_at dksX1_gains_2 4 rfl rfl)
theorem dX1_gains_54 : decode cX1_gains 54 = .ok (.dup, 1) := dk_89 (dk_at dksX1_gains_2 7 rfl rfl)
theorem dX1_gains_55 : decode cX1_gains 55 = .ok (.getfield 158, 3) := dk_180 0 158 (dk_at dksX1_gains_2 8 rfl rfl)
theorem dX1_gains_58 : decode cX1_gains 58 = .ok (.iconst 1, 1) := dk_4 (dk_at dksX1_gains_2 11 rfl rfl)
theorem dX1_gains_59 : decode cX1_gains 59 = .ok (.iload_n 2, 1) := dk_28 (dk_at dksX1_gains_2 12 rfl rfl)
theorem dX1_gains_60 : decode cX1_gains 60 = .ok (.ishl, 1) := dk_120 (dk_at dksX1_gains_2 13 rfl rfl)
theorem dX1_gains_61 : decode cX1_gains 61 = .ok (.ior, 1) := dk_128 (dk_at dksX1_gains_2 14 rfl rfl)
theorem dX1_gains_62 : decode cX1_gains 62 = .ok (.putfield 158, 3) := dk_181 0 158 (dk_at dksX1_gains_2 15 rfl rfl)
theorem dX1_gains_65 : decode cX1_gains 65 = .ok (.aload_n 0, 1) := dk_42 (dk_at dksX1_gains_2 18 rfl rfl)
theorem dX1_gains_66 : decode cX1_gains 66 = .ok (.getfield 34, 3) := dk_180 0 34 (dk_at dksX1_gains_2 19 rfl rfl)
theorem dX1_gains_69 : decode cX1_gains 69 = .ok (.aload_n 0, 1) := dk_42 (dk_at dksX1_gains_2 22 rfl rfl)
theorem dX1_gains_70 : decode cX1_gains 70 = .ok (.getfield 10, 3) := dk_180 0 10 (dk_at dksX1_gains_3 0 rfl rfl)
theorem dX1_gains_73 : decode cX1_gains 73 = .ok (.invokevirtual 214, 3) := dk_182 0 214 (dk_at dksX1_gains_3 3 rfl rfl)
theorem dX1_gains_76 : decode cX1_gains 76 = .ok (.aload_n 0, 1) := dk_42 (dk_at dksX1_gains_3 6 rfl rfl)
theorem dX1_gains_77 : decode cX1_gains 77 = .ok (.getfield 34, 3) := dk_180 0 34 (dk_at dksX1_gains_3 7 rfl rfl)
theorem dX1_gains_80 : decode cX1_gains 80 = .ok (.getfield 172, 3) := dk_180 0 172 (dk_at dksX1_gains_3 10 rfl rfl)
theorem dX1_gains_83 : decode cX1_gains 83 = .ok (.aload_n 0, 1) := dk_42 (dk_at dksX1_gains_3 13 rfl rfl)
theorem dX1_gains_84 : decode cX1_gains 84 = .ok (.getfield 34, 3) := dk_180 0 34 (dk_at dksX1_gains_3 14 rfl rfl)
theorem dX1_gains_87 : decode cX1_gains 87 = .ok (.getfield 178, 3) := dk_180 0 178 (dk_at dksX1_gains_3 17 rfl rfl)
theorem dX1_gains_90 : decode cX1_gains 90 = .ok (.iload_n 1, 1) := dk_27 (dk_at dksX1_gains_3 20 rfl rfl)
theorem dX1_gains_91 : decode cX1_gains 91 = .ok (.iaload, 1) := dk_46 (dk_at dksX1_gains_3 21 rfl rfl)
theorem dX1_gains_92 : decode cX1_gains 92 = .ok (.iaload, 1) := dk_46 (dk_at dksX1_gains_3 22 rfl rfl)
theorem dX1_gains_93 : decode cX1_gains 93 = .ok (.bipush 10, 2) := dk_16 10 (dk_at dksX1_gains_4 0 rfl rfl)
theorem dX1_gains_95 : decode cX1_gains 95 = .ok (.aload_n 0, 1) := dk_42 (dk_at dksX1_gains_4 2 rfl rfl)
theorem dX1_gains_96 : decode cX1_gains 96 = .ok (.getfield 34, 3) := dk_180 0 34 (dk_at dksX1_gains_4 3 rfl rfl)
theorem dX1_gains_99 : decode cX1_gains 99 = .ok (.getfield 245, 3) := dk_180 0 245 (dk_at dksX1_gains_4 6 rfl rfl)
theorem dX1_gains_102 : decode cX1_gains 102 = .ok (.invokestatic 267, 3) := dk_184 1 11 (dk_at dksX1_gains_4 9 rfl rfl)
theorem dX1_gains_105 : decode cX1_gains 105 = .ok (.imul, 1) := dk_104 (dk_at dksX1_gains_4 12 rfl rfl)
theorem dX1_gains_106 : decode cX1_gains 106 = .ok (.isub, 1) := dk_100 (dk_at dksX1_gains_4 13 rfl rfl)
theorem dX1_gains_107 : decode cX1_gains 107 = .ok (.iload_n 3, 1) := dk_29 (dk_at dksX1_gains_4 14 rfl rfl)
theorem dX1_gains_108 : decode cX1_gains 108 = .ok (.ifCond .eq 7, 3) := dk_153 0 7 (dk_at dksX1_gains_4 15 rfl rfl)
theorem dX1_gains_111 : decode cX1_gains 111 = .ok (.iconst 2, 1) := dk_5 (dk_at dksX1_gains_4 18 rfl rfl)
theorem dX1_gains_112 : decode cX1_gains 112 = .ok (.goto 4, 3) := dk_167 0 4 (dk_at dksX1_gains_4 19 rfl rfl)
theorem dX1_gains_115 : decode cX1_gains 115 = .ok (.iconst 0, 1) := dk_3 (dk_at dksX1_gains_4 22 rfl rfl)
theorem dX1_gains_116 : decode cX1_gains 116 = .ok (.isub, 1) := dk_100 (dk_at dksX1_gains_4 23 rfl rfl)
theorem dX1_gains_117 : decode cX1_gains 117 = .ok (.ireturn, 1) := dk_172 (dk_at dksX1_gains_5 0 rfl rfl)
abbrev cX1_skies : ByteArray := prog_1_method_61_code
def yX1_skies : MethodName := ⟨RX1, "skies", "(III)I"⟩
def dkwX1_skies_4 : List UInt8 := [180, 0, 34, 42, 182, 0, 81, 182, 0, 161, 167, 0, 10, 42, 180, 0, 34, 180, 0, 143, 172]
abbrev dktX1_skies_4 : List UInt8 := dkwX1_skies_4 ++ []
def dkwX1_skies_3 : List UInt8 := [54, 4, 132, 5, 1, 167, 255, 217, 29, 154, 0, 8, 21, 4, 167, 0, 29, 29, 4, 160, 0, 17, 42]
abbrev dktX1_skies_3 : List UInt8 := dkwX1_skies_3 ++ dktX1_skies_4
def dkwX1_skies_2 : List UInt8 := [180, 0, 34, 42, 180, 0, 10, 182, 0, 214, 21, 4, 42, 180, 0, 34, 180, 0, 245, 184, 1, 11, 96]
abbrev dktX1_skies_2 : List UInt8 := dkwX1_skies_2 ++ dktX1_skies_3
def dkwX1_skies_1 : List UInt8 := [42, 27, 181, 1, 55, 3, 54, 4, 3, 54, 5, 21, 5, 28, 162, 0, 39, 42, 182, 1, 66, 42]
abbrev dktX1_skies_1 : List UInt8 := dkwX1_skies_1 ++ dktX1_skies_2
def dkwX1_skies_0 : List UInt8 := [29, 3, 5, 184, 0, 133, 184, 0, 82, 28, 3, 16, 40, 184, 0, 133, 184, 0, 101, 42, 3, 182, 0, 234]
abbrev dktX1_skies_0 : List UInt8 := dkwX1_skies_0 ++ dktX1_skies_1
theorem dksX1_skies_0 : cX1_skies.data.toList.drop 0 = dktX1_skies_0 := by decide +kernel
theorem dksX1_skies_1 : cX1_skies.data.toList.drop 24 = dktX1_skies_1 := dk_seg dksX1_skies_0 24 rfl rfl
theorem dksX1_skies_2 : cX1_skies.data.toList.drop 46 = dktX1_skies_2 := dk_seg dksX1_skies_1 22 rfl rfl
theorem dksX1_skies_3 : cX1_skies.data.toList.drop 69 = dktX1_skies_3 := dk_seg dksX1_skies_2 23 rfl rfl
theorem dksX1_skies_4 : cX1_skies.data.toList.drop 92 = dktX1_skies_4 := dk_seg dksX1_skies_3 23 rfl rfl
theorem dX1_skies_0 : decode cX1_skies 0 = .ok (.iload_n 3, 1) := dk_29 (dk_at dksX1_skies_0 0 rfl rfl)
theorem dX1_skies_1 : decode cX1_skies 1 = .ok (.iconst 0, 1) := dk_3 (dk_at dksX1_skies_0 1 rfl rfl)
theorem dX1_skies_2 : decode cX1_skies 2 = .ok (.iconst 2, 1) := dk_5 (dk_at dksX1_skies_0 2 rfl rfl)
theorem dX1_skies_3 : decode cX1_skies 3 = .ok (.invokestatic 133, 3) := dk_184 0 133 (dk_at dksX1_skies_0 3 rfl rfl)
theorem dX1_skies_6 : decode cX1_skies 6 = .ok (.invokestatic 82, 3) := dk_184 0 82 (dk_at dksX1_skies_0 6 rfl rfl)
theorem dX1_skies_9 : decode cX1_skies 9 = .ok (.iload_n 2, 1) := dk_28 (dk_at dksX1_skies_0 9 rfl rfl)
theorem dX1_skies_10 : decode cX1_skies 10 = .ok (.iconst 0, 1) := dk_3 (dk_at dksX1_skies_0 10 rfl rfl)
theorem dX1_skies_11 : decode cX1_skies 11 = .ok (.bipush 40, 2) := dk_16 40 (dk_at dksX1_skies_0 11 rfl rfl)
theorem dX1_skies_13 : decode cX1_skies 13 = .ok (.invokestatic 133, 3) := dk_184 0 133 (dk_at dksX1_skies_0 13 rfl rfl)
theorem dX1_skies_16 : decode cX1_skies 16 = .ok (.invokestatic 101, 3) := dk_184 0 101 (dk_at dksX1_skies_0 16 rfl rfl)
theorem dX1_skies_19 : decode cX1_skies 19 = .ok (.aload_n 0, 1) := dk_42 (dk_at dksX1_skies_0 19 rfl rfl)
theorem dX1_skies_20 : decode cX1_skies 20 = .ok (.iconst 0, 1) := dk_3 (dk_at dksX1_skies_0 20 rfl rfl)
theorem dX1_skies_21 : decode cX1_skies 21 = .ok (.invokevirtual 234, 3) := dk_182 0 234 (dk_at dksX1_skies_0 21 rfl rfl)
theorem dX1_skies_24 : decode cX1_skies 24 = .ok (.aload_n 0, 1) := dk_42 (dk_at dksX1_skies_1 0 rfl rfl)
theorem dX1_skies_25 : decode cX1_skies 25 = .ok (.iload_n 1, 1) := dk_27 (dk_at dksX1_skies_1 1 rfl rfl)
theorem dX1_skies_26 : decode cX1_skies 26 = .ok (.putfield 311, 3) := dk_181 1 55 (dk_at dksX1_skies_1 2 rfl rfl)
theorem dX1_skies_29 : decode cX1_skies 29 = .ok (.iconst 0, 1) := dk_3 (dk_at dksX1_skies_1 5 rfl rfl)
theorem dX1_skies_30 : decode cX1_skies 30 = .ok (.istore 4, 2) := dk_54 4 (dk_at dksX1_skies_1 6 rfl rfl)
theorem dX1_skies_32 : decode cX1_skies 32 = .ok (.iconst 0, 1) := dk_3 (dk_at dksX1_skies_1 8 rfl rfl)
theorem dX1_skies_33 : decode cX1_skies 33 = .ok (.istore 5, 2) := dk_54 5 (dk_at dksX1_skies_1 9 rfl rfl)
theorem dX1_skies_35 : decode cX1_skies 35 = .ok (.iload 5, 2) := dk_21 5 (dk_at dksX1_skies_1 11 rfl rfl)
theorem dX1_skies_37 : decode cX1_skies 37 = .ok (.iload_n 2, 1) := dk_28 (dk_at dksX1_skies_1 13 rfl rfl)
theorem dX1_skies_38 : decode cX1_skies 38 = .ok (.if_icmp .ge 39, 3) := dk_162 0 39 (dk_at dksX1_skies_1 14 rfl rfl)
theorem dX1_skies_41 : decode cX1_skies 41 = .ok (.aload_n 0, 1) := dk_42 (dk_at dksX1_skies_1 17 rfl rfl)
theorem dX1_skies_42 : decode cX1_skies 42 = .ok (.invokevirtual 322, 3) := dk_182 1 66 (dk_at dksX1_skies_1 18 rfl rfl)
theorem dX1_skies_45 : decode cX1_skies 45 = .ok (.aload_n 0, 1) := dk_42 (dk_at dksX1_skies_1 21 rfl rfl)
theorem dX1_skies_46 : decode cX1_skies 46 = .ok (.getfield 34, 3) := dk_180 0 34 (dk_at dksX1_skies_2 0 rfl rfl)
theorem dX1_skies_49 : decode cX1_skies 49 = .ok (.aload_n 0, 1) := dk_42 (dk_at dksX1_skies_2 3 rfl rfl)
theorem dX1_skies_50 : decode cX1_skies 50 = .ok (.getfield 10, 3) := dk_180 0 10 (dk_at dksX1_skies_2 4 rfl rfl)
theorem dX1_skies_53 : decode cX1_skies 53 = .ok (.invokevirtual 214, 3) := dk_182 0 214 (dk_at dksX1_skies_2 7 rfl rfl)
theorem dX1_skies_56 : decode cX1_skies 56 = .ok (.iload 4, 2) := dk_21 4 (dk_at dksX1_skies_2 10 rfl rfl)
theorem dX1_skies_58 : decode cX1_skies 58 = .ok (.aload_n 0, 1) := dk_42 (dk_at dksX1_skies_2 12 rfl rfl)
theorem dX1_skies_59 : decode cX1_skies 59 = .ok (.getfield 34, 3) := dk_180 0 34 (dk_at dksX1_skies_2 13 rfl rfl)
theorem dX1_skies_62 : decode cX1_skies 62 = .ok (.getfield 245, 3) := dk_180 0 245 (dk_at dksX1_skies_2 16 rfl rfl)
theorem dX1_skies_65 : decode cX1_skies 65 = .ok (.invokestatic 267, 3) := dk_184 1 11 (dk_at dksX1_skies_2 19 rfl rfl)
theorem dX1_skies_68 : decode cX1_skies 68 = .ok (.iadd, 1) := dk_96 (dk_at dksX1_skies_2 22 rfl rfl)
theorem dX1_skies_69 : decode cX1_skies 69 = .ok (.istore 4, 2) := dk_54 4 (dk_at dksX1_skies_3 0 rfl rfl)
theorem dX1_skies_71 : decode cX1_skies 71 = .ok (.iinc 5 1, 3) := dk_132 5 1 (dk_at dksX1_skies_3 2 rfl rfl)
theorem dX1_skies_74 : decode cX1_skies 74 = .ok (.goto (-39), 3) := dk_167 255 217 (dk_at dksX1_skies_3 5 rfl rfl)
theorem dX1_skies_77 : decode cX1_skies 77 = .ok (.iload_n 3, 1) := dk_29 (dk_at dksX1_skies_3 8 rfl rfl)
theorem dX1_skies_78 : decode cX1_skies 78 = .ok (.ifCond .ne 8, 3) := dk_154 0 8 (dk_at dksX1_skies_3 9 rfl rfl)
theorem dX1_skies_81 : decode cX1_skies 81 = .ok (.iload 4, 2) := dk_21 4 (dk_at dksX1_skies_3 12 rfl rfl)
theorem dX1_skies_83 : decode cX1_skies 83 = .ok (.goto 29, 3) := dk_167 0 29 (dk_at dksX1_skies_3 14 rfl rfl)
theorem dX1_skies_86 : decode cX1_skies 86 = .ok (.iload_n 3, 1) := dk_29 (dk_at dksX1_skies_3 17 rfl rfl)
theorem dX1_skies_87 : decode cX1_skies 87 = .ok (.iconst 1, 1) := dk_4 (dk_at dksX1_skies_3 18 rfl rfl)
theorem dX1_skies_88 : decode cX1_skies 88 = .ok (.if_icmp .ne 17, 3) := dk_160 0 17 (dk_at dksX1_skies_3 19 rfl rfl)
theorem dX1_skies_91 : decode cX1_skies 91 = .ok (.aload_n 0, 1) := dk_42 (dk_at dksX1_skies_3 22 rfl rfl)
theorem dX1_skies_92 : decode cX1_skies 92 = .ok (.getfield 34, 3) := dk_180 0 34 (dk_at dksX1_skies_4 0 rfl rfl)
theorem dX1_skies_95 : decode cX1_skies 95 = .ok (.aload_n 0, 1) := dk_42 (dk_at dksX1_skies_4 3 rfl rfl)
theorem dX1_skies_96 : decode cX1_skies 96 = .ok (.invokevirtual 81, 3) := dk_182 0 81 (dk_at dksX1_skies_4 4 rfl rfl)
theorem dX1_skies_99 : decode cX1_skies 99 = .ok (.invokevirtual 161, 3) := dk_182 0 161 (dk_at dksX1_skies_4 7 rfl rfl)
theorem dX1_skies_102 : decode cX1_skies 102 = .ok (.goto 10, 3) := dk_167 0 10 (dk_at dksX1_skies_4 10 rfl rfl)
theorem dX1_skies_105 : decode cX1_skies 105 = .ok (.aload_n 0, 1) := dk_42 (dk_at dksX1_skies_4 13 rfl rfl)
theorem dX1_skies_106 : decode cX1_skies 106 = .ok (.getfield 34, 3) := dk_180 0 34 (dk_at dksX1_skies_4 14 rfl rfl)
theorem dX1_skies_109 : decode cX1_skies 109 = .ok (.getfield 143, 3) := dk_180 0 143 (dk_at dksX1_skies_4 17 rfl rfl)
theorem dX1_skies_112 : decode cX1_skies 112 = .ok (.ireturn, 1) := dk_172 (dk_at dksX1_skies_4 20 rfl rfl)
abbrev cX1_happens : ByteArray := prog_1_method_60_code
def yX1_happens : MethodName := ⟨RX1, "happens", "()V"⟩
def dkwX1_happens_4 : List UInt8 := [181, 0, 143, 177]
abbrev dktX1_happens_4 : List UInt8 := dkwX1_happens_4 ++ []
def dkwX1_happens_3 : List UInt8 := [27, 5, 160, 0, 24, 42, 180, 0, 34, 16, 99, 42, 180, 0, 34, 180, 0, 143, 8, 96, 184, 0, 221]
abbrev dktX1_happens_3 : List UInt8 := dkwX1_happens_3 ++ dktX1_happens_4
def dkwX1_happens_2 : List UInt8 := [182, 1, 59, 61, 42, 180, 0, 34, 180, 0, 178, 28, 42, 42, 182, 0, 81, 182, 1, 59, 79, 167, 0, 29]
abbrev dktX1_happens_2 : List UInt8 := dkwX1_happens_2 ++ dktX1_happens_3
def dkwX1_happens_1 : List UInt8 := [182, 1, 62, 167, 0, 70, 27, 4, 160, 0, 39, 42, 182, 0, 86, 158, 0, 32, 42, 42, 182, 0, 86]
abbrev dktX1_happens_1 : List UInt8 := dkwX1_happens_1 ++ dktX1_happens_2
def dkwX1_happens_0 : List UInt8 := [42, 8, 182, 1, 59, 60, 27, 154, 0, 23, 42, 180, 0, 34, 42, 42, 182, 0, 81, 182, 1, 59, 16, 20]
abbrev dktX1_happens_0 : List UInt8 := dkwX1_happens_0 ++ dktX1_happens_1
theorem dksX1_happens_0 : cX1_happens.data.toList.drop 0 = dktX1_happens_0 := by decide +kernel
theorem dksX1_happens_1 : cX1_happens.data.toList.drop 24 = dktX1_happens_1 := dk_seg dksX1_happens_0 24 rfl rfl
theorem dksX1_happens_2 : cX1_happens.data.toList.drop 47 = dktX1_happens_2 := dk_seg dksX1_happens_1 23 rfl rfl
theorem dksX1_happens_3 : cX1_happens.data.toList.drop 71 = dktX1_happens_3 := dk_seg dksX1_happens_2 24 rfl rfl
theorem dksX1_happens_4 : cX1_happens.data.toList.drop 94 = dktX1_happens_4 := dk_seg dksX1_happens_3 23 rfl rfl
theorem dX1_happens_0 : decode cX1_happens 0 = .ok (.aload_n 0, 1) := dk_42 (dk_at dksX1_happens_0 0 rfl rfl)
theorem dX1_happens_1 : decode cX1_happens 1 = .ok (.iconst 5, 1) := dk_8 (dk_at dksX1_happens_0 1 rfl rfl)
theorem dX1_happens_2 : decode cX1_happens 2 = .ok (.invokevirtual 315, 3) := dk_182 1 59 (dk_at dksX1_happens_0 2 rfl rfl)
theorem dX1_happens_5 : decode cX1_happens 5 = .ok (.istore_n 1, 1) := dk_60 (dk_at dksX1_happens_0 5 rfl rfl)
theorem dX1_happens_6 : decode cX1_happens 6 = .ok (.iload_n 1, 1) := dk_27 (dk_at dksX1_happens_0 6 rfl rfl)
theorem dX1_happens_7 : decode cX1_happens 7 = .ok (.ifCond .ne 23, 3) := dk_154 0 23 (dk_at dksX1_happens_0 7 rfl rfl)
theorem dX1_happens_10 : decode cX1_happens 10 = .ok (.aload_n 0, 1) := dk_42 (dk_at dksX1_happens_0 10 rfl rfl)
theorem dX1_happens_11 : decode cX1_happens 11 = .ok (.getfield 34, 3) := dk_180 0 34 (dk_at dksX1_happens_0 11 rfl rfl)
theorem dX1_happens_14 : decode cX1_happens 14 = .ok (.aload_n 0, 1) := dk_42 (dk_at dksX1_happens_0 14 rfl rfl)
theorem dX1_happens_15 : decode cX1_happens 15 = .ok (.aload_n 0, 1) := dk_42 (dk_at dksX1_happens_0 15 rfl rfl)
theorem dX1_happens_16 : decode cX1_happens 16 = .ok (.invokevirtual 81, 3) := dk_182 0 81 (dk_at dksX1_happens_0 16 rfl rfl)
theorem dX1_happens_19 : decode cX1_happens 19 = .ok (.invokevirtual 315, 3) := dk_182 1 59 (dk_at dksX1_happens_0 19 rfl rfl)
theorem dX1_happens_22 : decode cX1_happens 22 = .ok (.bipush 20, 2) := dk_16 20 (dk_at dksX1_happens_0 22 rfl rfl)
theorem dX1_happens_24 : decode cX1_happens 24 = .ok (.invokevirtual 318, 3) := dk_182 1 62 (dk_at dksX1_happens_1 0 rfl rfl)
theorem dX1_happens_27 : decode cX1_happens 27 = .ok (.goto 70, 3) := dk_167 0 70 (dk_at dksX1_happens_1 3 rfl rfl)
theorem dX1_happens_30 : decode cX1_happens 30 = .ok (.iload_n 1, 1) := dk_27 (dk_at dksX1_happens_1 6 rfl rfl)
theorem dX1_happens_31 : decode cX1_happens 31 = .ok (.iconst 1, 1) := dk_4 (dk_at dksX1_happens_1 7 rfl rfl)
theorem dX1_happens_32 : decode cX1_happens 32 = .ok (.if_icmp .ne 39, 3) := dk_160 0 39 (dk_at dksX1_happens_1 8 rfl rfl)
theorem dX1_happens_35 : decode cX1_happens 35 = .ok (.aload_n 0, 1) := dk_42 (dk_at dksX1_happens_1 11 rfl rfl)
theorem dX1_happens_36 : decode cX1_happens 36 = .ok (.invokevirtual 86, 3) := dk_182 0 86 (dk_at dksX1_happens_1 12 rfl rfl)
theorem dX1_happens_39 : decode cX1_happens 39 = .ok (.ifCond .le 32, 3) := dk_158 0 32 (dk_at dksX1_happens_1 15 rfl rfl)
theorem dX1_happens_42 : decode cX1_happens 42 = .ok (.aload_n 0, 1) := dk_42 (dk_at dksX1_happens_1 18 rfl rfl)
theorem dX1_happens_43 : decode cX1_happens 43 = .ok (.aload_n 0, 1) := dk_42 (dk_at dksX1_happens_1 19 rfl rfl)
theorem dX1_happens_44 : decode cX1_happens 44 = .ok (.invokevirtual 86, 3) := dk_182 0 86 (dk_at dksX1_happens_1 20 rfl rfl)
theorem dX1_happens_47 : decode cX1_happens 47 = .ok (.invokevirtual 315, 3) := dk_182 1 59 (dk_at dksX1_happens_2 0 rfl rfl)
theorem dX1_happens_50 : decode cX1_happens 50 = .ok (.istore_n 2, 1) := dk_61 (dk_at dksX1_happens_2 3 rfl rfl)
theorem dX1_happens_51 : decode cX1_happens 51 = .ok (.aload_n 0, 1) := dk_42 (dk_at dksX1_happens_2 4 rfl rfl)
theorem dX1_happens_52 : decode cX1_happens 52 = .ok (.getfield 34, 3) := dk_180 0 34 (dk_at dksX1_happens_2 5 rfl rfl)
theorem dX1_happens_55 : decode cX1_happens 55 = .ok (.getfield 178, 3) := dk_180 0 178 (dk_at dksX1_happens_2 8 rfl rfl)
theorem dX1_happens_58 : decode cX1_happens 58 = .ok (.iload_n 2, 1) := dk_28 (dk_at dksX1_happens_2 11 rfl rfl)
theorem dX1_happens_59 : decode cX1_happens 59 = .ok (.aload_n 0, 1) := dk_42 (dk_at dksX1_happens_2 12 rfl rfl)
theorem dX1_happens_60 : decode cX1_happens 60 = .ok (.aload_n 0, 1) := dk_42 (dk_at dksX1_happens_2 13 rfl rfl)
theorem dX1_happens_61 : decode cX1_happens 61 = .ok (.invokevirtual 81, 3) := dk_182 0 81 (dk_at dksX1_happens_2 14 rfl rfl)
theorem dX1_happens_64 : decode cX1_happens 64 = .ok (.invokevirtual 315, 3) := dk_182 1 59 (dk_at dksX1_happens_2 17 rfl rfl)
theorem dX1_happens_67 : decode cX1_happens 67 = .ok (.iastore, 1) := dk_79 (dk_at dksX1_happens_2 20 rfl rfl)
theorem dX1_happens_68 : decode cX1_happens 68 = .ok (.goto 29, 3) := dk_167 0 29 (dk_at dksX1_happens_2 21 rfl rfl)
theorem dX1_happens_71 : decode cX1_happens 71 = .ok (.iload_n 1, 1) := dk_27 (dk_at dksX1_happens_3 0 rfl rfl)
theorem dX1_happens_72 : decode cX1_happens 72 = .ok (.iconst 2, 1) := dk_5 (dk_at dksX1_happens_3 1 rfl rfl)
theorem dX1_happens_73 : decode cX1_happens 73 = .ok (.if_icmp .ne 24, 3) := dk_160 0 24 (dk_at dksX1_happens_3 2 rfl rfl)
theorem dX1_happens_76 : decode cX1_happens 76 = .ok (.aload_n 0, 1) := dk_42 (dk_at dksX1_happens_3 5 rfl rfl)
theorem dX1_happens_77 : decode cX1_happens 77 = .ok (.getfield 34, 3) := dk_180 0 34 (dk_at dksX1_happens_3 6 rfl rfl)
theorem dX1_happens_80 : decode cX1_happens 80 = .ok (.bipush 99, 2) := dk_16 99 (dk_at dksX1_happens_3 9 rfl rfl)
theorem dX1_happens_82 : decode cX1_happens 82 = .ok (.aload_n 0, 1) := dk_42 (dk_at dksX1_happens_3 11 rfl rfl)
theorem dX1_happens_83 : decode cX1_happens 83 = .ok (.getfield 34, 3) := dk_180 0 34 (dk_at dksX1_happens_3 12 rfl rfl)
theorem dX1_happens_86 : decode cX1_happens 86 = .ok (.getfield 143, 3) := dk_180 0 143 (dk_at dksX1_happens_3 15 rfl rfl)
theorem dX1_happens_89 : decode cX1_happens 89 = .ok (.iconst 5, 1) := dk_8 (dk_at dksX1_happens_3 18 rfl rfl)
theorem dX1_happens_90 : decode cX1_happens 90 = .ok (.iadd, 1) := dk_96 (dk_at dksX1_happens_3 19 rfl rfl)
theorem dX1_happens_91 : decode cX1_happens 91 = .ok (.invokestatic 221, 3) := dk_184 0 221 (dk_at dksX1_happens_3 20 rfl rfl)
theorem dX1_happens_94 : decode cX1_happens 94 = .ok (.putfield 143, 3) := dk_181 0 143 (dk_at dksX1_happens_4 0 rfl rfl)
theorem dX1_happens_97 : decode cX1_happens 97 = .ok (.return_, 1) := dk_177 (dk_at dksX1_happens_4 3 rfl rfl)
abbrev cX1_draw : ByteArray := prog_1_method_59_code
def yX1_draw : MethodName := ⟨RX1, "draw", "(I)I"⟩
def dkwX1_draw_1 : List UInt8 := [17, 127, 255, 126, 27, 112, 172]
abbrev dktX1_draw_1 : List UInt8 := dkwX1_draw_1 ++ []
def dkwX1_draw_0 : List UInt8 := [42, 42, 180, 1, 55, 19, 1, 58, 104, 17, 48, 57, 96, 181, 1, 55, 42, 180, 1, 55, 16, 16, 122]
abbrev dktX1_draw_0 : List UInt8 := dkwX1_draw_0 ++ dktX1_draw_1
theorem dksX1_draw_0 : cX1_draw.data.toList.drop 0 = dktX1_draw_0 := by decide +kernel
theorem dksX1_draw_1 : cX1_draw.data.toList.drop 23 = dktX1_draw_1 := dk_seg dksX1_draw_0 23 rfl rfl
theorem dX1_draw_0 : decode cX1_draw 0 = .ok (.aload_n 0, 1) := dk_42 (dk_at dksX1_draw_0 0 rfl rfl)
theorem dX1_draw_1 : decode cX1_draw 1 = .ok (.aload_n 0, 1) := dk_42 (dk_at dksX1_draw_0 1 rfl rfl)
theorem dX1_draw_2 : decode cX1_draw 2 = .ok (.getfield 311, 3) := dk_180 1 55 (dk_at dksX1_draw_0 2 rfl rfl)
theorem dX1_draw_5 : decode cX1_draw 5 = .ok (.ldc_w 314, 3) := dk_19 1 58 (dk_at dksX1_draw_0 5 rfl rfl)
theorem dX1_draw_8 : decode cX1_draw 8 = .ok (.imul, 1) := dk_104 (dk_at dksX1_draw_0 8 rfl rfl)
theorem dX1_draw_9 : decode cX1_draw 9 = .ok (.sipush 12345, 3) := dk_17 48 57 (dk_at dksX1_draw_0 9 rfl rfl)
theorem dX1_draw_12 : decode cX1_draw 12 = .ok (.iadd, 1) := dk_96 (dk_at dksX1_draw_0 12 rfl rfl)
theorem dX1_draw_13 : decode cX1_draw 13 = .ok (.putfield 311, 3) := dk_181 1 55 (dk_at dksX1_draw_0 13 rfl rfl)
theorem dX1_draw_16 : decode cX1_draw 16 = .ok (.aload_n 0, 1) := dk_42 (dk_at dksX1_draw_0 16 rfl rfl)
theorem dX1_draw_17 : decode cX1_draw 17 = .ok (.getfield 311, 3) := dk_180 1 55 (dk_at dksX1_draw_0 17 rfl rfl)
theorem dX1_draw_20 : decode cX1_draw 20 = .ok (.bipush 16, 2) := dk_16 16 (dk_at dksX1_draw_0 20 rfl rfl)
theorem dX1_draw_22 : decode cX1_draw 22 = .ok (.ishr, 1) := dk_122 (dk_at dksX1_draw_0 22 rfl rfl)
theorem dX1_draw_23 : decode cX1_draw 23 = .ok (.sipush 32767, 3) := dk_17 127 255 (dk_at dksX1_draw_1 0 rfl rfl)
theorem dX1_draw_26 : decode cX1_draw 26 = .ok (.iand, 1) := dk_126 (dk_at dksX1_draw_1 3 rfl rfl)
theorem dX1_draw_27 : decode cX1_draw 27 = .ok (.iload_n 1, 1) := dk_27 (dk_at dksX1_draw_1 4 rfl rfl)
theorem dX1_draw_28 : decode cX1_draw 28 = .ok (.irem, 1) := dk_112 (dk_at dksX1_draw_1 5 rfl rfl)
theorem dX1_draw_29 : decode cX1_draw 29 = .ok (.ireturn, 1) := dk_172 (dk_at dksX1_draw_1 6 rfl rfl)
theorem q113 : (Jvm.Cond.initialized "BlueBag") ∈ lw_all := lw_g (lw_at lw_m1 1 rfl) rfl
theorem q153 : (Jvm.Cond.instantiable "BlueBag" (14 : Nat)) ∈ lw_all := lw_g (lw_at lw_m1 41 rfl) rfl
theorem q155 : (Jvm.Cond.instanceMethod ({ cls := "BlueBag", name := "<init>", desc := "()V" } : Jvm.MethodName)) ∈ lw_all := lw_g (lw_at lw_m1 43 rfl) rfl
theorem q156 : (Jvm.Cond.code ({ cls := "BlueBag", name := "<init>", desc := "()V" } : Jvm.MethodName) prog_1_method_1_code (1 : Nat) (Option.none : Option Jvm.ClassFile.FieldType)) ∈ lw_all := lw_g (lw_at lw_m1 44 rfl) rfl
theorem q157 : (Jvm.Cond.methodLink "BlueBag" (1 : Nat) ({ cls := "java/lang/Object", name := "<init>", desc := "()V" } : Jvm.MethodName)) ∈ lw_all := lw_g (lw_at lw_m1 45 rfl) rfl
theorem q160 : (Jvm.Cond.classLink "BlueBag" (7 : Nat) "BlueBag$Coast") ∈ lw_all := lw_g (lw_at lw_m1 48 rfl) rfl
theorem q162 : (Jvm.Cond.methodLinkNest "BlueBag" (9 : Nat) ({ cls := "BlueBag$Coast", name := "<init>", desc := "()V" } : Jvm.MethodName) "BlueBag") ∈ lw_tbl := lw_at lw_m1 50 rfl
theorem q532 : (Jvm.Cond.fieldLinkNest "BlueBag" (137 : Nat) "BlueBag$Coast" "wide" "I" "BlueBag") ∈ lw_tbl := lw_at lw_m2 180 rfl
theorem q536 : (Jvm.Cond.fieldLinkNest "BlueBag" (273 : Nat) "BlueBag$Coast" "high" "I" "BlueBag") ∈ lw_tbl := lw_at lw_m2 184 rfl
theorem q542 : (Jvm.Cond.fieldLinkNest "BlueBag" (146 : Nat) "BlueBag$Coast" "rinse" "I" "BlueBag") ∈ lw_tbl := lw_at lw_m2 190 rfl
theorem q546 : (Jvm.Cond.fieldLinkNest "BlueBag" (149 : Nat) "BlueBag$Coast" "bound" "I" "BlueBag") ∈ lw_tbl := lw_at lw_m2 194 rfl
theorem q555 : (Jvm.Cond.fieldLinkNest "BlueBag" (72 : Nat) "BlueBag$Coast" "girls" "Ljava/util/ArrayList;" "BlueBag") ∈ lw_tbl := lw_at lw_m2 203 rfl
theorem q586 : (Jvm.Cond.classLink "BlueBag" (16 : Nat) "BlueBag$Book") ∈ lw_all := lw_g (lw_at lw_m2 234 rfl) rfl
theorem q588 : (Jvm.Cond.methodLink "BlueBag" (18 : Nat) ({ cls := "BlueBag$Book", name := "<init>", desc := "()V" } : Jvm.MethodName)) ∈ lw_all := lw_g (lw_at lw_m2 236 rfl) rfl
theorem q599 : (Jvm.Cond.fieldLinkNest "BlueBag" (172 : Nat) "BlueBag$State" "blue" "[I" "BlueBag") ∈ lw_tbl := lw_at lw_m3 7 rfl
theorem q601 : (Jvm.Cond.fieldLinkNest "BlueBag" (178 : Nat) "BlueBag$State" "at" "[I" "BlueBag") ∈ lw_tbl := lw_at lw_m3 9 rfl
theorem q603 : (Jvm.Cond.fieldLinkNest "BlueBag" (293 : Nat) "BlueBag$State" "skill" "[I" "BlueBag") ∈ lw_tbl := lw_at lw_m3 11 rfl
theorem q605 : (Jvm.Cond.fieldLinkNest "BlueBag" (140 : Nat) "BlueBag$State" "day" "I" "BlueBag") ∈ lw_tbl := lw_at lw_m3 13 rfl
theorem q607 : (Jvm.Cond.fieldLinkNest "BlueBag" (143 : Nat) "BlueBag$State" "knobs" "I" "BlueBag") ∈ lw_tbl := lw_at lw_m3 15 rfl
theorem q609 : (Jvm.Cond.fieldLinkNest "BlueBag" (152 : Nat) "BlueBag$State" "martins" "I" "BlueBag") ∈ lw_tbl := lw_at lw_m3 17 rfl
theorem q611 : (Jvm.Cond.fieldLinkNest "BlueBag" (158 : Nat) "BlueBag$State" "resting" "I" "BlueBag") ∈ lw_tbl := lw_at lw_m3 19 rfl
theorem q613 : (Jvm.Cond.fieldLinkNest "BlueBag" (155 : Nat) "BlueBag$State" "pegs" "I" "BlueBag") ∈ lw_tbl := lw_at lw_m3 21 rfl
theorem q615 : (Jvm.Cond.fieldLinkNest "BlueBag" (245 : Nat) "BlueBag$State" "overdone" "I" "BlueBag") ∈ lw_tbl := lw_at lw_m3 23 rfl
theorem q665 : (Jvm.Cond.selects "BlueBag" ({ cls := "java/lang/Object", name := "getClass", desc := "()Ljava/lang/Class;" } : Jvm.MethodName) ({ cls := "java/lang/Object", name := "getClass", desc := "()Ljava/lang/Class;" } : Jvm.MethodName)) ∈ lw_all := lw_g (lw_at lw_m3 73 rfl) rfl
theorem q694 : (Jvm.Cond.fieldLinkNest "BlueBag" (26 : Nat) "BlueBag$Book" "now" "LBlueBag$State;" "BlueBag") ∈ lw_tbl := lw_at lw_m3 102 rfl
theorem q696 : (Jvm.Cond.fieldLinkNest "BlueBag" (227 : Nat) "BlueBag$Book" "ahead" "Ljava/util/ArrayList;" "BlueBag") ∈ lw_tbl := lw_at lw_m3 104 rfl
theorem q698 : (Jvm.Cond.fieldLinkNest "BlueBag" (286 : Nat) "BlueBag$Book" "cell" "[I" "BlueBag") ∈ lw_tbl := lw_at lw_m3 106 rfl
theorem q700 : (Jvm.Cond.fieldLinkNest "BlueBag" (289 : Nat) "BlueBag$Book" "when" "[I" "BlueBag") ∈ lw_tbl := lw_at lw_m3 108 rfl
theorem q702 : (Jvm.Cond.fieldLinkNest "BlueBag" (292 : Nat) "BlueBag$Book" "blue" "[I" "BlueBag") ∈ lw_tbl := lw_at lw_m3 110 rfl
theorem q704 : (Jvm.Cond.fieldLinkNest "BlueBag" (117 : Nat) "BlueBag$Book" "refused" "[I" "BlueBag") ∈ lw_tbl := lw_at lw_m3 112 rfl
theorem q706 : (Jvm.Cond.fieldLinkNest "BlueBag" (123 : Nat) "BlueBag$Book" "acts" "I" "BlueBag") ∈ lw_tbl := lw_at lw_m3 114 rfl
theorem q708 : (Jvm.Cond.fieldLinkNest "BlueBag" (126 : Nat) "BlueBag$Book" "many" "I" "BlueBag") ∈ lw_tbl := lw_at lw_m3 116 rfl
theorem q726 : (Jvm.Cond.classLink "BlueBag" (31 : Nat) "BlueBag$State") ∈ lw_all := lw_g (lw_at lw_m3 134 rfl) rfl
theorem q727 : (Jvm.Cond.methodLinkNest "BlueBag" (33 : Nat) ({ cls := "BlueBag$State", name := "<init>", desc := "()V" } : Jvm.MethodName) "BlueBag") ∈ lw_tbl := lw_at lw_m3 135 rfl
theorem q728 : (Jvm.Cond.methodLink "BlueBag" (58 : Nat) ({ cls := "BlueBag$State", name := "begins", desc := "(LBlueBag$Coast;)V" } : Jvm.MethodName)) ∈ lw_all := lw_g (lw_at lw_m3 136 rfl) rfl
theorem q755 : (Jvm.Cond.fieldLink "BlueBag" (10 : Nat) "BlueBag" "coast" "LBlueBag$Coast;") ∈ lw_all := lw_g (lw_at lw_m3 163 rfl) rfl
theorem q756 : (Jvm.Cond.fieldLink "BlueBag" (19 : Nat) "BlueBag" "book" "LBlueBag$Book;") ∈ lw_all := lw_g (lw_at lw_m3 164 rfl) rfl
theorem q757 : (Jvm.Cond.fieldLink "BlueBag" (23 : Nat) "BlueBag" "image" "LBlueBag$Book;") ∈ lw_all := lw_g (lw_at lw_m3 165 rfl) rfl
theorem q758 : (Jvm.Cond.fieldLink "BlueBag" (30 : Nat) "BlueBag" "now" "LBlueBag$State;") ∈ lw_all := lw_g (lw_at lw_m3 166 rfl) rfl
theorem q759 : (Jvm.Cond.fieldLink "BlueBag" (34 : Nat) "BlueBag" "tried" "LBlueBag$State;") ∈ lw_all := lw_g (lw_at lw_m3 167 rfl) rfl
theorem q760 : (Jvm.Cond.fieldLink "BlueBag" (129 : Nat) "BlueBag" "hasImage" "Z") ∈ lw_all := lw_g (lw_at lw_m3 168 rfl) rfl
theorem q761 : (Jvm.Cond.fieldLink "BlueBag" (37 : Nat) "BlueBag" "tape" "[B") ∈ lw_all := lw_g (lw_at lw_m3 169 rfl) rfl
theorem q762 : (Jvm.Cond.fieldLink "BlueBag" (94 : Nat) "BlueBag" "taped" "I") ∈ lw_all := lw_g (lw_at lw_m3 170 rfl) rfl
theorem q763 : (Jvm.Cond.fieldLink "BlueBag" (41 : Nat) "BlueBag" "faultPlace" "I") ∈ lw_all := lw_g (lw_at lw_m3 171 rfl) rfl
theorem q764 : (Jvm.Cond.fieldLink "BlueBag" (45 : Nat) "BlueBag" "fewest" "[I") ∈ lw_all := lw_g (lw_at lw_m3 172 rfl) rfl
theorem q765 : (Jvm.Cond.fieldLink "BlueBag" (49 : Nat) "BlueBag" "where" "[I") ∈ lw_all := lw_g (lw_at lw_m3 173 rfl) rfl
theorem q766 : (Jvm.Cond.fieldLink "BlueBag" (52 : Nat) "BlueBag" "five" "[I") ∈ lw_all := lw_g (lw_at lw_m3 174 rfl) rfl
theorem q767 : (Jvm.Cond.fieldLink "BlueBag" (55 : Nat) "BlueBag" "fives" "[I") ∈ lw_all := lw_g (lw_at lw_m3 175 rfl) rfl
theorem q768 : (Jvm.Cond.fieldLink "BlueBag" (311 : Nat) "BlueBag" "its" "I") ∈ lw_all := lw_g (lw_at lw_m3 176 rfl) rfl
theorem q769 : (Jvm.Cond.lays "BlueBag" "BlueBag" "coast" "LBlueBag$Coast;") ∈ lw_all := lw_g (lw_at lw_m3 177 rfl) rfl
theorem q770 : (Jvm.Cond.soleField "BlueBag" "coast") ∈ lw_all := lw_g (lw_at lw_m3 178 rfl) rfl
theorem q771 : (Jvm.Cond.laysFinal "BlueBag" "BlueBag" "book" "LBlueBag$Book;") ∈ lw_all := lw_g (lw_at lw_m3 179 rfl) rfl
theorem q772 : (Jvm.Cond.soleField "BlueBag" "book") ∈ lw_all := lw_g (lw_at lw_m3 180 rfl) rfl
theorem q773 : (Jvm.Cond.laysFinal "BlueBag" "BlueBag" "image" "LBlueBag$Book;") ∈ lw_all := lw_g (lw_at lw_m3 181 rfl) rfl
theorem q774 : (Jvm.Cond.soleField "BlueBag" "image") ∈ lw_all := lw_g (lw_at lw_m3 182 rfl) rfl
theorem q775 : (Jvm.Cond.laysFinal "BlueBag" "BlueBag" "now" "LBlueBag$State;") ∈ lw_all := lw_g (lw_at lw_m3 183 rfl) rfl
theorem q776 : (Jvm.Cond.soleField "BlueBag" "now") ∈ lw_all := lw_g (lw_at lw_m3 184 rfl) rfl
theorem q777 : (Jvm.Cond.laysFinal "BlueBag" "BlueBag" "tried" "LBlueBag$State;") ∈ lw_all := lw_g (lw_at lw_m3 185 rfl) rfl
theorem q778 : (Jvm.Cond.soleField "BlueBag" "tried") ∈ lw_all := lw_g (lw_at lw_m3 186 rfl) rfl
theorem q779 : (Jvm.Cond.lays "BlueBag" "BlueBag" "hasImage" "Z") ∈ lw_all := lw_g (lw_at lw_m3 187 rfl) rfl
theorem q780 : (Jvm.Cond.soleField "BlueBag" "hasImage") ∈ lw_all := lw_g (lw_at lw_m3 188 rfl) rfl
theorem q781 : (Jvm.Cond.laysFinal "BlueBag" "BlueBag" "tape" "[B") ∈ lw_all := lw_g (lw_at lw_m3 189 rfl) rfl
theorem q782 : (Jvm.Cond.soleField "BlueBag" "tape") ∈ lw_all := lw_g (lw_at lw_m3 190 rfl) rfl
theorem q783 : (Jvm.Cond.lays "BlueBag" "BlueBag" "taped" "I") ∈ lw_all := lw_g (lw_at lw_m3 191 rfl) rfl
theorem q784 : (Jvm.Cond.soleField "BlueBag" "taped") ∈ lw_all := lw_g (lw_at lw_m3 192 rfl) rfl
theorem q785 : (Jvm.Cond.lays "BlueBag" "BlueBag" "faultPlace" "I") ∈ lw_all := lw_g (lw_at lw_m3 193 rfl) rfl
theorem q786 : (Jvm.Cond.soleField "BlueBag" "faultPlace") ∈ lw_all := lw_g (lw_at lw_m3 194 rfl) rfl
theorem q787 : (Jvm.Cond.laysFinal "BlueBag" "BlueBag" "fewest" "[I") ∈ lw_all := lw_g (lw_at lw_m3 195 rfl) rfl
theorem q788 : (Jvm.Cond.soleField "BlueBag" "fewest") ∈ lw_all := lw_g (lw_at lw_m3 196 rfl) rfl
theorem q789 : (Jvm.Cond.laysFinal "BlueBag" "BlueBag" "where" "[I") ∈ lw_all := lw_g (lw_at lw_m3 197 rfl) rfl
theorem q790 : (Jvm.Cond.soleField "BlueBag" "where") ∈ lw_all := lw_g (lw_at lw_m3 198 rfl) rfl
theorem q791 : (Jvm.Cond.laysFinal "BlueBag" "BlueBag" "five" "[I") ∈ lw_all := lw_g (lw_at lw_m3 199 rfl) rfl
theorem q792 : (Jvm.Cond.soleField "BlueBag" "five") ∈ lw_all := lw_g (lw_at lw_m3 200 rfl) rfl
theorem q793 : (Jvm.Cond.laysFinal "BlueBag" "BlueBag" "fives" "[I") ∈ lw_all := lw_g (lw_at lw_m3 201 rfl) rfl
theorem q794 : (Jvm.Cond.soleField "BlueBag" "fives") ∈ lw_all := lw_g (lw_at lw_m3 202 rfl) rfl
theorem q795 : (Jvm.Cond.lays "BlueBag" "BlueBag" "its" "I") ∈ lw_all := lw_g (lw_at lw_m3 203 rfl) rfl
theorem q796 : (Jvm.Cond.soleField "BlueBag" "its") ∈ lw_all := lw_g (lw_at lw_m3 204 rfl) rfl
theorem q797 : (Jvm.Cond.superclass "BlueBag" "java/lang/Object") ∈ lw_all := lw_g (lw_at lw_m3 205 rfl) rfl
theorem q799 : (Jvm.Cond.instanceMethod ({ cls := "BlueBag", name := "feed", desc := "(IIIII)I" } : Jvm.MethodName)) ∈ lw_all := lw_g (lw_at lw_m3 207 rfl) rfl
theorem q800 : (Jvm.Cond.selects "BlueBag" ({ cls := "BlueBag", name := "feed", desc := "(IIIII)I" } : Jvm.MethodName) ({ cls := "BlueBag", name := "feed", desc := "(IIIII)I" } : Jvm.MethodName)) ∈ lw_all := lw_g (lw_at lw_m3 208 rfl) rfl
theorem q801 : (Jvm.Cond.code ({ cls := "BlueBag", name := "feed", desc := "(IIIII)I" } : Jvm.MethodName) prog_1_method_9_code (6 : Nat) (Option.some Jvm.ClassFile.FieldType.int)) ∈ lw_all := lw_g (lw_at lw_m3 209 rfl) rfl
theorem q802 : (Jvm.Cond.methodLink "BlueBag" (97 : Nat) ({ cls := "BlueBag", name := "lay", desc := "(I)V" } : Jvm.MethodName)) ∈ lw_all := lw_g (lw_at lw_m3 210 rfl) rfl
theorem q803 : (Jvm.Cond.privateMethod ({ cls := "BlueBag", name := "lay", desc := "(I)V" } : Jvm.MethodName)) ∈ lw_tbl := lw_at lw_m3 211 rfl
theorem q804 : (Jvm.Cond.instanceMethod ({ cls := "BlueBag", name := "lay", desc := "(I)V" } : Jvm.MethodName)) ∈ lw_all := lw_g (lw_at lw_m3 212 rfl) rfl
theorem q805 : (Jvm.Cond.code ({ cls := "BlueBag", name := "lay", desc := "(I)V" } : Jvm.MethodName) prog_1_method_10_code (3 : Nat) (Option.none : Option Jvm.ClassFile.FieldType)) ∈ lw_all := lw_g (lw_at lw_m3 213 rfl) rfl
theorem q807 : (Jvm.Cond.instanceMethod ({ cls := "BlueBag", name := "fault", desc := "()I" } : Jvm.MethodName)) ∈ lw_all := lw_g (lw_at lw_m3 215 rfl) rfl
theorem q808 : (Jvm.Cond.selects "BlueBag" ({ cls := "BlueBag", name := "fault", desc := "()I" } : Jvm.MethodName) ({ cls := "BlueBag", name := "fault", desc := "()I" } : Jvm.MethodName)) ∈ lw_all := lw_g (lw_at lw_m3 216 rfl) rfl
theorem q809 : (Jvm.Cond.code ({ cls := "BlueBag", name := "fault", desc := "()I" } : Jvm.MethodName) prog_1_method_12_code (1 : Nat) (Option.some Jvm.ClassFile.FieldType.int)) ∈ lw_all := lw_g (lw_at lw_m3 217 rfl) rfl
theorem q811 : (Jvm.Cond.instanceMethod ({ cls := "BlueBag", name := "days", desc := "(I)I" } : Jvm.MethodName)) ∈ lw_all := lw_g (lw_at lw_m3 219 rfl) rfl
theorem q812 : (Jvm.Cond.selects "BlueBag" ({ cls := "BlueBag", name := "days", desc := "(I)I" } : Jvm.MethodName) ({ cls := "BlueBag", name := "days", desc := "(I)I" } : Jvm.MethodName)) ∈ lw_all := lw_g (lw_at lw_m3 220 rfl) rfl
theorem q813 : (Jvm.Cond.code ({ cls := "BlueBag", name := "days", desc := "(I)I" } : Jvm.MethodName) prog_1_method_19_code (3 : Nat) (Option.some Jvm.ClassFile.FieldType.int)) ∈ lw_all := lw_g (lw_at lw_m3 221 rfl) rfl
theorem q814 : (Jvm.Cond.methodLink "BlueBag" (133 : Nat) ({ cls := "BlueBag", name := "within", desc := "(III)Z" } : Jvm.MethodName)) ∈ lw_all := lw_g (lw_at lw_m3 222 rfl) rfl
theorem q815 : (Jvm.Cond.static ({ cls := "BlueBag", name := "within", desc := "(III)Z" } : Jvm.MethodName)) ∈ lw_all := lw_g (lw_at lw_m3 223 rfl) rfl
theorem q816 : (Jvm.Cond.code ({ cls := "BlueBag", name := "within", desc := "(III)Z" } : Jvm.MethodName) prog_1_method_4_code (3 : Nat) (Option.some Jvm.ClassFile.FieldType.boolean)) ∈ lw_all := lw_g (lw_at lw_m3 224 rfl) rfl
theorem q817 : (Jvm.Cond.methodLink "BlueBag" (210 : Nat) ({ cls := "BlueBag", name := "does", desc := "(Z)Z" } : Jvm.MethodName)) ∈ lw_all := lw_g (lw_at lw_m3 225 rfl) rfl
theorem q818 : (Jvm.Cond.privateMethod ({ cls := "BlueBag", name := "does", desc := "(Z)Z" } : Jvm.MethodName)) ∈ lw_tbl := lw_at lw_m3 226 rfl
theorem q819 : (Jvm.Cond.instanceMethod ({ cls := "BlueBag", name := "does", desc := "(Z)Z" } : Jvm.MethodName)) ∈ lw_all := lw_g (lw_at lw_m3 227 rfl) rfl
theorem q820 : (Jvm.Cond.code ({ cls := "BlueBag", name := "does", desc := "(Z)Z" } : Jvm.MethodName) prog_1_method_18_code (2 : Nat) (Option.some Jvm.ClassFile.FieldType.boolean)) ∈ lw_all := lw_g (lw_at lw_m3 228 rfl) rfl
theorem q821 : (Jvm.Cond.methodLink "BlueBag" (204 : Nat) ({ cls := "BlueBag$Book", name := "keeps", desc := "()V" } : Jvm.MethodName)) ∈ lw_all := lw_g (lw_at lw_m3 229 rfl) rfl
theorem q840 : (Jvm.Cond.methodLink "BlueBag" (207 : Nat) ({ cls := "BlueBag", name := "refuses", desc := "(I)I" } : Jvm.MethodName)) ∈ lw_all := lw_g (lw_at lw_m4 8 rfl) rfl
theorem q841 : (Jvm.Cond.privateMethod ({ cls := "BlueBag", name := "refuses", desc := "(I)I" } : Jvm.MethodName)) ∈ lw_tbl := lw_at lw_m4 9 rfl
theorem q842 : (Jvm.Cond.instanceMethod ({ cls := "BlueBag", name := "refuses", desc := "(I)I" } : Jvm.MethodName)) ∈ lw_all := lw_g (lw_at lw_m4 10 rfl) rfl
theorem q843 : (Jvm.Cond.code ({ cls := "BlueBag", name := "refuses", desc := "(I)I" } : Jvm.MethodName) prog_1_method_17_code (2 : Nat) (Option.some Jvm.ClassFile.FieldType.int)) ∈ lw_all := lw_g (lw_at lw_m4 11 rfl) rfl
theorem q844 : (Jvm.Cond.methodLink "BlueBag" (214 : Nat) ({ cls := "BlueBag$State", name := "goes", desc := "(LBlueBag$Coast;)V" } : Jvm.MethodName)) ∈ lw_all := lw_g (lw_at lw_m4 12 rfl) rfl
theorem q945 : (Jvm.Cond.instanceMethod ({ cls := "BlueBag", name := "bag", desc := "(I)I" } : Jvm.MethodName)) ∈ lw_all := lw_g (lw_at lw_m4 113 rfl) rfl
theorem q946 : (Jvm.Cond.selects "BlueBag" ({ cls := "BlueBag", name := "bag", desc := "(I)I" } : Jvm.MethodName) ({ cls := "BlueBag", name := "bag", desc := "(I)I" } : Jvm.MethodName)) ∈ lw_all := lw_g (lw_at lw_m4 114 rfl) rfl
theorem q947 : (Jvm.Cond.code ({ cls := "BlueBag", name := "bag", desc := "(I)I" } : Jvm.MethodName) prog_1_method_22_code (2 : Nat) (Option.some Jvm.ClassFile.FieldType.int)) ∈ lw_all := lw_g (lw_at lw_m4 115 rfl) rfl
theorem q948 : (Jvm.Cond.methodLink "BlueBag" (221 : Nat) ({ cls := "java/lang/Math", name := "min", desc := "(II)I" } : Jvm.MethodName)) ∈ lw_all := lw_g (lw_at lw_m4 116 rfl) rfl
theorem q950 : (Jvm.Cond.instanceMethod ({ cls := "BlueBag", name := "undo", desc := "()I" } : Jvm.MethodName)) ∈ lw_all := lw_g (lw_at lw_m4 118 rfl) rfl
theorem q951 : (Jvm.Cond.selects "BlueBag" ({ cls := "BlueBag", name := "undo", desc := "()I" } : Jvm.MethodName) ({ cls := "BlueBag", name := "undo", desc := "()I" } : Jvm.MethodName)) ∈ lw_all := lw_g (lw_at lw_m4 119 rfl) rfl
theorem q952 : (Jvm.Cond.code ({ cls := "BlueBag", name := "undo", desc := "()I" } : Jvm.MethodName) prog_1_method_24_code (1 : Nat) (Option.some Jvm.ClassFile.FieldType.int)) ∈ lw_all := lw_g (lw_at lw_m4 120 rfl) rfl
theorem q953 : (Jvm.Cond.methodLink "BlueBag" (88 : Nat) ({ cls := "java/util/ArrayList", name := "get", desc := "(I)Ljava/lang/Object;" } : Jvm.MethodName)) ∈ lw_all := lw_g (lw_at lw_m4 121 rfl) rfl
theorem q954 : (Jvm.Cond.methodLink "BlueBag" (230 : Nat) ({ cls := "BlueBag$State", name := "like", desc := "(LBlueBag$State;)V" } : Jvm.MethodName)) ∈ lw_all := lw_g (lw_at lw_m4 122 rfl) rfl
theorem q956 : (Jvm.Cond.instanceMethod ({ cls := "BlueBag", name := "spent", desc := "()I" } : Jvm.MethodName)) ∈ lw_all := lw_g (lw_at lw_m4 124 rfl) rfl
theorem q957 : (Jvm.Cond.selects "BlueBag" ({ cls := "BlueBag", name := "spent", desc := "()I" } : Jvm.MethodName) ({ cls := "BlueBag", name := "spent", desc := "()I" } : Jvm.MethodName)) ∈ lw_all := lw_g (lw_at lw_m4 125 rfl) rfl
theorem q958 : (Jvm.Cond.code ({ cls := "BlueBag", name := "spent", desc := "()I" } : Jvm.MethodName) prog_1_method_30_code (2 : Nat) (Option.some Jvm.ClassFile.FieldType.int)) ∈ lw_all := lw_g (lw_at lw_m4 126 rfl) rfl
theorem q959 : (Jvm.Cond.methodLink "BlueBag" (234 : Nat) ({ cls := "BlueBag", name := "tries", desc := "(I)V" } : Jvm.MethodName)) ∈ lw_all := lw_g (lw_at lw_m4 127 rfl) rfl
theorem q960 : (Jvm.Cond.privateMethod ({ cls := "BlueBag", name := "tries", desc := "(I)V" } : Jvm.MethodName)) ∈ lw_tbl := lw_at lw_m4 128 rfl
theorem q961 : (Jvm.Cond.instanceMethod ({ cls := "BlueBag", name := "tries", desc := "(I)V" } : Jvm.MethodName)) ∈ lw_all := lw_g (lw_at lw_m4 129 rfl) rfl
theorem q962 : (Jvm.Cond.code ({ cls := "BlueBag", name := "tries", desc := "(I)V" } : Jvm.MethodName) prog_1_method_25_code (3 : Nat) (Option.none : Option Jvm.ClassFile.FieldType)) ∈ lw_all := lw_g (lw_at lw_m4 130 rfl) rfl
theorem q964 : (Jvm.Cond.instanceMethod ({ cls := "BlueBag", name := "toRest", desc := "()I" } : Jvm.MethodName)) ∈ lw_all := lw_g (lw_at lw_m4 132 rfl) rfl
theorem q965 : (Jvm.Cond.selects "BlueBag" ({ cls := "BlueBag", name := "toRest", desc := "()I" } : Jvm.MethodName) ({ cls := "BlueBag", name := "toRest", desc := "()I" } : Jvm.MethodName)) ∈ lw_all := lw_g (lw_at lw_m4 133 rfl) rfl
theorem q966 : (Jvm.Cond.code ({ cls := "BlueBag", name := "toRest", desc := "()I" } : Jvm.MethodName) prog_1_method_37_code (5 : Nat) (Option.some Jvm.ClassFile.FieldType.int)) ∈ lw_all := lw_g (lw_at lw_m4 134 rfl) rfl
theorem q967 : (Jvm.Cond.methodLink "BlueBag" (256 : Nat) ({ cls := "BlueBag", name := "unevenNext", desc := "()I" } : Jvm.MethodName)) ∈ lw_all := lw_g (lw_at lw_m4 135 rfl) rfl
theorem q968 : (Jvm.Cond.privateMethod ({ cls := "BlueBag", name := "unevenNext", desc := "()I" } : Jvm.MethodName)) ∈ lw_tbl := lw_at lw_m4 136 rfl
theorem q969 : (Jvm.Cond.instanceMethod ({ cls := "BlueBag", name := "unevenNext", desc := "()I" } : Jvm.MethodName)) ∈ lw_all := lw_g (lw_at lw_m4 137 rfl) rfl
theorem q970 : (Jvm.Cond.code ({ cls := "BlueBag", name := "unevenNext", desc := "()I" } : Jvm.MethodName) prog_1_method_36_code (1 : Nat) (Option.some Jvm.ClassFile.FieldType.int)) ∈ lw_all := lw_g (lw_at lw_m4 138 rfl) rfl
theorem q971 : (Jvm.Cond.methodLink "BlueBag" (237 : Nat) ({ cls := "BlueBag$State", name := "uneven", desc := "(LBlueBag$Coast;)I" } : Jvm.MethodName)) ∈ lw_all := lw_g (lw_at lw_m4 139 rfl) rfl
theorem q979 : (Jvm.Cond.methodLink "BlueBag" (86 : Nat) ({ cls := "BlueBag", name := "girls", desc := "()I" } : Jvm.MethodName)) ∈ lw_all := lw_g (lw_at lw_m4 147 rfl) rfl
theorem q980 : (Jvm.Cond.privateMethod ({ cls := "BlueBag", name := "girls", desc := "()I" } : Jvm.MethodName)) ∈ lw_tbl := lw_at lw_m4 148 rfl
theorem q981 : (Jvm.Cond.instanceMethod ({ cls := "BlueBag", name := "girls", desc := "()I" } : Jvm.MethodName)) ∈ lw_all := lw_g (lw_at lw_m4 149 rfl) rfl
theorem q982 : (Jvm.Cond.code ({ cls := "BlueBag", name := "girls", desc := "()I" } : Jvm.MethodName) prog_1_method_6_code (1 : Nat) (Option.some Jvm.ClassFile.FieldType.int)) ∈ lw_all := lw_g (lw_at lw_m4 150 rfl) rfl
theorem q983 : (Jvm.Cond.methodLink "BlueBag" (76 : Nat) ({ cls := "java/util/ArrayList", name := "size", desc := "()I" } : Jvm.MethodName)) ∈ lw_all := lw_g (lw_at lw_m4 151 rfl) rfl
theorem q984 : (Jvm.Cond.methodLink "BlueBag" (217 : Nat) ({ cls := "BlueBag$State", name := "isResting", desc := "(I)Z" } : Jvm.MethodName)) ∈ lw_all := lw_g (lw_at lw_m4 152 rfl) rfl
theorem q986 : (Jvm.Cond.instanceMethod ({ cls := "BlueBag", name := "steady", desc := "()I" } : Jvm.MethodName)) ∈ lw_all := lw_g (lw_at lw_m4 154 rfl) rfl
theorem q987 : (Jvm.Cond.selects "BlueBag" ({ cls := "BlueBag", name := "steady", desc := "()I" } : Jvm.MethodName) ({ cls := "BlueBag", name := "steady", desc := "()I" } : Jvm.MethodName)) ∈ lw_all := lw_g (lw_at lw_m4 155 rfl) rfl
theorem q988 : (Jvm.Cond.code ({ cls := "BlueBag", name := "steady", desc := "()I" } : Jvm.MethodName) prog_1_method_44_code (4 : Nat) (Option.some Jvm.ClassFile.FieldType.int)) ∈ lw_all := lw_g (lw_at lw_m4 156 rfl) rfl
theorem q989 : (Jvm.Cond.methodLink "BlueBag" (276 : Nat) ({ cls := "java/lang/System", name := "arraycopy", desc := "(Ljava/lang/Object;ILjava/lang/Object;II)V" } : Jvm.MethodName)) ∈ lw_all := lw_g (lw_at lw_m4 157 rfl) rfl
theorem q990 : (Jvm.Cond.methodLink "BlueBag" (81 : Nat) ({ cls := "BlueBag", name := "cells", desc := "()I" } : Jvm.MethodName)) ∈ lw_all := lw_g (lw_at lw_m4 158 rfl) rfl
theorem q991 : (Jvm.Cond.privateMethod ({ cls := "BlueBag", name := "cells", desc := "()I" } : Jvm.MethodName)) ∈ lw_tbl := lw_at lw_m4 159 rfl
theorem q992 : (Jvm.Cond.instanceMethod ({ cls := "BlueBag", name := "cells", desc := "()I" } : Jvm.MethodName)) ∈ lw_all := lw_g (lw_at lw_m4 160 rfl) rfl
theorem q993 : (Jvm.Cond.code ({ cls := "BlueBag", name := "cells", desc := "()I" } : Jvm.MethodName) prog_1_method_5_code (1 : Nat) (Option.some Jvm.ClassFile.FieldType.int)) ∈ lw_all := lw_g (lw_at lw_m4 161 rfl) rfl
theorem q994 : (Jvm.Cond.methodLink "BlueBag" (68 : Nat) ({ cls := "BlueBag$Coast", name := "cells", desc := "()I" } : Jvm.MethodName)) ∈ lw_all := lw_g (lw_at lw_m4 162 rfl) rfl
theorem q996 : (Jvm.Cond.instanceMethod ({ cls := "BlueBag", name := "forget", desc := "()V" } : Jvm.MethodName)) ∈ lw_all := lw_g (lw_at lw_m4 164 rfl) rfl
theorem q997 : (Jvm.Cond.selects "BlueBag" ({ cls := "BlueBag", name := "forget", desc := "()V" } : Jvm.MethodName) ({ cls := "BlueBag", name := "forget", desc := "()V" } : Jvm.MethodName)) ∈ lw_all := lw_g (lw_at lw_m4 165 rfl) rfl
theorem q998 : (Jvm.Cond.code ({ cls := "BlueBag", name := "forget", desc := "()V" } : Jvm.MethodName) prog_1_method_56_code (1 : Nat) (Option.none : Option Jvm.ClassFile.FieldType)) ∈ lw_all := lw_g (lw_at lw_m4 166 rfl) rfl
theorem q1000 : (Jvm.Cond.instanceMethod ({ cls := "BlueBag", name := "image", desc := "()V" } : Jvm.MethodName)) ∈ lw_all := lw_g (lw_at lw_m4 168 rfl) rfl
theorem q1001 : (Jvm.Cond.selects "BlueBag" ({ cls := "BlueBag", name := "image", desc := "()V" } : Jvm.MethodName) ({ cls := "BlueBag", name := "image", desc := "()V" } : Jvm.MethodName)) ∈ lw_all := lw_g (lw_at lw_m4 169 rfl) rfl
theorem q1002 : (Jvm.Cond.code ({ cls := "BlueBag", name := "image", desc := "()V" } : Jvm.MethodName) prog_1_method_62_code (1 : Nat) (Option.none : Option Jvm.ClassFile.FieldType)) ∈ lw_all := lw_g (lw_at lw_m4 170 rfl) rfl
theorem q1003 : (Jvm.Cond.methodLink "BlueBag" (325 : Nat) ({ cls := "BlueBag$Book", name := "like", desc := "(LBlueBag$Book;)V" } : Jvm.MethodName)) ∈ lw_all := lw_g (lw_at lw_m4 171 rfl) rfl
theorem q1009 : (Jvm.Cond.instanceMethod ({ cls := "BlueBag", name := "restore", desc := "()Z" } : Jvm.MethodName)) ∈ lw_all := lw_g (lw_at lw_m4 177 rfl) rfl
theorem q1010 : (Jvm.Cond.selects "BlueBag" ({ cls := "BlueBag", name := "restore", desc := "()Z" } : Jvm.MethodName) ({ cls := "BlueBag", name := "restore", desc := "()Z" } : Jvm.MethodName)) ∈ lw_all := lw_g (lw_at lw_m4 178 rfl) rfl
theorem q1011 : (Jvm.Cond.code ({ cls := "BlueBag", name := "restore", desc := "()Z" } : Jvm.MethodName) prog_1_method_63_code (1 : Nat) (Option.some Jvm.ClassFile.FieldType.boolean)) ∈ lw_all := lw_g (lw_at lw_m4 179 rfl) rfl
theorem q1017 : (Jvm.Cond.instanceMethod ({ cls := "BlueBag", name := "coast", desc := "(I)I" } : Jvm.MethodName)) ∈ lw_all := lw_g (lw_at lw_m4 185 rfl) rfl
theorem q1018 : (Jvm.Cond.selects "BlueBag" ({ cls := "BlueBag", name := "coast", desc := "(I)I" } : Jvm.MethodName) ({ cls := "BlueBag", name := "coast", desc := "(I)I" } : Jvm.MethodName)) ∈ lw_all := lw_g (lw_at lw_m4 186 rfl) rfl
theorem q1019 : (Jvm.Cond.codeWith ({ cls := "BlueBag", name := "coast", desc := "(I)I" } : Jvm.MethodName) prog_1_method_11_code (3 : Nat) (Option.some Jvm.ClassFile.FieldType.int) [((30 : Nat), (49 : Nat), (52 : Nat), (112 : Nat))]) ∈ lw_all := lw_g (lw_at lw_m4 187 rfl) rfl
theorem q1020 : (Jvm.Cond.classLink "BlueBag" (112 : Nat) "BlueBag$Fault") ∈ lw_all := lw_g (lw_at lw_m4 188 rfl) rfl
theorem q1021 : (Jvm.Cond.methodLink "BlueBag" (101 : Nat) ({ cls := "BlueBag", name := "right", desc := "(Z)V" } : Jvm.MethodName)) ∈ lw_all := lw_g (lw_at lw_m4 189 rfl) rfl
theorem q1022 : (Jvm.Cond.static ({ cls := "BlueBag", name := "right", desc := "(Z)V" } : Jvm.MethodName)) ∈ lw_all := lw_g (lw_at lw_m4 190 rfl) rfl
theorem q1023 : (Jvm.Cond.code ({ cls := "BlueBag", name := "right", desc := "(Z)V" } : Jvm.MethodName) prog_1_method_2_code (1 : Nat) (Option.none : Option Jvm.ClassFile.FieldType)) ∈ lw_all := lw_g (lw_at lw_m4 191 rfl) rfl
theorem q1024 : (Jvm.Cond.classLink "BlueBag" (62 : Nat) "java/lang/IllegalArgumentException") ∈ lw_all := lw_g (lw_at lw_m4 192 rfl) rfl
theorem q1025 : (Jvm.Cond.methodLink "BlueBag" (64 : Nat) ({ cls := "java/lang/IllegalArgumentException", name := "<init>", desc := "()V" } : Jvm.MethodName)) ∈ lw_all := lw_g (lw_at lw_m4 193 rfl) rfl
theorem q1035 : (Jvm.Cond.classLink "BlueBag" (104 : Nat) "BlueBag$Reader") ∈ lw_all := lw_g (lw_at lw_m4 203 rfl) rfl
theorem q1037 : (Jvm.Cond.methodLink "BlueBag" (106 : Nat) ({ cls := "BlueBag$Reader", name := "<init>", desc := "([BI)V" } : Jvm.MethodName)) ∈ lw_all := lw_g (lw_at lw_m4 205 rfl) rfl
theorem q1147 : (Jvm.Cond.methodLink "BlueBag" (109 : Nat) ({ cls := "BlueBag$Reader", name := "coast", desc := "()LBlueBag$Coast;" } : Jvm.MethodName)) ∈ lw_all := lw_g (lw_at lw_m5 75 rfl) rfl
theorem q1183 : (Jvm.Cond.fieldLinkNest "BlueBag" (120 : Nat) "BlueBag$Fault" "kind" "I" "BlueBag") ∈ lw_tbl := lw_at lw_m5 111 rfl
theorem q1185 : (Jvm.Cond.fieldLinkNest "BlueBag" (114 : Nat) "BlueBag$Fault" "place" "I" "BlueBag") ∈ lw_tbl := lw_at lw_m5 113 rfl
theorem q1370 : (Jvm.Cond.fieldLink "BlueBag" (188 : Nat) "BlueBag$Girl" "skill" "I") ∈ lw_all := lw_g (lw_at lw_m6 58 rfl) rfl
theorem q1391 : (Jvm.Cond.instanceMethod ({ cls := "BlueBag", name := "count", desc := "(I)I" } : Jvm.MethodName)) ∈ lw_all := lw_g (lw_at lw_m6 79 rfl) rfl
theorem q1392 : (Jvm.Cond.selects "BlueBag" ({ cls := "BlueBag", name := "count", desc := "(I)I" } : Jvm.MethodName) ({ cls := "BlueBag", name := "count", desc := "(I)I" } : Jvm.MethodName)) ∈ lw_all := lw_g (lw_at lw_m6 80 rfl) rfl
theorem q1393 : (Jvm.Cond.code ({ cls := "BlueBag", name := "count", desc := "(I)I" } : Jvm.MethodName) prog_1_method_13_code (2 : Nat) (Option.some Jvm.ClassFile.FieldType.int)) ∈ lw_all := lw_g (lw_at lw_m6 81 rfl) rfl
theorem q1394 : (Jvm.Cond.methodLink "BlueBag" (82 : Nat) ({ cls := "BlueBag", name := "there", desc := "(Z)V" } : Jvm.MethodName)) ∈ lw_all := lw_g (lw_at lw_m6 82 rfl) rfl
theorem q1395 : (Jvm.Cond.static ({ cls := "BlueBag", name := "there", desc := "(Z)V" } : Jvm.MethodName)) ∈ lw_all := lw_g (lw_at lw_m6 83 rfl) rfl
theorem q1396 : (Jvm.Cond.code ({ cls := "BlueBag", name := "there", desc := "(Z)V" } : Jvm.MethodName) prog_1_method_3_code (1 : Nat) (Option.none : Option Jvm.ClassFile.FieldType)) ∈ lw_all := lw_g (lw_at lw_m6 84 rfl) rfl
theorem q1397 : (Jvm.Cond.classLink "BlueBag" (65 : Nat) "java/util/NoSuchElementException") ∈ lw_all := lw_g (lw_at lw_m6 85 rfl) rfl
theorem q1406 : (Jvm.Cond.methodLink "BlueBag" (67 : Nat) ({ cls := "java/util/NoSuchElementException", name := "<init>", desc := "()V" } : Jvm.MethodName)) ∈ lw_all := lw_g (lw_at lw_m6 94 rfl) rfl
theorem q1412 : (Jvm.Cond.methodLink "BlueBag" (161 : Nat) ({ cls := "BlueBag$State", name := "all", desc := "(I)I" } : Jvm.MethodName)) ∈ lw_all := lw_g (lw_at lw_m6 100 rfl) rfl
theorem q1420 : (Jvm.Cond.instanceMethod ({ cls := "BlueBag", name := "cell", desc := "(II)I" } : Jvm.MethodName)) ∈ lw_all := lw_g (lw_at lw_m6 108 rfl) rfl
theorem q1421 : (Jvm.Cond.selects "BlueBag" ({ cls := "BlueBag", name := "cell", desc := "(II)I" } : Jvm.MethodName) ({ cls := "BlueBag", name := "cell", desc := "(II)I" } : Jvm.MethodName)) ∈ lw_all := lw_g (lw_at lw_m6 109 rfl) rfl
theorem q1422 : (Jvm.Cond.code ({ cls := "BlueBag", name := "cell", desc := "(II)I" } : Jvm.MethodName) prog_1_method_15_code (5 : Nat) (Option.some Jvm.ClassFile.FieldType.int)) ∈ lw_all := lw_g (lw_at lw_m6 110 rfl) rfl
theorem q1423 : (Jvm.Cond.methodLink "BlueBag" (169 : Nat) ({ cls := "BlueBag", name := "cellAt", desc := "(I)V" } : Jvm.MethodName)) ∈ lw_all := lw_g (lw_at lw_m6 111 rfl) rfl
theorem q1424 : (Jvm.Cond.privateMethod ({ cls := "BlueBag", name := "cellAt", desc := "(I)V" } : Jvm.MethodName)) ∈ lw_tbl := lw_at lw_m6 112 rfl
theorem q1425 : (Jvm.Cond.instanceMethod ({ cls := "BlueBag", name := "cellAt", desc := "(I)V" } : Jvm.MethodName)) ∈ lw_all := lw_g (lw_at lw_m6 113 rfl) rfl
theorem q1426 : (Jvm.Cond.code ({ cls := "BlueBag", name := "cellAt", desc := "(I)V" } : Jvm.MethodName) prog_1_method_7_code (2 : Nat) (Option.none : Option Jvm.ClassFile.FieldType)) ∈ lw_all := lw_g (lw_at lw_m6 114 rfl) rfl
theorem q1427 : (Jvm.Cond.methodLink "BlueBag" (175 : Nat) ({ cls := "BlueBag", name := "besideOf", desc := "(I)I" } : Jvm.MethodName)) ∈ lw_all := lw_g (lw_at lw_m6 115 rfl) rfl
theorem q1428 : (Jvm.Cond.privateMethod ({ cls := "BlueBag", name := "besideOf", desc := "(I)I" } : Jvm.MethodName)) ∈ lw_tbl := lw_at lw_m6 116 rfl
theorem q1429 : (Jvm.Cond.instanceMethod ({ cls := "BlueBag", name := "besideOf", desc := "(I)I" } : Jvm.MethodName)) ∈ lw_all := lw_g (lw_at lw_m6 117 rfl) rfl
theorem q1430 : (Jvm.Cond.code ({ cls := "BlueBag", name := "besideOf", desc := "(I)I" } : Jvm.MethodName) prog_1_method_14_code (4 : Nat) (Option.some Jvm.ClassFile.FieldType.int)) ∈ lw_all := lw_g (lw_at lw_m6 118 rfl) rfl
theorem q1431 : (Jvm.Cond.methodLink "BlueBag" (165 : Nat) ({ cls := "BlueBag$Coast", name := "steps", desc := "(II)I" } : Jvm.MethodName)) ∈ lw_all := lw_g (lw_at lw_m6 119 rfl) rfl
theorem q1432 : (Jvm.Cond.methodLink "BlueBag" (181 : Nat) ({ cls := "BlueBag", name := "patchOf", desc := "(II)I" } : Jvm.MethodName)) ∈ lw_all := lw_g (lw_at lw_m6 120 rfl) rfl
theorem q1433 : (Jvm.Cond.privateMethod ({ cls := "BlueBag", name := "patchOf", desc := "(II)I" } : Jvm.MethodName)) ∈ lw_tbl := lw_at lw_m6 121 rfl
theorem q1434 : (Jvm.Cond.instanceMethod ({ cls := "BlueBag", name := "patchOf", desc := "(II)I" } : Jvm.MethodName)) ∈ lw_all := lw_g (lw_at lw_m6 122 rfl) rfl
theorem q1435 : (Jvm.Cond.code ({ cls := "BlueBag", name := "patchOf", desc := "(II)I" } : Jvm.MethodName) prog_1_method_32_code (7 : Nat) (Option.some Jvm.ClassFile.FieldType.int)) ∈ lw_all := lw_g (lw_at lw_m6 123 rfl) rfl
theorem q1436 : (Jvm.Cond.methodLink "BlueBag" (248 : Nat) ({ cls := "java/lang/Math", name := "abs", desc := "(I)I" } : Jvm.MethodName)) ∈ lw_all := lw_g (lw_at lw_m6 124 rfl) rfl
theorem q1441 : (Jvm.Cond.instanceMethod ({ cls := "BlueBag", name := "girl", desc := "(II)I" } : Jvm.MethodName)) ∈ lw_all := lw_g (lw_at lw_m6 129 rfl) rfl
theorem q1442 : (Jvm.Cond.selects "BlueBag" ({ cls := "BlueBag", name := "girl", desc := "(II)I" } : Jvm.MethodName) ({ cls := "BlueBag", name := "girl", desc := "(II)I" } : Jvm.MethodName)) ∈ lw_all := lw_g (lw_at lw_m6 130 rfl) rfl
theorem q1443 : (Jvm.Cond.code ({ cls := "BlueBag", name := "girl", desc := "(II)I" } : Jvm.MethodName) prog_1_method_16_code (4 : Nat) (Option.some Jvm.ClassFile.FieldType.int)) ∈ lw_all := lw_g (lw_at lw_m6 131 rfl) rfl
theorem q1444 : (Jvm.Cond.methodLink "BlueBag" (184 : Nat) ({ cls := "BlueBag", name := "girlAt", desc := "(I)LBlueBag$Girl;" } : Jvm.MethodName)) ∈ lw_all := lw_g (lw_at lw_m6 132 rfl) rfl
theorem q1445 : (Jvm.Cond.privateMethod ({ cls := "BlueBag", name := "girlAt", desc := "(I)LBlueBag$Girl;" } : Jvm.MethodName)) ∈ lw_tbl := lw_at lw_m6 133 rfl
theorem q1446 : (Jvm.Cond.instanceMethod ({ cls := "BlueBag", name := "girlAt", desc := "(I)LBlueBag$Girl;" } : Jvm.MethodName)) ∈ lw_all := lw_g (lw_at lw_m6 134 rfl) rfl
theorem q1447 : (Jvm.Cond.code ({ cls := "BlueBag", name := "girlAt", desc := "(I)LBlueBag$Girl;" } : Jvm.MethodName) prog_1_method_8_code (2 : Nat) (Option.some (Jvm.ClassFile.FieldType.object "BlueBag$Girl"))) ∈ lw_all := lw_g (lw_at lw_m6 135 rfl) rfl
theorem q1448 : (Jvm.Cond.classLink "BlueBag" (92 : Nat) "BlueBag$Girl") ∈ lw_all := lw_g (lw_at lw_m6 136 rfl) rfl
theorem q1449 : (Jvm.Cond.methodLink "BlueBag" (191 : Nat) ({ cls := "java/lang/Math", name := "max", desc := "(II)I" } : Jvm.MethodName)) ∈ lw_all := lw_g (lw_at lw_m6 137 rfl) rfl
theorem q1450 : (Jvm.Cond.methodLink "BlueBag" (196 : Nat) ({ cls := "BlueBag$State", name := "dyes", desc := "(LBlueBag$Coast;II)I" } : Jvm.MethodName)) ∈ lw_all := lw_g (lw_at lw_m6 138 rfl) rfl
theorem q1451 : (Jvm.Cond.methodLink "BlueBag" (200 : Nat) ({ cls := "BlueBag$Girl", name := "isOld", desc := "()Z" } : Jvm.MethodName)) ∈ lw_all := lw_g (lw_at lw_m6 139 rfl) rfl
theorem q1464 : (Jvm.Cond.instanceMethod ({ cls := "BlueBag", name := "rest", desc := "(IZ)Z" } : Jvm.MethodName)) ∈ lw_all := lw_g (lw_at lw_m6 152 rfl) rfl
theorem q1465 : (Jvm.Cond.selects "BlueBag" ({ cls := "BlueBag", name := "rest", desc := "(IZ)Z" } : Jvm.MethodName) ({ cls := "BlueBag", name := "rest", desc := "(IZ)Z" } : Jvm.MethodName)) ∈ lw_all := lw_g (lw_at lw_m6 153 rfl) rfl
theorem q1466 : (Jvm.Cond.code ({ cls := "BlueBag", name := "rest", desc := "(IZ)Z" } : Jvm.MethodName) prog_1_method_20_code (3 : Nat) (Option.some Jvm.ClassFile.FieldType.boolean)) ∈ lw_all := lw_g (lw_at lw_m6 154 rfl) rfl
theorem q1471 : (Jvm.Cond.instanceMethod ({ cls := "BlueBag", name := "go", desc := "(II)I" } : Jvm.MethodName)) ∈ lw_all := lw_g (lw_at lw_m6 159 rfl) rfl
theorem q1472 : (Jvm.Cond.selects "BlueBag" ({ cls := "BlueBag", name := "go", desc := "(II)I" } : Jvm.MethodName) ({ cls := "BlueBag", name := "go", desc := "(II)I" } : Jvm.MethodName)) ∈ lw_all := lw_g (lw_at lw_m6 160 rfl) rfl
theorem q1473 : (Jvm.Cond.code ({ cls := "BlueBag", name := "go", desc := "(II)I" } : Jvm.MethodName) prog_1_method_21_code (4 : Nat) (Option.some Jvm.ClassFile.FieldType.int)) ∈ lw_all := lw_g (lw_at lw_m6 161 rfl) rfl
theorem q1478 : (Jvm.Cond.instanceMethod ({ cls := "BlueBag", name := "peg", desc := "(IZ)I" } : Jvm.MethodName)) ∈ lw_all := lw_g (lw_at lw_m6 166 rfl) rfl
theorem q1479 : (Jvm.Cond.selects "BlueBag" ({ cls := "BlueBag", name := "peg", desc := "(IZ)I" } : Jvm.MethodName) ({ cls := "BlueBag", name := "peg", desc := "(IZ)I" } : Jvm.MethodName)) ∈ lw_all := lw_g (lw_at lw_m6 167 rfl) rfl
theorem q1480 : (Jvm.Cond.code ({ cls := "BlueBag", name := "peg", desc := "(IZ)I" } : Jvm.MethodName) prog_1_method_23_code (4 : Nat) (Option.some Jvm.ClassFile.FieldType.int)) ∈ lw_all := lw_g (lw_at lw_m6 168 rfl) rfl
theorem q1481 : (Jvm.Cond.methodLink "BlueBag" (224 : Nat) ({ cls := "BlueBag$State", name := "isPeg", desc := "(I)Z" } : Jvm.MethodName)) ∈ lw_all := lw_g (lw_at lw_m6 169 rfl) rfl
theorem q1486 : (Jvm.Cond.instanceMethod ({ cls := "BlueBag", name := "then", desc := "(II)I" } : Jvm.MethodName)) ∈ lw_all := lw_g (lw_at lw_m6 174 rfl) rfl
theorem q1487 : (Jvm.Cond.selects "BlueBag" ({ cls := "BlueBag", name := "then", desc := "(II)I" } : Jvm.MethodName) ({ cls := "BlueBag", name := "then", desc := "(II)I" } : Jvm.MethodName)) ∈ lw_all := lw_g (lw_at lw_m6 175 rfl) rfl
theorem q1488 : (Jvm.Cond.code ({ cls := "BlueBag", name := "then", desc := "(II)I" } : Jvm.MethodName) prog_1_method_26_code (3 : Nat) (Option.some Jvm.ClassFile.FieldType.int)) ∈ lw_all := lw_g (lw_at lw_m6 176 rfl) rfl
theorem q1493 : (Jvm.Cond.instanceMethod ({ cls := "BlueBag", name := "sky", desc := "(II)I" } : Jvm.MethodName)) ∈ lw_all := lw_g (lw_at lw_m6 181 rfl) rfl
theorem q1494 : (Jvm.Cond.selects "BlueBag" ({ cls := "BlueBag", name := "sky", desc := "(II)I" } : Jvm.MethodName) ({ cls := "BlueBag", name := "sky", desc := "(II)I" } : Jvm.MethodName)) ∈ lw_all := lw_g (lw_at lw_m6 182 rfl) rfl
theorem q1495 : (Jvm.Cond.code ({ cls := "BlueBag", name := "sky", desc := "(II)I" } : Jvm.MethodName) prog_1_method_27_code (3 : Nat) (Option.some Jvm.ClassFile.FieldType.int)) ∈ lw_all := lw_g (lw_at lw_m6 183 rfl) rfl
theorem q1496 : (Jvm.Cond.methodLink "BlueBag" (241 : Nat) ({ cls := "BlueBag$State", name := "extreme", desc := "(LBlueBag$Coast;Z)I" } : Jvm.MethodName)) ∈ lw_all := lw_g (lw_at lw_m6 184 rfl) rfl
theorem q1501 : (Jvm.Cond.instanceMethod ({ cls := "BlueBag", name := "overdone", desc := "(I)I" } : Jvm.MethodName)) ∈ lw_all := lw_g (lw_at lw_m6 189 rfl) rfl
theorem q1502 : (Jvm.Cond.selects "BlueBag" ({ cls := "BlueBag", name := "overdone", desc := "(I)I" } : Jvm.MethodName) ({ cls := "BlueBag", name := "overdone", desc := "(I)I" } : Jvm.MethodName)) ∈ lw_all := lw_g (lw_at lw_m6 190 rfl) rfl
theorem q1503 : (Jvm.Cond.code ({ cls := "BlueBag", name := "overdone", desc := "(I)I" } : Jvm.MethodName) prog_1_method_28_code (2 : Nat) (Option.some Jvm.ClassFile.FieldType.int)) ∈ lw_all := lw_g (lw_at lw_m6 191 rfl) rfl
theorem q1508 : (Jvm.Cond.instanceMethod ({ cls := "BlueBag", name := "first", desc := "(I)I" } : Jvm.MethodName)) ∈ lw_all := lw_g (lw_at lw_m6 196 rfl) rfl
theorem q1509 : (Jvm.Cond.selects "BlueBag" ({ cls := "BlueBag", name := "first", desc := "(I)I" } : Jvm.MethodName) ({ cls := "BlueBag", name := "first", desc := "(I)I" } : Jvm.MethodName)) ∈ lw_all := lw_g (lw_at lw_m6 197 rfl) rfl
theorem q1510 : (Jvm.Cond.code ({ cls := "BlueBag", name := "first", desc := "(I)I" } : Jvm.MethodName) prog_1_method_29_code (3 : Nat) (Option.some Jvm.ClassFile.FieldType.int)) ∈ lw_all := lw_g (lw_at lw_m6 198 rfl) rfl
theorem q1515 : (Jvm.Cond.instanceMethod ({ cls := "BlueBag", name := "streak", desc := "(I)I" } : Jvm.MethodName)) ∈ lw_all := lw_g (lw_at lw_m6 203 rfl) rfl
theorem q1516 : (Jvm.Cond.selects "BlueBag" ({ cls := "BlueBag", name := "streak", desc := "(I)I" } : Jvm.MethodName) ({ cls := "BlueBag", name := "streak", desc := "(I)I" } : Jvm.MethodName)) ∈ lw_all := lw_g (lw_at lw_m6 204 rfl) rfl
theorem q1517 : (Jvm.Cond.code ({ cls := "BlueBag", name := "streak", desc := "(I)I" } : Jvm.MethodName) prog_1_method_31_code (6 : Nat) (Option.some Jvm.ClassFile.FieldType.int)) ∈ lw_all := lw_g (lw_at lw_m6 205 rfl) rfl
theorem q1522 : (Jvm.Cond.instanceMethod ({ cls := "BlueBag", name := "patch", desc := "(II)I" } : Jvm.MethodName)) ∈ lw_all := lw_g (lw_at lw_m6 210 rfl) rfl
theorem q1523 : (Jvm.Cond.selects "BlueBag" ({ cls := "BlueBag", name := "patch", desc := "(II)I" } : Jvm.MethodName) ({ cls := "BlueBag", name := "patch", desc := "(II)I" } : Jvm.MethodName)) ∈ lw_all := lw_g (lw_at lw_m6 211 rfl) rfl
theorem q1524 : (Jvm.Cond.code ({ cls := "BlueBag", name := "patch", desc := "(II)I" } : Jvm.MethodName) prog_1_method_33_code (3 : Nat) (Option.some Jvm.ClassFile.FieldType.int)) ∈ lw_all := lw_g (lw_at lw_m6 212 rfl) rfl
theorem q1529 : (Jvm.Cond.instanceMethod ({ cls := "BlueBag", name := "patches", desc := "(I)I" } : Jvm.MethodName)) ∈ lw_all := lw_g (lw_at lw_m6 217 rfl) rfl
theorem q1530 : (Jvm.Cond.selects "BlueBag" ({ cls := "BlueBag", name := "patches", desc := "(I)I" } : Jvm.MethodName) ({ cls := "BlueBag", name := "patches", desc := "(I)I" } : Jvm.MethodName)) ∈ lw_all := lw_g (lw_at lw_m6 218 rfl) rfl
theorem q1531 : (Jvm.Cond.code ({ cls := "BlueBag", name := "patches", desc := "(I)I" } : Jvm.MethodName) prog_1_method_34_code (4 : Nat) (Option.some Jvm.ClassFile.FieldType.int)) ∈ lw_all := lw_g (lw_at lw_m6 219 rfl) rfl
theorem q1532 : (Jvm.Cond.methodLink "BlueBag" (251 : Nat) ({ cls := "java/lang/Integer", name := "numberOfTrailingZeros", desc := "(I)I" } : Jvm.MethodName)) ∈ lw_all := lw_g (lw_at lw_m6 220 rfl) rfl
theorem q1540 : (Jvm.Cond.instanceMethod ({ cls := "BlueBag", name := "way", desc := "(II)I" } : Jvm.MethodName)) ∈ lw_all := lw_g (lw_at lw_m6 228 rfl) rfl
theorem q1541 : (Jvm.Cond.selects "BlueBag" ({ cls := "BlueBag", name := "way", desc := "(II)I" } : Jvm.MethodName) ({ cls := "BlueBag", name := "way", desc := "(II)I" } : Jvm.MethodName)) ∈ lw_all := lw_g (lw_at lw_m6 229 rfl) rfl
theorem q1542 : (Jvm.Cond.code ({ cls := "BlueBag", name := "way", desc := "(II)I" } : Jvm.MethodName) prog_1_method_35_code (7 : Nat) (Option.some Jvm.ClassFile.FieldType.int)) ∈ lw_all := lw_g (lw_at lw_m6 230 rfl) rfl
theorem q1547 : (Jvm.Cond.instanceMethod ({ cls := "BlueBag", name := "toStand", desc := "(II)I" } : Jvm.MethodName)) ∈ lw_all := lw_g (lw_at lw_m6 235 rfl) rfl
theorem q1548 : (Jvm.Cond.selects "BlueBag" ({ cls := "BlueBag", name := "toStand", desc := "(II)I" } : Jvm.MethodName) ({ cls := "BlueBag", name := "toStand", desc := "(II)I" } : Jvm.MethodName)) ∈ lw_all := lw_g (lw_at lw_m6 236 rfl) rfl
theorem q1549 : (Jvm.Cond.code ({ cls := "BlueBag", name := "toStand", desc := "(II)I" } : Jvm.MethodName) prog_1_method_38_code (7 : Nat) (Option.some Jvm.ClassFile.FieldType.int)) ∈ lw_all := lw_g (lw_at lw_m6 237 rfl) rfl
theorem q1554 : (Jvm.Cond.instanceMethod ({ cls := "BlueBag", name := "toSwish", desc := "(II)I" } : Jvm.MethodName)) ∈ lw_all := lw_g (lw_at lw_m7 2 rfl) rfl
theorem q1555 : (Jvm.Cond.selects "BlueBag" ({ cls := "BlueBag", name := "toSwish", desc := "(II)I" } : Jvm.MethodName) ({ cls := "BlueBag", name := "toSwish", desc := "(II)I" } : Jvm.MethodName)) ∈ lw_all := lw_g (lw_at lw_m7 3 rfl) rfl
theorem q1556 : (Jvm.Cond.code ({ cls := "BlueBag", name := "toSwish", desc := "(II)I" } : Jvm.MethodName) prog_1_method_39_code (4 : Nat) (Option.some Jvm.ClassFile.FieldType.int)) ∈ lw_all := lw_g (lw_at lw_m7 4 rfl) rfl
theorem q1557 : (Jvm.Cond.methodLink "BlueBag" (259 : Nat) ({ cls := "BlueBag$State", name := "swishes", desc := "(LBlueBag$Coast;I)V" } : Jvm.MethodName)) ∈ lw_all := lw_g (lw_at lw_m7 5 rfl) rfl
theorem q1562 : (Jvm.Cond.instanceMethod ({ cls := "BlueBag", name := "sent", desc := "(II)I" } : Jvm.MethodName)) ∈ lw_all := lw_g (lw_at lw_m7 10 rfl) rfl
theorem q1563 : (Jvm.Cond.selects "BlueBag" ({ cls := "BlueBag", name := "sent", desc := "(II)I" } : Jvm.MethodName) ({ cls := "BlueBag", name := "sent", desc := "(II)I" } : Jvm.MethodName)) ∈ lw_all := lw_g (lw_at lw_m7 11 rfl) rfl
theorem q1564 : (Jvm.Cond.code ({ cls := "BlueBag", name := "sent", desc := "(II)I" } : Jvm.MethodName) prog_1_method_42_code (7 : Nat) (Option.some Jvm.ClassFile.FieldType.int)) ∈ lw_all := lw_g (lw_at lw_m7 12 rfl) rfl
theorem q1565 : (Jvm.Cond.methodLink "BlueBag" (267 : Nat) ({ cls := "java/lang/Integer", name := "bitCount", desc := "(I)I" } : Jvm.MethodName)) ∈ lw_all := lw_g (lw_at lw_m7 13 rfl) rfl
theorem q1566 : (Jvm.Cond.methodLink "BlueBag" (270 : Nat) ({ cls := "BlueBag", name := "sends", desc := "(I)V" } : Jvm.MethodName)) ∈ lw_all := lw_g (lw_at lw_m7 14 rfl) rfl
theorem q1567 : (Jvm.Cond.privateMethod ({ cls := "BlueBag", name := "sends", desc := "(I)V" } : Jvm.MethodName)) ∈ lw_tbl := lw_at lw_m7 15 rfl
theorem q1568 : (Jvm.Cond.instanceMethod ({ cls := "BlueBag", name := "sends", desc := "(I)V" } : Jvm.MethodName)) ∈ lw_all := lw_g (lw_at lw_m7 16 rfl) rfl
theorem q1569 : (Jvm.Cond.code ({ cls := "BlueBag", name := "sends", desc := "(I)V" } : Jvm.MethodName) prog_1_method_41_code (6 : Nat) (Option.none : Option Jvm.ClassFile.FieldType)) ∈ lw_all := lw_g (lw_at lw_m7 17 rfl) rfl
theorem q1570 : (Jvm.Cond.methodLink "BlueBag" (263 : Nat) ({ cls := "BlueBag", name := "by", desc := "(III)I" } : Jvm.MethodName)) ∈ lw_all := lw_g (lw_at lw_m7 18 rfl) rfl
theorem q1571 : (Jvm.Cond.privateMethod ({ cls := "BlueBag", name := "by", desc := "(III)I" } : Jvm.MethodName)) ∈ lw_tbl := lw_at lw_m7 19 rfl
theorem q1572 : (Jvm.Cond.instanceMethod ({ cls := "BlueBag", name := "by", desc := "(III)I" } : Jvm.MethodName)) ∈ lw_all := lw_g (lw_at lw_m7 20 rfl) rfl
theorem q1573 : (Jvm.Cond.code ({ cls := "BlueBag", name := "by", desc := "(III)I" } : Jvm.MethodName) prog_1_method_40_code (4 : Nat) (Option.some Jvm.ClassFile.FieldType.int)) ∈ lw_all := lw_g (lw_at lw_m7 21 rfl) rfl
theorem q1578 : (Jvm.Cond.instanceMethod ({ cls := "BlueBag", name := "band", desc := "(I)I" } : Jvm.MethodName)) ∈ lw_all := lw_g (lw_at lw_m7 26 rfl) rfl
theorem q1579 : (Jvm.Cond.selects "BlueBag" ({ cls := "BlueBag", name := "band", desc := "(I)I" } : Jvm.MethodName) ({ cls := "BlueBag", name := "band", desc := "(I)I" } : Jvm.MethodName)) ∈ lw_all := lw_g (lw_at lw_m7 27 rfl) rfl
theorem q1580 : (Jvm.Cond.code ({ cls := "BlueBag", name := "band", desc := "(I)I" } : Jvm.MethodName) prog_1_method_43_code (7 : Nat) (Option.some Jvm.ClassFile.FieldType.int)) ∈ lw_all := lw_g (lw_at lw_m7 28 rfl) rfl
theorem q1585 : (Jvm.Cond.instanceMethod ({ cls := "BlueBag", name := "steps", desc := "(II)I" } : Jvm.MethodName)) ∈ lw_all := lw_g (lw_at lw_m7 33 rfl) rfl
theorem q1586 : (Jvm.Cond.selects "BlueBag" ({ cls := "BlueBag", name := "steps", desc := "(II)I" } : Jvm.MethodName) ({ cls := "BlueBag", name := "steps", desc := "(II)I" } : Jvm.MethodName)) ∈ lw_all := lw_g (lw_at lw_m7 34 rfl) rfl
theorem q1587 : (Jvm.Cond.code ({ cls := "BlueBag", name := "steps", desc := "(II)I" } : Jvm.MethodName) prog_1_method_45_code (3 : Nat) (Option.some Jvm.ClassFile.FieldType.int)) ∈ lw_all := lw_g (lw_at lw_m7 35 rfl) rfl
theorem q1592 : (Jvm.Cond.instanceMethod ({ cls := "BlueBag", name := "nearest", desc := "(I)I" } : Jvm.MethodName)) ∈ lw_all := lw_g (lw_at lw_m7 40 rfl) rfl
theorem q1593 : (Jvm.Cond.selects "BlueBag" ({ cls := "BlueBag", name := "nearest", desc := "(I)I" } : Jvm.MethodName) ({ cls := "BlueBag", name := "nearest", desc := "(I)I" } : Jvm.MethodName)) ∈ lw_all := lw_g (lw_at lw_m7 41 rfl) rfl
theorem q1594 : (Jvm.Cond.code ({ cls := "BlueBag", name := "nearest", desc := "(I)I" } : Jvm.MethodName) prog_1_method_46_code (4 : Nat) (Option.some Jvm.ClassFile.FieldType.int)) ∈ lw_all := lw_g (lw_at lw_m7 42 rfl) rfl
theorem q1599 : (Jvm.Cond.instanceMethod ({ cls := "BlueBag", name := "missed", desc := "(I)I" } : Jvm.MethodName)) ∈ lw_all := lw_g (lw_at lw_m7 47 rfl) rfl
theorem q1600 : (Jvm.Cond.selects "BlueBag" ({ cls := "BlueBag", name := "missed", desc := "(I)I" } : Jvm.MethodName) ({ cls := "BlueBag", name := "missed", desc := "(I)I" } : Jvm.MethodName)) ∈ lw_all := lw_g (lw_at lw_m7 48 rfl) rfl
theorem q1601 : (Jvm.Cond.code ({ cls := "BlueBag", name := "missed", desc := "(I)I" } : Jvm.MethodName) prog_1_method_48_code (2 : Nat) (Option.some Jvm.ClassFile.FieldType.int)) ∈ lw_all := lw_g (lw_at lw_m7 49 rfl) rfl
theorem q1602 : (Jvm.Cond.methodLink "BlueBag" (282 : Nat) ({ cls := "BlueBag", name := "allBy", desc := "(IZ)I" } : Jvm.MethodName)) ∈ lw_all := lw_g (lw_at lw_m7 50 rfl) rfl
theorem q1603 : (Jvm.Cond.privateMethod ({ cls := "BlueBag", name := "allBy", desc := "(IZ)I" } : Jvm.MethodName)) ∈ lw_tbl := lw_at lw_m7 51 rfl
theorem q1604 : (Jvm.Cond.instanceMethod ({ cls := "BlueBag", name := "allBy", desc := "(IZ)I" } : Jvm.MethodName)) ∈ lw_all := lw_g (lw_at lw_m7 52 rfl) rfl
theorem q1605 : (Jvm.Cond.code ({ cls := "BlueBag", name := "allBy", desc := "(IZ)I" } : Jvm.MethodName) prog_1_method_47_code (3 : Nat) (Option.some Jvm.ClassFile.FieldType.int)) ∈ lw_all := lw_g (lw_at lw_m7 53 rfl) rfl
theorem q1610 : (Jvm.Cond.instanceMethod ({ cls := "BlueBag", name := "see", desc := "(III)I" } : Jvm.MethodName)) ∈ lw_all := lw_g (lw_at lw_m7 58 rfl) rfl
theorem q1611 : (Jvm.Cond.selects "BlueBag" ({ cls := "BlueBag", name := "see", desc := "(III)I" } : Jvm.MethodName) ({ cls := "BlueBag", name := "see", desc := "(III)I" } : Jvm.MethodName)) ∈ lw_all := lw_g (lw_at lw_m7 59 rfl) rfl
theorem q1612 : (Jvm.Cond.code ({ cls := "BlueBag", name := "see", desc := "(III)I" } : Jvm.MethodName) prog_1_method_49_code (4 : Nat) (Option.some Jvm.ClassFile.FieldType.int)) ∈ lw_all := lw_g (lw_at lw_m7 60 rfl) rfl
theorem q1617 : (Jvm.Cond.instanceMethod ({ cls := "BlueBag", name := "skilled", desc := "(I)I" } : Jvm.MethodName)) ∈ lw_all := lw_g (lw_at lw_m7 65 rfl) rfl
theorem q1618 : (Jvm.Cond.selects "BlueBag" ({ cls := "BlueBag", name := "skilled", desc := "(I)I" } : Jvm.MethodName) ({ cls := "BlueBag", name := "skilled", desc := "(I)I" } : Jvm.MethodName)) ∈ lw_all := lw_g (lw_at lw_m7 66 rfl) rfl
theorem q1619 : (Jvm.Cond.code ({ cls := "BlueBag", name := "skilled", desc := "(I)I" } : Jvm.MethodName) prog_1_method_53_code (5 : Nat) (Option.some Jvm.ClassFile.FieldType.int)) ∈ lw_all := lw_g (lw_at lw_m7 67 rfl) rfl
theorem q1620 : (Jvm.Cond.methodLink "BlueBag" (295 : Nat) ({ cls := "BlueBag", name := "isSeen", desc := "()Z" } : Jvm.MethodName)) ∈ lw_all := lw_g (lw_at lw_m7 68 rfl) rfl
theorem q1621 : (Jvm.Cond.privateMethod ({ cls := "BlueBag", name := "isSeen", desc := "()Z" } : Jvm.MethodName)) ∈ lw_tbl := lw_at lw_m7 69 rfl
theorem q1622 : (Jvm.Cond.instanceMethod ({ cls := "BlueBag", name := "isSeen", desc := "()Z" } : Jvm.MethodName)) ∈ lw_all := lw_g (lw_at lw_m7 70 rfl) rfl
theorem q1623 : (Jvm.Cond.code ({ cls := "BlueBag", name := "isSeen", desc := "()Z" } : Jvm.MethodName) prog_1_method_50_code (3 : Nat) (Option.some Jvm.ClassFile.FieldType.boolean)) ∈ lw_all := lw_g (lw_at lw_m7 71 rfl) rfl
theorem q1624 : (Jvm.Cond.methodLink "BlueBag" (298 : Nat) ({ cls := "BlueBag", name := "guesses", desc := "()I" } : Jvm.MethodName)) ∈ lw_all := lw_g (lw_at lw_m7 72 rfl) rfl
theorem q1625 : (Jvm.Cond.privateMethod ({ cls := "BlueBag", name := "guesses", desc := "()I" } : Jvm.MethodName)) ∈ lw_tbl := lw_at lw_m7 73 rfl
theorem q1626 : (Jvm.Cond.instanceMethod ({ cls := "BlueBag", name := "guesses", desc := "()I" } : Jvm.MethodName)) ∈ lw_all := lw_g (lw_at lw_m7 74 rfl) rfl
theorem q1627 : (Jvm.Cond.code ({ cls := "BlueBag", name := "guesses", desc := "()I" } : Jvm.MethodName) prog_1_method_52_code (1 : Nat) (Option.some Jvm.ClassFile.FieldType.int)) ∈ lw_all := lw_g (lw_at lw_m7 75 rfl) rfl
theorem q1628 : (Jvm.Cond.methodLink "BlueBag" (301 : Nat) ({ cls := "BlueBag", name := "isGuess", desc := "(I)Z" } : Jvm.MethodName)) ∈ lw_all := lw_g (lw_at lw_m7 76 rfl) rfl
theorem q1629 : (Jvm.Cond.privateMethod ({ cls := "BlueBag", name := "isGuess", desc := "(I)Z" } : Jvm.MethodName)) ∈ lw_tbl := lw_at lw_m7 77 rfl
theorem q1630 : (Jvm.Cond.instanceMethod ({ cls := "BlueBag", name := "isGuess", desc := "(I)Z" } : Jvm.MethodName)) ∈ lw_all := lw_g (lw_at lw_m7 78 rfl) rfl
theorem q1631 : (Jvm.Cond.code ({ cls := "BlueBag", name := "isGuess", desc := "(I)Z" } : Jvm.MethodName) prog_1_method_51_code (3 : Nat) (Option.some Jvm.ClassFile.FieldType.boolean)) ∈ lw_all := lw_g (lw_at lw_m7 79 rfl) rfl
theorem q1636 : (Jvm.Cond.instanceMethod ({ cls := "BlueBag", name := "look", desc := "(I)I" } : Jvm.MethodName)) ∈ lw_all := lw_g (lw_at lw_m7 84 rfl) rfl
theorem q1637 : (Jvm.Cond.selects "BlueBag" ({ cls := "BlueBag", name := "look", desc := "(I)I" } : Jvm.MethodName) ({ cls := "BlueBag", name := "look", desc := "(I)I" } : Jvm.MethodName)) ∈ lw_all := lw_g (lw_at lw_m7 85 rfl) rfl
theorem q1638 : (Jvm.Cond.code ({ cls := "BlueBag", name := "look", desc := "(I)I" } : Jvm.MethodName) prog_1_method_55_code (7 : Nat) (Option.some Jvm.ClassFile.FieldType.int)) ∈ lw_all := lw_g (lw_at lw_m7 86 rfl) rfl
theorem q1639 : (Jvm.Cond.methodLink "BlueBag" (304 : Nat) ({ cls := "BlueBag", name := "unlike", desc := "(II)I" } : Jvm.MethodName)) ∈ lw_all := lw_g (lw_at lw_m7 87 rfl) rfl
theorem q1640 : (Jvm.Cond.privateMethod ({ cls := "BlueBag", name := "unlike", desc := "(II)I" } : Jvm.MethodName)) ∈ lw_tbl := lw_at lw_m7 88 rfl
theorem q1641 : (Jvm.Cond.instanceMethod ({ cls := "BlueBag", name := "unlike", desc := "(II)I" } : Jvm.MethodName)) ∈ lw_all := lw_g (lw_at lw_m7 89 rfl) rfl
theorem q1642 : (Jvm.Cond.code ({ cls := "BlueBag", name := "unlike", desc := "(II)I" } : Jvm.MethodName) prog_1_method_54_code (6 : Nat) (Option.some Jvm.ClassFile.FieldType.int)) ∈ lw_all := lw_g (lw_at lw_m7 90 rfl) rfl
theorem q1647 : (Jvm.Cond.instanceMethod ({ cls := "BlueBag", name := "game", desc := "(III)I" } : Jvm.MethodName)) ∈ lw_all := lw_g (lw_at lw_m7 95 rfl) rfl
theorem q1648 : (Jvm.Cond.selects "BlueBag" ({ cls := "BlueBag", name := "game", desc := "(III)I" } : Jvm.MethodName) ({ cls := "BlueBag", name := "game", desc := "(III)I" } : Jvm.MethodName)) ∈ lw_all := lw_g (lw_at lw_m7 96 rfl) rfl
theorem q1649 : (Jvm.Cond.code ({ cls := "BlueBag", name := "game", desc := "(III)I" } : Jvm.MethodName) prog_1_method_58_code (9 : Nat) (Option.some Jvm.ClassFile.FieldType.int)) ∈ lw_all := lw_g (lw_at lw_m7 97 rfl) rfl
theorem q1650 : (Jvm.Cond.methodLink "BlueBag" (307 : Nat) ({ cls := "BlueBag", name := "gains", desc := "(IIZZ)I" } : Jvm.MethodName)) ∈ lw_all := lw_g (lw_at lw_m7 98 rfl) rfl
theorem q1651 : (Jvm.Cond.privateMethod ({ cls := "BlueBag", name := "gains", desc := "(IIZZ)I" } : Jvm.MethodName)) ∈ lw_tbl := lw_at lw_m7 99 rfl
theorem q1652 : (Jvm.Cond.instanceMethod ({ cls := "BlueBag", name := "gains", desc := "(IIZZ)I" } : Jvm.MethodName)) ∈ lw_all := lw_g (lw_at lw_m7 100 rfl) rfl
theorem q1653 : (Jvm.Cond.code ({ cls := "BlueBag", name := "gains", desc := "(IIZZ)I" } : Jvm.MethodName) prog_1_method_57_code (5 : Nat) (Option.some Jvm.ClassFile.FieldType.int)) ∈ lw_all := lw_g (lw_at lw_m7 101 rfl) rfl
theorem q1658 : (Jvm.Cond.instanceMethod ({ cls := "BlueBag", name := "skies", desc := "(III)I" } : Jvm.MethodName)) ∈ lw_all := lw_g (lw_at lw_m7 106 rfl) rfl
theorem q1659 : (Jvm.Cond.selects "BlueBag" ({ cls := "BlueBag", name := "skies", desc := "(III)I" } : Jvm.MethodName) ({ cls := "BlueBag", name := "skies", desc := "(III)I" } : Jvm.MethodName)) ∈ lw_all := lw_g (lw_at lw_m7 107 rfl) rfl
theorem q1660 : (Jvm.Cond.code ({ cls := "BlueBag", name := "skies", desc := "(III)I" } : Jvm.MethodName) prog_1_method_61_code (6 : Nat) (Option.some Jvm.ClassFile.FieldType.int)) ∈ lw_all := lw_g (lw_at lw_m7 108 rfl) rfl
theorem q1661 : (Jvm.Cond.methodLink "BlueBag" (322 : Nat) ({ cls := "BlueBag", name := "happens", desc := "()V" } : Jvm.MethodName)) ∈ lw_all := lw_g (lw_at lw_m7 109 rfl) rfl
theorem q1662 : (Jvm.Cond.privateMethod ({ cls := "BlueBag", name := "happens", desc := "()V" } : Jvm.MethodName)) ∈ lw_tbl := lw_at lw_m7 110 rfl
theorem q1663 : (Jvm.Cond.instanceMethod ({ cls := "BlueBag", name := "happens", desc := "()V" } : Jvm.MethodName)) ∈ lw_all := lw_g (lw_at lw_m7 111 rfl) rfl
theorem q1664 : (Jvm.Cond.code ({ cls := "BlueBag", name := "happens", desc := "()V" } : Jvm.MethodName) prog_1_method_60_code (3 : Nat) (Option.none : Option Jvm.ClassFile.FieldType)) ∈ lw_all := lw_g (lw_at lw_m7 112 rfl) rfl
theorem q1665 : (Jvm.Cond.methodLink "BlueBag" (315 : Nat) ({ cls := "BlueBag", name := "draw", desc := "(I)I" } : Jvm.MethodName)) ∈ lw_all := lw_g (lw_at lw_m7 113 rfl) rfl
theorem q1666 : (Jvm.Cond.privateMethod ({ cls := "BlueBag", name := "draw", desc := "(I)I" } : Jvm.MethodName)) ∈ lw_tbl := lw_at lw_m7 114 rfl
theorem q1667 : (Jvm.Cond.instanceMethod ({ cls := "BlueBag", name := "draw", desc := "(I)I" } : Jvm.MethodName)) ∈ lw_all := lw_g (lw_at lw_m7 115 rfl) rfl
theorem q1668 : (Jvm.Cond.code ({ cls := "BlueBag", name := "draw", desc := "(I)I" } : Jvm.MethodName) prog_1_method_59_code (2 : Nat) (Option.some Jvm.ClassFile.FieldType.int)) ∈ lw_all := lw_g (lw_at lw_m7 116 rfl) rfl
theorem q1669 : (Jvm.Cond.constant "BlueBag" (314 : Nat) (1103515245 : Int32)) ∈ lw_all := lw_g (lw_at lw_m7 117 rfl) rfl
theorem q1670 : (Jvm.Cond.methodLink "BlueBag" (318 : Nat) ({ cls := "BlueBag$State", name := "takes", desc := "(II)V" } : Jvm.MethodName)) ∈ lw_all := lw_g (lw_at lw_m7 118 rfl) rfl
theorem q2354 : (Jvm.Cond.castable "BlueBag" "java/lang/Object") ∈ lw_tbl := lw_at lw_m10 82 rfl
theorem in_X1 : ∀ w ∈ wsX10, w ∈ lw_all := lw_in wsX10 [769, 771, 773, 775, 777, 779, 781, 783, 785, 787, 789, 791, 793, 795] (by decide +kernel) (by decide +kernel)
