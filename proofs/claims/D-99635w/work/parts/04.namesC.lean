/-! BlueBagLaw -/
set_option maxRecDepth 100000
def RX0 : String := "BlueBagLaw"
abbrev cX0_coast : ByteArray := method_3_code
def yX0_coast : MethodName := ⟨RX0, "coast", "(LBlueBag;I[J)I"⟩
def dkwX0_coast_0 : List UInt8 := [44, 3, 42, 27, 182, 0, 7, 133, 80, 167, 0, 6, 78, 4, 172, 3, 172]
abbrev dktX0_coast_0 : List UInt8 := dkwX0_coast_0 ++ []
theorem dksX0_coast_0 : cX0_coast.data.toList.drop 0 = dktX0_coast_0 := by decide +kernel
theorem dX0_coast_0 : decode cX0_coast 0 = .ok (.aload_n 2, 1) := dk_44 (dk_at dksX0_coast_0 0 rfl rfl)
theorem dX0_coast_1 : decode cX0_coast 1 = .ok (.iconst 0, 1) := dk_3 (dk_at dksX0_coast_0 1 rfl rfl)
theorem dX0_coast_2 : decode cX0_coast 2 = .ok (.aload_n 0, 1) := dk_42 (dk_at dksX0_coast_0 2 rfl rfl)
theorem dX0_coast_3 : decode cX0_coast 3 = .ok (.iload_n 1, 1) := dk_27 (dk_at dksX0_coast_0 3 rfl rfl)
theorem dX0_coast_4 : decode cX0_coast 4 = .ok (.invokevirtual 7, 3) := dk_182 0 7 (dk_at dksX0_coast_0 4 rfl rfl)
theorem dX0_coast_7 : decode cX0_coast 7 = .ok (.i2l, 1) := dk_133 (dk_at dksX0_coast_0 7 rfl rfl)
theorem dX0_coast_8 : decode cX0_coast 8 = .ok (.lastore, 1) := dk_80 (dk_at dksX0_coast_0 8 rfl rfl)
theorem dX0_coast_9 : decode cX0_coast 9 = .ok (.goto 6, 3) := dk_167 0 6 (dk_at dksX0_coast_0 9 rfl rfl)
theorem dX0_coast_12 : decode cX0_coast 12 = .ok (.astore_n 3, 1) := dk_78 (dk_at dksX0_coast_0 12 rfl rfl)
theorem dX0_coast_13 : decode cX0_coast 13 = .ok (.iconst 1, 1) := dk_4 (dk_at dksX0_coast_0 13 rfl rfl)
theorem dX0_coast_14 : decode cX0_coast 14 = .ok (.ireturn, 1) := dk_172 (dk_at dksX0_coast_0 14 rfl rfl)
theorem dX0_coast_15 : decode cX0_coast 15 = .ok (.iconst 0, 1) := dk_3 (dk_at dksX0_coast_0 15 rfl rfl)
theorem dX0_coast_16 : decode cX0_coast 16 = .ok (.ireturn, 1) := dk_172 (dk_at dksX0_coast_0 16 rfl rfl)
abbrev cX0_count : ByteArray := method_4_code
def yX0_count : MethodName := ⟨RX0, "count", "(LBlueBag;I[J)I"⟩
def dkwX0_count_0 : List UInt8 := [44, 3, 42, 27, 182, 0, 15, 133, 80, 167, 0, 6, 78, 4, 172, 3, 172]
abbrev dktX0_count_0 : List UInt8 := dkwX0_count_0 ++ []
theorem dksX0_count_0 : cX0_count.data.toList.drop 0 = dktX0_count_0 := by decide +kernel
theorem dX0_count_0 : decode cX0_count 0 = .ok (.aload_n 2, 1) := dk_44 (dk_at dksX0_count_0 0 rfl rfl)
theorem dX0_count_1 : decode cX0_count 1 = .ok (.iconst 0, 1) := dk_3 (dk_at dksX0_count_0 1 rfl rfl)
theorem dX0_count_2 : decode cX0_count 2 = .ok (.aload_n 0, 1) := dk_42 (dk_at dksX0_count_0 2 rfl rfl)
theorem dX0_count_3 : decode cX0_count 3 = .ok (.iload_n 1, 1) := dk_27 (dk_at dksX0_count_0 3 rfl rfl)
theorem dX0_count_4 : decode cX0_count 4 = .ok (.invokevirtual 15, 3) := dk_182 0 15 (dk_at dksX0_count_0 4 rfl rfl)
theorem dX0_count_7 : decode cX0_count 7 = .ok (.i2l, 1) := dk_133 (dk_at dksX0_count_0 7 rfl rfl)
theorem dX0_count_8 : decode cX0_count 8 = .ok (.lastore, 1) := dk_80 (dk_at dksX0_count_0 8 rfl rfl)
theorem dX0_count_9 : decode cX0_count 9 = .ok (.goto 6, 3) := dk_167 0 6 (dk_at dksX0_count_0 9 rfl rfl)
theorem dX0_count_12 : decode cX0_count 12 = .ok (.astore_n 3, 1) := dk_78 (dk_at dksX0_count_0 12 rfl rfl)
theorem dX0_count_13 : decode cX0_count 13 = .ok (.iconst 1, 1) := dk_4 (dk_at dksX0_count_0 13 rfl rfl)
theorem dX0_count_14 : decode cX0_count 14 = .ok (.ireturn, 1) := dk_172 (dk_at dksX0_count_0 14 rfl rfl)
theorem dX0_count_15 : decode cX0_count 15 = .ok (.iconst 0, 1) := dk_3 (dk_at dksX0_count_0 15 rfl rfl)
theorem dX0_count_16 : decode cX0_count 16 = .ok (.ireturn, 1) := dk_172 (dk_at dksX0_count_0 16 rfl rfl)
abbrev cX0_cell : ByteArray := method_5_code
def yX0_cell : MethodName := ⟨RX0, "cell", "(LBlueBag;II[J)I"⟩
def dkwX0_cell_0 : List UInt8 := [45, 3, 42, 27, 28, 182, 0, 20, 133, 80, 167, 0, 7, 58, 4, 4, 172, 3, 172]
abbrev dktX0_cell_0 : List UInt8 := dkwX0_cell_0 ++ []
theorem dksX0_cell_0 : cX0_cell.data.toList.drop 0 = dktX0_cell_0 := by decide +kernel
theorem dX0_cell_0 : decode cX0_cell 0 = .ok (.aload_n 3, 1) := dk_45 (dk_at dksX0_cell_0 0 rfl rfl)
theorem dX0_cell_1 : decode cX0_cell 1 = .ok (.iconst 0, 1) := dk_3 (dk_at dksX0_cell_0 1 rfl rfl)
theorem dX0_cell_2 : decode cX0_cell 2 = .ok (.aload_n 0, 1) := dk_42 (dk_at dksX0_cell_0 2 rfl rfl)
theorem dX0_cell_3 : decode cX0_cell 3 = .ok (.iload_n 1, 1) := dk_27 (dk_at dksX0_cell_0 3 rfl rfl)
theorem dX0_cell_4 : decode cX0_cell 4 = .ok (.iload_n 2, 1) := dk_28 (dk_at dksX0_cell_0 4 rfl rfl)
theorem dX0_cell_5 : decode cX0_cell 5 = .ok (.invokevirtual 20, 3) := dk_182 0 20 (dk_at dksX0_cell_0 5 rfl rfl)
theorem dX0_cell_8 : decode cX0_cell 8 = .ok (.i2l, 1) := dk_133 (dk_at dksX0_cell_0 8 rfl rfl)
theorem dX0_cell_9 : decode cX0_cell 9 = .ok (.lastore, 1) := dk_80 (dk_at dksX0_cell_0 9 rfl rfl)
theorem dX0_cell_10 : decode cX0_cell 10 = .ok (.goto 7, 3) := dk_167 0 7 (dk_at dksX0_cell_0 10 rfl rfl)
theorem dX0_cell_13 : decode cX0_cell 13 = .ok (.astore 4, 2) := dk_58 4 (dk_at dksX0_cell_0 13 rfl rfl)
theorem dX0_cell_15 : decode cX0_cell 15 = .ok (.iconst 1, 1) := dk_4 (dk_at dksX0_cell_0 15 rfl rfl)
theorem dX0_cell_16 : decode cX0_cell 16 = .ok (.ireturn, 1) := dk_172 (dk_at dksX0_cell_0 16 rfl rfl)
theorem dX0_cell_17 : decode cX0_cell 17 = .ok (.iconst 0, 1) := dk_3 (dk_at dksX0_cell_0 17 rfl rfl)
theorem dX0_cell_18 : decode cX0_cell 18 = .ok (.ireturn, 1) := dk_172 (dk_at dksX0_cell_0 18 rfl rfl)
abbrev cX0_girl : ByteArray := method_6_code
def yX0_girl : MethodName := ⟨RX0, "girl", "(LBlueBag;II[J)I"⟩
def dkwX0_girl_0 : List UInt8 := [45, 3, 42, 27, 28, 182, 0, 24, 133, 80, 167, 0, 7, 58, 4, 4, 172, 3, 172]
abbrev dktX0_girl_0 : List UInt8 := dkwX0_girl_0 ++ []
theorem dksX0_girl_0 : cX0_girl.data.toList.drop 0 = dktX0_girl_0 := by decide +kernel
theorem dX0_girl_0 : decode cX0_girl 0 = .ok (.aload_n 3, 1) := dk_45 (dk_at dksX0_girl_0 0 rfl rfl)
theorem dX0_girl_1 : decode cX0_girl 1 = .ok (.iconst 0, 1) := dk_3 (dk_at dksX0_girl_0 1 rfl rfl)
theorem dX0_girl_2 : decode cX0_girl 2 = .ok (.aload_n 0, 1) := dk_42 (dk_at dksX0_girl_0 2 rfl rfl)
theorem dX0_girl_3 : decode cX0_girl 3 = .ok (.iload_n 1, 1) := dk_27 (dk_at dksX0_girl_0 3 rfl rfl)
theorem dX0_girl_4 : decode cX0_girl 4 = .ok (.iload_n 2, 1) := dk_28 (dk_at dksX0_girl_0 4 rfl rfl)
theorem dX0_girl_5 : decode cX0_girl 5 = .ok (.invokevirtual 24, 3) := dk_182 0 24 (dk_at dksX0_girl_0 5 rfl rfl)
theorem dX0_girl_8 : decode cX0_girl 8 = .ok (.i2l, 1) := dk_133 (dk_at dksX0_girl_0 8 rfl rfl)
theorem dX0_girl_9 : decode cX0_girl 9 = .ok (.lastore, 1) := dk_80 (dk_at dksX0_girl_0 9 rfl rfl)
theorem dX0_girl_10 : decode cX0_girl 10 = .ok (.goto 7, 3) := dk_167 0 7 (dk_at dksX0_girl_0 10 rfl rfl)
theorem dX0_girl_13 : decode cX0_girl 13 = .ok (.astore 4, 2) := dk_58 4 (dk_at dksX0_girl_0 13 rfl rfl)
theorem dX0_girl_15 : decode cX0_girl 15 = .ok (.iconst 1, 1) := dk_4 (dk_at dksX0_girl_0 15 rfl rfl)
theorem dX0_girl_16 : decode cX0_girl 16 = .ok (.ireturn, 1) := dk_172 (dk_at dksX0_girl_0 16 rfl rfl)
theorem dX0_girl_17 : decode cX0_girl 17 = .ok (.iconst 0, 1) := dk_3 (dk_at dksX0_girl_0 17 rfl rfl)
theorem dX0_girl_18 : decode cX0_girl 18 = .ok (.ireturn, 1) := dk_172 (dk_at dksX0_girl_0 18 rfl rfl)
abbrev cX0_rest : ByteArray := method_7_code
def yX0_rest : MethodName := ⟨RX0, "rest", "(LBlueBag;IZ[J)I"⟩
def dkwX0_rest_1 : List UInt8 := [3, 172]
abbrev dktX0_rest_1 : List UInt8 := dkwX0_rest_1 ++ []
def dkwX0_rest_0 : List UInt8 := [45, 3, 42, 27, 28, 182, 0, 27, 153, 0, 7, 10, 167, 0, 4, 9, 80, 167, 0, 7, 58, 4, 4, 172]
abbrev dktX0_rest_0 : List UInt8 := dkwX0_rest_0 ++ dktX0_rest_1
theorem dksX0_rest_0 : cX0_rest.data.toList.drop 0 = dktX0_rest_0 := by decide +kernel
theorem dksX0_rest_1 : cX0_rest.data.toList.drop 24 = dktX0_rest_1 := dk_seg dksX0_rest_0 24 rfl rfl
theorem dX0_rest_0 : decode cX0_rest 0 = .ok (.aload_n 3, 1) := dk_45 (dk_at dksX0_rest_0 0 rfl rfl)
theorem dX0_rest_1 : decode cX0_rest 1 = .ok (.iconst 0, 1) := dk_3 (dk_at dksX0_rest_0 1 rfl rfl)
theorem dX0_rest_2 : decode cX0_rest 2 = .ok (.aload_n 0, 1) := dk_42 (dk_at dksX0_rest_0 2 rfl rfl)
theorem dX0_rest_3 : decode cX0_rest 3 = .ok (.iload_n 1, 1) := dk_27 (dk_at dksX0_rest_0 3 rfl rfl)
theorem dX0_rest_4 : decode cX0_rest 4 = .ok (.iload_n 2, 1) := dk_28 (dk_at dksX0_rest_0 4 rfl rfl)
theorem dX0_rest_5 : decode cX0_rest 5 = .ok (.invokevirtual 27, 3) := dk_182 0 27 (dk_at dksX0_rest_0 5 rfl rfl)
theorem dX0_rest_8 : decode cX0_rest 8 = .ok (.ifCond .eq 7, 3) := dk_153 0 7 (dk_at dksX0_rest_0 8 rfl rfl)
theorem dX0_rest_11 : decode cX0_rest 11 = .ok (.lconst 1, 1) := dk_10 (dk_at dksX0_rest_0 11 rfl rfl)
theorem dX0_rest_12 : decode cX0_rest 12 = .ok (.goto 4, 3) := dk_167 0 4 (dk_at dksX0_rest_0 12 rfl rfl)
theorem dX0_rest_15 : decode cX0_rest 15 = .ok (.lconst 0, 1) := dk_9 (dk_at dksX0_rest_0 15 rfl rfl)
theorem dX0_rest_16 : decode cX0_rest 16 = .ok (.lastore, 1) := dk_80 (dk_at dksX0_rest_0 16 rfl rfl)
theorem dX0_rest_17 : decode cX0_rest 17 = .ok (.goto 7, 3) := dk_167 0 7 (dk_at dksX0_rest_0 17 rfl rfl)
theorem dX0_rest_20 : decode cX0_rest 20 = .ok (.astore 4, 2) := dk_58 4 (dk_at dksX0_rest_0 20 rfl rfl)
theorem dX0_rest_22 : decode cX0_rest 22 = .ok (.iconst 1, 1) := dk_4 (dk_at dksX0_rest_0 22 rfl rfl)
theorem dX0_rest_23 : decode cX0_rest 23 = .ok (.ireturn, 1) := dk_172 (dk_at dksX0_rest_0 23 rfl rfl)
theorem dX0_rest_24 : decode cX0_rest 24 = .ok (.iconst 0, 1) := dk_3 (dk_at dksX0_rest_1 0 rfl rfl)
theorem dX0_rest_25 : decode cX0_rest 25 = .ok (.ireturn, 1) := dk_172 (dk_at dksX0_rest_1 1 rfl rfl)
abbrev cX0_go : ByteArray := method_8_code
def yX0_go : MethodName := ⟨RX0, "go", "(LBlueBag;II[J)I"⟩
def dkwX0_go_0 : List UInt8 := [45, 3, 42, 27, 28, 182, 0, 31, 133, 80, 167, 0, 7, 58, 4, 4, 172, 3, 172]
abbrev dktX0_go_0 : List UInt8 := dkwX0_go_0 ++ []
theorem dksX0_go_0 : cX0_go.data.toList.drop 0 = dktX0_go_0 := by decide +kernel
theorem dX0_go_0 : decode cX0_go 0 = .ok (.aload_n 3, 1) := dk_45 (dk_at dksX0_go_0 0 rfl rfl)
theorem dX0_go_1 : decode cX0_go 1 = .ok (.iconst 0, 1) := dk_3 (dk_at dksX0_go_0 1 rfl rfl)
theorem dX0_go_2 : decode cX0_go 2 = .ok (.aload_n 0, 1) := dk_42 (dk_at dksX0_go_0 2 rfl rfl)
theorem dX0_go_3 : decode cX0_go 3 = .ok (.iload_n 1, 1) := dk_27 (dk_at dksX0_go_0 3 rfl rfl)
theorem dX0_go_4 : decode cX0_go 4 = .ok (.iload_n 2, 1) := dk_28 (dk_at dksX0_go_0 4 rfl rfl)
theorem dX0_go_5 : decode cX0_go 5 = .ok (.invokevirtual 31, 3) := dk_182 0 31 (dk_at dksX0_go_0 5 rfl rfl)
theorem dX0_go_8 : decode cX0_go 8 = .ok (.i2l, 1) := dk_133 (dk_at dksX0_go_0 8 rfl rfl)
theorem dX0_go_9 : decode cX0_go 9 = .ok (.lastore, 1) := dk_80 (dk_at dksX0_go_0 9 rfl rfl)
theorem dX0_go_10 : decode cX0_go 10 = .ok (.goto 7, 3) := dk_167 0 7 (dk_at dksX0_go_0 10 rfl rfl)
theorem dX0_go_13 : decode cX0_go 13 = .ok (.astore 4, 2) := dk_58 4 (dk_at dksX0_go_0 13 rfl rfl)
theorem dX0_go_15 : decode cX0_go 15 = .ok (.iconst 1, 1) := dk_4 (dk_at dksX0_go_0 15 rfl rfl)
theorem dX0_go_16 : decode cX0_go 16 = .ok (.ireturn, 1) := dk_172 (dk_at dksX0_go_0 16 rfl rfl)
theorem dX0_go_17 : decode cX0_go 17 = .ok (.iconst 0, 1) := dk_3 (dk_at dksX0_go_0 17 rfl rfl)
theorem dX0_go_18 : decode cX0_go 18 = .ok (.ireturn, 1) := dk_172 (dk_at dksX0_go_0 18 rfl rfl)
abbrev cX0_peg : ByteArray := method_9_code
def yX0_peg : MethodName := ⟨RX0, "peg", "(LBlueBag;IZ[J)I"⟩
def dkwX0_peg_0 : List UInt8 := [45, 3, 42, 27, 28, 182, 0, 34, 133, 80, 167, 0, 7, 58, 4, 4, 172, 3, 172]
abbrev dktX0_peg_0 : List UInt8 := dkwX0_peg_0 ++ []
theorem dksX0_peg_0 : cX0_peg.data.toList.drop 0 = dktX0_peg_0 := by decide +kernel
theorem dX0_peg_0 : decode cX0_peg 0 = .ok (.aload_n 3, 1) := dk_45 (dk_at dksX0_peg_0 0 rfl rfl)
theorem dX0_peg_1 : decode cX0_peg 1 = .ok (.iconst 0, 1) := dk_3 (dk_at dksX0_peg_0 1 rfl rfl)
theorem dX0_peg_2 : decode cX0_peg 2 = .ok (.aload_n 0, 1) := dk_42 (dk_at dksX0_peg_0 2 rfl rfl)
theorem dX0_peg_3 : decode cX0_peg 3 = .ok (.iload_n 1, 1) := dk_27 (dk_at dksX0_peg_0 3 rfl rfl)
theorem dX0_peg_4 : decode cX0_peg 4 = .ok (.iload_n 2, 1) := dk_28 (dk_at dksX0_peg_0 4 rfl rfl)
theorem dX0_peg_5 : decode cX0_peg 5 = .ok (.invokevirtual 34, 3) := dk_182 0 34 (dk_at dksX0_peg_0 5 rfl rfl)
theorem dX0_peg_8 : decode cX0_peg 8 = .ok (.i2l, 1) := dk_133 (dk_at dksX0_peg_0 8 rfl rfl)
theorem dX0_peg_9 : decode cX0_peg 9 = .ok (.lastore, 1) := dk_80 (dk_at dksX0_peg_0 9 rfl rfl)
theorem dX0_peg_10 : decode cX0_peg 10 = .ok (.goto 7, 3) := dk_167 0 7 (dk_at dksX0_peg_0 10 rfl rfl)
theorem dX0_peg_13 : decode cX0_peg 13 = .ok (.astore 4, 2) := dk_58 4 (dk_at dksX0_peg_0 13 rfl rfl)
theorem dX0_peg_15 : decode cX0_peg 15 = .ok (.iconst 1, 1) := dk_4 (dk_at dksX0_peg_0 15 rfl rfl)
theorem dX0_peg_16 : decode cX0_peg 16 = .ok (.ireturn, 1) := dk_172 (dk_at dksX0_peg_0 16 rfl rfl)
theorem dX0_peg_17 : decode cX0_peg 17 = .ok (.iconst 0, 1) := dk_3 (dk_at dksX0_peg_0 17 rfl rfl)
theorem dX0_peg_18 : decode cX0_peg 18 = .ok (.ireturn, 1) := dk_172 (dk_at dksX0_peg_0 18 rfl rfl)
abbrev cX0_then : ByteArray := method_10_code
def yX0_then : MethodName := ⟨RX0, "then", "(LBlueBag;II[J)I"⟩
def dkwX0_then_0 : List UInt8 := [45, 3, 42, 27, 28, 182, 0, 38, 133, 80, 167, 0, 11, 58, 4, 4, 172, 58, 4, 5, 172, 3, 172]
abbrev dktX0_then_0 : List UInt8 := dkwX0_then_0 ++ []
theorem dksX0_then_0 : cX0_then.data.toList.drop 0 = dktX0_then_0 := by decide +kernel
theorem dX0_then_0 : decode cX0_then 0 = .ok (.aload_n 3, 1) := dk_45 (dk_at dksX0_then_0 0 rfl rfl)
theorem dX0_then_1 : decode cX0_then 1 = .ok (.iconst 0, 1) := dk_3 (dk_at dksX0_then_0 1 rfl rfl)
theorem dX0_then_2 : decode cX0_then 2 = .ok (.aload_n 0, 1) := dk_42 (dk_at dksX0_then_0 2 rfl rfl)
theorem dX0_then_3 : decode cX0_then 3 = .ok (.iload_n 1, 1) := dk_27 (dk_at dksX0_then_0 3 rfl rfl)
theorem dX0_then_4 : decode cX0_then 4 = .ok (.iload_n 2, 1) := dk_28 (dk_at dksX0_then_0 4 rfl rfl)
theorem dX0_then_5 : decode cX0_then 5 = .ok (.invokevirtual 38, 3) := dk_182 0 38 (dk_at dksX0_then_0 5 rfl rfl)
theorem dX0_then_8 : decode cX0_then 8 = .ok (.i2l, 1) := dk_133 (dk_at dksX0_then_0 8 rfl rfl)
theorem dX0_then_9 : decode cX0_then 9 = .ok (.lastore, 1) := dk_80 (dk_at dksX0_then_0 9 rfl rfl)
theorem dX0_then_10 : decode cX0_then 10 = .ok (.goto 11, 3) := dk_167 0 11 (dk_at dksX0_then_0 10 rfl rfl)
theorem dX0_then_13 : decode cX0_then 13 = .ok (.astore 4, 2) := dk_58 4 (dk_at dksX0_then_0 13 rfl rfl)
theorem dX0_then_15 : decode cX0_then 15 = .ok (.iconst 1, 1) := dk_4 (dk_at dksX0_then_0 15 rfl rfl)
theorem dX0_then_16 : decode cX0_then 16 = .ok (.ireturn, 1) := dk_172 (dk_at dksX0_then_0 16 rfl rfl)
theorem dX0_then_17 : decode cX0_then 17 = .ok (.astore 4, 2) := dk_58 4 (dk_at dksX0_then_0 17 rfl rfl)
theorem dX0_then_19 : decode cX0_then 19 = .ok (.iconst 2, 1) := dk_5 (dk_at dksX0_then_0 19 rfl rfl)
theorem dX0_then_20 : decode cX0_then 20 = .ok (.ireturn, 1) := dk_172 (dk_at dksX0_then_0 20 rfl rfl)
theorem dX0_then_21 : decode cX0_then 21 = .ok (.iconst 0, 1) := dk_3 (dk_at dksX0_then_0 21 rfl rfl)
theorem dX0_then_22 : decode cX0_then 22 = .ok (.ireturn, 1) := dk_172 (dk_at dksX0_then_0 22 rfl rfl)
abbrev cX0_sky : ByteArray := method_11_code
def yX0_sky : MethodName := ⟨RX0, "sky", "(LBlueBag;II[J)I"⟩
def dkwX0_sky_0 : List UInt8 := [45, 3, 42, 27, 28, 182, 0, 41, 133, 80, 167, 0, 11, 58, 4, 4, 172, 58, 4, 5, 172, 3, 172]
abbrev dktX0_sky_0 : List UInt8 := dkwX0_sky_0 ++ []
theorem dksX0_sky_0 : cX0_sky.data.toList.drop 0 = dktX0_sky_0 := by decide +kernel
theorem dX0_sky_0 : decode cX0_sky 0 = .ok (.aload_n 3, 1) := dk_45 (dk_at dksX0_sky_0 0 rfl rfl)
theorem dX0_sky_1 : decode cX0_sky 1 = .ok (.iconst 0, 1) := dk_3 (dk_at dksX0_sky_0 1 rfl rfl)
theorem dX0_sky_2 : decode cX0_sky 2 = .ok (.aload_n 0, 1) := dk_42 (dk_at dksX0_sky_0 2 rfl rfl)
theorem dX0_sky_3 : decode cX0_sky 3 = .ok (.iload_n 1, 1) := dk_27 (dk_at dksX0_sky_0 3 rfl rfl)
theorem dX0_sky_4 : decode cX0_sky 4 = .ok (.iload_n 2, 1) := dk_28 (dk_at dksX0_sky_0 4 rfl rfl)
theorem dX0_sky_5 : decode cX0_sky 5 = .ok (.invokevirtual 41, 3) := dk_182 0 41 (dk_at dksX0_sky_0 5 rfl rfl)
theorem dX0_sky_8 : decode cX0_sky 8 = .ok (.i2l, 1) := dk_133 (dk_at dksX0_sky_0 8 rfl rfl)
theorem dX0_sky_9 : decode cX0_sky 9 = .ok (.lastore, 1) := dk_80 (dk_at dksX0_sky_0 9 rfl rfl)
theorem dX0_sky_10 : decode cX0_sky 10 = .ok (.goto 11, 3) := dk_167 0 11 (dk_at dksX0_sky_0 10 rfl rfl)
theorem dX0_sky_13 : decode cX0_sky 13 = .ok (.astore 4, 2) := dk_58 4 (dk_at dksX0_sky_0 13 rfl rfl)
theorem dX0_sky_15 : decode cX0_sky 15 = .ok (.iconst 1, 1) := dk_4 (dk_at dksX0_sky_0 15 rfl rfl)
theorem dX0_sky_16 : decode cX0_sky 16 = .ok (.ireturn, 1) := dk_172 (dk_at dksX0_sky_0 16 rfl rfl)
theorem dX0_sky_17 : decode cX0_sky 17 = .ok (.astore 4, 2) := dk_58 4 (dk_at dksX0_sky_0 17 rfl rfl)
theorem dX0_sky_19 : decode cX0_sky 19 = .ok (.iconst 2, 1) := dk_5 (dk_at dksX0_sky_0 19 rfl rfl)
theorem dX0_sky_20 : decode cX0_sky 20 = .ok (.ireturn, 1) := dk_172 (dk_at dksX0_sky_0 20 rfl rfl)
theorem dX0_sky_21 : decode cX0_sky 21 = .ok (.iconst 0, 1) := dk_3 (dk_at dksX0_sky_0 21 rfl rfl)
theorem dX0_sky_22 : decode cX0_sky 22 = .ok (.ireturn, 1) := dk_172 (dk_at dksX0_sky_0 22 rfl rfl)
abbrev cX0_overdone : ByteArray := method_12_code
def yX0_overdone : MethodName := ⟨RX0, "overdone", "(LBlueBag;I[J)I"⟩
def dkwX0_overdone_0 : List UInt8 := [44, 3, 42, 27, 182, 0, 44, 133, 80, 167, 0, 6, 78, 4, 172, 3, 172]
abbrev dktX0_overdone_0 : List UInt8 := dkwX0_overdone_0 ++ []
theorem dksX0_overdone_0 : cX0_overdone.data.toList.drop 0 = dktX0_overdone_0 := by decide +kernel
theorem dX0_overdone_0 : decode cX0_overdone 0 = .ok (.aload_n 2, 1) := dk_44 (dk_at dksX0_overdone_0 0 rfl rfl)
theorem dX0_overdone_1 : decode cX0_overdone 1 = .ok (.iconst 0, 1) := dk_3 (dk_at dksX0_overdone_0 1 rfl rfl)
theorem dX0_overdone_2 : decode cX0_overdone 2 = .ok (.aload_n 0, 1) := dk_42 (dk_at dksX0_overdone_0 2 rfl rfl)
theorem dX0_overdone_3 : decode cX0_overdone 3 = .ok (.iload_n 1, 1) := dk_27 (dk_at dksX0_overdone_0 3 rfl rfl)
theorem dX0_overdone_4 : decode cX0_overdone 4 = .ok (.invokevirtual 44, 3) := dk_182 0 44 (dk_at dksX0_overdone_0 4 rfl rfl)
theorem dX0_overdone_7 : decode cX0_overdone 7 = .ok (.i2l, 1) := dk_133 (dk_at dksX0_overdone_0 7 rfl rfl)
theorem dX0_overdone_8 : decode cX0_overdone 8 = .ok (.lastore, 1) := dk_80 (dk_at dksX0_overdone_0 8 rfl rfl)
theorem dX0_overdone_9 : decode cX0_overdone 9 = .ok (.goto 6, 3) := dk_167 0 6 (dk_at dksX0_overdone_0 9 rfl rfl)
theorem dX0_overdone_12 : decode cX0_overdone 12 = .ok (.astore_n 3, 1) := dk_78 (dk_at dksX0_overdone_0 12 rfl rfl)
theorem dX0_overdone_13 : decode cX0_overdone 13 = .ok (.iconst 1, 1) := dk_4 (dk_at dksX0_overdone_0 13 rfl rfl)
theorem dX0_overdone_14 : decode cX0_overdone 14 = .ok (.ireturn, 1) := dk_172 (dk_at dksX0_overdone_0 14 rfl rfl)
theorem dX0_overdone_15 : decode cX0_overdone 15 = .ok (.iconst 0, 1) := dk_3 (dk_at dksX0_overdone_0 15 rfl rfl)
theorem dX0_overdone_16 : decode cX0_overdone 16 = .ok (.ireturn, 1) := dk_172 (dk_at dksX0_overdone_0 16 rfl rfl)
abbrev cX0_first : ByteArray := method_13_code
def yX0_first : MethodName := ⟨RX0, "first", "(LBlueBag;I[J)I"⟩
def dkwX0_first_0 : List UInt8 := [44, 3, 42, 27, 182, 0, 47, 133, 80, 167, 0, 6, 78, 4, 172, 3, 172]
abbrev dktX0_first_0 : List UInt8 := dkwX0_first_0 ++ []
theorem dksX0_first_0 : cX0_first.data.toList.drop 0 = dktX0_first_0 := by decide +kernel
theorem dX0_first_0 : decode cX0_first 0 = .ok (.aload_n 2, 1) := dk_44 (dk_at dksX0_first_0 0 rfl rfl)
theorem dX0_first_1 : decode cX0_first 1 = .ok (.iconst 0, 1) := dk_3 (dk_at dksX0_first_0 1 rfl rfl)
theorem dX0_first_2 : decode cX0_first 2 = .ok (.aload_n 0, 1) := dk_42 (dk_at dksX0_first_0 2 rfl rfl)
theorem dX0_first_3 : decode cX0_first 3 = .ok (.iload_n 1, 1) := dk_27 (dk_at dksX0_first_0 3 rfl rfl)
theorem dX0_first_4 : decode cX0_first 4 = .ok (.invokevirtual 47, 3) := dk_182 0 47 (dk_at dksX0_first_0 4 rfl rfl)
theorem dX0_first_7 : decode cX0_first 7 = .ok (.i2l, 1) := dk_133 (dk_at dksX0_first_0 7 rfl rfl)
theorem dX0_first_8 : decode cX0_first 8 = .ok (.lastore, 1) := dk_80 (dk_at dksX0_first_0 8 rfl rfl)
theorem dX0_first_9 : decode cX0_first 9 = .ok (.goto 6, 3) := dk_167 0 6 (dk_at dksX0_first_0 9 rfl rfl)
theorem dX0_first_12 : decode cX0_first 12 = .ok (.astore_n 3, 1) := dk_78 (dk_at dksX0_first_0 12 rfl rfl)
theorem dX0_first_13 : decode cX0_first 13 = .ok (.iconst 1, 1) := dk_4 (dk_at dksX0_first_0 13 rfl rfl)
theorem dX0_first_14 : decode cX0_first 14 = .ok (.ireturn, 1) := dk_172 (dk_at dksX0_first_0 14 rfl rfl)
theorem dX0_first_15 : decode cX0_first 15 = .ok (.iconst 0, 1) := dk_3 (dk_at dksX0_first_0 15 rfl rfl)
theorem dX0_first_16 : decode cX0_first 16 = .ok (.ireturn, 1) := dk_172 (dk_at dksX0_first_0 16 rfl rfl)
abbrev cX0_streak : ByteArray := method_14_code
def yX0_streak : MethodName := ⟨RX0, "streak", "(LBlueBag;I[J)I"⟩
def dkwX0_streak_0 : List UInt8 := [44, 3, 42, 27, 182, 0, 50, 133, 80, 167, 0, 6, 78, 4, 172, 3, 172]
abbrev dktX0_streak_0 : List UInt8 := dkwX0_streak_0 ++ []
theorem dksX0_streak_0 : cX0_streak.data.toList.drop 0 = dktX0_streak_0 := by decide +kernel
theorem dX0_streak_0 : decode cX0_streak 0 = .ok (.aload_n 2, 1) := dk_44 (dk_at dksX0_streak_0 0 rfl rfl)
theorem dX0_streak_1 : decode cX0_streak 1 = .ok (.iconst 0, 1) := dk_3 (dk_at dksX0_streak_0 1 rfl rfl)
theorem dX0_streak_2 : decode cX0_streak 2 = .ok (.aload_n 0, 1) := dk_42 (dk_at dksX0_streak_0 2 rfl rfl)
theorem dX0_streak_3 : decode cX0_streak 3 = .ok (.iload_n 1, 1) := dk_27 (dk_at dksX0_streak_0 3 rfl rfl)
theorem dX0_streak_4 : decode cX0_streak 4 = .ok (.invokevirtual 50, 3) := dk_182 0 50 (dk_at dksX0_streak_0 4 rfl rfl)
theorem dX0_streak_7 : decode cX0_streak 7 = .ok (.i2l, 1) := dk_133 (dk_at dksX0_streak_0 7 rfl rfl)
theorem dX0_streak_8 : decode cX0_streak 8 = .ok (.lastore, 1) := dk_80 (dk_at dksX0_streak_0 8 rfl rfl)
theorem dX0_streak_9 : decode cX0_streak 9 = .ok (.goto 6, 3) := dk_167 0 6 (dk_at dksX0_streak_0 9 rfl rfl)
theorem dX0_streak_12 : decode cX0_streak 12 = .ok (.astore_n 3, 1) := dk_78 (dk_at dksX0_streak_0 12 rfl rfl)
theorem dX0_streak_13 : decode cX0_streak 13 = .ok (.iconst 1, 1) := dk_4 (dk_at dksX0_streak_0 13 rfl rfl)
theorem dX0_streak_14 : decode cX0_streak 14 = .ok (.ireturn, 1) := dk_172 (dk_at dksX0_streak_0 14 rfl rfl)
theorem dX0_streak_15 : decode cX0_streak 15 = .ok (.iconst 0, 1) := dk_3 (dk_at dksX0_streak_0 15 rfl rfl)
theorem dX0_streak_16 : decode cX0_streak 16 = .ok (.ireturn, 1) := dk_172 (dk_at dksX0_streak_0 16 rfl rfl)
abbrev cX0_patch : ByteArray := method_15_code
def yX0_patch : MethodName := ⟨RX0, "patch", "(LBlueBag;II[J)I"⟩
def dkwX0_patch_0 : List UInt8 := [45, 3, 42, 27, 28, 182, 0, 53, 133, 80, 167, 0, 11, 58, 4, 4, 172, 58, 4, 5, 172, 3, 172]
abbrev dktX0_patch_0 : List UInt8 := dkwX0_patch_0 ++ []
theorem dksX0_patch_0 : cX0_patch.data.toList.drop 0 = dktX0_patch_0 := by decide +kernel
theorem dX0_patch_0 : decode cX0_patch 0 = .ok (.aload_n 3, 1) := dk_45 (dk_at dksX0_patch_0 0 rfl rfl)
theorem dX0_patch_1 : decode cX0_patch 1 = .ok (.iconst 0, 1) := dk_3 (dk_at dksX0_patch_0 1 rfl rfl)
theorem dX0_patch_2 : decode cX0_patch 2 = .ok (.aload_n 0, 1) := dk_42 (dk_at dksX0_patch_0 2 rfl rfl)
theorem dX0_patch_3 : decode cX0_patch 3 = .ok (.iload_n 1, 1) := dk_27 (dk_at dksX0_patch_0 3 rfl rfl)
theorem dX0_patch_4 : decode cX0_patch 4 = .ok (.iload_n 2, 1) := dk_28 (dk_at dksX0_patch_0 4 rfl rfl)
theorem dX0_patch_5 : decode cX0_patch 5 = .ok (.invokevirtual 53, 3) := dk_182 0 53 (dk_at dksX0_patch_0 5 rfl rfl)
theorem dX0_patch_8 : decode cX0_patch 8 = .ok (.i2l, 1) := dk_133 (dk_at dksX0_patch_0 8 rfl rfl)
theorem dX0_patch_9 : decode cX0_patch 9 = .ok (.lastore, 1) := dk_80 (dk_at dksX0_patch_0 9 rfl rfl)
theorem dX0_patch_10 : decode cX0_patch 10 = .ok (.goto 11, 3) := dk_167 0 11 (dk_at dksX0_patch_0 10 rfl rfl)
theorem dX0_patch_13 : decode cX0_patch 13 = .ok (.astore 4, 2) := dk_58 4 (dk_at dksX0_patch_0 13 rfl rfl)
theorem dX0_patch_15 : decode cX0_patch 15 = .ok (.iconst 1, 1) := dk_4 (dk_at dksX0_patch_0 15 rfl rfl)
theorem dX0_patch_16 : decode cX0_patch 16 = .ok (.ireturn, 1) := dk_172 (dk_at dksX0_patch_0 16 rfl rfl)
theorem dX0_patch_17 : decode cX0_patch 17 = .ok (.astore 4, 2) := dk_58 4 (dk_at dksX0_patch_0 17 rfl rfl)
theorem dX0_patch_19 : decode cX0_patch 19 = .ok (.iconst 2, 1) := dk_5 (dk_at dksX0_patch_0 19 rfl rfl)
theorem dX0_patch_20 : decode cX0_patch 20 = .ok (.ireturn, 1) := dk_172 (dk_at dksX0_patch_0 20 rfl rfl)
theorem dX0_patch_21 : decode cX0_patch 21 = .ok (.iconst 0, 1) := dk_3 (dk_at dksX0_patch_0 21 rfl rfl)
theorem dX0_patch_22 : decode cX0_patch 22 = .ok (.ireturn, 1) := dk_172 (dk_at dksX0_patch_0 22 rfl rfl)
abbrev cX0_patches : ByteArray := method_16_code
def yX0_patches : MethodName := ⟨RX0, "patches", "(LBlueBag;I[J)I"⟩
def dkwX0_patches_0 : List UInt8 := [44, 3, 42, 27, 182, 0, 56, 133, 80, 167, 0, 6, 78, 4, 172, 3, 172]
abbrev dktX0_patches_0 : List UInt8 := dkwX0_patches_0 ++ []
theorem dksX0_patches_0 : cX0_patches.data.toList.drop 0 = dktX0_patches_0 := by decide +kernel
theorem dX0_patches_0 : decode cX0_patches 0 = .ok (.aload_n 2, 1) := dk_44 (dk_at dksX0_patches_0 0 rfl rfl)
theorem dX0_patches_1 : decode cX0_patches 1 = .ok (.iconst 0, 1) := dk_3 (dk_at dksX0_patches_0 1 rfl rfl)
theorem dX0_patches_2 : decode cX0_patches 2 = .ok (.aload_n 0, 1) := dk_42 (dk_at dksX0_patches_0 2 rfl rfl)
theorem dX0_patches_3 : decode cX0_patches 3 = .ok (.iload_n 1, 1) := dk_27 (dk_at dksX0_patches_0 3 rfl rfl)
theorem dX0_patches_4 : decode cX0_patches 4 = .ok (.invokevirtual 56, 3) := dk_182 0 56 (dk_at dksX0_patches_0 4 rfl rfl)
theorem dX0_patches_7 : decode cX0_patches 7 = .ok (.i2l, 1) := dk_133 (dk_at dksX0_patches_0 7 rfl rfl)
theorem dX0_patches_8 : decode cX0_patches 8 = .ok (.lastore, 1) := dk_80 (dk_at dksX0_patches_0 8 rfl rfl)
theorem dX0_patches_9 : decode cX0_patches 9 = .ok (.goto 6, 3) := dk_167 0 6 (dk_at dksX0_patches_0 9 rfl rfl)
theorem dX0_patches_12 : decode cX0_patches 12 = .ok (.astore_n 3, 1) := dk_78 (dk_at dksX0_patches_0 12 rfl rfl)
theorem dX0_patches_13 : decode cX0_patches 13 = .ok (.iconst 1, 1) := dk_4 (dk_at dksX0_patches_0 13 rfl rfl)
theorem dX0_patches_14 : decode cX0_patches 14 = .ok (.ireturn, 1) := dk_172 (dk_at dksX0_patches_0 14 rfl rfl)
theorem dX0_patches_15 : decode cX0_patches 15 = .ok (.iconst 0, 1) := dk_3 (dk_at dksX0_patches_0 15 rfl rfl)
theorem dX0_patches_16 : decode cX0_patches 16 = .ok (.ireturn, 1) := dk_172 (dk_at dksX0_patches_0 16 rfl rfl)
abbrev cX0_way : ByteArray := method_17_code
def yX0_way : MethodName := ⟨RX0, "way", "(LBlueBag;II[J)I"⟩
def dkwX0_way_0 : List UInt8 := [45, 3, 42, 27, 28, 182, 0, 59, 133, 80, 167, 0, 7, 58, 4, 4, 172, 3, 172]
abbrev dktX0_way_0 : List UInt8 := dkwX0_way_0 ++ []
theorem dksX0_way_0 : cX0_way.data.toList.drop 0 = dktX0_way_0 := by decide +kernel
theorem dX0_way_0 : decode cX0_way 0 = .ok (.aload_n 3, 1) := dk_45 (dk_at dksX0_way_0 0 rfl rfl)
theorem dX0_way_1 : decode cX0_way 1 = .ok (.iconst 0, 1) := dk_3 (dk_at dksX0_way_0 1 rfl rfl)
theorem dX0_way_2 : decode cX0_way 2 = .ok (.aload_n 0, 1) := dk_42 (dk_at dksX0_way_0 2 rfl rfl)
theorem dX0_way_3 : decode cX0_way 3 = .ok (.iload_n 1, 1) := dk_27 (dk_at dksX0_way_0 3 rfl rfl)
theorem dX0_way_4 : decode cX0_way 4 = .ok (.iload_n 2, 1) := dk_28 (dk_at dksX0_way_0 4 rfl rfl)
theorem dX0_way_5 : decode cX0_way 5 = .ok (.invokevirtual 59, 3) := dk_182 0 59 (dk_at dksX0_way_0 5 rfl rfl)
theorem dX0_way_8 : decode cX0_way 8 = .ok (.i2l, 1) := dk_133 (dk_at dksX0_way_0 8 rfl rfl)
theorem dX0_way_9 : decode cX0_way 9 = .ok (.lastore, 1) := dk_80 (dk_at dksX0_way_0 9 rfl rfl)
theorem dX0_way_10 : decode cX0_way 10 = .ok (.goto 7, 3) := dk_167 0 7 (dk_at dksX0_way_0 10 rfl rfl)
theorem dX0_way_13 : decode cX0_way 13 = .ok (.astore 4, 2) := dk_58 4 (dk_at dksX0_way_0 13 rfl rfl)
theorem dX0_way_15 : decode cX0_way 15 = .ok (.iconst 1, 1) := dk_4 (dk_at dksX0_way_0 15 rfl rfl)
theorem dX0_way_16 : decode cX0_way 16 = .ok (.ireturn, 1) := dk_172 (dk_at dksX0_way_0 16 rfl rfl)
theorem dX0_way_17 : decode cX0_way 17 = .ok (.iconst 0, 1) := dk_3 (dk_at dksX0_way_0 17 rfl rfl)
theorem dX0_way_18 : decode cX0_way 18 = .ok (.ireturn, 1) := dk_172 (dk_at dksX0_way_0 18 rfl rfl)
abbrev cX0_toStand : ByteArray := method_18_code
def yX0_toStand : MethodName := ⟨RX0, "toStand", "(LBlueBag;II[J)I"⟩
def dkwX0_toStand_0 : List UInt8 := [45, 3, 42, 27, 28, 182, 0, 62, 133, 80, 167, 0, 7, 58, 4, 4, 172, 3, 172]
abbrev dktX0_toStand_0 : List UInt8 := dkwX0_toStand_0 ++ []
theorem dksX0_toStand_0 : cX0_toStand.data.toList.drop 0 = dktX0_toStand_0 := by decide +kernel
theorem dX0_toStand_0 : decode cX0_toStand 0 = .ok (.aload_n 3, 1) := dk_45 (dk_at dksX0_toStand_0 0 rfl rfl)
theorem dX0_toStand_1 : decode cX0_toStand 1 = .ok (.iconst 0, 1) := dk_3 (dk_at dksX0_toStand_0 1 rfl rfl)
theorem dX0_toStand_2 : decode cX0_toStand 2 = .ok (.aload_n 0, 1) := dk_42 (dk_at dksX0_toStand_0 2 rfl rfl)
theorem dX0_toStand_3 : decode cX0_toStand 3 = .ok (.iload_n 1, 1) := dk_27 (dk_at dksX0_toStand_0 3 rfl rfl)
theorem dX0_toStand_4 : decode cX0_toStand 4 = .ok (.iload_n 2, 1) := dk_28 (dk_at dksX0_toStand_0 4 rfl rfl)
theorem dX0_toStand_5 : decode cX0_toStand 5 = .ok (.invokevirtual 62, 3) := dk_182 0 62 (dk_at dksX0_toStand_0 5 rfl rfl)
theorem dX0_toStand_8 : decode cX0_toStand 8 = .ok (.i2l, 1) := dk_133 (dk_at dksX0_toStand_0 8 rfl rfl)
theorem dX0_toStand_9 : decode cX0_toStand 9 = .ok (.lastore, 1) := dk_80 (dk_at dksX0_toStand_0 9 rfl rfl)
theorem dX0_toStand_10 : decode cX0_toStand 10 = .ok (.goto 7, 3) := dk_167 0 7 (dk_at dksX0_toStand_0 10 rfl rfl)
theorem dX0_toStand_13 : decode cX0_toStand 13 = .ok (.astore 4, 2) := dk_58 4 (dk_at dksX0_toStand_0 13 rfl rfl)
theorem dX0_toStand_15 : decode cX0_toStand 15 = .ok (.iconst 1, 1) := dk_4 (dk_at dksX0_toStand_0 15 rfl rfl)
theorem dX0_toStand_16 : decode cX0_toStand 16 = .ok (.ireturn, 1) := dk_172 (dk_at dksX0_toStand_0 16 rfl rfl)
theorem dX0_toStand_17 : decode cX0_toStand 17 = .ok (.iconst 0, 1) := dk_3 (dk_at dksX0_toStand_0 17 rfl rfl)
theorem dX0_toStand_18 : decode cX0_toStand 18 = .ok (.ireturn, 1) := dk_172 (dk_at dksX0_toStand_0 18 rfl rfl)
abbrev cX0_toSwish : ByteArray := method_19_code
def yX0_toSwish : MethodName := ⟨RX0, "toSwish", "(LBlueBag;II[J)I"⟩
def dkwX0_toSwish_0 : List UInt8 := [45, 3, 42, 27, 28, 182, 0, 65, 133, 80, 167, 0, 11, 58, 4, 4, 172, 58, 4, 5, 172, 3, 172]
abbrev dktX0_toSwish_0 : List UInt8 := dkwX0_toSwish_0 ++ []
theorem dksX0_toSwish_0 : cX0_toSwish.data.toList.drop 0 = dktX0_toSwish_0 := by decide +kernel
theorem dX0_toSwish_0 : decode cX0_toSwish 0 = .ok (.aload_n 3, 1) := dk_45 (dk_at dksX0_toSwish_0 0 rfl rfl)
theorem dX0_toSwish_1 : decode cX0_toSwish 1 = .ok (.iconst 0, 1) := dk_3 (dk_at dksX0_toSwish_0 1 rfl rfl)
theorem dX0_toSwish_2 : decode cX0_toSwish 2 = .ok (.aload_n 0, 1) := dk_42 (dk_at dksX0_toSwish_0 2 rfl rfl)
theorem dX0_toSwish_3 : decode cX0_toSwish 3 = .ok (.iload_n 1, 1) := dk_27 (dk_at dksX0_toSwish_0 3 rfl rfl)
theorem dX0_toSwish_4 : decode cX0_toSwish 4 = .ok (.iload_n 2, 1) := dk_28 (dk_at dksX0_toSwish_0 4 rfl rfl)
theorem dX0_toSwish_5 : decode cX0_toSwish 5 = .ok (.invokevirtual 65, 3) := dk_182 0 65 (dk_at dksX0_toSwish_0 5 rfl rfl)
theorem dX0_toSwish_8 : decode cX0_toSwish 8 = .ok (.i2l, 1) := dk_133 (dk_at dksX0_toSwish_0 8 rfl rfl)
theorem dX0_toSwish_9 : decode cX0_toSwish 9 = .ok (.lastore, 1) := dk_80 (dk_at dksX0_toSwish_0 9 rfl rfl)
theorem dX0_toSwish_10 : decode cX0_toSwish 10 = .ok (.goto 11, 3) := dk_167 0 11 (dk_at dksX0_toSwish_0 10 rfl rfl)
theorem dX0_toSwish_13 : decode cX0_toSwish 13 = .ok (.astore 4, 2) := dk_58 4 (dk_at dksX0_toSwish_0 13 rfl rfl)
theorem dX0_toSwish_15 : decode cX0_toSwish 15 = .ok (.iconst 1, 1) := dk_4 (dk_at dksX0_toSwish_0 15 rfl rfl)
theorem dX0_toSwish_16 : decode cX0_toSwish 16 = .ok (.ireturn, 1) := dk_172 (dk_at dksX0_toSwish_0 16 rfl rfl)
theorem dX0_toSwish_17 : decode cX0_toSwish 17 = .ok (.astore 4, 2) := dk_58 4 (dk_at dksX0_toSwish_0 17 rfl rfl)
theorem dX0_toSwish_19 : decode cX0_toSwish 19 = .ok (.iconst 2, 1) := dk_5 (dk_at dksX0_toSwish_0 19 rfl rfl)
theorem dX0_toSwish_20 : decode cX0_toSwish 20 = .ok (.ireturn, 1) := dk_172 (dk_at dksX0_toSwish_0 20 rfl rfl)
theorem dX0_toSwish_21 : decode cX0_toSwish 21 = .ok (.iconst 0, 1) := dk_3 (dk_at dksX0_toSwish_0 21 rfl rfl)
theorem dX0_toSwish_22 : decode cX0_toSwish 22 = .ok (.ireturn, 1) := dk_172 (dk_at dksX0_toSwish_0 22 rfl rfl)
abbrev cX0_sent : ByteArray := method_20_code
def yX0_sent : MethodName := ⟨RX0, "sent", "(LBlueBag;II[J)I"⟩
def dkwX0_sent_0 : List UInt8 := [45, 3, 42, 27, 28, 182, 0, 68, 133, 80, 167, 0, 11, 58, 4, 4, 172, 58, 4, 5, 172, 3, 172]
abbrev dktX0_sent_0 : List UInt8 := dkwX0_sent_0 ++ []
theorem dksX0_sent_0 : cX0_sent.data.toList.drop 0 = dktX0_sent_0 := by decide +kernel
theorem dX0_sent_0 : decode cX0_sent 0 = .ok (.aload_n 3, 1) := dk_45 (dk_at dksX0_sent_0 0 rfl rfl)
theorem dX0_sent_1 : decode cX0_sent 1 = .ok (.iconst 0, 1) := dk_3 (dk_at dksX0_sent_0 1 rfl rfl)
theorem dX0_sent_2 : decode cX0_sent 2 = .ok (.aload_n 0, 1) := dk_42 (dk_at dksX0_sent_0 2 rfl rfl)
theorem dX0_sent_3 : decode cX0_sent 3 = .ok (.iload_n 1, 1) := dk_27 (dk_at dksX0_sent_0 3 rfl rfl)
theorem dX0_sent_4 : decode cX0_sent 4 = .ok (.iload_n 2, 1) := dk_28 (dk_at dksX0_sent_0 4 rfl rfl)
theorem dX0_sent_5 : decode cX0_sent 5 = .ok (.invokevirtual 68, 3) := dk_182 0 68 (dk_at dksX0_sent_0 5 rfl rfl)
theorem dX0_sent_8 : decode cX0_sent 8 = .ok (.i2l, 1) := dk_133 (dk_at dksX0_sent_0 8 rfl rfl)
theorem dX0_sent_9 : decode cX0_sent 9 = .ok (.lastore, 1) := dk_80 (dk_at dksX0_sent_0 9 rfl rfl)
theorem dX0_sent_10 : decode cX0_sent 10 = .ok (.goto 11, 3) := dk_167 0 11 (dk_at dksX0_sent_0 10 rfl rfl)
theorem dX0_sent_13 : decode cX0_sent 13 = .ok (.astore 4, 2) := dk_58 4 (dk_at dksX0_sent_0 13 rfl rfl)
theorem dX0_sent_15 : decode cX0_sent 15 = .ok (.iconst 1, 1) := dk_4 (dk_at dksX0_sent_0 15 rfl rfl)
theorem dX0_sent_16 : decode cX0_sent 16 = .ok (.ireturn, 1) := dk_172 (dk_at dksX0_sent_0 16 rfl rfl)
theorem dX0_sent_17 : decode cX0_sent 17 = .ok (.astore 4, 2) := dk_58 4 (dk_at dksX0_sent_0 17 rfl rfl)
theorem dX0_sent_19 : decode cX0_sent 19 = .ok (.iconst 2, 1) := dk_5 (dk_at dksX0_sent_0 19 rfl rfl)
theorem dX0_sent_20 : decode cX0_sent 20 = .ok (.ireturn, 1) := dk_172 (dk_at dksX0_sent_0 20 rfl rfl)
theorem dX0_sent_21 : decode cX0_sent 21 = .ok (.iconst 0, 1) := dk_3 (dk_at dksX0_sent_0 21 rfl rfl)
theorem dX0_sent_22 : decode cX0_sent 22 = .ok (.ireturn, 1) := dk_172 (dk_at dksX0_sent_0 22 rfl rfl)
abbrev cX0_band : ByteArray := method_21_code
def yX0_band : MethodName := ⟨RX0, "band", "(LBlueBag;I[J)I"⟩
def dkwX0_band_0 : List UInt8 := [44, 3, 42, 27, 182, 0, 71, 133, 80, 167, 0, 6, 78, 4, 172, 3, 172]
abbrev dktX0_band_0 : List UInt8 := dkwX0_band_0 ++ []
theorem dksX0_band_0 : cX0_band.data.toList.drop 0 = dktX0_band_0 := by decide +kernel
theorem dX0_band_0 : decode cX0_band 0 = .ok (.aload_n 2, 1) := dk_44 (dk_at dksX0_band_0 0 rfl rfl)
theorem dX0_band_1 : decode cX0_band 1 = .ok (.iconst 0, 1) := dk_3 (dk_at dksX0_band_0 1 rfl rfl)
theorem dX0_band_2 : decode cX0_band 2 = .ok (.aload_n 0, 1) := dk_42 (dk_at dksX0_band_0 2 rfl rfl)
theorem dX0_band_3 : decode cX0_band 3 = .ok (.iload_n 1, 1) := dk_27 (dk_at dksX0_band_0 3 rfl rfl)
theorem dX0_band_4 : decode cX0_band 4 = .ok (.invokevirtual 71, 3) := dk_182 0 71 (dk_at dksX0_band_0 4 rfl rfl)
theorem dX0_band_7 : decode cX0_band 7 = .ok (.i2l, 1) := dk_133 (dk_at dksX0_band_0 7 rfl rfl)
theorem dX0_band_8 : decode cX0_band 8 = .ok (.lastore, 1) := dk_80 (dk_at dksX0_band_0 8 rfl rfl)
theorem dX0_band_9 : decode cX0_band 9 = .ok (.goto 6, 3) := dk_167 0 6 (dk_at dksX0_band_0 9 rfl rfl)
theorem dX0_band_12 : decode cX0_band 12 = .ok (.astore_n 3, 1) := dk_78 (dk_at dksX0_band_0 12 rfl rfl)
theorem dX0_band_13 : decode cX0_band 13 = .ok (.iconst 1, 1) := dk_4 (dk_at dksX0_band_0 13 rfl rfl)
theorem dX0_band_14 : decode cX0_band 14 = .ok (.ireturn, 1) := dk_172 (dk_at dksX0_band_0 14 rfl rfl)
theorem dX0_band_15 : decode cX0_band 15 = .ok (.iconst 0, 1) := dk_3 (dk_at dksX0_band_0 15 rfl rfl)
theorem dX0_band_16 : decode cX0_band 16 = .ok (.ireturn, 1) := dk_172 (dk_at dksX0_band_0 16 rfl rfl)
abbrev cX0_steps : ByteArray := method_22_code
def yX0_steps : MethodName := ⟨RX0, "steps", "(LBlueBag;II[J)I"⟩
def dkwX0_steps_0 : List UInt8 := [45, 3, 42, 27, 28, 182, 0, 74, 133, 80, 167, 0, 7, 58, 4, 4, 172, 3, 172]
abbrev dktX0_steps_0 : List UInt8 := dkwX0_steps_0 ++ []
theorem dksX0_steps_0 : cX0_steps.data.toList.drop 0 = dktX0_steps_0 := by decide +kernel
theorem dX0_steps_0 : decode cX0_steps 0 = .ok (.aload_n 3, 1) := dk_45 (dk_at dksX0_steps_0 0 rfl rfl)
theorem dX0_steps_1 : decode cX0_steps 1 = .ok (.iconst 0, 1) := dk_3 (dk_at dksX0_steps_0 1 rfl rfl)
theorem dX0_steps_2 : decode cX0_steps 2 = .ok (.aload_n 0, 1) := dk_42 (dk_at dksX0_steps_0 2 rfl rfl)
theorem dX0_steps_3 : decode cX0_steps 3 = .ok (.iload_n 1, 1) := dk_27 (dk_at dksX0_steps_0 3 rfl rfl)
theorem dX0_steps_4 : decode cX0_steps 4 = .ok (.iload_n 2, 1) := dk_28 (dk_at dksX0_steps_0 4 rfl rfl)
theorem dX0_steps_5 : decode cX0_steps 5 = .ok (.invokevirtual 74, 3) := dk_182 0 74 (dk_at dksX0_steps_0 5 rfl rfl)
theorem dX0_steps_8 : decode cX0_steps 8 = .ok (.i2l, 1) := dk_133 (dk_at dksX0_steps_0 8 rfl rfl)
theorem dX0_steps_9 : decode cX0_steps 9 = .ok (.lastore, 1) := dk_80 (dk_at dksX0_steps_0 9 rfl rfl)
theorem dX0_steps_10 : decode cX0_steps 10 = .ok (.goto 7, 3) := dk_167 0 7 (dk_at dksX0_steps_0 10 rfl rfl)
theorem dX0_steps_13 : decode cX0_steps 13 = .ok (.astore 4, 2) := dk_58 4 (dk_at dksX0_steps_0 13 rfl rfl)
theorem dX0_steps_15 : decode cX0_steps 15 = .ok (.iconst 1, 1) := dk_4 (dk_at dksX0_steps_0 15 rfl rfl)
theorem dX0_steps_16 : decode cX0_steps 16 = .ok (.ireturn, 1) := dk_172 (dk_at dksX0_steps_0 16 rfl rfl)
theorem dX0_steps_17 : decode cX0_steps 17 = .ok (.iconst 0, 1) := dk_3 (dk_at dksX0_steps_0 17 rfl rfl)
theorem dX0_steps_18 : decode cX0_steps 18 = .ok (.ireturn, 1) := dk_172 (dk_at dksX0_steps_0 18 rfl rfl)
abbrev cX0_nearest : ByteArray := method_23_code
def yX0_nearest : MethodName := ⟨RX0, "nearest", "(LBlueBag;I[J)I"⟩
def dkwX0_nearest_0 : List UInt8 := [44, 3, 42, 27, 182, 0, 77, 133, 80, 167, 0, 6, 78, 4, 172, 3, 172]
abbrev dktX0_nearest_0 : List UInt8 := dkwX0_nearest_0 ++ []
theorem dksX0_nearest_0 : cX0_nearest.data.toList.drop 0 = dktX0_nearest_0 := by decide +kernel
theorem dX0_nearest_0 : decode cX0_nearest 0 = .ok (.aload_n 2, 1) := dk_44 (dk_at dksX0_nearest_0 0 rfl rfl)
theorem dX0_nearest_1 : decode cX0_nearest 1 = .ok (.iconst 0, 1) := dk_3 (dk_at dksX0_nearest_0 1 rfl rfl)
theorem dX0_nearest_2 : decode cX0_nearest 2 = .ok (.aload_n 0, 1) := dk_42 (dk_at dksX0_nearest_0 2 rfl rfl)
theorem dX0_nearest_3 : decode cX0_nearest 3 = .ok (.iload_n 1, 1) := dk_27 (dk_at dksX0_nearest_0 3 rfl rfl)
theorem dX0_nearest_4 : decode cX0_nearest 4 = .ok (.invokevirtual 77, 3) := dk_182 0 77 (dk_at dksX0_nearest_0 4 rfl rfl)
theorem dX0_nearest_7 : decode cX0_nearest 7 = .ok (.i2l, 1) := dk_133 (dk_at dksX0_nearest_0 7 rfl rfl)
theorem dX0_nearest_8 : decode cX0_nearest 8 = .ok (.lastore, 1) := dk_80 (dk_at dksX0_nearest_0 8 rfl rfl)
theorem dX0_nearest_9 : decode cX0_nearest 9 = .ok (.goto 6, 3) := dk_167 0 6 (dk_at dksX0_nearest_0 9 rfl rfl)
theorem dX0_nearest_12 : decode cX0_nearest 12 = .ok (.astore_n 3, 1) := dk_78 (dk_at dksX0_nearest_0 12 rfl rfl)
theorem dX0_nearest_13 : decode cX0_nearest 13 = .ok (.iconst 1, 1) := dk_4 (dk_at dksX0_nearest_0 13 rfl rfl)
theorem dX0_nearest_14 : decode cX0_nearest 14 = .ok (.ireturn, 1) := dk_172 (dk_at dksX0_nearest_0 14 rfl rfl)
theorem dX0_nearest_15 : decode cX0_nearest 15 = .ok (.iconst 0, 1) := dk_3 (dk_at dksX0_nearest_0 15 rfl rfl)
theorem dX0_nearest_16 : decode cX0_nearest 16 = .ok (.ireturn, 1) := dk_172 (dk_at dksX0_nearest_0 16 rfl rfl)
abbrev cX0_missed : ByteArray := method_24_code
def yX0_missed : MethodName := ⟨RX0, "missed", "(LBlueBag;I[J)I"⟩
def dkwX0_missed_0 : List UInt8 := [44, 3, 42, 27, 182, 0, 80, 133, 80, 167, 0, 6, 78, 4, 172, 3, 172]
abbrev dktX0_missed_0 : List UInt8 := dkwX0_missed_0 ++ []
theorem dksX0_missed_0 : cX0_missed.data.toList.drop 0 = dktX0_missed_0 := by decide +kernel
theorem dX0_missed_0 : decode cX0_missed 0 = .ok (.aload_n 2, 1) := dk_44 (dk_at dksX0_missed_0 0 rfl rfl)
theorem dX0_missed_1 : decode cX0_missed 1 = .ok (.iconst 0, 1) := dk_3 (dk_at dksX0_missed_0 1 rfl rfl)
theorem dX0_missed_2 : decode cX0_missed 2 = .ok (.aload_n 0, 1) := dk_42 (dk_at dksX0_missed_0 2 rfl rfl)
theorem dX0_missed_3 : decode cX0_missed 3 = .ok (.iload_n 1, 1) := dk_27 (dk_at dksX0_missed_0 3 rfl rfl)
theorem dX0_missed_4 : decode cX0_missed 4 = .ok (.invokevirtual 80, 3) := dk_182 0 80 (dk_at dksX0_missed_0 4 rfl rfl)
theorem dX0_missed_7 : decode cX0_missed 7 = .ok (.i2l, 1) := dk_133 (dk_at dksX0_missed_0 7 rfl rfl)
theorem dX0_missed_8 : decode cX0_missed 8 = .ok (.lastore, 1) := dk_80 (dk_at dksX0_missed_0 8 rfl rfl)
theorem dX0_missed_9 : decode cX0_missed 9 = .ok (.goto 6, 3) := dk_167 0 6 (dk_at dksX0_missed_0 9 rfl rfl)
theorem dX0_missed_12 : decode cX0_missed 12 = .ok (.astore_n 3, 1) := dk_78 (dk_at dksX0_missed_0 12 rfl rfl)
theorem dX0_missed_13 : decode cX0_missed 13 = .ok (.iconst 1, 1) := dk_4 (dk_at dksX0_missed_0 13 rfl rfl)
theorem dX0_missed_14 : decode cX0_missed 14 = .ok (.ireturn, 1) := dk_172 (dk_at dksX0_missed_0 14 rfl rfl)
theorem dX0_missed_15 : decode cX0_missed 15 = .ok (.iconst 0, 1) := dk_3 (dk_at dksX0_missed_0 15 rfl rfl)
theorem dX0_missed_16 : decode cX0_missed 16 = .ok (.ireturn, 1) := dk_172 (dk_at dksX0_missed_0 16 rfl rfl)
abbrev cX0_see : ByteArray := method_25_code
def yX0_see : MethodName := ⟨RX0, "see", "(LBlueBag;III[J)I"⟩
def dkwX0_see_0 : List UInt8 := [25, 4, 3, 42, 27, 28, 29, 182, 0, 83, 133, 80, 167, 0, 7, 58, 5, 4, 172, 3, 172]
abbrev dktX0_see_0 : List UInt8 := dkwX0_see_0 ++ []
theorem dksX0_see_0 : cX0_see.data.toList.drop 0 = dktX0_see_0 := by decide +kernel
theorem dX0_see_0 : decode cX0_see 0 = .ok (.aload 4, 2) := dk_25 4 (dk_at dksX0_see_0 0 rfl rfl)
theorem dX0_see_2 : decode cX0_see 2 = .ok (.iconst 0, 1) := dk_3 (dk_at dksX0_see_0 2 rfl rfl)
theorem dX0_see_3 : decode cX0_see 3 = .ok (.aload_n 0, 1) := dk_42 (dk_at dksX0_see_0 3 rfl rfl)
theorem dX0_see_4 : decode cX0_see 4 = .ok (.iload_n 1, 1) := dk_27 (dk_at dksX0_see_0 4 rfl rfl)
theorem dX0_see_5 : decode cX0_see 5 = .ok (.iload_n 2, 1) := dk_28 (dk_at dksX0_see_0 5 rfl rfl)
theorem dX0_see_6 : decode cX0_see 6 = .ok (.iload_n 3, 1) := dk_29 (dk_at dksX0_see_0 6 rfl rfl)
theorem dX0_see_7 : decode cX0_see 7 = .ok (.invokevirtual 83, 3) := dk_182 0 83 (dk_at dksX0_see_0 7 rfl rfl)
theorem dX0_see_10 : decode cX0_see 10 = .ok (.i2l, 1) := dk_133 (dk_at dksX0_see_0 10 rfl rfl)
theorem dX0_see_11 : decode cX0_see 11 = .ok (.lastore, 1) := dk_80 (dk_at dksX0_see_0 11 rfl rfl)
theorem dX0_see_12 : decode cX0_see 12 = .ok (.goto 7, 3) := dk_167 0 7 (dk_at dksX0_see_0 12 rfl rfl)
theorem dX0_see_15 : decode cX0_see 15 = .ok (.astore 5, 2) := dk_58 5 (dk_at dksX0_see_0 15 rfl rfl)
theorem dX0_see_17 : decode cX0_see 17 = .ok (.iconst 1, 1) := dk_4 (dk_at dksX0_see_0 17 rfl rfl)
theorem dX0_see_18 : decode cX0_see 18 = .ok (.ireturn, 1) := dk_172 (dk_at dksX0_see_0 18 rfl rfl)
theorem dX0_see_19 : decode cX0_see 19 = .ok (.iconst 0, 1) := dk_3 (dk_at dksX0_see_0 19 rfl rfl)
theorem dX0_see_20 : decode cX0_see 20 = .ok (.ireturn, 1) := dk_172 (dk_at dksX0_see_0 20 rfl rfl)
abbrev cX0_skilled : ByteArray := method_26_code
def yX0_skilled : MethodName := ⟨RX0, "skilled", "(LBlueBag;I[J)I"⟩
def dkwX0_skilled_0 : List UInt8 := [44, 3, 42, 27, 182, 0, 87, 133, 80, 167, 0, 6, 78, 4, 172, 3, 172]
abbrev dktX0_skilled_0 : List UInt8 := dkwX0_skilled_0 ++ []
theorem dksX0_skilled_0 : cX0_skilled.data.toList.drop 0 = dktX0_skilled_0 := by decide +kernel
theorem dX0_skilled_0 : decode cX0_skilled 0 = .ok (.aload_n 2, 1) := dk_44 (dk_at dksX0_skilled_0 0 rfl rfl)
theorem dX0_skilled_1 : decode cX0_skilled 1 = .ok (.iconst 0, 1) := dk_3 (dk_at dksX0_skilled_0 1 rfl rfl)
theorem dX0_skilled_2 : decode cX0_skilled 2 = .ok (.aload_n 0, 1) := dk_42 (dk_at dksX0_skilled_0 2 rfl rfl)
theorem dX0_skilled_3 : decode cX0_skilled 3 = .ok (.iload_n 1, 1) := dk_27 (dk_at dksX0_skilled_0 3 rfl rfl)
theorem dX0_skilled_4 : decode cX0_skilled 4 = .ok (.invokevirtual 87, 3) := dk_182 0 87 (dk_at dksX0_skilled_0 4 rfl rfl)
theorem dX0_skilled_7 : decode cX0_skilled 7 = .ok (.i2l, 1) := dk_133 (dk_at dksX0_skilled_0 7 rfl rfl)
theorem dX0_skilled_8 : decode cX0_skilled 8 = .ok (.lastore, 1) := dk_80 (dk_at dksX0_skilled_0 8 rfl rfl)
theorem dX0_skilled_9 : decode cX0_skilled 9 = .ok (.goto 6, 3) := dk_167 0 6 (dk_at dksX0_skilled_0 9 rfl rfl)
theorem dX0_skilled_12 : decode cX0_skilled 12 = .ok (.astore_n 3, 1) := dk_78 (dk_at dksX0_skilled_0 12 rfl rfl)
theorem dX0_skilled_13 : decode cX0_skilled 13 = .ok (.iconst 1, 1) := dk_4 (dk_at dksX0_skilled_0 13 rfl rfl)
theorem dX0_skilled_14 : decode cX0_skilled 14 = .ok (.ireturn, 1) := dk_172 (dk_at dksX0_skilled_0 14 rfl rfl)
theorem dX0_skilled_15 : decode cX0_skilled 15 = .ok (.iconst 0, 1) := dk_3 (dk_at dksX0_skilled_0 15 rfl rfl)
theorem dX0_skilled_16 : decode cX0_skilled 16 = .ok (.ireturn, 1) := dk_172 (dk_at dksX0_skilled_0 16 rfl rfl)
abbrev cX0_look : ByteArray := method_27_code
def yX0_look : MethodName := ⟨RX0, "look", "(LBlueBag;I[J)I"⟩
def dkwX0_look_0 : List UInt8 := [44, 3, 42, 27, 182, 0, 90, 133, 80, 167, 0, 6, 78, 4, 172, 3, 172]
abbrev dktX0_look_0 : List UInt8 := dkwX0_look_0 ++ []
theorem dksX0_look_0 : cX0_look.data.toList.drop 0 = dktX0_look_0 := by decide +kernel
theorem dX0_look_0 : decode cX0_look 0 = .ok (.aload_n 2, 1) := dk_44 (dk_at dksX0_look_0 0 rfl rfl)
theorem dX0_look_1 : decode cX0_look 1 = .ok (.iconst 0, 1) := dk_3 (dk_at dksX0_look_0 1 rfl rfl)
theorem dX0_look_2 : decode cX0_look 2 = .ok (.aload_n 0, 1) := dk_42 (dk_at dksX0_look_0 2 rfl rfl)
theorem dX0_look_3 : decode cX0_look 3 = .ok (.iload_n 1, 1) := dk_27 (dk_at dksX0_look_0 3 rfl rfl)
theorem dX0_look_4 : decode cX0_look 4 = .ok (.invokevirtual 90, 3) := dk_182 0 90 (dk_at dksX0_look_0 4 rfl rfl)
theorem dX0_look_7 : decode cX0_look 7 = .ok (.i2l, 1) := dk_133 (dk_at dksX0_look_0 7 rfl rfl)
theorem dX0_look_8 : decode cX0_look 8 = .ok (.lastore, 1) := dk_80 (dk_at dksX0_look_0 8 rfl rfl)
theorem dX0_look_9 : decode cX0_look 9 = .ok (.goto 6, 3) := dk_167 0 6 (dk_at dksX0_look_0 9 rfl rfl)
theorem dX0_look_12 : decode cX0_look 12 = .ok (.astore_n 3, 1) := dk_78 (dk_at dksX0_look_0 12 rfl rfl)
theorem dX0_look_13 : decode cX0_look 13 = .ok (.iconst 1, 1) := dk_4 (dk_at dksX0_look_0 13 rfl rfl)
theorem dX0_look_14 : decode cX0_look 14 = .ok (.ireturn, 1) := dk_172 (dk_at dksX0_look_0 14 rfl rfl)
theorem dX0_look_15 : decode cX0_look 15 = .ok (.iconst 0, 1) := dk_3 (dk_at dksX0_look_0 15 rfl rfl)
theorem dX0_look_16 : decode cX0_look 16 = .ok (.ireturn, 1) := dk_172 (dk_at dksX0_look_0 16 rfl rfl)
abbrev cX0_game : ByteArray := method_28_code
def yX0_game : MethodName := ⟨RX0, "game", "(LBlueBag;III[J)I"⟩
def dkwX0_game_1 : List UInt8 := [172]
abbrev dktX0_game_1 : List UInt8 := dkwX0_game_1 ++ []
def dkwX0_game_0 : List UInt8 := [25, 4, 3, 42, 27, 28, 29, 182, 0, 93, 133, 80, 167, 0, 11, 58, 5, 4, 172, 58, 5, 5, 172, 3]
abbrev dktX0_game_0 : List UInt8 := dkwX0_game_0 ++ dktX0_game_1
theorem dksX0_game_0 : cX0_game.data.toList.drop 0 = dktX0_game_0 := by decide +kernel
theorem dksX0_game_1 : cX0_game.data.toList.drop 24 = dktX0_game_1 := dk_seg dksX0_game_0 24 rfl rfl
theorem dX0_game_0 : decode cX0_game 0 = .ok (.aload 4, 2) := dk_25 4 (dk_at dksX0_game_0 0 rfl rfl)
theorem dX0_game_2 : decode cX0_game 2 = .ok (.iconst 0, 1) := dk_3 (dk_at dksX0_game_0 2 rfl rfl)
theorem dX0_game_3 : decode cX0_game 3 = .ok (.aload_n 0, 1) := dk_42 (dk_at dksX0_game_0 3 rfl rfl)
theorem dX0_game_4 : decode cX0_game 4 = .ok (.iload_n 1, 1) := dk_27 (dk_at dksX0_game_0 4 rfl rfl)
theorem dX0_game_5 : decode cX0_game 5 = .ok (.iload_n 2, 1) := dk_28 (dk_at dksX0_game_0 5 rfl rfl)
theorem dX0_game_6 : decode cX0_game 6 = .ok (.iload_n 3, 1) := dk_29 (dk_at dksX0_game_0 6 rfl rfl)
theorem dX0_game_7 : decode cX0_game 7 = .ok (.invokevirtual 93, 3) := dk_182 0 93 (dk_at dksX0_game_0 7 rfl rfl)
theorem dX0_game_10 : decode cX0_game 10 = .ok (.i2l, 1) := dk_133 (dk_at dksX0_game_0 10 rfl rfl)
theorem dX0_game_11 : decode cX0_game 11 = .ok (.lastore, 1) := dk_80 (dk_at dksX0_game_0 11 rfl rfl)
theorem dX0_game_12 : decode cX0_game 12 = .ok (.goto 11, 3) := dk_167 0 11 (dk_at dksX0_game_0 12 rfl rfl)
theorem dX0_game_15 : decode cX0_game 15 = .ok (.astore 5, 2) := dk_58 5 (dk_at dksX0_game_0 15 rfl rfl)
theorem dX0_game_17 : decode cX0_game 17 = .ok (.iconst 1, 1) := dk_4 (dk_at dksX0_game_0 17 rfl rfl)
theorem dX0_game_18 : decode cX0_game 18 = .ok (.ireturn, 1) := dk_172 (dk_at dksX0_game_0 18 rfl rfl)
theorem dX0_game_19 : decode cX0_game 19 = .ok (.astore 5, 2) := dk_58 5 (dk_at dksX0_game_0 19 rfl rfl)
theorem dX0_game_21 : decode cX0_game 21 = .ok (.iconst 2, 1) := dk_5 (dk_at dksX0_game_0 21 rfl rfl)
theorem dX0_game_22 : decode cX0_game 22 = .ok (.ireturn, 1) := dk_172 (dk_at dksX0_game_0 22 rfl rfl)
theorem dX0_game_23 : decode cX0_game 23 = .ok (.iconst 0, 1) := dk_3 (dk_at dksX0_game_0 23 rfl rfl)
theorem dX0_game_24 : decode cX0_game 24 = .ok (.ireturn, 1) := dk_172 (dk_at dksX0_game_1 0 rfl rfl)
abbrev cX0_skies : ByteArray := method_29_code
def yX0_skies : MethodName := ⟨RX0, "skies", "(LBlueBag;III[J)I"⟩
def dkwX0_skies_1 : List UInt8 := [172]
abbrev dktX0_skies_1 : List UInt8 := dkwX0_skies_1 ++ []
def dkwX0_skies_0 : List UInt8 := [25, 4, 3, 42, 27, 28, 29, 182, 0, 96, 133, 80, 167, 0, 11, 58, 5, 4, 172, 58, 5, 5, 172, 3]
abbrev dktX0_skies_0 : List UInt8 := dkwX0_skies_0 ++ dktX0_skies_1
theorem dksX0_skies_0 : cX0_skies.data.toList.drop 0 = dktX0_skies_0 := by decide +kernel
theorem dksX0_skies_1 : cX0_skies.data.toList.drop 24 = dktX0_skies_1 := dk_seg dksX0_skies_0 24 rfl rfl
theorem dX0_skies_0 : decode cX0_skies 0 = .ok (.aload 4, 2) := dk_25 4 (dk_at dksX0_skies_0 0 rfl rfl)
theorem dX0_skies_2 : decode cX0_skies 2 = .ok (.iconst 0, 1) := dk_3 (dk_at dksX0_skies_0 2 rfl rfl)
theorem dX0_skies_3 : decode cX0_skies 3 = .ok (.aload_n 0, 1) := dk_42 (dk_at dksX0_skies_0 3 rfl rfl)
theorem dX0_skies_4 : decode cX0_skies 4 = .ok (.iload_n 1, 1) := dk_27 (dk_at dksX0_skies_0 4 rfl rfl)
theorem dX0_skies_5 : decode cX0_skies 5 = .ok (.iload_n 2, 1) := dk_28 (dk_at dksX0_skies_0 5 rfl rfl)
theorem dX0_skies_6 : decode cX0_skies 6 = .ok (.iload_n 3, 1) := dk_29 (dk_at dksX0_skies_0 6 rfl rfl)
theorem dX0_skies_7 : decode cX0_skies 7 = .ok (.invokevirtual 96, 3) := dk_182 0 96 (dk_at dksX0_skies_0 7 rfl rfl)
theorem dX0_skies_10 : decode cX0_skies 10 = .ok (.i2l, 1) := dk_133 (dk_at dksX0_skies_0 10 rfl rfl)
theorem dX0_skies_11 : decode cX0_skies 11 = .ok (.lastore, 1) := dk_80 (dk_at dksX0_skies_0 11 rfl rfl)
theorem dX0_skies_12 : decode cX0_skies 12 = .ok (.goto 11, 3) := dk_167 0 11 (dk_at dksX0_skies_0 12 rfl rfl)
theorem dX0_skies_15 : decode cX0_skies 15 = .ok (.astore 5, 2) := dk_58 5 (dk_at dksX0_skies_0 15 rfl rfl)
theorem dX0_skies_17 : decode cX0_skies 17 = .ok (.iconst 1, 1) := dk_4 (dk_at dksX0_skies_0 17 rfl rfl)
theorem dX0_skies_18 : decode cX0_skies 18 = .ok (.ireturn, 1) := dk_172 (dk_at dksX0_skies_0 18 rfl rfl)
theorem dX0_skies_19 : decode cX0_skies 19 = .ok (.astore 5, 2) := dk_58 5 (dk_at dksX0_skies_0 19 rfl rfl)
theorem dX0_skies_21 : decode cX0_skies 21 = .ok (.iconst 2, 1) := dk_5 (dk_at dksX0_skies_0 21 rfl rfl)
theorem dX0_skies_22 : decode cX0_skies 22 = .ok (.ireturn, 1) := dk_172 (dk_at dksX0_skies_0 22 rfl rfl)
theorem dX0_skies_23 : decode cX0_skies 23 = .ok (.iconst 0, 1) := dk_3 (dk_at dksX0_skies_0 23 rfl rfl)
theorem dX0_skies_24 : decode cX0_skies 24 = .ok (.ireturn, 1) := dk_172 (dk_at dksX0_skies_1 0 rfl rfl)
theorem q112 : (Jvm.Cond.initialized "BlueBagLaw") ∈ lw_all := lw_g (lw_at lw_m1 0 rfl) rfl
theorem q152 : (Jvm.Cond.classLink "BlueBagLaw" (8 : Nat) "BlueBag") ∈ lw_all := lw_g (lw_at lw_m1 40 rfl) rfl
theorem q154 : (Jvm.Cond.methodLink "BlueBagLaw" (99 : Nat) ({ cls := "BlueBag", name := "<init>", desc := "()V" } : Jvm.MethodName)) ∈ lw_all := lw_g (lw_at lw_m1 42 rfl) rfl
theorem q798 : (Jvm.Cond.methodLink "BlueBagLaw" (103 : Nat) ({ cls := "BlueBag", name := "feed", desc := "(IIIII)I" } : Jvm.MethodName)) ∈ lw_all := lw_g (lw_at lw_m3 206 rfl) rfl
theorem q806 : (Jvm.Cond.methodLink "BlueBagLaw" (118 : Nat) ({ cls := "BlueBag", name := "fault", desc := "()I" } : Jvm.MethodName)) ∈ lw_all := lw_g (lw_at lw_m3 214 rfl) rfl
theorem q810 : (Jvm.Cond.methodLink "BlueBagLaw" (132 : Nat) ({ cls := "BlueBag", name := "days", desc := "(I)I" } : Jvm.MethodName)) ∈ lw_all := lw_g (lw_at lw_m3 218 rfl) rfl
theorem q944 : (Jvm.Cond.methodLink "BlueBagLaw" (143 : Nat) ({ cls := "BlueBag", name := "bag", desc := "(I)I" } : Jvm.MethodName)) ∈ lw_all := lw_g (lw_at lw_m4 112 rfl) rfl
theorem q949 : (Jvm.Cond.methodLink "BlueBagLaw" (150 : Nat) ({ cls := "BlueBag", name := "undo", desc := "()I" } : Jvm.MethodName)) ∈ lw_all := lw_g (lw_at lw_m4 117 rfl) rfl
theorem q955 : (Jvm.Cond.methodLink "BlueBagLaw" (166 : Nat) ({ cls := "BlueBag", name := "spent", desc := "()I" } : Jvm.MethodName)) ∈ lw_all := lw_g (lw_at lw_m4 123 rfl) rfl
theorem q963 : (Jvm.Cond.methodLink "BlueBagLaw" (182 : Nat) ({ cls := "BlueBag", name := "toRest", desc := "()I" } : Jvm.MethodName)) ∈ lw_all := lw_g (lw_at lw_m4 131 rfl) rfl
theorem q985 : (Jvm.Cond.methodLink "BlueBagLaw" (198 : Nat) ({ cls := "BlueBag", name := "steady", desc := "()I" } : Jvm.MethodName)) ∈ lw_all := lw_g (lw_at lw_m4 153 rfl) rfl
theorem q995 : (Jvm.Cond.methodLink "BlueBagLaw" (221 : Nat) ({ cls := "BlueBag", name := "forget", desc := "()V" } : Jvm.MethodName)) ∈ lw_all := lw_g (lw_at lw_m4 163 rfl) rfl
theorem q999 : (Jvm.Cond.methodLink "BlueBagLaw" (231 : Nat) ({ cls := "BlueBag", name := "image", desc := "()V" } : Jvm.MethodName)) ∈ lw_all := lw_g (lw_at lw_m4 167 rfl) rfl
theorem q1008 : (Jvm.Cond.methodLink "BlueBagLaw" (235 : Nat) ({ cls := "BlueBag", name := "restore", desc := "()Z" } : Jvm.MethodName)) ∈ lw_all := lw_g (lw_at lw_m4 176 rfl) rfl
theorem q1012 : (Jvm.Cond.methodLink "BlueBagLaw" (108 : Nat) ({ cls := "BlueBagLaw", name := "coast", desc := "(LBlueBag;I[J)I" } : Jvm.MethodName)) ∈ lw_all := lw_g (lw_at lw_m4 180 rfl) rfl
theorem q1013 : (Jvm.Cond.static ({ cls := "BlueBagLaw", name := "coast", desc := "(LBlueBag;I[J)I" } : Jvm.MethodName)) ∈ lw_all := lw_g (lw_at lw_m4 181 rfl) rfl
theorem q1014 : (Jvm.Cond.codeWith ({ cls := "BlueBagLaw", name := "coast", desc := "(LBlueBag;I[J)I" } : Jvm.MethodName) method_3_code (4 : Nat) (Option.some Jvm.ClassFile.FieldType.int) [((0 : Nat), (9 : Nat), (12 : Nat), (13 : Nat))]) ∈ lw_all := lw_g (lw_at lw_m4 182 rfl) rfl
theorem q1015 : (Jvm.Cond.classLink "BlueBagLaw" (13 : Nat) "java/lang/IllegalArgumentException") ∈ lw_all := lw_g (lw_at lw_m4 183 rfl) rfl
theorem q1016 : (Jvm.Cond.methodLink "BlueBagLaw" (7 : Nat) ({ cls := "BlueBag", name := "coast", desc := "(I)I" } : Jvm.MethodName)) ∈ lw_all := lw_g (lw_at lw_m4 184 rfl) rfl
theorem q1386 : (Jvm.Cond.methodLink "BlueBagLaw" (122 : Nat) ({ cls := "BlueBagLaw", name := "count", desc := "(LBlueBag;I[J)I" } : Jvm.MethodName)) ∈ lw_all := lw_g (lw_at lw_m6 74 rfl) rfl
theorem q1387 : (Jvm.Cond.static ({ cls := "BlueBagLaw", name := "count", desc := "(LBlueBag;I[J)I" } : Jvm.MethodName)) ∈ lw_all := lw_g (lw_at lw_m6 75 rfl) rfl
theorem q1388 : (Jvm.Cond.codeWith ({ cls := "BlueBagLaw", name := "count", desc := "(LBlueBag;I[J)I" } : Jvm.MethodName) method_4_code (4 : Nat) (Option.some Jvm.ClassFile.FieldType.int) [((0 : Nat), (9 : Nat), (12 : Nat), (18 : Nat))]) ∈ lw_all := lw_g (lw_at lw_m6 76 rfl) rfl
theorem q1389 : (Jvm.Cond.classLink "BlueBagLaw" (18 : Nat) "java/util/NoSuchElementException") ∈ lw_all := lw_g (lw_at lw_m6 77 rfl) rfl
theorem q1390 : (Jvm.Cond.methodLink "BlueBagLaw" (15 : Nat) ({ cls := "BlueBag", name := "count", desc := "(I)I" } : Jvm.MethodName)) ∈ lw_all := lw_g (lw_at lw_m6 78 rfl) rfl
theorem q1416 : (Jvm.Cond.methodLink "BlueBagLaw" (125 : Nat) ({ cls := "BlueBagLaw", name := "cell", desc := "(LBlueBag;II[J)I" } : Jvm.MethodName)) ∈ lw_all := lw_g (lw_at lw_m6 104 rfl) rfl
theorem q1417 : (Jvm.Cond.static ({ cls := "BlueBagLaw", name := "cell", desc := "(LBlueBag;II[J)I" } : Jvm.MethodName)) ∈ lw_all := lw_g (lw_at lw_m6 105 rfl) rfl
theorem q1418 : (Jvm.Cond.codeWith ({ cls := "BlueBagLaw", name := "cell", desc := "(LBlueBag;II[J)I" } : Jvm.MethodName) method_5_code (5 : Nat) (Option.some Jvm.ClassFile.FieldType.int) [((0 : Nat), (10 : Nat), (13 : Nat), (18 : Nat))]) ∈ lw_all := lw_g (lw_at lw_m6 106 rfl) rfl
theorem q1419 : (Jvm.Cond.methodLink "BlueBagLaw" (20 : Nat) ({ cls := "BlueBag", name := "cell", desc := "(II)I" } : Jvm.MethodName)) ∈ lw_all := lw_g (lw_at lw_m6 107 rfl) rfl
theorem q1437 : (Jvm.Cond.methodLink "BlueBagLaw" (129 : Nat) ({ cls := "BlueBagLaw", name := "girl", desc := "(LBlueBag;II[J)I" } : Jvm.MethodName)) ∈ lw_all := lw_g (lw_at lw_m6 125 rfl) rfl
theorem q1438 : (Jvm.Cond.static ({ cls := "BlueBagLaw", name := "girl", desc := "(LBlueBag;II[J)I" } : Jvm.MethodName)) ∈ lw_all := lw_g (lw_at lw_m6 126 rfl) rfl
theorem q1439 : (Jvm.Cond.codeWith ({ cls := "BlueBagLaw", name := "girl", desc := "(LBlueBag;II[J)I" } : Jvm.MethodName) method_6_code (5 : Nat) (Option.some Jvm.ClassFile.FieldType.int) [((0 : Nat), (10 : Nat), (13 : Nat), (18 : Nat))]) ∈ lw_all := lw_g (lw_at lw_m6 127 rfl) rfl
theorem q1440 : (Jvm.Cond.methodLink "BlueBagLaw" (24 : Nat) ({ cls := "BlueBag", name := "girl", desc := "(II)I" } : Jvm.MethodName)) ∈ lw_all := lw_g (lw_at lw_m6 128 rfl) rfl
theorem q1460 : (Jvm.Cond.methodLink "BlueBagLaw" (136 : Nat) ({ cls := "BlueBagLaw", name := "rest", desc := "(LBlueBag;IZ[J)I" } : Jvm.MethodName)) ∈ lw_all := lw_g (lw_at lw_m6 148 rfl) rfl
theorem q1461 : (Jvm.Cond.static ({ cls := "BlueBagLaw", name := "rest", desc := "(LBlueBag;IZ[J)I" } : Jvm.MethodName)) ∈ lw_all := lw_g (lw_at lw_m6 149 rfl) rfl
theorem q1462 : (Jvm.Cond.codeWith ({ cls := "BlueBagLaw", name := "rest", desc := "(LBlueBag;IZ[J)I" } : Jvm.MethodName) method_7_code (5 : Nat) (Option.some Jvm.ClassFile.FieldType.int) [((0 : Nat), (17 : Nat), (20 : Nat), (18 : Nat))]) ∈ lw_all := lw_g (lw_at lw_m6 150 rfl) rfl
theorem q1463 : (Jvm.Cond.methodLink "BlueBagLaw" (27 : Nat) ({ cls := "BlueBag", name := "rest", desc := "(IZ)Z" } : Jvm.MethodName)) ∈ lw_all := lw_g (lw_at lw_m6 151 rfl) rfl
theorem q1467 : (Jvm.Cond.methodLink "BlueBagLaw" (140 : Nat) ({ cls := "BlueBagLaw", name := "go", desc := "(LBlueBag;II[J)I" } : Jvm.MethodName)) ∈ lw_all := lw_g (lw_at lw_m6 155 rfl) rfl
theorem q1468 : (Jvm.Cond.static ({ cls := "BlueBagLaw", name := "go", desc := "(LBlueBag;II[J)I" } : Jvm.MethodName)) ∈ lw_all := lw_g (lw_at lw_m6 156 rfl) rfl
theorem q1469 : (Jvm.Cond.codeWith ({ cls := "BlueBagLaw", name := "go", desc := "(LBlueBag;II[J)I" } : Jvm.MethodName) method_8_code (5 : Nat) (Option.some Jvm.ClassFile.FieldType.int) [((0 : Nat), (10 : Nat), (13 : Nat), (18 : Nat))]) ∈ lw_all := lw_g (lw_at lw_m6 157 rfl) rfl
theorem q1470 : (Jvm.Cond.methodLink "BlueBagLaw" (31 : Nat) ({ cls := "BlueBag", name := "go", desc := "(II)I" } : Jvm.MethodName)) ∈ lw_all := lw_g (lw_at lw_m6 158 rfl) rfl
theorem q1474 : (Jvm.Cond.methodLink "BlueBagLaw" (147 : Nat) ({ cls := "BlueBagLaw", name := "peg", desc := "(LBlueBag;IZ[J)I" } : Jvm.MethodName)) ∈ lw_all := lw_g (lw_at lw_m6 162 rfl) rfl
theorem q1475 : (Jvm.Cond.static ({ cls := "BlueBagLaw", name := "peg", desc := "(LBlueBag;IZ[J)I" } : Jvm.MethodName)) ∈ lw_all := lw_g (lw_at lw_m6 163 rfl) rfl
theorem q1476 : (Jvm.Cond.codeWith ({ cls := "BlueBagLaw", name := "peg", desc := "(LBlueBag;IZ[J)I" } : Jvm.MethodName) method_9_code (5 : Nat) (Option.some Jvm.ClassFile.FieldType.int) [((0 : Nat), (10 : Nat), (13 : Nat), (18 : Nat))]) ∈ lw_all := lw_g (lw_at lw_m6 164 rfl) rfl
theorem q1477 : (Jvm.Cond.methodLink "BlueBagLaw" (34 : Nat) ({ cls := "BlueBag", name := "peg", desc := "(IZ)I" } : Jvm.MethodName)) ∈ lw_all := lw_g (lw_at lw_m6 165 rfl) rfl
theorem q1482 : (Jvm.Cond.methodLink "BlueBagLaw" (154 : Nat) ({ cls := "BlueBagLaw", name := "then", desc := "(LBlueBag;II[J)I" } : Jvm.MethodName)) ∈ lw_all := lw_g (lw_at lw_m6 170 rfl) rfl
theorem q1483 : (Jvm.Cond.static ({ cls := "BlueBagLaw", name := "then", desc := "(LBlueBag;II[J)I" } : Jvm.MethodName)) ∈ lw_all := lw_g (lw_at lw_m6 171 rfl) rfl
theorem q1484 : (Jvm.Cond.codeWith ({ cls := "BlueBagLaw", name := "then", desc := "(LBlueBag;II[J)I" } : Jvm.MethodName) method_10_code (5 : Nat) (Option.some Jvm.ClassFile.FieldType.int) [((0 : Nat), (10 : Nat), (13 : Nat), (18 : Nat)), ((0 : Nat), (10 : Nat), (17 : Nat), (13 : Nat))]) ∈ lw_all := lw_g (lw_at lw_m6 172 rfl) rfl
theorem q1485 : (Jvm.Cond.methodLink "BlueBagLaw" (38 : Nat) ({ cls := "BlueBag", name := "then", desc := "(II)I" } : Jvm.MethodName)) ∈ lw_all := lw_g (lw_at lw_m6 173 rfl) rfl
theorem q1489 : (Jvm.Cond.methodLink "BlueBagLaw" (157 : Nat) ({ cls := "BlueBagLaw", name := "sky", desc := "(LBlueBag;II[J)I" } : Jvm.MethodName)) ∈ lw_all := lw_g (lw_at lw_m6 177 rfl) rfl
theorem q1490 : (Jvm.Cond.static ({ cls := "BlueBagLaw", name := "sky", desc := "(LBlueBag;II[J)I" } : Jvm.MethodName)) ∈ lw_all := lw_g (lw_at lw_m6 178 rfl) rfl
theorem q1491 : (Jvm.Cond.codeWith ({ cls := "BlueBagLaw", name := "sky", desc := "(LBlueBag;II[J)I" } : Jvm.MethodName) method_11_code (5 : Nat) (Option.some Jvm.ClassFile.FieldType.int) [((0 : Nat), (10 : Nat), (13 : Nat), (18 : Nat)), ((0 : Nat), (10 : Nat), (17 : Nat), (13 : Nat))]) ∈ lw_all := lw_g (lw_at lw_m6 179 rfl) rfl
theorem q1492 : (Jvm.Cond.methodLink "BlueBagLaw" (41 : Nat) ({ cls := "BlueBag", name := "sky", desc := "(II)I" } : Jvm.MethodName)) ∈ lw_all := lw_g (lw_at lw_m6 180 rfl) rfl
theorem q1497 : (Jvm.Cond.methodLink "BlueBagLaw" (160 : Nat) ({ cls := "BlueBagLaw", name := "overdone", desc := "(LBlueBag;I[J)I" } : Jvm.MethodName)) ∈ lw_all := lw_g (lw_at lw_m6 185 rfl) rfl
theorem q1498 : (Jvm.Cond.static ({ cls := "BlueBagLaw", name := "overdone", desc := "(LBlueBag;I[J)I" } : Jvm.MethodName)) ∈ lw_all := lw_g (lw_at lw_m6 186 rfl) rfl
theorem q1499 : (Jvm.Cond.codeWith ({ cls := "BlueBagLaw", name := "overdone", desc := "(LBlueBag;I[J)I" } : Jvm.MethodName) method_12_code (4 : Nat) (Option.some Jvm.ClassFile.FieldType.int) [((0 : Nat), (9 : Nat), (12 : Nat), (13 : Nat))]) ∈ lw_all := lw_g (lw_at lw_m6 187 rfl) rfl
theorem q1500 : (Jvm.Cond.methodLink "BlueBagLaw" (44 : Nat) ({ cls := "BlueBag", name := "overdone", desc := "(I)I" } : Jvm.MethodName)) ∈ lw_all := lw_g (lw_at lw_m6 188 rfl) rfl
theorem q1504 : (Jvm.Cond.methodLink "BlueBagLaw" (163 : Nat) ({ cls := "BlueBagLaw", name := "first", desc := "(LBlueBag;I[J)I" } : Jvm.MethodName)) ∈ lw_all := lw_g (lw_at lw_m6 192 rfl) rfl
theorem q1505 : (Jvm.Cond.static ({ cls := "BlueBagLaw", name := "first", desc := "(LBlueBag;I[J)I" } : Jvm.MethodName)) ∈ lw_all := lw_g (lw_at lw_m6 193 rfl) rfl
theorem q1506 : (Jvm.Cond.codeWith ({ cls := "BlueBagLaw", name := "first", desc := "(LBlueBag;I[J)I" } : Jvm.MethodName) method_13_code (4 : Nat) (Option.some Jvm.ClassFile.FieldType.int) [((0 : Nat), (9 : Nat), (12 : Nat), (18 : Nat))]) ∈ lw_all := lw_g (lw_at lw_m6 194 rfl) rfl
theorem q1507 : (Jvm.Cond.methodLink "BlueBagLaw" (47 : Nat) ({ cls := "BlueBag", name := "first", desc := "(I)I" } : Jvm.MethodName)) ∈ lw_all := lw_g (lw_at lw_m6 195 rfl) rfl
theorem q1511 : (Jvm.Cond.methodLink "BlueBagLaw" (170 : Nat) ({ cls := "BlueBagLaw", name := "streak", desc := "(LBlueBag;I[J)I" } : Jvm.MethodName)) ∈ lw_all := lw_g (lw_at lw_m6 199 rfl) rfl
theorem q1512 : (Jvm.Cond.static ({ cls := "BlueBagLaw", name := "streak", desc := "(LBlueBag;I[J)I" } : Jvm.MethodName)) ∈ lw_all := lw_g (lw_at lw_m6 200 rfl) rfl
theorem q1513 : (Jvm.Cond.codeWith ({ cls := "BlueBagLaw", name := "streak", desc := "(LBlueBag;I[J)I" } : Jvm.MethodName) method_14_code (4 : Nat) (Option.some Jvm.ClassFile.FieldType.int) [((0 : Nat), (9 : Nat), (12 : Nat), (18 : Nat))]) ∈ lw_all := lw_g (lw_at lw_m6 201 rfl) rfl
theorem q1514 : (Jvm.Cond.methodLink "BlueBagLaw" (50 : Nat) ({ cls := "BlueBag", name := "streak", desc := "(I)I" } : Jvm.MethodName)) ∈ lw_all := lw_g (lw_at lw_m6 202 rfl) rfl
theorem q1518 : (Jvm.Cond.methodLink "BlueBagLaw" (173 : Nat) ({ cls := "BlueBagLaw", name := "patch", desc := "(LBlueBag;II[J)I" } : Jvm.MethodName)) ∈ lw_all := lw_g (lw_at lw_m6 206 rfl) rfl
theorem q1519 : (Jvm.Cond.static ({ cls := "BlueBagLaw", name := "patch", desc := "(LBlueBag;II[J)I" } : Jvm.MethodName)) ∈ lw_all := lw_g (lw_at lw_m6 207 rfl) rfl
theorem q1520 : (Jvm.Cond.codeWith ({ cls := "BlueBagLaw", name := "patch", desc := "(LBlueBag;II[J)I" } : Jvm.MethodName) method_15_code (5 : Nat) (Option.some Jvm.ClassFile.FieldType.int) [((0 : Nat), (10 : Nat), (13 : Nat), (18 : Nat)), ((0 : Nat), (10 : Nat), (17 : Nat), (13 : Nat))]) ∈ lw_all := lw_g (lw_at lw_m6 208 rfl) rfl
theorem q1521 : (Jvm.Cond.methodLink "BlueBagLaw" (53 : Nat) ({ cls := "BlueBag", name := "patch", desc := "(II)I" } : Jvm.MethodName)) ∈ lw_all := lw_g (lw_at lw_m6 209 rfl) rfl
theorem q1525 : (Jvm.Cond.methodLink "BlueBagLaw" (176 : Nat) ({ cls := "BlueBagLaw", name := "patches", desc := "(LBlueBag;I[J)I" } : Jvm.MethodName)) ∈ lw_all := lw_g (lw_at lw_m6 213 rfl) rfl
theorem q1526 : (Jvm.Cond.static ({ cls := "BlueBagLaw", name := "patches", desc := "(LBlueBag;I[J)I" } : Jvm.MethodName)) ∈ lw_all := lw_g (lw_at lw_m6 214 rfl) rfl
theorem q1527 : (Jvm.Cond.codeWith ({ cls := "BlueBagLaw", name := "patches", desc := "(LBlueBag;I[J)I" } : Jvm.MethodName) method_16_code (4 : Nat) (Option.some Jvm.ClassFile.FieldType.int) [((0 : Nat), (9 : Nat), (12 : Nat), (13 : Nat))]) ∈ lw_all := lw_g (lw_at lw_m6 215 rfl) rfl
theorem q1528 : (Jvm.Cond.methodLink "BlueBagLaw" (56 : Nat) ({ cls := "BlueBag", name := "patches", desc := "(I)I" } : Jvm.MethodName)) ∈ lw_all := lw_g (lw_at lw_m6 216 rfl) rfl
theorem q1536 : (Jvm.Cond.methodLink "BlueBagLaw" (179 : Nat) ({ cls := "BlueBagLaw", name := "way", desc := "(LBlueBag;II[J)I" } : Jvm.MethodName)) ∈ lw_all := lw_g (lw_at lw_m6 224 rfl) rfl
theorem q1537 : (Jvm.Cond.static ({ cls := "BlueBagLaw", name := "way", desc := "(LBlueBag;II[J)I" } : Jvm.MethodName)) ∈ lw_all := lw_g (lw_at lw_m6 225 rfl) rfl
theorem q1538 : (Jvm.Cond.codeWith ({ cls := "BlueBagLaw", name := "way", desc := "(LBlueBag;II[J)I" } : Jvm.MethodName) method_17_code (5 : Nat) (Option.some Jvm.ClassFile.FieldType.int) [((0 : Nat), (10 : Nat), (13 : Nat), (18 : Nat))]) ∈ lw_all := lw_g (lw_at lw_m6 226 rfl) rfl
theorem q1539 : (Jvm.Cond.methodLink "BlueBagLaw" (59 : Nat) ({ cls := "BlueBag", name := "way", desc := "(II)I" } : Jvm.MethodName)) ∈ lw_all := lw_g (lw_at lw_m6 227 rfl) rfl
theorem q1543 : (Jvm.Cond.methodLink "BlueBagLaw" (186 : Nat) ({ cls := "BlueBagLaw", name := "toStand", desc := "(LBlueBag;II[J)I" } : Jvm.MethodName)) ∈ lw_all := lw_g (lw_at lw_m6 231 rfl) rfl
theorem q1544 : (Jvm.Cond.static ({ cls := "BlueBagLaw", name := "toStand", desc := "(LBlueBag;II[J)I" } : Jvm.MethodName)) ∈ lw_all := lw_g (lw_at lw_m6 232 rfl) rfl
theorem q1545 : (Jvm.Cond.codeWith ({ cls := "BlueBagLaw", name := "toStand", desc := "(LBlueBag;II[J)I" } : Jvm.MethodName) method_18_code (5 : Nat) (Option.some Jvm.ClassFile.FieldType.int) [((0 : Nat), (10 : Nat), (13 : Nat), (18 : Nat))]) ∈ lw_all := lw_g (lw_at lw_m6 233 rfl) rfl
theorem q1546 : (Jvm.Cond.methodLink "BlueBagLaw" (62 : Nat) ({ cls := "BlueBag", name := "toStand", desc := "(II)I" } : Jvm.MethodName)) ∈ lw_all := lw_g (lw_at lw_m6 234 rfl) rfl
theorem q1550 : (Jvm.Cond.methodLink "BlueBagLaw" (189 : Nat) ({ cls := "BlueBagLaw", name := "toSwish", desc := "(LBlueBag;II[J)I" } : Jvm.MethodName)) ∈ lw_all := lw_g (lw_at lw_m6 238 rfl) rfl
theorem q1551 : (Jvm.Cond.static ({ cls := "BlueBagLaw", name := "toSwish", desc := "(LBlueBag;II[J)I" } : Jvm.MethodName)) ∈ lw_all := lw_g (lw_at lw_m6 239 rfl) rfl
theorem q1552 : (Jvm.Cond.codeWith ({ cls := "BlueBagLaw", name := "toSwish", desc := "(LBlueBag;II[J)I" } : Jvm.MethodName) method_19_code (5 : Nat) (Option.some Jvm.ClassFile.FieldType.int) [((0 : Nat), (10 : Nat), (13 : Nat), (18 : Nat)), ((0 : Nat), (10 : Nat), (17 : Nat), (13 : Nat))]) ∈ lw_all := lw_g (lw_at lw_m7 0 rfl) rfl
theorem q1553 : (Jvm.Cond.methodLink "BlueBagLaw" (65 : Nat) ({ cls := "BlueBag", name := "toSwish", desc := "(II)I" } : Jvm.MethodName)) ∈ lw_all := lw_g (lw_at lw_m7 1 rfl) rfl
theorem q1558 : (Jvm.Cond.methodLink "BlueBagLaw" (192 : Nat) ({ cls := "BlueBagLaw", name := "sent", desc := "(LBlueBag;II[J)I" } : Jvm.MethodName)) ∈ lw_all := lw_g (lw_at lw_m7 6 rfl) rfl
theorem q1559 : (Jvm.Cond.static ({ cls := "BlueBagLaw", name := "sent", desc := "(LBlueBag;II[J)I" } : Jvm.MethodName)) ∈ lw_all := lw_g (lw_at lw_m7 7 rfl) rfl
theorem q1560 : (Jvm.Cond.codeWith ({ cls := "BlueBagLaw", name := "sent", desc := "(LBlueBag;II[J)I" } : Jvm.MethodName) method_20_code (5 : Nat) (Option.some Jvm.ClassFile.FieldType.int) [((0 : Nat), (10 : Nat), (13 : Nat), (18 : Nat)), ((0 : Nat), (10 : Nat), (17 : Nat), (13 : Nat))]) ∈ lw_all := lw_g (lw_at lw_m7 8 rfl) rfl
theorem q1561 : (Jvm.Cond.methodLink "BlueBagLaw" (68 : Nat) ({ cls := "BlueBag", name := "sent", desc := "(II)I" } : Jvm.MethodName)) ∈ lw_all := lw_g (lw_at lw_m7 9 rfl) rfl
theorem q1574 : (Jvm.Cond.methodLink "BlueBagLaw" (195 : Nat) ({ cls := "BlueBagLaw", name := "band", desc := "(LBlueBag;I[J)I" } : Jvm.MethodName)) ∈ lw_all := lw_g (lw_at lw_m7 22 rfl) rfl
theorem q1575 : (Jvm.Cond.static ({ cls := "BlueBagLaw", name := "band", desc := "(LBlueBag;I[J)I" } : Jvm.MethodName)) ∈ lw_all := lw_g (lw_at lw_m7 23 rfl) rfl
theorem q1576 : (Jvm.Cond.codeWith ({ cls := "BlueBagLaw", name := "band", desc := "(LBlueBag;I[J)I" } : Jvm.MethodName) method_21_code (4 : Nat) (Option.some Jvm.ClassFile.FieldType.int) [((0 : Nat), (9 : Nat), (12 : Nat), (13 : Nat))]) ∈ lw_all := lw_g (lw_at lw_m7 24 rfl) rfl
theorem q1577 : (Jvm.Cond.methodLink "BlueBagLaw" (71 : Nat) ({ cls := "BlueBag", name := "band", desc := "(I)I" } : Jvm.MethodName)) ∈ lw_all := lw_g (lw_at lw_m7 25 rfl) rfl
theorem q1581 : (Jvm.Cond.methodLink "BlueBagLaw" (202 : Nat) ({ cls := "BlueBagLaw", name := "steps", desc := "(LBlueBag;II[J)I" } : Jvm.MethodName)) ∈ lw_all := lw_g (lw_at lw_m7 29 rfl) rfl
theorem q1582 : (Jvm.Cond.static ({ cls := "BlueBagLaw", name := "steps", desc := "(LBlueBag;II[J)I" } : Jvm.MethodName)) ∈ lw_all := lw_g (lw_at lw_m7 30 rfl) rfl
theorem q1583 : (Jvm.Cond.codeWith ({ cls := "BlueBagLaw", name := "steps", desc := "(LBlueBag;II[J)I" } : Jvm.MethodName) method_22_code (5 : Nat) (Option.some Jvm.ClassFile.FieldType.int) [((0 : Nat), (10 : Nat), (13 : Nat), (18 : Nat))]) ∈ lw_all := lw_g (lw_at lw_m7 31 rfl) rfl
theorem q1584 : (Jvm.Cond.methodLink "BlueBagLaw" (74 : Nat) ({ cls := "BlueBag", name := "steps", desc := "(II)I" } : Jvm.MethodName)) ∈ lw_all := lw_g (lw_at lw_m7 32 rfl) rfl
theorem q1588 : (Jvm.Cond.methodLink "BlueBagLaw" (205 : Nat) ({ cls := "BlueBagLaw", name := "nearest", desc := "(LBlueBag;I[J)I" } : Jvm.MethodName)) ∈ lw_all := lw_g (lw_at lw_m7 36 rfl) rfl
theorem q1589 : (Jvm.Cond.static ({ cls := "BlueBagLaw", name := "nearest", desc := "(LBlueBag;I[J)I" } : Jvm.MethodName)) ∈ lw_all := lw_g (lw_at lw_m7 37 rfl) rfl
theorem q1590 : (Jvm.Cond.codeWith ({ cls := "BlueBagLaw", name := "nearest", desc := "(LBlueBag;I[J)I" } : Jvm.MethodName) method_23_code (4 : Nat) (Option.some Jvm.ClassFile.FieldType.int) [((0 : Nat), (9 : Nat), (12 : Nat), (18 : Nat))]) ∈ lw_all := lw_g (lw_at lw_m7 38 rfl) rfl
theorem q1591 : (Jvm.Cond.methodLink "BlueBagLaw" (77 : Nat) ({ cls := "BlueBag", name := "nearest", desc := "(I)I" } : Jvm.MethodName)) ∈ lw_all := lw_g (lw_at lw_m7 39 rfl) rfl
theorem q1595 : (Jvm.Cond.methodLink "BlueBagLaw" (208 : Nat) ({ cls := "BlueBagLaw", name := "missed", desc := "(LBlueBag;I[J)I" } : Jvm.MethodName)) ∈ lw_all := lw_g (lw_at lw_m7 43 rfl) rfl
theorem q1596 : (Jvm.Cond.static ({ cls := "BlueBagLaw", name := "missed", desc := "(LBlueBag;I[J)I" } : Jvm.MethodName)) ∈ lw_all := lw_g (lw_at lw_m7 44 rfl) rfl
theorem q1597 : (Jvm.Cond.codeWith ({ cls := "BlueBagLaw", name := "missed", desc := "(LBlueBag;I[J)I" } : Jvm.MethodName) method_24_code (4 : Nat) (Option.some Jvm.ClassFile.FieldType.int) [((0 : Nat), (9 : Nat), (12 : Nat), (18 : Nat))]) ∈ lw_all := lw_g (lw_at lw_m7 45 rfl) rfl
theorem q1598 : (Jvm.Cond.methodLink "BlueBagLaw" (80 : Nat) ({ cls := "BlueBag", name := "missed", desc := "(I)I" } : Jvm.MethodName)) ∈ lw_all := lw_g (lw_at lw_m7 46 rfl) rfl
theorem q1606 : (Jvm.Cond.methodLink "BlueBagLaw" (211 : Nat) ({ cls := "BlueBagLaw", name := "see", desc := "(LBlueBag;III[J)I" } : Jvm.MethodName)) ∈ lw_all := lw_g (lw_at lw_m7 54 rfl) rfl
theorem q1607 : (Jvm.Cond.static ({ cls := "BlueBagLaw", name := "see", desc := "(LBlueBag;III[J)I" } : Jvm.MethodName)) ∈ lw_all := lw_g (lw_at lw_m7 55 rfl) rfl
theorem q1608 : (Jvm.Cond.codeWith ({ cls := "BlueBagLaw", name := "see", desc := "(LBlueBag;III[J)I" } : Jvm.MethodName) method_25_code (6 : Nat) (Option.some Jvm.ClassFile.FieldType.int) [((0 : Nat), (12 : Nat), (15 : Nat), (18 : Nat))]) ∈ lw_all := lw_g (lw_at lw_m7 56 rfl) rfl
theorem q1609 : (Jvm.Cond.methodLink "BlueBagLaw" (83 : Nat) ({ cls := "BlueBag", name := "see", desc := "(III)I" } : Jvm.MethodName)) ∈ lw_all := lw_g (lw_at lw_m7 57 rfl) rfl
theorem q1613 : (Jvm.Cond.methodLink "BlueBagLaw" (215 : Nat) ({ cls := "BlueBagLaw", name := "skilled", desc := "(LBlueBag;I[J)I" } : Jvm.MethodName)) ∈ lw_all := lw_g (lw_at lw_m7 61 rfl) rfl
theorem q1614 : (Jvm.Cond.static ({ cls := "BlueBagLaw", name := "skilled", desc := "(LBlueBag;I[J)I" } : Jvm.MethodName)) ∈ lw_all := lw_g (lw_at lw_m7 62 rfl) rfl
theorem q1615 : (Jvm.Cond.codeWith ({ cls := "BlueBagLaw", name := "skilled", desc := "(LBlueBag;I[J)I" } : Jvm.MethodName) method_26_code (4 : Nat) (Option.some Jvm.ClassFile.FieldType.int) [((0 : Nat), (9 : Nat), (12 : Nat), (18 : Nat))]) ∈ lw_all := lw_g (lw_at lw_m7 63 rfl) rfl
theorem q1616 : (Jvm.Cond.methodLink "BlueBagLaw" (87 : Nat) ({ cls := "BlueBag", name := "skilled", desc := "(I)I" } : Jvm.MethodName)) ∈ lw_all := lw_g (lw_at lw_m7 64 rfl) rfl
theorem q1632 : (Jvm.Cond.methodLink "BlueBagLaw" (218 : Nat) ({ cls := "BlueBagLaw", name := "look", desc := "(LBlueBag;I[J)I" } : Jvm.MethodName)) ∈ lw_all := lw_g (lw_at lw_m7 80 rfl) rfl
theorem q1633 : (Jvm.Cond.static ({ cls := "BlueBagLaw", name := "look", desc := "(LBlueBag;I[J)I" } : Jvm.MethodName)) ∈ lw_all := lw_g (lw_at lw_m7 81 rfl) rfl
theorem q1634 : (Jvm.Cond.codeWith ({ cls := "BlueBagLaw", name := "look", desc := "(LBlueBag;I[J)I" } : Jvm.MethodName) method_27_code (4 : Nat) (Option.some Jvm.ClassFile.FieldType.int) [((0 : Nat), (9 : Nat), (12 : Nat), (18 : Nat))]) ∈ lw_all := lw_g (lw_at lw_m7 82 rfl) rfl
theorem q1635 : (Jvm.Cond.methodLink "BlueBagLaw" (90 : Nat) ({ cls := "BlueBag", name := "look", desc := "(I)I" } : Jvm.MethodName)) ∈ lw_all := lw_g (lw_at lw_m7 83 rfl) rfl
theorem q1643 : (Jvm.Cond.methodLink "BlueBagLaw" (225 : Nat) ({ cls := "BlueBagLaw", name := "game", desc := "(LBlueBag;III[J)I" } : Jvm.MethodName)) ∈ lw_all := lw_g (lw_at lw_m7 91 rfl) rfl
theorem q1644 : (Jvm.Cond.static ({ cls := "BlueBagLaw", name := "game", desc := "(LBlueBag;III[J)I" } : Jvm.MethodName)) ∈ lw_all := lw_g (lw_at lw_m7 92 rfl) rfl
theorem q1645 : (Jvm.Cond.codeWith ({ cls := "BlueBagLaw", name := "game", desc := "(LBlueBag;III[J)I" } : Jvm.MethodName) method_28_code (6 : Nat) (Option.some Jvm.ClassFile.FieldType.int) [((0 : Nat), (12 : Nat), (15 : Nat), (18 : Nat)), ((0 : Nat), (12 : Nat), (19 : Nat), (13 : Nat))]) ∈ lw_all := lw_g (lw_at lw_m7 93 rfl) rfl
theorem q1646 : (Jvm.Cond.methodLink "BlueBagLaw" (93 : Nat) ({ cls := "BlueBag", name := "game", desc := "(III)I" } : Jvm.MethodName)) ∈ lw_all := lw_g (lw_at lw_m7 94 rfl) rfl
theorem q1654 : (Jvm.Cond.methodLink "BlueBagLaw" (228 : Nat) ({ cls := "BlueBagLaw", name := "skies", desc := "(LBlueBag;III[J)I" } : Jvm.MethodName)) ∈ lw_all := lw_g (lw_at lw_m7 102 rfl) rfl
theorem q1655 : (Jvm.Cond.static ({ cls := "BlueBagLaw", name := "skies", desc := "(LBlueBag;III[J)I" } : Jvm.MethodName)) ∈ lw_all := lw_g (lw_at lw_m7 103 rfl) rfl
theorem q1656 : (Jvm.Cond.codeWith ({ cls := "BlueBagLaw", name := "skies", desc := "(LBlueBag;III[J)I" } : Jvm.MethodName) method_29_code (6 : Nat) (Option.some Jvm.ClassFile.FieldType.int) [((0 : Nat), (12 : Nat), (15 : Nat), (18 : Nat)), ((0 : Nat), (12 : Nat), (19 : Nat), (13 : Nat))]) ∈ lw_all := lw_g (lw_at lw_m7 104 rfl) rfl
theorem q1657 : (Jvm.Cond.methodLink "BlueBagLaw" (96 : Nat) ({ cls := "BlueBag", name := "skies", desc := "(III)I" } : Jvm.MethodName)) ∈ lw_all := lw_g (lw_at lw_m7 105 rfl) rfl
theorem q1671 : (Jvm.Cond.classLink "BlueBagLaw" (100 : Nat) "BlueBagModel") ∈ lw_all := lw_g (lw_at lw_m7 119 rfl) rfl
theorem q1673 : (Jvm.Cond.methodLink "BlueBagLaw" (102 : Nat) ({ cls := "BlueBagModel", name := "<init>", desc := "()V" } : Jvm.MethodName)) ∈ lw_all := lw_g (lw_at lw_m7 121 rfl) rfl
theorem q1884 : (Jvm.Cond.methodLink "BlueBagLaw" (114 : Nat) ({ cls := "BlueBagModel", name := "thrown", desc := "()I" } : Jvm.MethodName)) ∈ lw_all := lw_g (lw_at lw_m8 92 rfl) rfl
theorem q1888 : (Jvm.Cond.methodLink "BlueBagLaw" (107 : Nat) ({ cls := "BlueBagModel", name := "feed", desc := "(IIIII)I" } : Jvm.MethodName)) ∈ lw_all := lw_g (lw_at lw_m8 96 rfl) rfl
theorem q1892 : (Jvm.Cond.methodLink "BlueBagLaw" (113 : Nat) ({ cls := "BlueBagModel", name := "coast", desc := "(I)I" } : Jvm.MethodName)) ∈ lw_all := lw_g (lw_at lw_m8 100 rfl) rfl
theorem q2029 : (Jvm.Cond.methodLink "BlueBagLaw" (121 : Nat) ({ cls := "BlueBagModel", name := "fault", desc := "()I" } : Jvm.MethodName)) ∈ lw_all := lw_g (lw_at lw_m8 237 rfl) rfl
theorem q2033 : (Jvm.Cond.methodLink "BlueBagLaw" (124 : Nat) ({ cls := "BlueBagModel", name := "count", desc := "(I)I" } : Jvm.MethodName)) ∈ lw_all := lw_g (lw_at lw_m9 1 rfl) rfl
theorem q2045 : (Jvm.Cond.methodLink "BlueBagLaw" (128 : Nat) ({ cls := "BlueBagModel", name := "cell", desc := "(II)I" } : Jvm.MethodName)) ∈ lw_all := lw_g (lw_at lw_m9 13 rfl) rfl
theorem q2081 : (Jvm.Cond.methodLink "BlueBagLaw" (131 : Nat) ({ cls := "BlueBagModel", name := "girl", desc := "(II)I" } : Jvm.MethodName)) ∈ lw_all := lw_g (lw_at lw_m9 49 rfl) rfl
theorem q2109 : (Jvm.Cond.methodLink "BlueBagLaw" (135 : Nat) ({ cls := "BlueBagModel", name := "days", desc := "(I)I" } : Jvm.MethodName)) ∈ lw_all := lw_g (lw_at lw_m9 77 rfl) rfl
theorem q2149 : (Jvm.Cond.methodLink "BlueBagLaw" (139 : Nat) ({ cls := "BlueBagModel", name := "rest", desc := "(IZ)Z" } : Jvm.MethodName)) ∈ lw_all := lw_g (lw_at lw_m9 117 rfl) rfl
theorem q2157 : (Jvm.Cond.methodLink "BlueBagLaw" (142 : Nat) ({ cls := "BlueBagModel", name := "go", desc := "(II)I" } : Jvm.MethodName)) ∈ lw_all := lw_g (lw_at lw_m9 125 rfl) rfl
theorem q2161 : (Jvm.Cond.methodLink "BlueBagLaw" (146 : Nat) ({ cls := "BlueBagModel", name := "bag", desc := "(I)I" } : Jvm.MethodName)) ∈ lw_all := lw_g (lw_at lw_m9 129 rfl) rfl
theorem q2166 : (Jvm.Cond.methodLink "BlueBagLaw" (149 : Nat) ({ cls := "BlueBagModel", name := "peg", desc := "(IZ)I" } : Jvm.MethodName)) ∈ lw_all := lw_g (lw_at lw_m9 134 rfl) rfl
theorem q2170 : (Jvm.Cond.methodLink "BlueBagLaw" (153 : Nat) ({ cls := "BlueBagModel", name := "undo", desc := "()I" } : Jvm.MethodName)) ∈ lw_all := lw_g (lw_at lw_m9 138 rfl) rfl
theorem q2178 : (Jvm.Cond.methodLink "BlueBagLaw" (156 : Nat) ({ cls := "BlueBagModel", name := "then", desc := "(II)I" } : Jvm.MethodName)) ∈ lw_all := lw_g (lw_at lw_m9 146 rfl) rfl
theorem q2183 : (Jvm.Cond.methodLink "BlueBagLaw" (159 : Nat) ({ cls := "BlueBagModel", name := "sky", desc := "(II)I" } : Jvm.MethodName)) ∈ lw_all := lw_g (lw_at lw_m9 151 rfl) rfl
theorem q2196 : (Jvm.Cond.methodLink "BlueBagLaw" (162 : Nat) ({ cls := "BlueBagModel", name := "overdone", desc := "(I)I" } : Jvm.MethodName)) ∈ lw_all := lw_g (lw_at lw_m9 164 rfl) rfl
theorem q2200 : (Jvm.Cond.methodLink "BlueBagLaw" (165 : Nat) ({ cls := "BlueBagModel", name := "first", desc := "(I)I" } : Jvm.MethodName)) ∈ lw_all := lw_g (lw_at lw_m9 168 rfl) rfl
theorem q2204 : (Jvm.Cond.methodLink "BlueBagLaw" (169 : Nat) ({ cls := "BlueBagModel", name := "spent", desc := "()I" } : Jvm.MethodName)) ∈ lw_all := lw_g (lw_at lw_m9 172 rfl) rfl
theorem q2208 : (Jvm.Cond.methodLink "BlueBagLaw" (197 : Nat) ({ cls := "BlueBagModel", name := "band", desc := "(I)I" } : Jvm.MethodName)) ∈ lw_all := lw_g (lw_at lw_m9 176 rfl) rfl
theorem q2212 : (Jvm.Cond.methodLink "BlueBagLaw" (201 : Nat) ({ cls := "BlueBagModel", name := "steady", desc := "()I" } : Jvm.MethodName)) ∈ lw_all := lw_g (lw_at lw_m9 180 rfl) rfl
theorem q2219 : (Jvm.Cond.methodLink "BlueBagLaw" (172 : Nat) ({ cls := "BlueBagModel", name := "streak", desc := "(I)I" } : Jvm.MethodName)) ∈ lw_all := lw_g (lw_at lw_m9 187 rfl) rfl
theorem q2227 : (Jvm.Cond.methodLink "BlueBagLaw" (175 : Nat) ({ cls := "BlueBagModel", name := "patch", desc := "(II)I" } : Jvm.MethodName)) ∈ lw_all := lw_g (lw_at lw_m9 195 rfl) rfl
theorem q2232 : (Jvm.Cond.methodLink "BlueBagLaw" (178 : Nat) ({ cls := "BlueBagModel", name := "patches", desc := "(I)I" } : Jvm.MethodName)) ∈ lw_all := lw_g (lw_at lw_m9 200 rfl) rfl
theorem q2236 : (Jvm.Cond.methodLink "BlueBagLaw" (181 : Nat) ({ cls := "BlueBagModel", name := "way", desc := "(II)I" } : Jvm.MethodName)) ∈ lw_all := lw_g (lw_at lw_m9 204 rfl) rfl
theorem q2240 : (Jvm.Cond.methodLink "BlueBagLaw" (185 : Nat) ({ cls := "BlueBagModel", name := "toRest", desc := "()I" } : Jvm.MethodName)) ∈ lw_all := lw_g (lw_at lw_m9 208 rfl) rfl
theorem q2248 : (Jvm.Cond.methodLink "BlueBagLaw" (188 : Nat) ({ cls := "BlueBagModel", name := "toStand", desc := "(II)I" } : Jvm.MethodName)) ∈ lw_all := lw_g (lw_at lw_m9 216 rfl) rfl
theorem q2252 : (Jvm.Cond.methodLink "BlueBagLaw" (191 : Nat) ({ cls := "BlueBagModel", name := "toSwish", desc := "(II)I" } : Jvm.MethodName)) ∈ lw_all := lw_g (lw_at lw_m9 220 rfl) rfl
theorem q2256 : (Jvm.Cond.methodLink "BlueBagLaw" (210 : Nat) ({ cls := "BlueBagModel", name := "missed", desc := "(I)I" } : Jvm.MethodName)) ∈ lw_all := lw_g (lw_at lw_m9 224 rfl) rfl
theorem q2260 : (Jvm.Cond.methodLink "BlueBagLaw" (204 : Nat) ({ cls := "BlueBagModel", name := "steps", desc := "(II)I" } : Jvm.MethodName)) ∈ lw_all := lw_g (lw_at lw_m9 228 rfl) rfl
theorem q2264 : (Jvm.Cond.methodLink "BlueBagLaw" (207 : Nat) ({ cls := "BlueBagModel", name := "nearest", desc := "(I)I" } : Jvm.MethodName)) ∈ lw_all := lw_g (lw_at lw_m9 232 rfl) rfl
theorem q2268 : (Jvm.Cond.methodLink "BlueBagLaw" (194 : Nat) ({ cls := "BlueBagModel", name := "sent", desc := "(II)I" } : Jvm.MethodName)) ∈ lw_all := lw_g (lw_at lw_m9 236 rfl) rfl
theorem q2280 : (Jvm.Cond.methodLink "BlueBagLaw" (214 : Nat) ({ cls := "BlueBagModel", name := "see", desc := "(III)I" } : Jvm.MethodName)) ∈ lw_all := lw_g (lw_at lw_m10 8 rfl) rfl
theorem q2284 : (Jvm.Cond.methodLink "BlueBagLaw" (217 : Nat) ({ cls := "BlueBagModel", name := "skilled", desc := "(I)I" } : Jvm.MethodName)) ∈ lw_all := lw_g (lw_at lw_m10 12 rfl) rfl
theorem q2297 : (Jvm.Cond.methodLink "BlueBagLaw" (220 : Nat) ({ cls := "BlueBagModel", name := "look", desc := "(I)I" } : Jvm.MethodName)) ∈ lw_all := lw_g (lw_at lw_m10 25 rfl) rfl
theorem q2305 : (Jvm.Cond.methodLink "BlueBagLaw" (224 : Nat) ({ cls := "BlueBagModel", name := "forget", desc := "()V" } : Jvm.MethodName)) ∈ lw_all := lw_g (lw_at lw_m10 33 rfl) rfl
theorem q2309 : (Jvm.Cond.methodLink "BlueBagLaw" (227 : Nat) ({ cls := "BlueBagModel", name := "game", desc := "(III)I" } : Jvm.MethodName)) ∈ lw_all := lw_g (lw_at lw_m10 37 rfl) rfl
theorem q2317 : (Jvm.Cond.methodLink "BlueBagLaw" (230 : Nat) ({ cls := "BlueBagModel", name := "skies", desc := "(III)I" } : Jvm.MethodName)) ∈ lw_all := lw_g (lw_at lw_m10 45 rfl) rfl
theorem q2330 : (Jvm.Cond.methodLink "BlueBagLaw" (234 : Nat) ({ cls := "BlueBagModel", name := "image", desc := "()V" } : Jvm.MethodName)) ∈ lw_all := lw_g (lw_at lw_m10 58 rfl) rfl
theorem q2334 : (Jvm.Cond.methodLink "BlueBagLaw" (239 : Nat) ({ cls := "BlueBagModel", name := "restore", desc := "()Z" } : Jvm.MethodName)) ∈ lw_all := lw_g (lw_at lw_m10 62 rfl) rfl
/-! BlueBag$Coast -/
set_option maxRecDepth 100000
def RX2 : String := "BlueBag$Coast"
def TX2 : u_T := fun k => match k with
  | 0 => ("BlueBag$Coast", "wide", "I", false)
  | 1 => ("BlueBag$Coast", "high", "I", false)
  | 2 => ("BlueBag$Coast", "knobs", "I", false)
  | 3 => ("BlueBag$Coast", "rinse", "I", false)
  | 4 => ("BlueBag$Coast", "bound", "I", false)
  | 5 => ("BlueBag$Coast", "pegs", "I", false)
  | 6 => ("BlueBag$Coast", "blue", "[I", true)
  | 7 => ("BlueBag$Coast", "girls", "Ljava/util/ArrayList;", true)
  | 8 => ("BlueBag$Coast", "dyes", "LBlueBag$Expr;", false)
  | 9 => ("BlueBag$Coast", "fades", "LBlueBag$Expr;", false)
  | _ => ("BlueBag$Coast", "view", "LBlueBag$View;", true)
def tyX2 : Nat → FieldType := fun k => match k with
  | 0 => .int
  | 1 => .int
  | 2 => .int
  | 3 => .int
  | 4 => .int
  | 5 => .int
  | 6 => .array .int
  | 7 => .object "java/util/ArrayList"
  | 8 => .object "BlueBag$Expr"
  | 9 => .object "BlueBag$Expr"
  | _ => .object "BlueBag$View"
abbrev wsX20 : List Cond := u_ws RX2 TX2 11
theorem nmX2 : ∀ a, a < 11 → ∀ b, b < 11 → a ≠ b → (TX2 a).2.1 ≠ (TX2 b).2.1 := by decide +kernel
theorem tyX2_ok : ∀ k, k < 11 → parseFieldDescriptor (TX2 k).2.2.1 = some (tyX2 k) := by decide +kernel
abbrev cX2_init : ByteArray := prog_4_method_1_code
def yX2_init : MethodName := ⟨RX2, "<init>", "()V"⟩
def dkwX2_init_2 : List UInt8 := [183, 0, 33, 181, 0, 36, 42, 187, 0, 40, 89, 183, 0, 42, 181, 0, 43, 177]
abbrev dktX2_init_2 : List UInt8 := dkwX2_init_2 ++ []
def dkwX2_init_1 : List UInt8 := [181, 0, 21, 42, 16, 60, 181, 0, 24, 42, 16, 30, 188, 10, 181, 0, 27, 42, 187, 0, 31, 89, 4]
abbrev dktX2_init_1 : List UInt8 := dkwX2_init_1 ++ dktX2_init_2
def dkwX2_init_0 : List UInt8 := [42, 183, 0, 3, 42, 6, 181, 0, 9, 42, 6, 181, 0, 15, 42, 16, 20, 181, 0, 18, 42, 5]
abbrev dktX2_init_0 : List UInt8 := dkwX2_init_0 ++ dktX2_init_1
theorem dksX2_init_0 : cX2_init.data.toList.drop 0 = dktX2_init_0 := by decide +kernel
theorem dksX2_init_1 : cX2_init.data.toList.drop 22 = dktX2_init_1 := dk_seg dksX2_init_0 22 rfl rfl
theorem dksX2_init_2 : cX2_init.data.toList.drop 45 = dktX2_init_2 := dk_seg dksX2_init_1 23 rfl rfl
theorem dX2_init_0 : decode cX2_init 0 = .ok (.aload_n 0, 1) := dk_42 (dk_at dksX2_init_0 0 rfl rfl)
theorem dX2_init_1 : decode cX2_init 1 = .ok (.invokespecial 3, 3) := dk_183 0 3 (dk_at dksX2_init_0 1 rfl rfl)
theorem dX2_init_4 : decode cX2_init 4 = .ok (.aload_n 0, 1) := dk_42 (dk_at dksX2_init_0 4 rfl rfl)
theorem dX2_init_5 : decode cX2_init 5 = .ok (.iconst 3, 1) := dk_6 (dk_at dksX2_init_0 5 rfl rfl)
theorem dX2_init_6 : decode cX2_init 6 = .ok (.putfield 9, 3) := dk_181 0 9 (dk_at dksX2_init_0 6 rfl rfl)
theorem dX2_init_9 : decode cX2_init 9 = .ok (.aload_n 0, 1) := dk_42 (dk_at dksX2_init_0 9 rfl rfl)
theorem dX2_init_10 : decode cX2_init 10 = .ok (.iconst 3, 1) := dk_6 (dk_at dksX2_init_0 10 rfl rfl)
theorem dX2_init_11 : decode cX2_init 11 = .ok (.putfield 15, 3) := dk_181 0 15 (dk_at dksX2_init_0 11 rfl rfl)
theorem dX2_init_14 : decode cX2_init 14 = .ok (.aload_n 0, 1) := dk_42 (dk_at dksX2_init_0 14 rfl rfl)
theorem dX2_init_15 : decode cX2_init 15 = .ok (.bipush 20, 2) := dk_16 20 (dk_at dksX2_init_0 15 rfl rfl)
theorem dX2_init_17 : decode cX2_init 17 = .ok (.putfield 18, 3) := dk_181 0 18 (dk_at dksX2_init_0 17 rfl rfl)
theorem dX2_init_20 : decode cX2_init 20 = .ok (.aload_n 0, 1) := dk_42 (dk_at dksX2_init_0 20 rfl rfl)
theorem dX2_init_21 : decode cX2_init 21 = .ok (.iconst 2, 1) := dk_5 (dk_at dksX2_init_0 21 rfl rfl)
theorem dX2_init_22 : decode cX2_init 22 = .ok (.putfield 21, 3) := dk_181 0 21 (dk_at dksX2_init_1 0 rfl rfl)
theorem dX2_init_25 : decode cX2_init 25 = .ok (.aload_n 0, 1) := dk_42 (dk_at dksX2_init_1 3 rfl rfl)
theorem dX2_init_26 : decode cX2_init 26 = .ok (.bipush 60, 2) := dk_16 60 (dk_at dksX2_init_1 4 rfl rfl)
theorem dX2_init_28 : decode cX2_init 28 = .ok (.putfield 24, 3) := dk_181 0 24 (dk_at dksX2_init_1 6 rfl rfl)
theorem dX2_init_31 : decode cX2_init 31 = .ok (.aload_n 0, 1) := dk_42 (dk_at dksX2_init_1 9 rfl rfl)
theorem dX2_init_32 : decode cX2_init 32 = .ok (.bipush 30, 2) := dk_16 30 (dk_at dksX2_init_1 10 rfl rfl)
theorem dX2_init_34 : decode cX2_init 34 = .ok (.newarray .int, 2) := dk_188_10 (dk_at dksX2_init_1 12 rfl rfl)
theorem dX2_init_36 : decode cX2_init 36 = .ok (.putfield 27, 3) := dk_181 0 27 (dk_at dksX2_init_1 14 rfl rfl)
theorem dX2_init_39 : decode cX2_init 39 = .ok (.aload_n 0, 1) := dk_42 (dk_at dksX2_init_1 17 rfl rfl)
theorem dX2_init_40 : decode cX2_init 40 = .ok (.new 31, 3) := dk_187 0 31 (dk_at dksX2_init_1 18 rfl rfl)
theorem dX2_init_43 : decode cX2_init 43 = .ok (.dup, 1) := dk_89 (dk_at dksX2_init_1 21 rfl rfl)
theorem dX2_init_44 : decode cX2_init 44 = .ok (.iconst 1, 1) := dk_4 (dk_at dksX2_init_1 22 rfl rfl)
theorem dX2_init_45 : decode cX2_init 45 = .ok (.invokespecial 33, 3) := dk_183 0 33 (dk_at dksX2_init_2 0 rfl rfl)
theorem dX2_init_48 : decode cX2_init 48 = .ok (.putfield 36, 3) := dk_181 0 36 (dk_at dksX2_init_2 3 rfl rfl)
theorem dX2_init_51 : decode cX2_init 51 = .ok (.aload_n 0, 1) := dk_42 (dk_at dksX2_init_2 6 rfl rfl)
theorem dX2_init_52 : decode cX2_init 52 = .ok (.new 40, 3) := dk_187 0 40 (dk_at dksX2_init_2 7 rfl rfl)
theorem dX2_init_55 : decode cX2_init 55 = .ok (.dup, 1) := dk_89 (dk_at dksX2_init_2 10 rfl rfl)
theorem dX2_init_56 : decode cX2_init 56 = .ok (.invokespecial 42, 3) := dk_183 0 42 (dk_at dksX2_init_2 11 rfl rfl)
theorem dX2_init_59 : decode cX2_init 59 = .ok (.putfield 43, 3) := dk_181 0 43 (dk_at dksX2_init_2 14 rfl rfl)
theorem dX2_init_62 : decode cX2_init 62 = .ok (.return_, 1) := dk_177 (dk_at dksX2_init_2 17 rfl rfl)
abbrev cX2_cells : ByteArray := prog_4_method_2_code
def yX2_cells : MethodName := ⟨RX2, "cells", "()I"⟩
def dkwX2_cells_0 : List UInt8 := [42, 180, 0, 9, 42, 180, 0, 15, 104, 172]
abbrev dktX2_cells_0 : List UInt8 := dkwX2_cells_0 ++ []
theorem dksX2_cells_0 : cX2_cells.data.toList.drop 0 = dktX2_cells_0 := by decide +kernel
theorem dX2_cells_0 : decode cX2_cells 0 = .ok (.aload_n 0, 1) := dk_42 (dk_at dksX2_cells_0 0 rfl rfl)
theorem dX2_cells_1 : decode cX2_cells 1 = .ok (.getfield 9, 3) := dk_180 0 9 (dk_at dksX2_cells_0 1 rfl rfl)
theorem dX2_cells_4 : decode cX2_cells 4 = .ok (.aload_n 0, 1) := dk_42 (dk_at dksX2_cells_0 4 rfl rfl)
theorem dX2_cells_5 : decode cX2_cells 5 = .ok (.getfield 15, 3) := dk_180 0 15 (dk_at dksX2_cells_0 5 rfl rfl)
theorem dX2_cells_8 : decode cX2_cells 8 = .ok (.imul, 1) := dk_104 (dk_at dksX2_cells_0 8 rfl rfl)
theorem dX2_cells_9 : decode cX2_cells 9 = .ok (.ireturn, 1) := dk_172 (dk_at dksX2_cells_0 9 rfl rfl)
abbrev cX2_steps : ByteArray := prog_4_method_3_code
def yX2_steps : MethodName := ⟨RX2, "steps", "(II)I"⟩
def dkwX2_steps_1 : List UInt8 := [180, 0, 9, 108, 100, 184, 0, 47, 96, 172]
abbrev dktX2_steps_1 : List UInt8 := dkwX2_steps_1 ++ []
def dkwX2_steps_0 : List UInt8 := [27, 42, 180, 0, 9, 112, 28, 42, 180, 0, 9, 112, 100, 184, 0, 47, 27, 42, 180, 0, 9, 108, 28, 42]
abbrev dktX2_steps_0 : List UInt8 := dkwX2_steps_0 ++ dktX2_steps_1
theorem dksX2_steps_0 : cX2_steps.data.toList.drop 0 = dktX2_steps_0 := by decide +kernel
theorem dksX2_steps_1 : cX2_steps.data.toList.drop 24 = dktX2_steps_1 := dk_seg dksX2_steps_0 24 rfl rfl
theorem dX2_steps_0 : decode cX2_steps 0 = .ok (.iload_n 1, 1) := dk_27 (dk_at dksX2_steps_0 0 rfl rfl)
theorem dX2_steps_1 : decode cX2_steps 1 = .ok (.aload_n 0, 1) := dk_42 (dk_at dksX2_steps_0 1 rfl rfl)
theorem dX2_steps_2 : decode cX2_steps 2 = .ok (.getfield 9, 3) := dk_180 0 9 (dk_at dksX2_steps_0 2 rfl rfl)
theorem dX2_steps_5 : decode cX2_steps 5 = .ok (.irem, 1) := dk_112 (dk_at dksX2_steps_0 5 rfl rfl)
theorem dX2_steps_6 : decode cX2_steps 6 = .ok (.iload_n 2, 1) := dk_28 (dk_at dksX2_steps_0 6 rfl rfl)
theorem dX2_steps_7 : decode cX2_steps 7 = .ok (.aload_n 0, 1) := dk_42 (dk_at dksX2_steps_0 7 rfl rfl)
theorem dX2_steps_8 : decode cX2_steps 8 = .ok (.getfield 9, 3) := dk_180 0 9 (dk_at dksX2_steps_0 8 rfl rfl)
theorem dX2_steps_11 : decode cX2_steps 11 = .ok (.irem, 1) := dk_112 (dk_at dksX2_steps_0 11 rfl rfl)
theorem dX2_steps_12 : decode cX2_steps 12 = .ok (.isub, 1) := dk_100 (dk_at dksX2_steps_0 12 rfl rfl)
theorem dX2_steps_13 : decode cX2_steps 13 = .ok (.invokestatic 47, 3) := dk_184 0 47 (dk_at dksX2_steps_0 13 rfl rfl)
theorem dX2_steps_16 : decode cX2_steps 16 = .ok (.iload_n 1, 1) := dk_27 (dk_at dksX2_steps_0 16 rfl rfl)
theorem dX2_steps_17 : decode cX2_steps 17 = .ok (.aload_n 0, 1) := dk_42 (dk_at dksX2_steps_0 17 rfl rfl)
theorem dX2_steps_18 : decode cX2_steps 18 = .ok (.getfield 9, 3) := dk_180 0 9 (dk_at dksX2_steps_0 18 rfl rfl)
theorem dX2_steps_21 : decode cX2_steps 21 = .ok (.idiv, 1) := dk_108 (dk_at dksX2_steps_0 21 rfl rfl)
theorem dX2_steps_22 : decode cX2_steps 22 = .ok (.iload_n 2, 1) := dk_28 (dk_at dksX2_steps_0 22 rfl rfl)
theorem dX2_steps_23 : decode cX2_steps 23 = .ok (.aload_n 0, 1) := dk_42 (dk_at dksX2_steps_0 23 rfl rfl)
theorem dX2_steps_24 : decode cX2_steps 24 = .ok (.getfield 9, 3) := dk_180 0 9 (dk_at dksX2_steps_1 0 rfl rfl)
theorem dX2_steps_27 : decode cX2_steps 27 = .ok (.idiv, 1) := dk_108 (dk_at dksX2_steps_1 3 rfl rfl)
theorem dX2_steps_28 : decode cX2_steps 28 = .ok (.isub, 1) := dk_100 (dk_at dksX2_steps_1 4 rfl rfl)
theorem dX2_steps_29 : decode cX2_steps 29 = .ok (.invokestatic 47, 3) := dk_184 0 47 (dk_at dksX2_steps_1 5 rfl rfl)
theorem dX2_steps_32 : decode cX2_steps 32 = .ok (.iadd, 1) := dk_96 (dk_at dksX2_steps_1 8 rfl rfl)
theorem dX2_steps_33 : decode cX2_steps 33 = .ok (.ireturn, 1) := dk_172 (dk_at dksX2_steps_1 9 rfl rfl)
theorem q114 : (Jvm.Cond.initialized "BlueBag$Coast") ∈ lw_all := lw_g (lw_at lw_m1 2 rfl) rfl
theorem q161 : (Jvm.Cond.instantiable "BlueBag$Coast" (11 : Nat)) ∈ lw_all := lw_g (lw_at lw_m1 49 rfl) rfl
theorem q163 : (Jvm.Cond.instanceMethod ({ cls := "BlueBag$Coast", name := "<init>", desc := "()V" } : Jvm.MethodName)) ∈ lw_all := lw_g (lw_at lw_m1 51 rfl) rfl
theorem q164 : (Jvm.Cond.code ({ cls := "BlueBag$Coast", name := "<init>", desc := "()V" } : Jvm.MethodName) prog_4_method_1_code (1 : Nat) (Option.none : Option Jvm.ClassFile.FieldType)) ∈ lw_all := lw_g (lw_at lw_m1 52 rfl) rfl
theorem q165 : (Jvm.Cond.methodLink "BlueBag$Coast" (3 : Nat) ({ cls := "java/lang/Object", name := "<init>", desc := "()V" } : Jvm.MethodName)) ∈ lw_all := lw_g (lw_at lw_m1 53 rfl) rfl
theorem q166 : (Jvm.Cond.classLink "BlueBag$Coast" (31 : Nat) "java/util/ArrayList") ∈ lw_all := lw_g (lw_at lw_m1 54 rfl) rfl
theorem q168 : (Jvm.Cond.methodLink "BlueBag$Coast" (33 : Nat) ({ cls := "java/util/ArrayList", name := "<init>", desc := "(I)V" } : Jvm.MethodName)) ∈ lw_all := lw_g (lw_at lw_m1 56 rfl) rfl
theorem q507 : (Jvm.Cond.classLink "BlueBag$Coast" (40 : Nat) "BlueBag$View") ∈ lw_all := lw_g (lw_at lw_m2 155 rfl) rfl
theorem q509 : (Jvm.Cond.methodLinkNest "BlueBag$Coast" (42 : Nat) ({ cls := "BlueBag$View", name := "<init>", desc := "()V" } : Jvm.MethodName) "BlueBag") ∈ lw_tbl := lw_at lw_m2 157 rfl
theorem q529 : (Jvm.Cond.fieldLink "BlueBag$Coast" (9 : Nat) "BlueBag$Coast" "wide" "I") ∈ lw_all := lw_g (lw_at lw_m2 177 rfl) rfl
theorem q534 : (Jvm.Cond.fieldLink "BlueBag$Coast" (15 : Nat) "BlueBag$Coast" "high" "I") ∈ lw_all := lw_g (lw_at lw_m2 182 rfl) rfl
theorem q537 : (Jvm.Cond.fieldLink "BlueBag$Coast" (18 : Nat) "BlueBag$Coast" "knobs" "I") ∈ lw_all := lw_g (lw_at lw_m2 185 rfl) rfl
theorem q540 : (Jvm.Cond.fieldLink "BlueBag$Coast" (21 : Nat) "BlueBag$Coast" "rinse" "I") ∈ lw_all := lw_g (lw_at lw_m2 188 rfl) rfl
theorem q544 : (Jvm.Cond.fieldLink "BlueBag$Coast" (24 : Nat) "BlueBag$Coast" "bound" "I") ∈ lw_all := lw_g (lw_at lw_m2 192 rfl) rfl
theorem q550 : (Jvm.Cond.fieldLink "BlueBag$Coast" (27 : Nat) "BlueBag$Coast" "blue" "[I") ∈ lw_all := lw_g (lw_at lw_m2 198 rfl) rfl
theorem q553 : (Jvm.Cond.fieldLink "BlueBag$Coast" (36 : Nat) "BlueBag$Coast" "girls" "Ljava/util/ArrayList;") ∈ lw_all := lw_g (lw_at lw_m2 201 rfl) rfl
theorem q561 : (Jvm.Cond.fieldLink "BlueBag$Coast" (43 : Nat) "BlueBag$Coast" "view" "LBlueBag$View;") ∈ lw_all := lw_g (lw_at lw_m2 209 rfl) rfl
theorem q563 : (Jvm.Cond.lays "BlueBag$Coast" "BlueBag$Coast" "wide" "I") ∈ lw_all := lw_g (lw_at lw_m2 211 rfl) rfl
theorem q564 : (Jvm.Cond.soleField "BlueBag$Coast" "wide") ∈ lw_all := lw_g (lw_at lw_m2 212 rfl) rfl
theorem q565 : (Jvm.Cond.lays "BlueBag$Coast" "BlueBag$Coast" "high" "I") ∈ lw_all := lw_g (lw_at lw_m2 213 rfl) rfl
theorem q566 : (Jvm.Cond.soleField "BlueBag$Coast" "high") ∈ lw_all := lw_g (lw_at lw_m2 214 rfl) rfl
theorem q567 : (Jvm.Cond.lays "BlueBag$Coast" "BlueBag$Coast" "knobs" "I") ∈ lw_all := lw_g (lw_at lw_m2 215 rfl) rfl
theorem q568 : (Jvm.Cond.soleField "BlueBag$Coast" "knobs") ∈ lw_all := lw_g (lw_at lw_m2 216 rfl) rfl
theorem q569 : (Jvm.Cond.lays "BlueBag$Coast" "BlueBag$Coast" "rinse" "I") ∈ lw_all := lw_g (lw_at lw_m2 217 rfl) rfl
theorem q570 : (Jvm.Cond.soleField "BlueBag$Coast" "rinse") ∈ lw_all := lw_g (lw_at lw_m2 218 rfl) rfl
theorem q571 : (Jvm.Cond.lays "BlueBag$Coast" "BlueBag$Coast" "bound" "I") ∈ lw_all := lw_g (lw_at lw_m2 219 rfl) rfl
theorem q572 : (Jvm.Cond.soleField "BlueBag$Coast" "bound") ∈ lw_all := lw_g (lw_at lw_m2 220 rfl) rfl
theorem q573 : (Jvm.Cond.lays "BlueBag$Coast" "BlueBag$Coast" "pegs" "I") ∈ lw_all := lw_g (lw_at lw_m2 221 rfl) rfl
theorem q574 : (Jvm.Cond.soleField "BlueBag$Coast" "pegs") ∈ lw_all := lw_g (lw_at lw_m2 222 rfl) rfl
theorem q575 : (Jvm.Cond.laysFinal "BlueBag$Coast" "BlueBag$Coast" "blue" "[I") ∈ lw_all := lw_g (lw_at lw_m2 223 rfl) rfl
theorem q576 : (Jvm.Cond.soleField "BlueBag$Coast" "blue") ∈ lw_all := lw_g (lw_at lw_m2 224 rfl) rfl
theorem q577 : (Jvm.Cond.laysFinal "BlueBag$Coast" "BlueBag$Coast" "girls" "Ljava/util/ArrayList;") ∈ lw_all := lw_g (lw_at lw_m2 225 rfl) rfl
theorem q578 : (Jvm.Cond.soleField "BlueBag$Coast" "girls") ∈ lw_all := lw_g (lw_at lw_m2 226 rfl) rfl
theorem q579 : (Jvm.Cond.lays "BlueBag$Coast" "BlueBag$Coast" "dyes" "LBlueBag$Expr;") ∈ lw_all := lw_g (lw_at lw_m2 227 rfl) rfl
theorem q580 : (Jvm.Cond.soleField "BlueBag$Coast" "dyes") ∈ lw_all := lw_g (lw_at lw_m2 228 rfl) rfl
theorem q581 : (Jvm.Cond.lays "BlueBag$Coast" "BlueBag$Coast" "fades" "LBlueBag$Expr;") ∈ lw_all := lw_g (lw_at lw_m2 229 rfl) rfl
theorem q582 : (Jvm.Cond.soleField "BlueBag$Coast" "fades") ∈ lw_all := lw_g (lw_at lw_m2 230 rfl) rfl
theorem q583 : (Jvm.Cond.laysFinal "BlueBag$Coast" "BlueBag$Coast" "view" "LBlueBag$View;") ∈ lw_all := lw_g (lw_at lw_m2 231 rfl) rfl
theorem q584 : (Jvm.Cond.soleField "BlueBag$Coast" "view") ∈ lw_all := lw_g (lw_at lw_m2 232 rfl) rfl
theorem q585 : (Jvm.Cond.superclass "BlueBag$Coast" "java/lang/Object") ∈ lw_all := lw_g (lw_at lw_m2 233 rfl) rfl
theorem q668 : (Jvm.Cond.selects "BlueBag$Coast" ({ cls := "java/lang/Object", name := "getClass", desc := "()Ljava/lang/Class;" } : Jvm.MethodName) ({ cls := "java/lang/Object", name := "getClass", desc := "()Ljava/lang/Class;" } : Jvm.MethodName)) ∈ lw_all := lw_g (lw_at lw_m3 76 rfl) rfl
theorem q865 : (Jvm.Cond.instanceMethod ({ cls := "BlueBag$Coast", name := "cells", desc := "()I" } : Jvm.MethodName)) ∈ lw_all := lw_g (lw_at lw_m4 33 rfl) rfl
theorem q866 : (Jvm.Cond.selects "BlueBag$Coast" ({ cls := "BlueBag$Coast", name := "cells", desc := "()I" } : Jvm.MethodName) ({ cls := "BlueBag$Coast", name := "cells", desc := "()I" } : Jvm.MethodName)) ∈ lw_all := lw_g (lw_at lw_m4 34 rfl) rfl
theorem q867 : (Jvm.Cond.code ({ cls := "BlueBag$Coast", name := "cells", desc := "()I" } : Jvm.MethodName) prog_4_method_2_code (1 : Nat) (Option.some Jvm.ClassFile.FieldType.int)) ∈ lw_all := lw_g (lw_at lw_m4 35 rfl) rfl
theorem q869 : (Jvm.Cond.instanceMethod ({ cls := "BlueBag$Coast", name := "steps", desc := "(II)I" } : Jvm.MethodName)) ∈ lw_all := lw_g (lw_at lw_m4 37 rfl) rfl
theorem q870 : (Jvm.Cond.selects "BlueBag$Coast" ({ cls := "BlueBag$Coast", name := "steps", desc := "(II)I" } : Jvm.MethodName) ({ cls := "BlueBag$Coast", name := "steps", desc := "(II)I" } : Jvm.MethodName)) ∈ lw_all := lw_g (lw_at lw_m4 38 rfl) rfl
theorem q871 : (Jvm.Cond.code ({ cls := "BlueBag$Coast", name := "steps", desc := "(II)I" } : Jvm.MethodName) prog_4_method_3_code (3 : Nat) (Option.some Jvm.ClassFile.FieldType.int)) ∈ lw_all := lw_g (lw_at lw_m4 39 rfl) rfl
theorem q872 : (Jvm.Cond.methodLink "BlueBag$Coast" (47 : Nat) ({ cls := "java/lang/Math", name := "abs", desc := "(I)I" } : Jvm.MethodName)) ∈ lw_all := lw_g (lw_at lw_m4 40 rfl) rfl
theorem q2355 : (Jvm.Cond.castable "BlueBag$Coast" "java/lang/Object") ∈ lw_tbl := lw_at lw_m10 83 rfl
theorem in_X2 : ∀ w ∈ wsX20, w ∈ lw_all := lw_in wsX20 [563, 565, 567, 569, 571, 573, 575, 577, 579, 581, 583] (by decide +kernel) (by decide +kernel)
/-! BlueBag$View -/
set_option maxRecDepth 100000
def RX3 : String := "BlueBag$View"
def TX3 : u_T := fun k => match k with
  | _ => ("BlueBag$View", "of", "[I", true)
def tyX3 : Nat → FieldType := fun k => match k with
  | _ => .array .int
abbrev wsX30 : List Cond := u_ws RX3 TX3 1
theorem nmX3 : ∀ a, a < 1 → ∀ b, b < 1 → a ≠ b → (TX3 a).2.1 ≠ (TX3 b).2.1 := by decide +kernel
theorem tyX3_ok : ∀ k, k < 1 → parseFieldDescriptor (TX3 k).2.2.1 = some (tyX3 k) := by decide +kernel
abbrev cX3_init : ByteArray := prog_16_method_1_code
def yX3_init : MethodName := ⟨RX3, "<init>", "()V"⟩
def dkwX3_init_0 : List UInt8 := [42, 183, 0, 1, 42, 184, 0, 7, 190, 188, 10, 181, 0, 13, 177]
abbrev dktX3_init_0 : List UInt8 := dkwX3_init_0 ++ []
theorem dksX3_init_0 : cX3_init.data.toList.drop 0 = dktX3_init_0 := by decide +kernel
theorem dX3_init_0 : decode cX3_init 0 = .ok (.aload_n 0, 1) := dk_42 (dk_at dksX3_init_0 0 rfl rfl)
theorem dX3_init_1 : decode cX3_init 1 = .ok (.invokespecial 1, 3) := dk_183 0 1 (dk_at dksX3_init_0 1 rfl rfl)
theorem dX3_init_4 : decode cX3_init 4 = .ok (.aload_n 0, 1) := dk_42 (dk_at dksX3_init_0 4 rfl rfl)
theorem dX3_init_5 : decode cX3_init 5 = .ok (.invokestatic 7, 3) := dk_184 0 7 (dk_at dksX3_init_0 5 rfl rfl)
theorem dX3_init_8 : decode cX3_init 8 = .ok (.arraylength, 1) := dk_190 (dk_at dksX3_init_0 8 rfl rfl)
theorem dX3_init_9 : decode cX3_init 9 = .ok (.newarray .int, 2) := dk_188_10 (dk_at dksX3_init_0 9 rfl rfl)
theorem dX3_init_11 : decode cX3_init 11 = .ok (.putfield 13, 3) := dk_181 0 13 (dk_at dksX3_init_0 11 rfl rfl)
theorem dX3_init_14 : decode cX3_init 14 = .ok (.return_, 1) := dk_177 (dk_at dksX3_init_0 14 rfl rfl)
abbrev cX3_sees : ByteArray := prog_16_method_2_code
def yX3_sees : MethodName := ⟨RX3, "sees", "(LBlueBag$Value;I)V"⟩
def dkwX3_sees_0 : List UInt8 := [42, 180, 0, 13, 43, 182, 0, 19, 28, 79, 177]
abbrev dktX3_sees_0 : List UInt8 := dkwX3_sees_0 ++ []
theorem dksX3_sees_0 : cX3_sees.data.toList.drop 0 = dktX3_sees_0 := by decide +kernel
theorem dX3_sees_0 : decode cX3_sees 0 = .ok (.aload_n 0, 1) := dk_42 (dk_at dksX3_sees_0 0 rfl rfl)
theorem dX3_sees_1 : decode cX3_sees 1 = .ok (.getfield 13, 3) := dk_180 0 13 (dk_at dksX3_sees_0 1 rfl rfl)
theorem dX3_sees_4 : decode cX3_sees 4 = .ok (.aload_n 1, 1) := dk_43 (dk_at dksX3_sees_0 4 rfl rfl)
theorem dX3_sees_5 : decode cX3_sees 5 = .ok (.invokevirtual 19, 3) := dk_182 0 19 (dk_at dksX3_sees_0 5 rfl rfl)
theorem dX3_sees_8 : decode cX3_sees 8 = .ok (.iload_n 2, 1) := dk_28 (dk_at dksX3_sees_0 8 rfl rfl)
theorem dX3_sees_9 : decode cX3_sees 9 = .ok (.iastore, 1) := dk_79 (dk_at dksX3_sees_0 9 rfl rfl)
theorem dX3_sees_10 : decode cX3_sees 10 = .ok (.return_, 1) := dk_177 (dk_at dksX3_sees_0 10 rfl rfl)
theorem q134 : (Jvm.Cond.initialized "BlueBag$View") ∈ lw_all := lw_g (lw_at lw_m1 22 rfl) rfl
theorem q508 : (Jvm.Cond.instantiable "BlueBag$View" (1 : Nat)) ∈ lw_all := lw_g (lw_at lw_m2 156 rfl) rfl
theorem q510 : (Jvm.Cond.instanceMethod ({ cls := "BlueBag$View", name := "<init>", desc := "()V" } : Jvm.MethodName)) ∈ lw_all := lw_g (lw_at lw_m2 158 rfl) rfl
theorem q511 : (Jvm.Cond.code ({ cls := "BlueBag$View", name := "<init>", desc := "()V" } : Jvm.MethodName) prog_16_method_1_code (1 : Nat) (Option.none : Option Jvm.ClassFile.FieldType)) ∈ lw_all := lw_g (lw_at lw_m2 159 rfl) rfl
theorem q512 : (Jvm.Cond.methodLink "BlueBag$View" (1 : Nat) ({ cls := "java/lang/Object", name := "<init>", desc := "()V" } : Jvm.MethodName)) ∈ lw_all := lw_g (lw_at lw_m2 160 rfl) rfl
theorem q513 : (Jvm.Cond.methodLink "BlueBag$View" (7 : Nat) ({ cls := "BlueBag$Value", name := "values", desc := "()[LBlueBag$Value;" } : Jvm.MethodName)) ∈ lw_all := lw_g (lw_at lw_m2 161 rfl) rfl
theorem q524 : (Jvm.Cond.fieldLink "BlueBag$View" (13 : Nat) "BlueBag$View" "of" "[I") ∈ lw_all := lw_g (lw_at lw_m2 172 rfl) rfl
theorem q526 : (Jvm.Cond.laysFinal "BlueBag$View" "BlueBag$View" "of" "[I") ∈ lw_all := lw_g (lw_at lw_m2 174 rfl) rfl
theorem q527 : (Jvm.Cond.soleField "BlueBag$View" "of") ∈ lw_all := lw_g (lw_at lw_m2 175 rfl) rfl
theorem q528 : (Jvm.Cond.superclass "BlueBag$View" "java/lang/Object") ∈ lw_all := lw_g (lw_at lw_m2 176 rfl) rfl
theorem q679 : (Jvm.Cond.selects "BlueBag$View" ({ cls := "java/lang/Object", name := "getClass", desc := "()Ljava/lang/Class;" } : Jvm.MethodName) ({ cls := "java/lang/Object", name := "getClass", desc := "()Ljava/lang/Class;" } : Jvm.MethodName)) ∈ lw_all := lw_g (lw_at lw_m3 87 rfl) rfl
theorem q878 : (Jvm.Cond.instanceMethod ({ cls := "BlueBag$View", name := "sees", desc := "(LBlueBag$Value;I)V" } : Jvm.MethodName)) ∈ lw_all := lw_g (lw_at lw_m4 46 rfl) rfl
theorem q879 : (Jvm.Cond.selects "BlueBag$View" ({ cls := "BlueBag$View", name := "sees", desc := "(LBlueBag$Value;I)V" } : Jvm.MethodName) ({ cls := "BlueBag$View", name := "sees", desc := "(LBlueBag$Value;I)V" } : Jvm.MethodName)) ∈ lw_all := lw_g (lw_at lw_m4 47 rfl) rfl
theorem q880 : (Jvm.Cond.code ({ cls := "BlueBag$View", name := "sees", desc := "(LBlueBag$Value;I)V" } : Jvm.MethodName) prog_16_method_2_code (3 : Nat) (Option.none : Option Jvm.ClassFile.FieldType)) ∈ lw_all := lw_g (lw_at lw_m4 48 rfl) rfl
theorem q881 : (Jvm.Cond.methodLink "BlueBag$View" (19 : Nat) ({ cls := "BlueBag$Value", name := "ordinal", desc := "()I" } : Jvm.MethodName)) ∈ lw_all := lw_g (lw_at lw_m4 49 rfl) rfl
theorem q2359 : (Jvm.Cond.castable "BlueBag$View" "java/lang/Object") ∈ lw_tbl := lw_at lw_m10 87 rfl
theorem in_X3 : ∀ w ∈ wsX30, w ∈ lw_all := lw_in wsX30 [526] (by decide +kernel) (by decide +kernel)
/-! BlueBag$Value -/
set_option maxRecDepth 100000
def RX4 : String := "BlueBag$Value"
abbrev cX4_values : ByteArray := prog_15_method_1_code
def yX4_values : MethodName := ⟨RX4, "values", "()[LBlueBag$Value;"⟩
def dkwX4_values_0 : List UInt8 := [178, 0, 22, 182, 0, 26, 192, 0, 27, 176]
abbrev dktX4_values_0 : List UInt8 := dkwX4_values_0 ++ []
theorem dksX4_values_0 : cX4_values.data.toList.drop 0 = dktX4_values_0 := by decide +kernel
theorem dX4_values_0 : decode cX4_values 0 = .ok (.getstatic 22, 3) := dk_178 0 22 (dk_at dksX4_values_0 0 rfl rfl)
theorem dX4_values_3 : decode cX4_values 3 = .ok (.invokevirtual 26, 3) := dk_182 0 26 (dk_at dksX4_values_0 3 rfl rfl)
theorem dX4_values_6 : decode cX4_values 6 = .ok (.checkcast 27, 3) := dk_192 0 27 (dk_at dksX4_values_0 6 rfl rfl)
theorem dX4_values_9 : decode cX4_values 9 = .ok (.areturn, 1) := dk_176 (dk_at dksX4_values_0 9 rfl rfl)
theorem q136 : (Jvm.Cond.initialized "BlueBag$Value") ∈ lw_all := lw_g (lw_at lw_m1 24 rfl) rfl
theorem q514 : (Jvm.Cond.static ({ cls := "BlueBag$Value", name := "values", desc := "()[LBlueBag$Value;" } : Jvm.MethodName)) ∈ lw_all := lw_g (lw_at lw_m2 162 rfl) rfl
theorem q515 : (Jvm.Cond.code ({ cls := "BlueBag$Value", name := "values", desc := "()[LBlueBag$Value;" } : Jvm.MethodName) prog_15_method_1_code (0 : Nat) (Option.some (Jvm.ClassFile.FieldType.array (Jvm.ClassFile.FieldType.object "BlueBag$Value")))) ∈ lw_all := lw_g (lw_at lw_m2 163 rfl) rfl
theorem q516 : (Jvm.Cond.fieldLink "BlueBag$Value" (22 : Nat) "BlueBag$Value" "$VALUES" "[LBlueBag$Value;") ∈ lw_all := lw_g (lw_at lw_m2 164 rfl) rfl
theorem q517 : (Jvm.Cond.laysStatic "BlueBag$Value" "$VALUES" "[LBlueBag$Value;") ∈ lw_tbl := lw_at lw_m2 165 rfl
theorem q518 : (Jvm.Cond.methodLink "BlueBag$Value" (26 : Nat) ({ cls := "[LBlueBag$Value;", name := "clone", desc := "()Ljava/lang/Object;" } : Jvm.MethodName)) ∈ lw_all := lw_g (lw_at lw_m2 166 rfl) rfl
theorem q523 : (Jvm.Cond.classLink "BlueBag$Value" (27 : Nat) "[LBlueBag$Value;") ∈ lw_all := lw_g (lw_at lw_m2 171 rfl) rfl
theorem q678 : (Jvm.Cond.selects "BlueBag$Value" ({ cls := "java/lang/Object", name := "getClass", desc := "()Ljava/lang/Class;" } : Jvm.MethodName) ({ cls := "java/lang/Object", name := "getClass", desc := "()Ljava/lang/Class;" } : Jvm.MethodName)) ∈ lw_all := lw_g (lw_at lw_m3 86 rfl) rfl
theorem q876 : (Jvm.Cond.laysStatic "BlueBag$Value" "BLUE" "LBlueBag$Value;") ∈ lw_tbl := lw_at lw_m4 44 rfl
theorem q882 : (Jvm.Cond.sameMethod "BlueBag$Value" "java/lang/Enum" "ordinal" "()I") ∈ lw_all := lw_g (lw_at lw_m4 50 rfl) rfl
theorem q884 : (Jvm.Cond.selects "BlueBag$Value" ({ cls := "BlueBag$Value", name := "ordinal", desc := "()I" } : Jvm.MethodName) ({ cls := "java/lang/Enum", name := "ordinal", desc := "()I" } : Jvm.MethodName)) ∈ lw_all := lw_g (lw_at lw_m4 52 rfl) rfl
theorem q888 : (Jvm.Cond.laysStatic "BlueBag$Value" "BESIDE" "LBlueBag$Value;") ∈ lw_tbl := lw_at lw_m4 56 rfl
theorem q890 : (Jvm.Cond.laysStatic "BlueBag$Value" "ROW" "LBlueBag$Value;") ∈ lw_tbl := lw_at lw_m4 58 rfl
theorem q892 : (Jvm.Cond.laysStatic "BlueBag$Value" "DAY" "LBlueBag$Value;") ∈ lw_tbl := lw_at lw_m4 60 rfl
theorem q894 : (Jvm.Cond.laysStatic "BlueBag$Value" "SKILL" "LBlueBag$Value;") ∈ lw_tbl := lw_at lw_m4 62 rfl
theorem q896 : (Jvm.Cond.laysStatic "BlueBag$Value" "LEFT" "LBlueBag$Value;") ∈ lw_tbl := lw_at lw_m4 64 rfl
theorem q2352 : (Jvm.Cond.castable "BlueBag$Value" "java/lang/Object") ∈ lw_tbl := lw_at lw_m10 80 rfl
/-! BlueBag$Book -/
set_option maxRecDepth 100000
def RX5 : String := "BlueBag$Book"
def TX5 : u_T := fun k => match k with
  | 0 => ("BlueBag$Book", "now", "LBlueBag$State;", true)
  | 1 => ("BlueBag$Book", "ahead", "Ljava/util/ArrayList;", true)
  | 2 => ("BlueBag$Book", "cell", "[I", true)
  | 3 => ("BlueBag$Book", "when", "[I", true)
  | 4 => ("BlueBag$Book", "blue", "[I", true)
  | 5 => ("BlueBag$Book", "refused", "[I", true)
  | 6 => ("BlueBag$Book", "acts", "I", false)
  | _ => ("BlueBag$Book", "many", "I", false)
def tyX5 : Nat → FieldType := fun k => match k with
  | 0 => .object "BlueBag$State"
  | 1 => .object "java/util/ArrayList"
  | 2 => .array .int
  | 3 => .array .int
  | 4 => .array .int
  | 5 => .array .int
  | 6 => .int
  | _ => .int
abbrev wsX50 : List Cond := u_ws RX5 TX5 8
theorem nmX5 : ∀ a, a < 8 → ∀ b, b < 8 → a ≠ b → (TX5 a).2.1 ≠ (TX5 b).2.1 := by decide +kernel
theorem tyX5_ok : ∀ k, k < 8 → parseFieldDescriptor (TX5 k).2.2.1 = some (tyX5 k) := by decide +kernel
abbrev cX5_init : ByteArray := prog_2_method_1_code
def yX5_init : MethodName := ⟨RX5, "<init>", "()V"⟩
def dkwX5_init_3 : List UInt8 := [180, 0, 23, 187, 0, 9, 89, 183, 0, 11, 182, 0, 40, 87, 132, 1, 1, 167, 255, 232, 177]
abbrev dktX5_init_3 : List UInt8 := dkwX5_init_3 ++ []
def dkwX5_init_2 : List UInt8 := [16, 8, 188, 10, 181, 0, 34, 42, 6, 188, 10, 181, 0, 37, 3, 60, 27, 16, 40, 162, 0, 24, 42]
abbrev dktX5_init_2 : List UInt8 := dkwX5_init_2 ++ dktX5_init_3
def dkwX5_init_1 : List UInt8 := [183, 0, 20, 181, 0, 23, 42, 16, 8, 188, 10, 181, 0, 27, 42, 16, 8, 188, 10, 181, 0, 31, 42]
abbrev dktX5_init_1 : List UInt8 := dkwX5_init_1 ++ dktX5_init_2
def dkwX5_init_0 : List UInt8 := [42, 183, 0, 3, 42, 187, 0, 9, 89, 183, 0, 11, 181, 0, 12, 42, 187, 0, 18, 89, 16, 40]
abbrev dktX5_init_0 : List UInt8 := dkwX5_init_0 ++ dktX5_init_1
theorem dksX5_init_0 : cX5_init.data.toList.drop 0 = dktX5_init_0 := by decide +kernel
theorem dksX5_init_1 : cX5_init.data.toList.drop 22 = dktX5_init_1 := dk_seg dksX5_init_0 22 rfl rfl
theorem dksX5_init_2 : cX5_init.data.toList.drop 45 = dktX5_init_2 := dk_seg dksX5_init_1 23 rfl rfl
theorem dksX5_init_3 : cX5_init.data.toList.drop 68 = dktX5_init_3 := dk_seg dksX5_init_2 23 rfl rfl
theorem dX5_init_0 : decode cX5_init 0 = .ok (.aload_n 0, 1) := dk_42 (dk_at dksX5_init_0 0 rfl rfl)
theorem dX5_init_1 : decode cX5_init 1 = .ok (.invokespecial 3, 3) := dk_183 0 3 (dk_at dksX5_init_0 1 rfl rfl)
theorem dX5_init_4 : decode cX5_init 4 = .ok (.aload_n 0, 1) := dk_42 (dk_at dksX5_init_0 4 rfl rfl)
theorem dX5_init_5 : decode cX5_init 5 = .ok (.new 9, 3) := dk_187 0 9 (dk_at dksX5_init_0 5 rfl rfl)
theorem dX5_init_8 : decode cX5_init 8 = .ok (.dup, 1) := dk_89 (dk_at dksX5_init_0 8 rfl rfl)
theorem dX5_init_9 : decode cX5_init 9 = .ok (.invokespecial 11, 3) := dk_183 0 11 (dk_at dksX5_init_0 9 rfl rfl)
theorem dX5_init_12 : decode cX5_init 12 = .ok (.putfield 12, 3) := dk_181 0 12 (dk_at dksX5_init_0 12 rfl rfl)
theorem dX5_init_15 : decode cX5_init 15 = .ok (.aload_n 0, 1) := dk_42 (dk_at dksX5_init_0 15 rfl rfl)
theorem dX5_init_16 : decode cX5_init 16 = .ok (.new 18, 3) := dk_187 0 18 (dk_at dksX5_init_0 16 rfl rfl)
theorem dX5_init_19 : decode cX5_init 19 = .ok (.dup, 1) := dk_89 (dk_at dksX5_init_0 19 rfl rfl)
theorem dX5_init_20 : decode cX5_init 20 = .ok (.bipush 40, 2) := dk_16 40 (dk_at dksX5_init_0 20 rfl rfl)
theorem dX5_init_22 : decode cX5_init 22 = .ok (.invokespecial 20, 3) := dk_183 0 20 (dk_at dksX5_init_1 0 rfl rfl)
theorem dX5_init_25 : decode cX5_init 25 = .ok (.putfield 23, 3) := dk_181 0 23 (dk_at dksX5_init_1 3 rfl rfl)
theorem dX5_init_28 : decode cX5_init 28 = .ok (.aload_n 0, 1) := dk_42 (dk_at dksX5_init_1 6 rfl rfl)
theorem dX5_init_29 : decode cX5_init 29 = .ok (.bipush 8, 2) := dk_16 8 (dk_at dksX5_init_1 7 rfl rfl)
theorem dX5_init_31 : decode cX5_init 31 = .ok (.newarray .int, 2) := dk_188_10 (dk_at dksX5_init_1 9 rfl rfl)
theorem dX5_init_33 : decode cX5_init 33 = .ok (.putfield 27, 3) := dk_181 0 27 (dk_at dksX5_init_1 11 rfl rfl)
theorem dX5_init_36 : decode cX5_init 36 = .ok (.aload_n 0, 1) := dk_42 (dk_at dksX5_init_1 14 rfl rfl)
theorem dX5_init_37 : decode cX5_init 37 = .ok (.bipush 8, 2) := dk_16 8 (dk_at dksX5_init_1 15 rfl rfl)
theorem dX5_init_39 : decode cX5_init 39 = .ok (.newarray .int, 2) := dk_188_10 (dk_at dksX5_init_1 17 rfl rfl)
theorem dX5_init_41 : decode cX5_init 41 = .ok (.putfield 31, 3) := dk_181 0 31 (dk_at dksX5_init_1 19 rfl rfl)
theorem dX5_init_44 : decode cX5_init 44 = .ok (.aload_n 0, 1) := dk_42 (dk_at dksX5_init_1 22 rfl rfl)
theorem dX5_init_45 : decode cX5_init 45 = .ok (.bipush 8, 2) := dk_16 8 (dk_at dksX5_init_2 0 rfl rfl)
theorem dX5_init_47 : decode cX5_init 47 = .ok (.newarray .int, 2) := dk_188_10 (dk_at dksX5_init_2 2 rfl rfl)
theorem dX5_init_49 : decode cX5_init 49 = .ok (.putfield 34, 3) := dk_181 0 34 (dk_at dksX5_init_2 4 rfl rfl)
theorem dX5_init_52 : decode cX5_init 52 = .ok (.aload_n 0, 1) := dk_42 (dk_at dksX5_init_2 7 rfl rfl)
theorem dX5_init_53 : decode cX5_init 53 = .ok (.iconst 3, 1) := dk_6 (dk_at dksX5_init_2 8 rfl rfl)
theorem dX5_init_54 : decode cX5_init 54 = .ok (.newarray .int, 2) := dk_188_10 (dk_at dksX5_init_2 9 rfl rfl)
theorem dX5_init_56 : decode cX5_init 56 = .ok (.putfield 37, 3) := dk_181 0 37 (dk_at dksX5_init_2 11 rfl rfl)
theorem dX5_init_59 : decode cX5_init 59 = .ok (.iconst 0, 1) := dk_3 (dk_at dksX5_init_2 14 rfl rfl)
theorem dX5_init_60 : decode cX5_init 60 = .ok (.istore_n 1, 1) := dk_60 (dk_at dksX5_init_2 15 rfl rfl)
theorem dX5_init_61 : decode cX5_init 61 = .ok (.iload_n 1, 1) := dk_27 (dk_at dksX5_init_2 16 rfl rfl)
theorem dX5_init_62 : decode cX5_init 62 = .ok (.bipush 40, 2) := dk_16 40 (dk_at dksX5_init_2 17 rfl rfl)
theorem dX5_init_64 : decode cX5_init 64 = .ok (.if_icmp .ge 24, 3) := dk_162 0 24 (dk_at dksX5_init_2 19 rfl rfl)
theorem dX5_init_67 : decode cX5_init 67 = .ok (.aload_n 0, 1) := dk_42 (dk_at dksX5_init_2 22 rfl rfl)
theorem dX5_init_68 : decode cX5_init 68 = .ok (.getfield 23, 3) := dk_180 0 23 (dk_at dksX5_init_3 0 rfl rfl)
theorem dX5_init_71 : decode cX5_init 71 = .ok (.new 9, 3) := dk_187 0 9 (dk_at dksX5_init_3 3 rfl rfl)
theorem dX5_init_74 : decode cX5_init 74 = .ok (.dup, 1) := dk_89 (dk_at dksX5_init_3 6 rfl rfl)
theorem dX5_init_75 : decode cX5_init 75 = .ok (.invokespecial 11, 3) := dk_183 0 11 (dk_at dksX5_init_3 7 rfl rfl)
theorem dX5_init_78 : decode cX5_init 78 = .ok (.invokevirtual 40, 3) := dk_182 0 40 (dk_at dksX5_init_3 10 rfl rfl)
theorem dX5_init_81 : decode cX5_init 81 = .ok (.pop, 1) := dk_87 (dk_at dksX5_init_3 13 rfl rfl)
theorem dX5_init_82 : decode cX5_init 82 = .ok (.iinc 1 1, 3) := dk_132 1 1 (dk_at dksX5_init_3 14 rfl rfl)
theorem dX5_init_85 : decode cX5_init 85 = .ok (.goto (-24), 3) := dk_167 255 232 (dk_at dksX5_init_3 17 rfl rfl)
theorem dX5_init_88 : decode cX5_init 88 = .ok (.return_, 1) := dk_177 (dk_at dksX5_init_3 20 rfl rfl)
abbrev cX5_keeps : ByteArray := prog_2_method_2_code
def yX5_keeps : MethodName := ⟨RX5, "keeps", "()V"⟩
def dkwX5_keeps_2 : List UInt8 := [182, 0, 52, 192, 0, 9, 42, 180, 0, 12, 182, 0, 55, 42, 89, 180, 0, 44, 4, 96, 181, 0, 44, 177]
abbrev dktX5_keeps_2 : List UInt8 := dkwX5_keeps_2 ++ []
def dkwX5_keeps_1 : List UInt8 := [182, 0, 40, 87, 42, 89, 180, 0, 44, 4, 100, 181, 0, 44, 42, 180, 0, 23, 42, 180, 0, 44]
abbrev dktX5_keeps_1 : List UInt8 := dkwX5_keeps_1 ++ dktX5_keeps_2
def dkwX5_keeps_0 : List UInt8 := [42, 180, 0, 44, 16, 40, 160, 0, 32, 42, 180, 0, 23, 42, 180, 0, 23, 3, 182, 0, 48, 192, 0, 9]
abbrev dktX5_keeps_0 : List UInt8 := dkwX5_keeps_0 ++ dktX5_keeps_1
theorem dksX5_keeps_0 : cX5_keeps.data.toList.drop 0 = dktX5_keeps_0 := by decide +kernel
theorem dksX5_keeps_1 : cX5_keeps.data.toList.drop 24 = dktX5_keeps_1 := dk_seg dksX5_keeps_0 24 rfl rfl
theorem dksX5_keeps_2 : cX5_keeps.data.toList.drop 46 = dktX5_keeps_2 := dk_seg dksX5_keeps_1 22 rfl rfl
theorem dX5_keeps_0 : decode cX5_keeps 0 = .ok (.aload_n 0, 1) := dk_42 (dk_at dksX5_keeps_0 0 rfl rfl)
theorem dX5_keeps_1 : decode cX5_keeps 1 = .ok (.getfield 44, 3) := dk_180 0 44 (dk_at dksX5_keeps_0 1 rfl rfl)
theorem dX5_keeps_4 : decode cX5_keeps 4 = .ok (.bipush 40, 2) := dk_16 40 (dk_at dksX5_keeps_0 4 rfl rfl)
theorem dX5_keeps_6 : decode cX5_keeps 6 = .ok (.if_icmp .ne 32, 3) := dk_160 0 32 (dk_at dksX5_keeps_0 6 rfl rfl)
theorem dX5_keeps_9 : decode cX5_keeps 9 = .ok (.aload_n 0, 1) := dk_42 (dk_at dksX5_keeps_0 9 rfl rfl)
theorem dX5_keeps_10 : decode cX5_keeps 10 = .ok (.getfield 23, 3) := dk_180 0 23 (dk_at dksX5_keeps_0 10 rfl rfl)
theorem dX5_keeps_13 : decode cX5_keeps 13 = .ok (.aload_n 0, 1) := dk_42 (dk_at dksX5_keeps_0 13 rfl rfl)
theorem dX5_keeps_14 : decode cX5_keeps 14 = .ok (.getfield 23, 3) := dk_180 0 23 (dk_at dksX5_keeps_0 14 rfl rfl)
theorem dX5_keeps_17 : decode cX5_keeps 17 = .ok (.iconst 0, 1) := dk_3 (dk_at dksX5_keeps_0 17 rfl rfl)
theorem dX5_keeps_18 : decode cX5_keeps 18 = .ok (.invokevirtual 48, 3) := dk_182 0 48 (dk_at dksX5_keeps_0 18 rfl rfl)
theorem dX5_keeps_21 : decode cX5_keeps 21 = .ok (.checkcast 9, 3) := dk_192 0 9 (dk_at dksX5_keeps_0 21 rfl rfl)
theorem dX5_keeps_24 : decode cX5_keeps 24 = .ok (.invokevirtual 40, 3) := dk_182 0 40 (dk_at dksX5_keeps_1 0 rfl rfl)
theorem dX5_keeps_27 : decode cX5_keeps 27 = .ok (.pop, 1) := dk_87 (dk_at dksX5_keeps_1 3 rfl rfl)
theorem dX5_keeps_28 : decode cX5_keeps 28 = .ok (.aload_n 0, 1) := dk_42 (dk_at dksX5_keeps_1 4 rfl rfl)
theorem dX5_keeps_29 : decode cX5_keeps 29 = .ok (.dup, 1) := dk_89 (dk_at dksX5_keeps_1 5 rfl rfl)
theorem dX5_keeps_30 : decode cX5_keeps 30 = .ok (.getfield 44, 3) := dk_180 0 44 (dk_at dksX5_keeps_1 6 rfl rfl)
theorem dX5_keeps_33 : decode cX5_keeps 33 = .ok (.iconst 1, 1) := dk_4 (dk_at dksX5_keeps_1 9 rfl rfl)
theorem dX5_keeps_34 : decode cX5_keeps 34 = .ok (.isub, 1) := dk_100 (dk_at dksX5_keeps_1 10 rfl rfl)
theorem dX5_keeps_35 : decode cX5_keeps 35 = .ok (.putfield 44, 3) := dk_181 0 44 (dk_at dksX5_keeps_1 11 rfl rfl)
theorem dX5_keeps_38 : decode cX5_keeps 38 = .ok (.aload_n 0, 1) := dk_42 (dk_at dksX5_keeps_1 14 rfl rfl)
theorem dX5_keeps_39 : decode cX5_keeps 39 = .ok (.getfield 23, 3) := dk_180 0 23 (dk_at dksX5_keeps_1 15 rfl rfl)
theorem dX5_keeps_42 : decode cX5_keeps 42 = .ok (.aload_n 0, 1) := dk_42 (dk_at dksX5_keeps_1 18 rfl rfl)
theorem dX5_keeps_43 : decode cX5_keeps 43 = .ok (.getfield 44, 3) := dk_180 0 44 (dk_at dksX5_keeps_1 19 rfl rfl)
theorem dX5_keeps_46 : decode cX5_keeps 46 = .ok (.invokevirtual 52, 3) := dk_182 0 52 (dk_at dksX5_keeps_2 0 rfl rfl)
theorem dX5_keeps_49 : decode cX5_keeps 49 = .ok (.checkcast 9, 3) := dk_192 0 9 (dk_at dksX5_keeps_2 3 rfl rfl)
theorem dX5_keeps_52 : decode cX5_keeps 52 = .ok (.aload_n 0, 1) := dk_42 (dk_at dksX5_keeps_2 6 rfl rfl)
theorem dX5_keeps_53 : decode cX5_keeps 53 = .ok (.getfield 12, 3) := dk_180 0 12 (dk_at dksX5_keeps_2 7 rfl rfl)
theorem dX5_keeps_56 : decode cX5_keeps 56 = .ok (.invokevirtual 55, 3) := dk_182 0 55 (dk_at dksX5_keeps_2 10 rfl rfl)
theorem dX5_keeps_59 : decode cX5_keeps 59 = .ok (.aload_n 0, 1) := dk_42 (dk_at dksX5_keeps_2 13 rfl rfl)
theorem dX5_keeps_60 : decode cX5_keeps 60 = .ok (.dup, 1) := dk_89 (dk_at dksX5_keeps_2 14 rfl rfl)
theorem dX5_keeps_61 : decode cX5_keeps 61 = .ok (.getfield 44, 3) := dk_180 0 44 (dk_at dksX5_keeps_2 15 rfl rfl)
theorem dX5_keeps_64 : decode cX5_keeps 64 = .ok (.iconst 1, 1) := dk_4 (dk_at dksX5_keeps_2 18 rfl rfl)
theorem dX5_keeps_65 : decode cX5_keeps 65 = .ok (.iadd, 1) := dk_96 (dk_at dksX5_keeps_2 19 rfl rfl)
theorem dX5_keeps_66 : decode cX5_keeps 66 = .ok (.putfield 44, 3) := dk_181 0 44 (dk_at dksX5_keeps_2 20 rfl rfl)
theorem dX5_keeps_69 : decode cX5_keeps 69 = .ok (.return_, 1) := dk_177 (dk_at dksX5_keeps_2 23 rfl rfl)
abbrev cX5_like : ByteArray := prog_2_method_3_code
def yX5_like : MethodName := ⟨RX5, "like", "(LBlueBag$Book;)V"⟩
def dkwX5_like_5 : List UInt8 := [43, 180, 0, 44, 181, 0, 44, 42, 43, 180, 0, 65, 181, 0, 65, 177]
abbrev dktX5_like_5 : List UInt8 := dkwX5_like_5 ++ []
def dkwX5_like_4 : List UInt8 := [16, 8, 184, 0, 59, 43, 180, 0, 37, 3, 42, 180, 0, 37, 3, 42, 180, 0, 37, 190, 184, 0, 59, 42]
abbrev dktX5_like_4 : List UInt8 := dkwX5_like_4 ++ dktX5_like_5
def dkwX5_like_3 : List UInt8 := [180, 0, 31, 3, 42, 180, 0, 31, 3, 16, 8, 184, 0, 59, 43, 180, 0, 34, 3, 42, 180, 0, 34, 3]
abbrev dktX5_like_3 : List UInt8 := dkwX5_like_3 ++ dktX5_like_4
def dkwX5_like_2 : List UInt8 := [132, 2, 1, 167, 255, 220, 43, 180, 0, 27, 3, 42, 180, 0, 27, 3, 16, 8, 184, 0, 59, 43]
abbrev dktX5_like_2 : List UInt8 := dkwX5_like_2 ++ dktX5_like_3
def dkwX5_like_1 : List UInt8 := [180, 0, 23, 28, 182, 0, 52, 192, 0, 9, 43, 180, 0, 23, 28, 182, 0, 52, 192, 0, 9, 182, 0, 55]
abbrev dktX5_like_1 : List UInt8 := dkwX5_like_1 ++ dktX5_like_2
def dkwX5_like_0 : List UInt8 := [42, 180, 0, 12, 43, 180, 0, 12, 182, 0, 55, 3, 61, 28, 43, 180, 0, 44, 162, 0, 34, 42]
abbrev dktX5_like_0 : List UInt8 := dkwX5_like_0 ++ dktX5_like_1
theorem dksX5_like_0 : cX5_like.data.toList.drop 0 = dktX5_like_0 := by decide +kernel
theorem dksX5_like_1 : cX5_like.data.toList.drop 22 = dktX5_like_1 := dk_seg dksX5_like_0 22 rfl rfl
theorem dksX5_like_2 : cX5_like.data.toList.drop 46 = dktX5_like_2 := dk_seg dksX5_like_1 24 rfl rfl
theorem dksX5_like_3 : cX5_like.data.toList.drop 68 = dktX5_like_3 := dk_seg dksX5_like_2 22 rfl rfl
theorem dksX5_like_4 : cX5_like.data.toList.drop 92 = dktX5_like_4 := dk_seg dksX5_like_3 24 rfl rfl
theorem dksX5_like_5 : cX5_like.data.toList.drop 116 = dktX5_like_5 := dk_seg dksX5_like_4 24 rfl rfl
theorem dX5_like_0 : decode cX5_like 0 = .ok (.aload_n 0, 1) := dk_42 (dk_at dksX5_like_0 0 rfl rfl)
theorem dX5_like_1 : decode cX5_like 1 = .ok (.getfield 12, 3) := dk_180 0 12 (dk_at dksX5_like_0 1 rfl rfl)
theorem dX5_like_4 : decode cX5_like 4 = .ok (.aload_n 1, 1) := dk_43 (dk_at dksX5_like_0 4 rfl rfl)
theorem dX5_like_5 : decode cX5_like 5 = .ok (.getfield 12, 3) := dk_180 0 12 (dk_at dksX5_like_0 5 rfl rfl)
theorem dX5_like_8 : decode cX5_like 8 = .ok (.invokevirtual 55, 3) := dk_182 0 55 (dk_at dksX5_like_0 8 rfl rfl)
theorem dX5_like_11 : decode cX5_like 11 = .ok (.iconst 0, 1) := dk_3 (dk_at dksX5_like_0 11 rfl rfl)
theorem dX5_like_12 : decode cX5_like 12 = .ok (.istore_n 2, 1) := dk_61 (dk_at dksX5_like_0 12 rfl rfl)
theorem dX5_like_13 : decode cX5_like 13 = .ok (.iload_n 2, 1) := dk_28 (dk_at dksX5_like_0 13 rfl rfl)
theorem dX5_like_14 : decode cX5_like 14 = .ok (.aload_n 1, 1) := dk_43 (dk_at dksX5_like_0 14 rfl rfl)
theorem dX5_like_15 : decode cX5_like 15 = .ok (.getfield 44, 3) := dk_180 0 44 (dk_at dksX5_like_0 15 rfl rfl)
theorem dX5_like_18 : decode cX5_like 18 = .ok (.if_icmp .ge 34, 3) := dk_162 0 34 (dk_at dksX5_like_0 18 rfl rfl)
theorem dX5_like_21 : decode cX5_like 21 = .ok (.aload_n 0, 1) := dk_42 (dk_at dksX5_like_0 21 rfl rfl)
theorem dX5_like_22 : decode cX5_like 22 = .ok (.getfield 23, 3) := dk_180 0 23 (dk_at dksX5_like_1 0 rfl rfl)
theorem dX5_like_25 : decode cX5_like 25 = .ok (.iload_n 2, 1) := dk_28 (dk_at dksX5_like_1 3 rfl rfl)
theorem dX5_like_26 : decode cX5_like 26 = .ok (.invokevirtual 52, 3) := dk_182 0 52 (dk_at dksX5_like_1 4 rfl rfl)
theorem dX5_like_29 : decode cX5_like 29 = .ok (.checkcast 9, 3) := dk_192 0 9 (dk_at dksX5_like_1 7 rfl rfl)
theorem dX5_like_32 : decode cX5_like 32 = .ok (.aload_n 1, 1) := dk_43 (dk_at dksX5_like_1 10 rfl rfl)
theorem dX5_like_33 : decode cX5_like 33 = .ok (.getfield 23, 3) := dk_180 0 23 (dk_at dksX5_like_1 11 rfl rfl)
theorem dX5_like_36 : decode cX5_like 36 = .ok (.iload_n 2, 1) := dk_28 (dk_at dksX5_like_1 14 rfl rfl)
theorem dX5_like_37 : decode cX5_like 37 = .ok (.invokevirtual 52, 3) := dk_182 0 52 (dk_at dksX5_like_1 15 rfl rfl)
theorem dX5_like_40 : decode cX5_like 40 = .ok (.checkcast 9, 3) := dk_192 0 9 (dk_at dksX5_like_1 18 rfl rfl)
theorem dX5_like_43 : decode cX5_like 43 = .ok (.invokevirtual 55, 3) := dk_182 0 55 (dk_at dksX5_like_1 21 rfl rfl)
theorem dX5_like_46 : decode cX5_like 46 = .ok (.iinc 2 1, 3) := dk_132 2 1 (dk_at dksX5_like_2 0 rfl rfl)
theorem dX5_like_49 : decode cX5_like 49 = .ok (.goto (-36), 3) := dk_167 255 220 (dk_at dksX5_like_2 3 rfl rfl)
theorem dX5_like_52 : decode cX5_like 52 = .ok (.aload_n 1, 1) := dk_43 (dk_at dksX5_like_2 6 rfl rfl)
theorem dX5_like_53 : decode cX5_like 53 = .ok (.getfield 27, 3) := dk_180 0 27 (dk_at dksX5_like_2 7 rfl rfl)
theorem dX5_like_56 : decode cX5_like 56 = .ok (.iconst 0, 1) := dk_3 (dk_at dksX5_like_2 10 rfl rfl)
theorem dX5_like_57 : decode cX5_like 57 = .ok (.aload_n 0, 1) := dk_42 (dk_at dksX5_like_2 11 rfl rfl)
theorem dX5_like_58 : decode cX5_like 58 = .ok (.getfield 27, 3) := dk_180 0 27 (dk_at dksX5_like_2 12 rfl rfl)
theorem dX5_like_61 : decode cX5_like 61 = .ok (.iconst 0, 1) := dk_3 (dk_at dksX5_like_2 15 rfl rfl)
theorem dX5_like_62 : decode cX5_like 62 = .ok (.bipush 8, 2) := dk_16 8 (dk_at dksX5_like_2 16 rfl rfl)
theorem dX5_like_64 : decode cX5_like 64 = .ok (.invokestatic 59, 3) := dk_184 0 59 (dk_at dksX5_like_2 18 rfl rfl)
theorem dX5_like_67 : decode cX5_like 67 = .ok (.aload_n 1, 1) := dk_43 (dk_at dksX5_like_2 21 rfl rfl)
theorem dX5_like_68 : decode cX5_like 68 = .ok (.getfield 31, 3) := dk_180 0 31 (dk_at dksX5_like_3 0 rfl rfl)
theorem dX5_like_71 : decode cX5_like 71 = .ok (.iconst 0, 1) := dk_3 (dk_at dksX5_like_3 3 rfl rfl)
theorem dX5_like_72 : decode cX5_like 72 = .ok (.aload_n 0, 1) := dk_42 (dk_at dksX5_like_3 4 rfl rfl)
theorem dX5_like_73 : decode cX5_like 73 = .ok (.getfield 31, 3) := dk_180 0 31 (dk_at dksX5_like_3 5 rfl rfl)
theorem dX5_like_76 : decode cX5_like 76 = .ok (.iconst 0, 1) := dk_3 (dk_at dksX5_like_3 8 rfl rfl)
theorem dX5_like_77 : decode cX5_like 77 = .ok (.bipush 8, 2) := dk_16 8 (dk_at dksX5_like_3 9 rfl rfl)
theorem dX5_like_79 : decode cX5_like 79 = .ok (.invokestatic 59, 3) := dk_184 0 59 (dk_at dksX5_like_3 11 rfl rfl)
theorem dX5_like_82 : decode cX5_like 82 = .ok (.aload_n 1, 1) := dk_43 (dk_at dksX5_like_3 14 rfl rfl)
theorem dX5_like_83 : decode cX5_like 83 = .ok (.getfield 34, 3) := dk_180 0 34 (dk_at dksX5_like_3 15 rfl rfl)
theorem dX5_like_86 : decode cX5_like 86 = .ok (.iconst 0, 1) := dk_3 (dk_at dksX5_like_3 18 rfl rfl)
theorem dX5_like_87 : decode cX5_like 87 = .ok (.aload_n 0, 1) := dk_42 (dk_at dksX5_like_3 19 rfl rfl)
theorem dX5_like_88 : decode cX5_like 88 = .ok (.getfield 34, 3) := dk_180 0 34 (dk_at dksX5_like_3 20 rfl rfl)
theorem dX5_like_91 : decode cX5_like 91 = .ok (.iconst 0, 1) := dk_3 (dk_at dksX5_like_3 23 rfl rfl)
theorem dX5_like_92 : decode cX5_like 92 = .ok (.bipush 8, 2) := dk_16 8 (dk_at dksX5_like_4 0 rfl rfl)
theorem dX5_like_94 : decode cX5_like 94 = .ok (.invokestatic 59, 3) := dk_184 0 59 (dk_at dksX5_like_4 2 rfl rfl)
theorem dX5_like_97 : decode cX5_like 97 = .ok (.aload_n 1, 1) := dk_43 (dk_at dksX5_like_4 5 rfl rfl)
theorem dX5_like_98 : decode cX5_like 98 = .ok (.getfield 37, 3) := dk_180 0 37 (dk_at dksX5_like_4 6 rfl rfl)
theorem dX5_like_101 : decode cX5_like 101 = .ok (.iconst 0, 1) := dk_3 (dk_at dksX5_like_4 9 rfl rfl)
theorem dX5_like_102 : decode cX5_like 102 = .ok (.aload_n 0, 1) := dk_42 (dk_at dksX5_like_4 10 rfl rfl)
theorem dX5_like_103 : decode cX5_like 103 = .ok (.getfield 37, 3) := dk_180 0 37 (dk_at dksX5_like_4 11 rfl rfl)
theorem dX5_like_106 : decode cX5_like 106 = .ok (.iconst 0, 1) := dk_3 (dk_at dksX5_like_4 14 rfl rfl)
theorem dX5_like_107 : decode cX5_like 107 = .ok (.aload_n 0, 1) := dk_42 (dk_at dksX5_like_4 15 rfl rfl)
theorem dX5_like_108 : decode cX5_like 108 = .ok (.getfield 37, 3) := dk_180 0 37 (dk_at dksX5_like_4 16 rfl rfl)
theorem dX5_like_111 : decode cX5_like 111 = .ok (.arraylength, 1) := dk_190 (dk_at dksX5_like_4 19 rfl rfl)
theorem dX5_like_112 : decode cX5_like 112 = .ok (.invokestatic 59, 3) := dk_184 0 59 (dk_at dksX5_like_4 20 rfl rfl)
theorem dX5_like_115 : decode cX5_like 115 = .ok (.aload_n 0, 1) := dk_42 (dk_at dksX5_like_4 23 rfl rfl)
theorem dX5_like_116 : decode cX5_like 116 = .ok (.aload_n 1, 1) := dk_43 (dk_at dksX5_like_5 0 rfl rfl)
theorem dX5_like_117 : decode cX5_like 117 = .ok (.getfield 44, 3) := dk_180 0 44 (dk_at dksX5_like_5 1 rfl rfl)
theorem dX5_like_120 : decode cX5_like 120 = .ok (.putfield 44, 3) := dk_181 0 44 (dk_at dksX5_like_5 4 rfl rfl)
theorem dX5_like_123 : decode cX5_like 123 = .ok (.aload_n 0, 1) := dk_42 (dk_at dksX5_like_5 7 rfl rfl)
theorem dX5_like_124 : decode cX5_like 124 = .ok (.aload_n 1, 1) := dk_43 (dk_at dksX5_like_5 8 rfl rfl)
theorem dX5_like_125 : decode cX5_like 125 = .ok (.getfield 65, 3) := dk_180 0 65 (dk_at dksX5_like_5 9 rfl rfl)
theorem dX5_like_128 : decode cX5_like 128 = .ok (.putfield 65, 3) := dk_181 0 65 (dk_at dksX5_like_5 12 rfl rfl)
theorem dX5_like_131 : decode cX5_like 131 = .ok (.return_, 1) := dk_177 (dk_at dksX5_like_5 15 rfl rfl)
theorem q137 : (Jvm.Cond.initialized "BlueBag$Book") ∈ lw_all := lw_g (lw_at lw_m1 25 rfl) rfl
theorem q587 : (Jvm.Cond.instantiable "BlueBag$Book" (8 : Nat)) ∈ lw_all := lw_g (lw_at lw_m2 235 rfl) rfl
theorem q589 : (Jvm.Cond.instanceMethod ({ cls := "BlueBag$Book", name := "<init>", desc := "()V" } : Jvm.MethodName)) ∈ lw_all := lw_g (lw_at lw_m2 237 rfl) rfl
theorem q590 : (Jvm.Cond.code ({ cls := "BlueBag$Book", name := "<init>", desc := "()V" } : Jvm.MethodName) prog_2_method_1_code (2 : Nat) (Option.none : Option Jvm.ClassFile.FieldType)) ∈ lw_all := lw_g (lw_at lw_m2 238 rfl) rfl
theorem q591 : (Jvm.Cond.methodLink "BlueBag$Book" (3 : Nat) ({ cls := "java/lang/Object", name := "<init>", desc := "()V" } : Jvm.MethodName)) ∈ lw_all := lw_g (lw_at lw_m2 239 rfl) rfl
theorem q592 : (Jvm.Cond.classLink "BlueBag$Book" (9 : Nat) "BlueBag$State") ∈ lw_all := lw_g (lw_at lw_m3 0 rfl) rfl
theorem q594 : (Jvm.Cond.methodLinkNest "BlueBag$Book" (11 : Nat) ({ cls := "BlueBag$State", name := "<init>", desc := "()V" } : Jvm.MethodName) "BlueBag") ∈ lw_tbl := lw_at lw_m3 2 rfl
theorem q638 : (Jvm.Cond.classLink "BlueBag$Book" (18 : Nat) "java/util/ArrayList") ∈ lw_all := lw_g (lw_at lw_m3 46 rfl) rfl
theorem q639 : (Jvm.Cond.methodLink "BlueBag$Book" (20 : Nat) ({ cls := "java/util/ArrayList", name := "<init>", desc := "(I)V" } : Jvm.MethodName)) ∈ lw_all := lw_g (lw_at lw_m3 47 rfl) rfl
theorem q640 : (Jvm.Cond.methodLink "BlueBag$Book" (40 : Nat) ({ cls := "java/util/ArrayList", name := "add", desc := "(Ljava/lang/Object;)Z" } : Jvm.MethodName)) ∈ lw_all := lw_g (lw_at lw_m3 48 rfl) rfl
theorem q666 : (Jvm.Cond.selects "BlueBag$Book" ({ cls := "java/lang/Object", name := "getClass", desc := "()Ljava/lang/Class;" } : Jvm.MethodName) ({ cls := "java/lang/Object", name := "getClass", desc := "()Ljava/lang/Class;" } : Jvm.MethodName)) ∈ lw_all := lw_g (lw_at lw_m3 74 rfl) rfl
theorem q693 : (Jvm.Cond.fieldLink "BlueBag$Book" (12 : Nat) "BlueBag$Book" "now" "LBlueBag$State;") ∈ lw_all := lw_g (lw_at lw_m3 101 rfl) rfl
theorem q695 : (Jvm.Cond.fieldLink "BlueBag$Book" (23 : Nat) "BlueBag$Book" "ahead" "Ljava/util/ArrayList;") ∈ lw_all := lw_g (lw_at lw_m3 103 rfl) rfl
theorem q697 : (Jvm.Cond.fieldLink "BlueBag$Book" (27 : Nat) "BlueBag$Book" "cell" "[I") ∈ lw_all := lw_g (lw_at lw_m3 105 rfl) rfl
theorem q699 : (Jvm.Cond.fieldLink "BlueBag$Book" (31 : Nat) "BlueBag$Book" "when" "[I") ∈ lw_all := lw_g (lw_at lw_m3 107 rfl) rfl
theorem q701 : (Jvm.Cond.fieldLink "BlueBag$Book" (34 : Nat) "BlueBag$Book" "blue" "[I") ∈ lw_all := lw_g (lw_at lw_m3 109 rfl) rfl
theorem q703 : (Jvm.Cond.fieldLink "BlueBag$Book" (37 : Nat) "BlueBag$Book" "refused" "[I") ∈ lw_all := lw_g (lw_at lw_m3 111 rfl) rfl
theorem q705 : (Jvm.Cond.fieldLink "BlueBag$Book" (44 : Nat) "BlueBag$Book" "acts" "I") ∈ lw_all := lw_g (lw_at lw_m3 113 rfl) rfl
theorem q707 : (Jvm.Cond.fieldLink "BlueBag$Book" (65 : Nat) "BlueBag$Book" "many" "I") ∈ lw_all := lw_g (lw_at lw_m3 115 rfl) rfl
theorem q709 : (Jvm.Cond.laysFinal "BlueBag$Book" "BlueBag$Book" "now" "LBlueBag$State;") ∈ lw_all := lw_g (lw_at lw_m3 117 rfl) rfl
theorem q710 : (Jvm.Cond.soleField "BlueBag$Book" "now") ∈ lw_all := lw_g (lw_at lw_m3 118 rfl) rfl
theorem q711 : (Jvm.Cond.laysFinal "BlueBag$Book" "BlueBag$Book" "ahead" "Ljava/util/ArrayList;") ∈ lw_all := lw_g (lw_at lw_m3 119 rfl) rfl
theorem q712 : (Jvm.Cond.soleField "BlueBag$Book" "ahead") ∈ lw_all := lw_g (lw_at lw_m3 120 rfl) rfl
theorem q713 : (Jvm.Cond.laysFinal "BlueBag$Book" "BlueBag$Book" "cell" "[I") ∈ lw_all := lw_g (lw_at lw_m3 121 rfl) rfl
theorem q714 : (Jvm.Cond.soleField "BlueBag$Book" "cell") ∈ lw_all := lw_g (lw_at lw_m3 122 rfl) rfl
theorem q715 : (Jvm.Cond.laysFinal "BlueBag$Book" "BlueBag$Book" "when" "[I") ∈ lw_all := lw_g (lw_at lw_m3 123 rfl) rfl
theorem q716 : (Jvm.Cond.soleField "BlueBag$Book" "when") ∈ lw_all := lw_g (lw_at lw_m3 124 rfl) rfl
theorem q717 : (Jvm.Cond.laysFinal "BlueBag$Book" "BlueBag$Book" "blue" "[I") ∈ lw_all := lw_g (lw_at lw_m3 125 rfl) rfl
theorem q718 : (Jvm.Cond.soleField "BlueBag$Book" "blue") ∈ lw_all := lw_g (lw_at lw_m3 126 rfl) rfl
theorem q719 : (Jvm.Cond.laysFinal "BlueBag$Book" "BlueBag$Book" "refused" "[I") ∈ lw_all := lw_g (lw_at lw_m3 127 rfl) rfl
theorem q720 : (Jvm.Cond.soleField "BlueBag$Book" "refused") ∈ lw_all := lw_g (lw_at lw_m3 128 rfl) rfl
theorem q721 : (Jvm.Cond.lays "BlueBag$Book" "BlueBag$Book" "acts" "I") ∈ lw_all := lw_g (lw_at lw_m3 129 rfl) rfl
theorem q722 : (Jvm.Cond.soleField "BlueBag$Book" "acts") ∈ lw_all := lw_g (lw_at lw_m3 130 rfl) rfl
theorem q723 : (Jvm.Cond.lays "BlueBag$Book" "BlueBag$Book" "many" "I") ∈ lw_all := lw_g (lw_at lw_m3 131 rfl) rfl
theorem q724 : (Jvm.Cond.soleField "BlueBag$Book" "many") ∈ lw_all := lw_g (lw_at lw_m3 132 rfl) rfl
theorem q725 : (Jvm.Cond.superclass "BlueBag$Book" "java/lang/Object") ∈ lw_all := lw_g (lw_at lw_m3 133 rfl) rfl
theorem q822 : (Jvm.Cond.instanceMethod ({ cls := "BlueBag$Book", name := "keeps", desc := "()V" } : Jvm.MethodName)) ∈ lw_all := lw_g (lw_at lw_m3 230 rfl) rfl
theorem q823 : (Jvm.Cond.selects "BlueBag$Book" ({ cls := "BlueBag$Book", name := "keeps", desc := "()V" } : Jvm.MethodName) ({ cls := "BlueBag$Book", name := "keeps", desc := "()V" } : Jvm.MethodName)) ∈ lw_all := lw_g (lw_at lw_m3 231 rfl) rfl
theorem q824 : (Jvm.Cond.code ({ cls := "BlueBag$Book", name := "keeps", desc := "()V" } : Jvm.MethodName) prog_2_method_2_code (1 : Nat) (Option.none : Option Jvm.ClassFile.FieldType)) ∈ lw_all := lw_g (lw_at lw_m3 232 rfl) rfl
theorem q825 : (Jvm.Cond.methodLink "BlueBag$Book" (48 : Nat) ({ cls := "java/util/ArrayList", name := "remove", desc := "(I)Ljava/lang/Object;" } : Jvm.MethodName)) ∈ lw_all := lw_g (lw_at lw_m3 233 rfl) rfl
theorem q834 : (Jvm.Cond.methodLink "BlueBag$Book" (52 : Nat) ({ cls := "java/util/ArrayList", name := "get", desc := "(I)Ljava/lang/Object;" } : Jvm.MethodName)) ∈ lw_all := lw_g (lw_at lw_m4 2 rfl) rfl
theorem q835 : (Jvm.Cond.methodLink "BlueBag$Book" (55 : Nat) ({ cls := "BlueBag$State", name := "like", desc := "(LBlueBag$State;)V" } : Jvm.MethodName)) ∈ lw_all := lw_g (lw_at lw_m4 3 rfl) rfl
theorem q1004 : (Jvm.Cond.instanceMethod ({ cls := "BlueBag$Book", name := "like", desc := "(LBlueBag$Book;)V" } : Jvm.MethodName)) ∈ lw_all := lw_g (lw_at lw_m4 172 rfl) rfl
theorem q1005 : (Jvm.Cond.selects "BlueBag$Book" ({ cls := "BlueBag$Book", name := "like", desc := "(LBlueBag$Book;)V" } : Jvm.MethodName) ({ cls := "BlueBag$Book", name := "like", desc := "(LBlueBag$Book;)V" } : Jvm.MethodName)) ∈ lw_all := lw_g (lw_at lw_m4 173 rfl) rfl
theorem q1006 : (Jvm.Cond.code ({ cls := "BlueBag$Book", name := "like", desc := "(LBlueBag$Book;)V" } : Jvm.MethodName) prog_2_method_3_code (3 : Nat) (Option.none : Option Jvm.ClassFile.FieldType)) ∈ lw_all := lw_g (lw_at lw_m4 174 rfl) rfl
theorem q1007 : (Jvm.Cond.methodLink "BlueBag$Book" (59 : Nat) ({ cls := "java/lang/System", name := "arraycopy", desc := "(Ljava/lang/Object;ILjava/lang/Object;II)V" } : Jvm.MethodName)) ∈ lw_all := lw_g (lw_at lw_m4 175 rfl) rfl
theorem q2360 : (Jvm.Cond.castable "BlueBag$Book" "java/lang/Object") ∈ lw_tbl := lw_at lw_m10 88 rfl
theorem in_X5 : ∀ w ∈ wsX50, w ∈ lw_all := lw_in wsX50 [709, 711, 713, 715, 717, 719, 721, 723] (by decide +kernel) (by decide +kernel)
/-! BlueBag$State -/
set_option maxRecDepth 100000
def RX6 : String := "BlueBag$State"
def TX6 : u_T := fun k => match k with
  | 0 => ("BlueBag$State", "blue", "[I", true)
  | 1 => ("BlueBag$State", "at", "[I", true)
  | 2 => ("BlueBag$State", "skill", "[I", true)
  | 3 => ("BlueBag$State", "day", "I", false)
  | 4 => ("BlueBag$State", "knobs", "I", false)
  | 5 => ("BlueBag$State", "martins", "I", false)
  | 6 => ("BlueBag$State", "resting", "I", false)
  | 7 => ("BlueBag$State", "pegs", "I", false)
  | 8 => ("BlueBag$State", "overdone", "I", false)
  | _ => ("BlueBag$State", "fading", "[I", true)
def tyX6 : Nat → FieldType := fun k => match k with
  | 0 => .array .int
  | 1 => .array .int
  | 2 => .array .int
  | 3 => .int
  | 4 => .int
  | 5 => .int
  | 6 => .int
  | 7 => .int
  | 8 => .int
  | _ => .array .int
abbrev wsX60 : List Cond := u_ws RX6 TX6 10
theorem nmX6 : ∀ a, a < 10 → ∀ b, b < 10 → a ≠ b → (TX6 a).2.1 ≠ (TX6 b).2.1 := by decide +kernel
theorem tyX6_ok : ∀ k, k < 10 → parseFieldDescriptor (TX6 k).2.2.1 = some (tyX6 k) := by decide +kernel
abbrev cX6_init : ByteArray := prog_13_method_1_code
def yX6_init : MethodName := ⟨RX6, "<init>", "()V"⟩
def dkwX6_init_1 : List UInt8 := [188, 10, 181, 0, 18, 42, 16, 30, 188, 10, 181, 0, 21, 177]
abbrev dktX6_init_1 : List UInt8 := dkwX6_init_1 ++ []
def dkwX6_init_0 : List UInt8 := [42, 183, 0, 3, 42, 16, 30, 188, 10, 181, 0, 9, 42, 16, 6, 188, 10, 181, 0, 15, 42, 16, 6]
abbrev dktX6_init_0 : List UInt8 := dkwX6_init_0 ++ dktX6_init_1
theorem dksX6_init_0 : cX6_init.data.toList.drop 0 = dktX6_init_0 := by decide +kernel
theorem dksX6_init_1 : cX6_init.data.toList.drop 23 = dktX6_init_1 := dk_seg dksX6_init_0 23 rfl rfl
theorem dX6_init_0 : decode cX6_init 0 = .ok (.aload_n 0, 1) := dk_42 (dk_at dksX6_init_0 0 rfl rfl)
theorem dX6_init_1 : decode cX6_init 1 = .ok (.invokespecial 3, 3) := dk_183 0 3 (dk_at dksX6_init_0 1 rfl rfl)
theorem dX6_init_4 : decode cX6_init 4 = .ok (.aload_n 0, 1) := dk_42 (dk_at dksX6_init_0 4 rfl rfl)
theorem dX6_init_5 : decode cX6_init 5 = .ok (.bipush 30, 2) := dk_16 30 (dk_at dksX6_init_0 5 rfl rfl)
theorem dX6_init_7 : decode cX6_init 7 = .ok (.newarray .int, 2) := dk_188_10 (dk_at dksX6_init_0 7 rfl rfl)
theorem dX6_init_9 : decode cX6_init 9 = .ok (.putfield 9, 3) := dk_181 0 9 (dk_at dksX6_init_0 9 rfl rfl)
theorem dX6_init_12 : decode cX6_init 12 = .ok (.aload_n 0, 1) := dk_42 (dk_at dksX6_init_0 12 rfl rfl)
theorem dX6_init_13 : decode cX6_init 13 = .ok (.bipush 6, 2) := dk_16 6 (dk_at dksX6_init_0 13 rfl rfl)
theorem dX6_init_15 : decode cX6_init 15 = .ok (.newarray .int, 2) := dk_188_10 (dk_at dksX6_init_0 15 rfl rfl)
theorem dX6_init_17 : decode cX6_init 17 = .ok (.putfield 15, 3) := dk_181 0 15 (dk_at dksX6_init_0 17 rfl rfl)
theorem dX6_init_20 : decode cX6_init 20 = .ok (.aload_n 0, 1) := dk_42 (dk_at dksX6_init_0 20 rfl rfl)
theorem dX6_init_21 : decode cX6_init 21 = .ok (.bipush 6, 2) := dk_16 6 (dk_at dksX6_init_0 21 rfl rfl)
theorem dX6_init_23 : decode cX6_init 23 = .ok (.newarray .int, 2) := dk_188_10 (dk_at dksX6_init_1 0 rfl rfl)
theorem dX6_init_25 : decode cX6_init 25 = .ok (.putfield 18, 3) := dk_181 0 18 (dk_at dksX6_init_1 2 rfl rfl)
theorem dX6_init_28 : decode cX6_init 28 = .ok (.aload_n 0, 1) := dk_42 (dk_at dksX6_init_1 5 rfl rfl)
theorem dX6_init_29 : decode cX6_init 29 = .ok (.bipush 30, 2) := dk_16 30 (dk_at dksX6_init_1 6 rfl rfl)
theorem dX6_init_31 : decode cX6_init 31 = .ok (.newarray .int, 2) := dk_188_10 (dk_at dksX6_init_1 8 rfl rfl)
theorem dX6_init_33 : decode cX6_init 33 = .ok (.putfield 21, 3) := dk_181 0 21 (dk_at dksX6_init_1 10 rfl rfl)
theorem dX6_init_36 : decode cX6_init 36 = .ok (.return_, 1) := dk_177 (dk_at dksX6_init_1 13 rfl rfl)
abbrev cX6_begins : ByteArray := prog_13_method_2_code
def yX6_begins : MethodName := ⟨RX6, "begins", "(LBlueBag$Coast;)V"⟩
def dkwX6_begins_5 : List UInt8 := [192, 0, 63, 180, 0, 68, 79, 132, 2, 1, 167, 255, 202, 177]
abbrev dktX6_begins_5 : List UInt8 := dkwX6_begins_5 ++ []
def dkwX6_begins_4 : List UInt8 := [182, 0, 59, 192, 0, 63, 180, 0, 65, 79, 42, 180, 0, 18, 28, 43, 180, 0, 49, 28, 182, 0, 59]
abbrev dktX6_begins_4 : List UInt8 := dkwX6_begins_4 ++ dktX6_begins_5
def dkwX6_begins_3 : List UInt8 := [61, 28, 43, 180, 0, 49, 182, 0, 53, 162, 0, 49, 42, 180, 0, 15, 28, 43, 180, 0, 49, 28]
abbrev dktX6_begins_3 : List UInt8 := dkwX6_begins_3 ++ dktX6_begins_4
def dkwX6_begins_2 : List UInt8 := [182, 0, 44, 153, 0, 7, 3, 167, 0, 9, 43, 180, 0, 48, 28, 46, 79, 132, 2, 1, 167, 255, 223, 3]
abbrev dktX6_begins_2 : List UInt8 := dkwX6_begins_2 ++ dktX6_begins_3
def dkwX6_begins_1 : List UInt8 := [43, 180, 0, 40, 181, 0, 43, 3, 61, 28, 16, 30, 162, 0, 33, 42, 180, 0, 9, 28, 42, 28]
abbrev dktX6_begins_1 : List UInt8 := dkwX6_begins_1 ++ dktX6_begins_2
def dkwX6_begins_0 : List UInt8 := [42, 3, 181, 0, 24, 42, 3, 181, 0, 28, 42, 3, 181, 0, 31, 42, 43, 180, 0, 34, 181, 0, 39, 42]
abbrev dktX6_begins_0 : List UInt8 := dkwX6_begins_0 ++ dktX6_begins_1
theorem dksX6_begins_0 : cX6_begins.data.toList.drop 0 = dktX6_begins_0 := by decide +kernel
theorem dksX6_begins_1 : cX6_begins.data.toList.drop 24 = dktX6_begins_1 := dk_seg dksX6_begins_0 24 rfl rfl
theorem dksX6_begins_2 : cX6_begins.data.toList.drop 46 = dktX6_begins_2 := dk_seg dksX6_begins_1 22 rfl rfl
theorem dksX6_begins_3 : cX6_begins.data.toList.drop 70 = dktX6_begins_3 := dk_seg dksX6_begins_2 24 rfl rfl
theorem dksX6_begins_4 : cX6_begins.data.toList.drop 92 = dktX6_begins_4 := dk_seg dksX6_begins_3 22 rfl rfl
theorem dksX6_begins_5 : cX6_begins.data.toList.drop 115 = dktX6_begins_5 := dk_seg dksX6_begins_4 23 rfl rfl
theorem dX6_begins_0 : decode cX6_begins 0 = .ok (.aload_n 0, 1) := dk_42 (dk_at dksX6_begins_0 0 rfl rfl)
theorem dX6_begins_1 : decode cX6_begins 1 = .ok (.iconst 0, 1) := dk_3 (dk_at dksX6_begins_0 1 rfl rfl)
theorem dX6_begins_2 : decode cX6_begins 2 = .ok (.putfield 24, 3) := dk_181 0 24 (dk_at dksX6_begins_0 2 rfl rfl)
theorem dX6_begins_5 : decode cX6_begins 5 = .ok (.aload_n 0, 1) := dk_42 (dk_at dksX6_begins_0 5 rfl rfl)
theorem dX6_begins_6 : decode cX6_begins 6 = .ok (.iconst 0, 1) := dk_3 (dk_at dksX6_begins_0 6 rfl rfl)
theorem dX6_begins_7 : decode cX6_begins 7 = .ok (.putfield 28, 3) := dk_181 0 28 (dk_at dksX6_begins_0 7 rfl rfl)
theorem dX6_begins_10 : decode cX6_begins 10 = .ok (.aload_n 0, 1) := dk_42 (dk_at dksX6_begins_0 10 rfl rfl)
theorem dX6_begins_11 : decode cX6_begins 11 = .ok (.iconst 0, 1) := dk_3 (dk_at dksX6_begins_0 11 rfl rfl)
theorem dX6_begins_12 : decode cX6_begins 12 = .ok (.putfield 31, 3) := dk_181 0 31 (dk_at dksX6_begins_0 12 rfl rfl)
theorem dX6_begins_15 : decode cX6_begins 15 = .ok (.aload_n 0, 1) := dk_42 (dk_at dksX6_begins_0 15 rfl rfl)
theorem dX6_begins_16 : decode cX6_begins 16 = .ok (.aload_n 1, 1) := dk_43 (dk_at dksX6_begins_0 16 rfl rfl)
theorem dX6_begins_17 : decode cX6_begins 17 = .ok (.getfield 34, 3) := dk_180 0 34 (dk_at dksX6_begins_0 17 rfl rfl)
theorem dX6_begins_20 : decode cX6_begins 20 = .ok (.putfield 39, 3) := dk_181 0 39 (dk_at dksX6_begins_0 20 rfl rfl)
theorem dX6_begins_23 : decode cX6_begins 23 = .ok (.aload_n 0, 1) := dk_42 (dk_at dksX6_begins_0 23 rfl rfl)
theorem dX6_begins_24 : decode cX6_begins 24 = .ok (.aload_n 1, 1) := dk_43 (dk_at dksX6_begins_1 0 rfl rfl)
theorem dX6_begins_25 : decode cX6_begins 25 = .ok (.getfield 40, 3) := dk_180 0 40 (dk_at dksX6_begins_1 1 rfl rfl)
theorem dX6_begins_28 : decode cX6_begins 28 = .ok (.putfield 43, 3) := dk_181 0 43 (dk_at dksX6_begins_1 4 rfl rfl)
theorem dX6_begins_31 : decode cX6_begins 31 = .ok (.iconst 0, 1) := dk_3 (dk_at dksX6_begins_1 7 rfl rfl)
theorem dX6_begins_32 : decode cX6_begins 32 = .ok (.istore_n 2, 1) := dk_61 (dk_at dksX6_begins_1 8 rfl rfl)
theorem dX6_begins_33 : decode cX6_begins 33 = .ok (.iload_n 2, 1) := dk_28 (dk_at dksX6_begins_1 9 rfl rfl)
theorem dX6_begins_34 : decode cX6_begins 34 = .ok (.bipush 30, 2) := dk_16 30 (dk_at dksX6_begins_1 10 rfl rfl)
theorem dX6_begins_36 : decode cX6_begins 36 = .ok (.if_icmp .ge 33, 3) := dk_162 0 33 (dk_at dksX6_begins_1 12 rfl rfl)
theorem dX6_begins_39 : decode cX6_begins 39 = .ok (.aload_n 0, 1) := dk_42 (dk_at dksX6_begins_1 15 rfl rfl)
theorem dX6_begins_40 : decode cX6_begins 40 = .ok (.getfield 9, 3) := dk_180 0 9 (dk_at dksX6_begins_1 16 rfl rfl)
theorem dX6_begins_43 : decode cX6_begins 43 = .ok (.iload_n 2, 1) := dk_28 (dk_at dksX6_begins_1 19 rfl rfl)
theorem dX6_begins_44 : decode cX6_begins 44 = .ok (.aload_n 0, 1) := dk_42 (dk_at dksX6_begins_1 20 rfl rfl)
theorem dX6_begins_45 : decode cX6_begins 45 = .ok (.iload_n 2, 1) := dk_28 (dk_at dksX6_begins_1 21 rfl rfl)
theorem dX6_begins_46 : decode cX6_begins 46 = .ok (.invokevirtual 44, 3) := dk_182 0 44 (dk_at dksX6_begins_2 0 rfl rfl)
theorem dX6_begins_49 : decode cX6_begins 49 = .ok (.ifCond .eq 7, 3) := dk_153 0 7 (dk_at dksX6_begins_2 3 rfl rfl)
theorem dX6_begins_52 : decode cX6_begins 52 = .ok (.iconst 0, 1) := dk_3 (dk_at dksX6_begins_2 6 rfl rfl)
theorem dX6_begins_53 : decode cX6_begins 53 = .ok (.goto 9, 3) := dk_167 0 9 (dk_at dksX6_begins_2 7 rfl rfl)
theorem dX6_begins_56 : decode cX6_begins 56 = .ok (.aload_n 1, 1) := dk_43 (dk_at dksX6_begins_2 10 rfl rfl)
theorem dX6_begins_57 : decode cX6_begins 57 = .ok (.getfield 48, 3) := dk_180 0 48 (dk_at dksX6_begins_2 11 rfl rfl)
theorem dX6_begins_60 : decode cX6_begins 60 = .ok (.iload_n 2, 1) := dk_28 (dk_at dksX6_begins_2 14 rfl rfl)
theorem dX6_begins_61 : decode cX6_begins 61 = .ok (.iaload, 1) := dk_46 (dk_at dksX6_begins_2 15 rfl rfl)
theorem dX6_begins_62 : decode cX6_begins 62 = .ok (.iastore, 1) := dk_79 (dk_at dksX6_begins_2 16 rfl rfl)
theorem dX6_begins_63 : decode cX6_begins 63 = .ok (.iinc 2 1, 3) := dk_132 2 1 (dk_at dksX6_begins_2 17 rfl rfl)
theorem dX6_begins_66 : decode cX6_begins 66 = .ok (.goto (-33), 3) := dk_167 255 223 (dk_at dksX6_begins_2 20 rfl rfl)
theorem dX6_begins_69 : decode cX6_begins 69 = .ok (.iconst 0, 1) := dk_3 (dk_at dksX6_begins_2 23 rfl rfl)
theorem dX6_begins_70 : decode cX6_begins 70 = .ok (.istore_n 2, 1) := dk_61 (dk_at dksX6_begins_3 0 rfl rfl)
theorem dX6_begins_71 : decode cX6_begins 71 = .ok (.iload_n 2, 1) := dk_28 (dk_at dksX6_begins_3 1 rfl rfl)
theorem dX6_begins_72 : decode cX6_begins 72 = .ok (.aload_n 1, 1) := dk_43 (dk_at dksX6_begins_3 2 rfl rfl)
theorem dX6_begins_73 : decode cX6_begins 73 = .ok (.getfield 49, 3) := dk_180 0 49 (dk_at dksX6_begins_3 3 rfl rfl)
theorem dX6_begins_76 : decode cX6_begins 76 = .ok (.invokevirtual 53, 3) := dk_182 0 53 (dk_at dksX6_begins_3 6 rfl rfl)
theorem dX6_begins_79 : decode cX6_begins 79 = .ok (.if_icmp .ge 49, 3) := dk_162 0 49 (dk_at dksX6_begins_3 9 rfl rfl)
theorem dX6_begins_82 : decode cX6_begins 82 = .ok (.aload_n 0, 1) := dk_42 (dk_at dksX6_begins_3 12 rfl rfl)
theorem dX6_begins_83 : decode cX6_begins 83 = .ok (.getfield 15, 3) := dk_180 0 15 (dk_at dksX6_begins_3 13 rfl rfl)
theorem dX6_begins_86 : decode cX6_begins 86 = .ok (.iload_n 2, 1) := dk_28 (dk_at dksX6_begins_3 16 rfl rfl)
theorem dX6_begins_87 : decode cX6_begins 87 = .ok (.aload_n 1, 1) := dk_43 (dk_at dksX6_begins_3 17 rfl rfl)
theorem dX6_begins_88 : decode cX6_begins 88 = .ok (.getfield 49, 3) := dk_180 0 49 (dk_at dksX6_begins_3 18 rfl rfl)
theorem dX6_begins_91 : decode cX6_begins 91 = .ok (.iload_n 2, 1) := dk_28 (dk_at dksX6_begins_3 21 rfl rfl)
theorem dX6_begins_92 : decode cX6_begins 92 = .ok (.invokevirtual 59, 3) := dk_182 0 59 (dk_at dksX6_begins_4 0 rfl rfl)
theorem dX6_begins_95 : decode cX6_begins 95 = .ok (.checkcast 63, 3) := dk_192 0 63 (dk_at dksX6_begins_4 3 rfl rfl)
theorem dX6_begins_98 : decode cX6_begins 98 = .ok (.getfield 65, 3) := dk_180 0 65 (dk_at dksX6_begins_4 6 rfl rfl)
theorem dX6_begins_101 : decode cX6_begins 101 = .ok (.iastore, 1) := dk_79 (dk_at dksX6_begins_4 9 rfl rfl)
theorem dX6_begins_102 : decode cX6_begins 102 = .ok (.aload_n 0, 1) := dk_42 (dk_at dksX6_begins_4 10 rfl rfl)
theorem dX6_begins_103 : decode cX6_begins 103 = .ok (.getfield 18, 3) := dk_180 0 18 (dk_at dksX6_begins_4 11 rfl rfl)
theorem dX6_begins_106 : decode cX6_begins 106 = .ok (.iload_n 2, 1) := dk_28 (dk_at dksX6_begins_4 14 rfl rfl)
theorem dX6_begins_107 : decode cX6_begins 107 = .ok (.aload_n 1, 1) := dk_43 (dk_at dksX6_begins_4 15 rfl rfl)
theorem dX6_begins_108 : decode cX6_begins 108 = .ok (.getfield 49, 3) := dk_180 0 49 (dk_at dksX6_begins_4 16 rfl rfl)
theorem dX6_begins_111 : decode cX6_begins 111 = .ok (.iload_n 2, 1) := dk_28 (dk_at dksX6_begins_4 19 rfl rfl)
theorem dX6_begins_112 : decode cX6_begins 112 = .ok (.invokevirtual 59, 3) := dk_182 0 59 (dk_at dksX6_begins_4 20 rfl rfl)
theorem dX6_begins_115 : decode cX6_begins 115 = .ok (.checkcast 63, 3) := dk_192 0 63 (dk_at dksX6_begins_5 0 rfl rfl)
theorem dX6_begins_118 : decode cX6_begins 118 = .ok (.getfield 68, 3) := dk_180 0 68 (dk_at dksX6_begins_5 3 rfl rfl)
theorem dX6_begins_121 : decode cX6_begins 121 = .ok (.iastore, 1) := dk_79 (dk_at dksX6_begins_5 6 rfl rfl)
theorem dX6_begins_122 : decode cX6_begins 122 = .ok (.iinc 2 1, 3) := dk_132 2 1 (dk_at dksX6_begins_5 7 rfl rfl)
theorem dX6_begins_125 : decode cX6_begins 125 = .ok (.goto (-54), 3) := dk_167 255 202 (dk_at dksX6_begins_5 10 rfl rfl)
theorem dX6_begins_128 : decode cX6_begins 128 = .ok (.return_, 1) := dk_177 (dk_at dksX6_begins_5 13 rfl rfl)
abbrev cX6_isPeg : ByteArray := prog_13_method_4_code
def yX6_isPeg : MethodName := ⟨RX6, "isPeg", "(I)Z"⟩
def dkwX6_isPeg_0 : List UInt8 := [42, 180, 0, 43, 27, 122, 4, 126, 4, 160, 0, 7, 4, 167, 0, 4, 3, 172]
abbrev dktX6_isPeg_0 : List UInt8 := dkwX6_isPeg_0 ++ []
theorem dksX6_isPeg_0 : cX6_isPeg.data.toList.drop 0 = dktX6_isPeg_0 := by decide +kernel
theorem dX6_isPeg_0 : decode cX6_isPeg 0 = .ok (.aload_n 0, 1) := dk_42 (dk_at dksX6_isPeg_0 0 rfl rfl)
theorem dX6_isPeg_1 : decode cX6_isPeg 1 = .ok (.getfield 43, 3) := dk_180 0 43 (dk_at dksX6_isPeg_0 1 rfl rfl)
theorem dX6_isPeg_4 : decode cX6_isPeg 4 = .ok (.iload_n 1, 1) := dk_27 (dk_at dksX6_isPeg_0 4 rfl rfl)
theorem dX6_isPeg_5 : decode cX6_isPeg 5 = .ok (.ishr, 1) := dk_122 (dk_at dksX6_isPeg_0 5 rfl rfl)
theorem dX6_isPeg_6 : decode cX6_isPeg 6 = .ok (.iconst 1, 1) := dk_4 (dk_at dksX6_isPeg_0 6 rfl rfl)
theorem dX6_isPeg_7 : decode cX6_isPeg 7 = .ok (.iand, 1) := dk_126 (dk_at dksX6_isPeg_0 7 rfl rfl)
theorem dX6_isPeg_8 : decode cX6_isPeg 8 = .ok (.iconst 1, 1) := dk_4 (dk_at dksX6_isPeg_0 8 rfl rfl)
theorem dX6_isPeg_9 : decode cX6_isPeg 9 = .ok (.if_icmp .ne 7, 3) := dk_160 0 7 (dk_at dksX6_isPeg_0 9 rfl rfl)
theorem dX6_isPeg_12 : decode cX6_isPeg 12 = .ok (.iconst 1, 1) := dk_4 (dk_at dksX6_isPeg_0 12 rfl rfl)
theorem dX6_isPeg_13 : decode cX6_isPeg 13 = .ok (.goto 4, 3) := dk_167 0 4 (dk_at dksX6_isPeg_0 13 rfl rfl)
theorem dX6_isPeg_16 : decode cX6_isPeg 16 = .ok (.iconst 0, 1) := dk_3 (dk_at dksX6_isPeg_0 16 rfl rfl)
theorem dX6_isPeg_17 : decode cX6_isPeg 17 = .ok (.ireturn, 1) := dk_172 (dk_at dksX6_isPeg_0 17 rfl rfl)
abbrev cX6_like : ByteArray := prog_13_method_3_code
def yX6_like : MethodName := ⟨RX6, "like", "(LBlueBag$State;)V"⟩
def dkwX6_like_3 : List UInt8 := [180, 0, 31, 181, 0, 31, 42, 43, 180, 0, 43, 181, 0, 43, 177]
abbrev dktX6_like_3 : List UInt8 := dkwX6_like_3 ++ []
def dkwX6_like_2 : List UInt8 := [180, 0, 24, 181, 0, 24, 42, 43, 180, 0, 39, 181, 0, 39, 42, 43, 180, 0, 28, 181, 0, 28, 42, 43]
abbrev dktX6_like_2 : List UInt8 := dkwX6_like_2 ++ dktX6_like_3
def dkwX6_like_1 : List UInt8 := [3, 16, 6, 184, 0, 70, 43, 180, 0, 18, 3, 42, 180, 0, 18, 3, 16, 6, 184, 0, 70, 42, 43]
abbrev dktX6_like_1 : List UInt8 := dkwX6_like_1 ++ dktX6_like_2
def dkwX6_like_0 : List UInt8 := [43, 180, 0, 9, 3, 42, 180, 0, 9, 3, 16, 30, 184, 0, 70, 43, 180, 0, 15, 3, 42, 180, 0, 15]
abbrev dktX6_like_0 : List UInt8 := dkwX6_like_0 ++ dktX6_like_1
theorem dksX6_like_0 : cX6_like.data.toList.drop 0 = dktX6_like_0 := by decide +kernel
theorem dksX6_like_1 : cX6_like.data.toList.drop 24 = dktX6_like_1 := dk_seg dksX6_like_0 24 rfl rfl
theorem dksX6_like_2 : cX6_like.data.toList.drop 47 = dktX6_like_2 := dk_seg dksX6_like_1 23 rfl rfl
theorem dksX6_like_3 : cX6_like.data.toList.drop 71 = dktX6_like_3 := dk_seg dksX6_like_2 24 rfl rfl
theorem dX6_like_0 : decode cX6_like 0 = .ok (.aload_n 1, 1) := dk_43 (dk_at dksX6_like_0 0 rfl rfl)
theorem dX6_like_1 : decode cX6_like 1 = .ok (.getfield 9, 3) := dk_180 0 9 (dk_at dksX6_like_0 1 rfl rfl)
theorem dX6_like_4 : decode cX6_like 4 = .ok (.iconst 0, 1) := dk_3 (dk_at dksX6_like_0 4 rfl rfl)
theorem dX6_like_5 : decode cX6_like 5 = .ok (.aload_n 0, 1) := dk_42 (dk_at dksX6_like_0 5 rfl rfl)
theorem dX6_like_6 : decode cX6_like 6 = .ok (.getfield 9, 3) := dk_180 0 9 (dk_at dksX6_like_0 6 rfl rfl)
theorem dX6_like_9 : decode cX6_like 9 = .ok (.iconst 0, 1) := dk_3 (dk_at dksX6_like_0 9 rfl rfl)
theorem dX6_like_10 : decode cX6_like 10 = .ok (.bipush 30, 2) := dk_16 30 (dk_at dksX6_like_0 10 rfl rfl)
theorem dX6_like_12 : decode cX6_like 12 = .ok (.invokestatic 70, 3) := dk_184 0 70 (dk_at dksX6_like_0 12 rfl rfl)
theorem dX6_like_15 : decode cX6_like 15 = .ok (.aload_n 1, 1) := dk_43 (dk_at dksX6_like_0 15 rfl rfl)
theorem dX6_like_16 : decode cX6_like 16 = .ok (.getfield 15, 3) := dk_180 0 15 (dk_at dksX6_like_0 16 rfl rfl)
theorem dX6_like_19 : decode cX6_like 19 = .ok (.iconst 0, 1) := dk_3 (dk_at dksX6_like_0 19 rfl rfl)
theorem dX6_like_20 : decode cX6_like 20 = .ok (.aload_n 0, 1) := dk_42 (dk_at dksX6_like_0 20 rfl rfl)
theorem dX6_like_21 : decode cX6_like 21 = .ok (.getfield 15, 3) := dk_180 0 15 (dk_at dksX6_like_0 21 rfl rfl)
theorem dX6_like_24 : decode cX6_like 24 = .ok (.iconst 0, 1) := dk_3 (dk_at dksX6_like_1 0 rfl rfl)
theorem dX6_like_25 : decode cX6_like 25 = .ok (.bipush 6, 2) := dk_16 6 (dk_at dksX6_like_1 1 rfl rfl)
theorem dX6_like_27 : decode cX6_like 27 = .ok (.invokestatic 70, 3) := dk_184 0 70 (dk_at dksX6_like_1 3 rfl rfl)
theorem dX6_like_30 : decode cX6_like 30 = .ok (.aload_n 1, 1) := dk_43 (dk_at dksX6_like_1 6 rfl rfl)
theorem dX6_like_31 : decode cX6_like 31 = .ok (.getfield 18, 3) := dk_180 0 18 (dk_at dksX6_like_1 7 rfl rfl)
theorem dX6_like_34 : decode cX6_like 34 = .ok (.iconst 0, 1) := dk_3 (dk_at dksX6_like_1 10 rfl rfl)
theorem dX6_like_35 : decode cX6_like 35 = .ok (.aload_n 0, 1) := dk_42 (dk_at dksX6_like_1 11 rfl rfl)
theorem dX6_like_36 : decode cX6_like 36 = .ok (.getfield 18, 3) := dk_180 0 18 (dk_at dksX6_like_1 12 rfl rfl)
theorem dX6_like_39 : decode cX6_like 39 = .ok (.iconst 0, 1) := dk_3 (dk_at dksX6_like_1 15 rfl rfl)
theorem dX6_like_40 : decode cX6_like 40 = .ok (.bipush 6, 2) := dk_16 6 (dk_at dksX6_like_1 16 rfl rfl)
theorem dX6_like_42 : decode cX6_like 42 = .ok (.invokestatic 70, 3) := dk_184 0 70 (dk_at dksX6_like_1 18 rfl rfl)
theorem dX6_like_45 : decode cX6_like 45 = .ok (.aload_n 0, 1) := dk_42 (dk_at dksX6_like_1 21 rfl rfl)
theorem dX6_like_46 : decode cX6_like 46 = .ok (.aload_n 1, 1) := dk_43 (dk_at dksX6_like_1 22 rfl rfl)
theorem dX6_like_47 : decode cX6_like 47 = .ok (.getfield 24, 3) := dk_180 0 24 (dk_at dksX6_like_2 0 rfl rfl)
theorem dX6_like_50 : decode cX6_like 50 = .ok (.putfield 24, 3) := dk_181 0 24 (dk_at dksX6_like_2 3 rfl rfl)
theorem dX6_like_53 : decode cX6_like 53 = .ok (.aload_n 0, 1) := dk_42 (dk_at dksX6_like_2 6 rfl rfl)
theorem dX6_like_54 : decode cX6_like 54 = .ok (.aload_n 1, 1) := dk_43 (dk_at dksX6_like_2 7 rfl rfl)
theorem dX6_like_55 : decode cX6_like 55 = .ok (.getfield 39, 3) := dk_180 0 39 (dk_at dksX6_like_2 8 rfl rfl)
theorem dX6_like_58 : decode cX6_like 58 = .ok (.putfield 39, 3) := dk_181 0 39 (dk_at dksX6_like_2 11 rfl rfl)
theorem dX6_like_61 : decode cX6_like 61 = .ok (.aload_n 0, 1) := dk_42 (dk_at dksX6_like_2 14 rfl rfl)
theorem dX6_like_62 : decode cX6_like 62 = .ok (.aload_n 1, 1) := dk_43 (dk_at dksX6_like_2 15 rfl rfl)
theorem dX6_like_63 : decode cX6_like 63 = .ok (.getfield 28, 3) := dk_180 0 28 (dk_at dksX6_like_2 16 rfl rfl)
theorem dX6_like_66 : decode cX6_like 66 = .ok (.putfield 28, 3) := dk_181 0 28 (dk_at dksX6_like_2 19 rfl rfl)
theorem dX6_like_69 : decode cX6_like 69 = .ok (.aload_n 0, 1) := dk_42 (dk_at dksX6_like_2 22 rfl rfl)
theorem dX6_like_70 : decode cX6_like 70 = .ok (.aload_n 1, 1) := dk_43 (dk_at dksX6_like_2 23 rfl rfl)
theorem dX6_like_71 : decode cX6_like 71 = .ok (.getfield 31, 3) := dk_180 0 31 (dk_at dksX6_like_3 0 rfl rfl)
theorem dX6_like_74 : decode cX6_like 74 = .ok (.putfield 31, 3) := dk_181 0 31 (dk_at dksX6_like_3 3 rfl rfl)
theorem dX6_like_77 : decode cX6_like 77 = .ok (.aload_n 0, 1) := dk_42 (dk_at dksX6_like_3 6 rfl rfl)
theorem dX6_like_78 : decode cX6_like 78 = .ok (.aload_n 1, 1) := dk_43 (dk_at dksX6_like_3 7 rfl rfl)
theorem dX6_like_79 : decode cX6_like 79 = .ok (.getfield 43, 3) := dk_180 0 43 (dk_at dksX6_like_3 8 rfl rfl)
theorem dX6_like_82 : decode cX6_like 82 = .ok (.putfield 43, 3) := dk_181 0 43 (dk_at dksX6_like_3 11 rfl rfl)
theorem dX6_like_85 : decode cX6_like 85 = .ok (.return_, 1) := dk_177 (dk_at dksX6_like_3 14 rfl rfl)
abbrev cX6_goes : ByteArray := prog_13_method_11_code
def yX6_goes : MethodName := ⟨RX6, "goes", "(LBlueBag$Coast;)V"⟩
def dkwX6_goes_9 : List UInt8 := [79, 132, 2, 1, 167, 255, 230, 42, 89, 180, 0, 24, 4, 96, 181, 0, 24, 177]
abbrev dktX6_goes_9 : List UInt8 := dkwX6_goes_9 ++ []
def dkwX6_goes_8 : List UInt8 := [3, 61, 28, 43, 182, 0, 82, 162, 0, 24, 42, 180, 0, 9, 28, 92, 46, 42, 180, 0, 21, 28, 46, 100]
abbrev dktX6_goes_8 : List UInt8 := dkwX6_goes_8 ++ dktX6_goes_9
def dkwX6_goes_7 : List UInt8 := [182, 0, 82, 162, 0, 21, 42, 180, 0, 21, 28, 42, 43, 28, 182, 0, 174, 79, 132, 2, 1, 167, 255, 233]
abbrev dktX6_goes_7 : List UInt8 := dkwX6_goes_7 ++ dktX6_goes_8
def dkwX6_goes_6 : List UInt8 := [180, 0, 9, 28, 46, 43, 180, 0, 171, 100, 184, 0, 135, 79, 132, 2, 1, 167, 255, 224, 3, 61, 28, 43]
abbrev dktX6_goes_6 : List UInt8 := dkwX6_goes_6 ++ dktX6_goes_7
def dkwX6_goes_5 : List UInt8 := [184, 0, 76, 181, 0, 28, 3, 61, 28, 43, 182, 0, 82, 162, 0, 30, 42, 180, 0, 9, 28, 3, 42]
abbrev dktX6_goes_5 : List UInt8 := dkwX6_goes_5 ++ dktX6_goes_6
def dkwX6_goes_4 : List UInt8 := [132, 2, 1, 167, 255, 220, 42, 17, 39, 15, 42, 180, 0, 28, 42, 180, 0, 152, 184, 0, 165, 96]
abbrev dktX6_goes_4 : List UInt8 := dkwX6_goes_4 ++ dktX6_goes_5
def dkwX6_goes_3 : List UInt8 := [180, 0, 9, 28, 46, 43, 180, 0, 162, 164, 0, 15, 42, 89, 180, 0, 152, 4, 28, 120, 128, 181, 0, 152]
abbrev dktX6_goes_3 : List UInt8 := dkwX6_goes_3 ++ dktX6_goes_4
def dkwX6_goes_2 : List UInt8 := [43, 28, 182, 0, 158, 132, 2, 1, 167, 255, 208, 3, 61, 28, 43, 182, 0, 82, 162, 0, 34, 42]
abbrev dktX6_goes_2 : List UInt8 := dkwX6_goes_2 ++ dktX6_goes_3
def dkwX6_goes_1 : List UInt8 := [154, 0, 29, 42, 180, 0, 39, 154, 0, 6, 167, 0, 19, 42, 89, 180, 0, 39, 4, 100, 181, 0, 39, 42]
abbrev dktX6_goes_1 : List UInt8 := dkwX6_goes_1 ++ dktX6_goes_2
def dkwX6_goes_0 : List UInt8 := [42, 3, 181, 0, 152, 3, 61, 28, 43, 180, 0, 49, 182, 0, 53, 162, 0, 43, 42, 28, 182, 0, 155]
abbrev dktX6_goes_0 : List UInt8 := dkwX6_goes_0 ++ dktX6_goes_1
theorem dksX6_goes_0 : cX6_goes.data.toList.drop 0 = dktX6_goes_0 := by decide +kernel
theorem dksX6_goes_1 : cX6_goes.data.toList.drop 23 = dktX6_goes_1 := dk_seg dksX6_goes_0 23 rfl rfl
theorem dksX6_goes_2 : cX6_goes.data.toList.drop 47 = dktX6_goes_2 := dk_seg dksX6_goes_1 24 rfl rfl
theorem dksX6_goes_3 : cX6_goes.data.toList.drop 69 = dktX6_goes_3 := dk_seg dksX6_goes_2 22 rfl rfl
theorem dksX6_goes_4 : cX6_goes.data.toList.drop 93 = dktX6_goes_4 := dk_seg dksX6_goes_3 24 rfl rfl
theorem dksX6_goes_5 : cX6_goes.data.toList.drop 115 = dktX6_goes_5 := dk_seg dksX6_goes_4 22 rfl rfl
theorem dksX6_goes_6 : cX6_goes.data.toList.drop 138 = dktX6_goes_6 := dk_seg dksX6_goes_5 23 rfl rfl
theorem dksX6_goes_7 : cX6_goes.data.toList.drop 162 = dktX6_goes_7 := dk_seg dksX6_goes_6 24 rfl rfl
theorem dksX6_goes_8 : cX6_goes.data.toList.drop 186 = dktX6_goes_8 := dk_seg dksX6_goes_7 24 rfl rfl
theorem dksX6_goes_9 : cX6_goes.data.toList.drop 210 = dktX6_goes_9 := dk_seg dksX6_goes_8 24 rfl rfl
theorem dX6_goes_0 : decode cX6_goes 0 = .ok (.aload_n 0, 1) := dk_42 (dk_at dksX6_goes_0 0 rfl rfl)
theorem dX6_goes_1 : decode cX6_goes 1 = .ok (.iconst 0, 1) := dk_3 (dk_at dksX6_goes_0 1 rfl rfl)
theorem dX6_goes_2 : decode cX6_goes 2 = .ok (.putfield 152, 3) := dk_181 0 152 (dk_at dksX6_goes_0 2 rfl rfl)
theorem dX6_goes_5 : decode cX6_goes 5 = .ok (.iconst 0, 1) := dk_3 (dk_at dksX6_goes_0 5 rfl rfl)
theorem dX6_goes_6 : decode cX6_goes 6 = .ok (.istore_n 2, 1) := dk_61 (dk_at dksX6_goes_0 6 rfl rfl)
theorem dX6_goes_7 : decode cX6_goes 7 = .ok (.iload_n 2, 1) := dk_28 (dk_at dksX6_goes_0 7 rfl rfl)
theorem dX6_goes_8 : decode cX6_goes 8 = .ok (.aload_n 1, 1) := dk_43 (dk_at dksX6_goes_0 8 rfl rfl)
theorem dX6_goes_9 : decode cX6_goes 9 = .ok (.getfield 49, 3) := dk_180 0 49 (dk_at dksX6_goes_0 9 rfl rfl)
theorem dX6_goes_12 : decode cX6_goes 12 = .ok (.invokevirtual 53, 3) := dk_182 0 53 (dk_at dksX6_goes_0 12 rfl rfl)
theorem dX6_goes_15 : decode cX6_goes 15 = .ok (.if_icmp .ge 43, 3) := dk_162 0 43 (dk_at dksX6_goes_0 15 rfl rfl)
theorem dX6_goes_18 : decode cX6_goes 18 = .ok (.aload_n 0, 1) := dk_42 (dk_at dksX6_goes_0 18 rfl rfl)
theorem dX6_goes_19 : decode cX6_goes 19 = .ok (.iload_n 2, 1) := dk_28 (dk_at dksX6_goes_0 19 rfl rfl)
theorem dX6_goes_20 : decode cX6_goes 20 = .ok (.invokevirtual 155, 3) := dk_182 0 155 (dk_at dksX6_goes_0 20 rfl rfl)
theorem dX6_goes_23 : decode cX6_goes 23 = .ok (.ifCond .ne 29, 3) := dk_154 0 29 (dk_at dksX6_goes_1 0 rfl rfl)
theorem dX6_goes_26 : decode cX6_goes 26 = .ok (.aload_n 0, 1) := dk_42 (dk_at dksX6_goes_1 3 rfl rfl)
theorem dX6_goes_27 : decode cX6_goes 27 = .ok (.getfield 39, 3) := dk_180 0 39 (dk_at dksX6_goes_1 4 rfl rfl)
theorem dX6_goes_30 : decode cX6_goes 30 = .ok (.ifCond .ne 6, 3) := dk_154 0 6 (dk_at dksX6_goes_1 7 rfl rfl)
theorem dX6_goes_33 : decode cX6_goes 33 = .ok (.goto 19, 3) := dk_167 0 19 (dk_at dksX6_goes_1 10 rfl rfl)
theorem dX6_goes_36 : decode cX6_goes 36 = .ok (.aload_n 0, 1) := dk_42 (dk_at dksX6_goes_1 13 rfl rfl)
theorem dX6_goes_37 : decode cX6_goes 37 = .ok (.dup, 1) := dk_89 (dk_at dksX6_goes_1 14 rfl rfl)
theorem dX6_goes_38 : decode cX6_goes 38 = .ok (.getfield 39, 3) := dk_180 0 39 (dk_at dksX6_goes_1 15 rfl rfl)
theorem dX6_goes_41 : decode cX6_goes 41 = .ok (.iconst 1, 1) := dk_4 (dk_at dksX6_goes_1 18 rfl rfl)
theorem dX6_goes_42 : decode cX6_goes 42 = .ok (.isub, 1) := dk_100 (dk_at dksX6_goes_1 19 rfl rfl)
theorem dX6_goes_43 : decode cX6_goes 43 = .ok (.putfield 39, 3) := dk_181 0 39 (dk_at dksX6_goes_1 20 rfl rfl)
theorem dX6_goes_46 : decode cX6_goes 46 = .ok (.aload_n 0, 1) := dk_42 (dk_at dksX6_goes_1 23 rfl rfl)
theorem dX6_goes_47 : decode cX6_goes 47 = .ok (.aload_n 1, 1) := dk_43 (dk_at dksX6_goes_2 0 rfl rfl)
theorem dX6_goes_48 : decode cX6_goes 48 = .ok (.iload_n 2, 1) := dk_28 (dk_at dksX6_goes_2 1 rfl rfl)
theorem dX6_goes_49 : decode cX6_goes 49 = .ok (.invokevirtual 158, 3) := dk_182 0 158 (dk_at dksX6_goes_2 2 rfl rfl)
theorem dX6_goes_52 : decode cX6_goes 52 = .ok (.iinc 2 1, 3) := dk_132 2 1 (dk_at dksX6_goes_2 5 rfl rfl)
theorem dX6_goes_55 : decode cX6_goes 55 = .ok (.goto (-48), 3) := dk_167 255 208 (dk_at dksX6_goes_2 8 rfl rfl)
theorem dX6_goes_58 : decode cX6_goes 58 = .ok (.iconst 0, 1) := dk_3 (dk_at dksX6_goes_2 11 rfl rfl)
theorem dX6_goes_59 : decode cX6_goes 59 = .ok (.istore_n 2, 1) := dk_61 (dk_at dksX6_goes_2 12 rfl rfl)
theorem dX6_goes_60 : decode cX6_goes 60 = .ok (.iload_n 2, 1) := dk_28 (dk_at dksX6_goes_2 13 rfl rfl)
theorem dX6_goes_61 : decode cX6_goes 61 = .ok (.aload_n 1, 1) := dk_43 (dk_at dksX6_goes_2 14 rfl rfl)
theorem dX6_goes_62 : decode cX6_goes 62 = .ok (.invokevirtual 82, 3) := dk_182 0 82 (dk_at dksX6_goes_2 15 rfl rfl)
theorem dX6_goes_65 : decode cX6_goes 65 = .ok (.if_icmp .ge 34, 3) := dk_162 0 34 (dk_at dksX6_goes_2 18 rfl rfl)
theorem dX6_goes_68 : decode cX6_goes 68 = .ok (.aload_n 0, 1) := dk_42 (dk_at dksX6_goes_2 21 rfl rfl)
theorem dX6_goes_69 : decode cX6_goes 69 = .ok (.getfield 9, 3) := dk_180 0 9 (dk_at dksX6_goes_3 0 rfl rfl)
theorem dX6_goes_72 : decode cX6_goes 72 = .ok (.iload_n 2, 1) := dk_28 (dk_at dksX6_goes_3 3 rfl rfl)
theorem dX6_goes_73 : decode cX6_goes 73 = .ok (.iaload, 1) := dk_46 (dk_at dksX6_goes_3 4 rfl rfl)
theorem dX6_goes_74 : decode cX6_goes 74 = .ok (.aload_n 1, 1) := dk_43 (dk_at dksX6_goes_3 5 rfl rfl)
theorem dX6_goes_75 : decode cX6_goes 75 = .ok (.getfield 162, 3) := dk_180 0 162 (dk_at dksX6_goes_3 6 rfl rfl)
theorem dX6_goes_78 : decode cX6_goes 78 = .ok (.if_icmp .le 15, 3) := dk_164 0 15 (dk_at dksX6_goes_3 9 rfl rfl)
theorem dX6_goes_81 : decode cX6_goes 81 = .ok (.aload_n 0, 1) := dk_42 (dk_at dksX6_goes_3 12 rfl rfl)
theorem dX6_goes_82 : decode cX6_goes 82 = .ok (.dup, 1) := dk_89 (dk_at dksX6_goes_3 13 rfl rfl)
theorem dX6_goes_83 : decode cX6_goes 83 = .ok (.getfield 152, 3) := dk_180 0 152 (dk_at dksX6_goes_3 14 rfl rfl)
theorem dX6_goes_86 : decode cX6_goes 86 = .ok (.iconst 1, 1) := dk_4 (dk_at dksX6_goes_3 17 rfl rfl)
theorem dX6_goes_87 : decode cX6_goes 87 = .ok (.iload_n 2, 1) := dk_28 (dk_at dksX6_goes_3 18 rfl rfl)
theorem dX6_goes_88 : decode cX6_goes 88 = .ok (.ishl, 1) := dk_120 (dk_at dksX6_goes_3 19 rfl rfl)
theorem dX6_goes_89 : decode cX6_goes 89 = .ok (.ior, 1) := dk_128 (dk_at dksX6_goes_3 20 rfl rfl)
theorem dX6_goes_90 : decode cX6_goes 90 = .ok (.putfield 152, 3) := dk_181 0 152 (dk_at dksX6_goes_3 21 rfl rfl)
theorem dX6_goes_93 : decode cX6_goes 93 = .ok (.iinc 2 1, 3) := dk_132 2 1 (dk_at dksX6_goes_4 0 rfl rfl)
theorem dX6_goes_96 : decode cX6_goes 96 = .ok (.goto (-36), 3) := dk_167 255 220 (dk_at dksX6_goes_4 3 rfl rfl)
theorem dX6_goes_99 : decode cX6_goes 99 = .ok (.aload_n 0, 1) := dk_42 (dk_at dksX6_goes_4 6 rfl rfl)
theorem dX6_goes_100 : decode cX6_goes 100 = .ok (.sipush 9999, 3) := dk_17 39 15 (dk_at dksX6_goes_4 7 rfl rfl)
theorem dX6_goes_103 : decode cX6_goes 103 = .ok (.aload_n 0, 1) := dk_42 (dk_at dksX6_goes_4 10 rfl rfl)
theorem dX6_goes_104 : decode cX6_goes 104 = .ok (.getfield 28, 3) := dk_180 0 28 (dk_at dksX6_goes_4 11 rfl rfl)
theorem dX6_goes_107 : decode cX6_goes 107 = .ok (.aload_n 0, 1) := dk_42 (dk_at dksX6_goes_4 14 rfl rfl)
theorem dX6_goes_108 : decode cX6_goes 108 = .ok (.getfield 152, 3) := dk_180 0 152 (dk_at dksX6_goes_4 15 rfl rfl)
theorem dX6_goes_111 : decode cX6_goes 111 = .ok (.invokestatic 165, 3) := dk_184 0 165 (dk_at dksX6_goes_4 18 rfl rfl)
theorem dX6_goes_114 : decode cX6_goes 114 = .ok (.iadd, 1) := dk_96 (dk_at dksX6_goes_4 21 rfl rfl)
theorem dX6_goes_115 : decode cX6_goes 115 = .ok (.invokestatic 76, 3) := dk_184 0 76 (dk_at dksX6_goes_5 0 rfl rfl)
theorem dX6_goes_118 : decode cX6_goes 118 = .ok (.putfield 28, 3) := dk_181 0 28 (dk_at dksX6_goes_5 3 rfl rfl)
theorem dX6_goes_121 : decode cX6_goes 121 = .ok (.iconst 0, 1) := dk_3 (dk_at dksX6_goes_5 6 rfl rfl)
theorem dX6_goes_122 : decode cX6_goes 122 = .ok (.istore_n 2, 1) := dk_61 (dk_at dksX6_goes_5 7 rfl rfl)
theorem dX6_goes_123 : decode cX6_goes 123 = .ok (.iload_n 2, 1) := dk_28 (dk_at dksX6_goes_5 8 rfl rfl)
theorem dX6_goes_124 : decode cX6_goes 124 = .ok (.aload_n 1, 1) := dk_43 (dk_at dksX6_goes_5 9 rfl rfl)
theorem dX6_goes_125 : decode cX6_goes 125 = .ok (.invokevirtual 82, 3) := dk_182 0 82 (dk_at dksX6_goes_5 10 rfl rfl)
theorem dX6_goes_128 : decode cX6_goes 128 = .ok (.if_icmp .ge 30, 3) := dk_162 0 30 (dk_at dksX6_goes_5 13 rfl rfl)
theorem dX6_goes_131 : decode cX6_goes 131 = .ok (.aload_n 0, 1) := dk_42 (dk_at dksX6_goes_5 16 rfl rfl)
theorem dX6_goes_132 : decode cX6_goes 132 = .ok (.getfield 9, 3) := dk_180 0 9 (dk_at dksX6_goes_5 17 rfl rfl)
theorem dX6_goes_135 : decode cX6_goes 135 = .ok (.iload_n 2, 1) := dk_28 (dk_at dksX6_goes_5 20 rfl rfl)
theorem dX6_goes_136 : decode cX6_goes 136 = .ok (.iconst 0, 1) := dk_3 (dk_at dksX6_goes_5 21 rfl rfl)
theorem dX6_goes_137 : decode cX6_goes 137 = .ok (.aload_n 0, 1) := dk_42 (dk_at dksX6_goes_5 22 rfl rfl)
theorem dX6_goes_138 : decode cX6_goes 138 = .ok (.getfield 9, 3) := dk_180 0 9 (dk_at dksX6_goes_6 0 rfl rfl)
theorem dX6_goes_141 : decode cX6_goes 141 = .ok (.iload_n 2, 1) := dk_28 (dk_at dksX6_goes_6 3 rfl rfl)
theorem dX6_goes_142 : decode cX6_goes 142 = .ok (.iaload, 1) := dk_46 (dk_at dksX6_goes_6 4 rfl rfl)
theorem dX6_goes_143 : decode cX6_goes 143 = .ok (.aload_n 1, 1) := dk_43 (dk_at dksX6_goes_6 5 rfl rfl)
theorem dX6_goes_144 : decode cX6_goes 144 = .ok (.getfield 171, 3) := dk_180 0 171 (dk_at dksX6_goes_6 6 rfl rfl)
theorem dX6_goes_147 : decode cX6_goes 147 = .ok (.isub, 1) := dk_100 (dk_at dksX6_goes_6 9 rfl rfl)
theorem dX6_goes_148 : decode cX6_goes 148 = .ok (.invokestatic 135, 3) := dk_184 0 135 (dk_at dksX6_goes_6 10 rfl rfl)
theorem dX6_goes_151 : decode cX6_goes 151 = .ok (.iastore, 1) := dk_79 (dk_at dksX6_goes_6 13 rfl rfl)
theorem dX6_goes_152 : decode cX6_goes 152 = .ok (.iinc 2 1, 3) := dk_132 2 1 (dk_at dksX6_goes_6 14 rfl rfl)
theorem dX6_goes_155 : decode cX6_goes 155 = .ok (.goto (-32), 3) := dk_167 255 224 (dk_at dksX6_goes_6 17 rfl rfl)
theorem dX6_goes_158 : decode cX6_goes 158 = .ok (.iconst 0, 1) := dk_3 (dk_at dksX6_goes_6 20 rfl rfl)
theorem dX6_goes_159 : decode cX6_goes 159 = .ok (.istore_n 2, 1) := dk_61 (dk_at dksX6_goes_6 21 rfl rfl)
theorem dX6_goes_160 : decode cX6_goes 160 = .ok (.iload_n 2, 1) := dk_28 (dk_at dksX6_goes_6 22 rfl rfl)
theorem dX6_goes_161 : decode cX6_goes 161 = .ok (.aload_n 1, 1) := dk_43 (dk_at dksX6_goes_6 23 rfl rfl)
theorem dX6_goes_162 : decode cX6_goes 162 = .ok (.invokevirtual 82, 3) := dk_182 0 82 (dk_at dksX6_goes_7 0 rfl rfl)
theorem dX6_goes_165 : decode cX6_goes 165 = .ok (.if_icmp .ge 21, 3) := dk_162 0 21 (dk_at dksX6_goes_7 3 rfl rfl)
theorem dX6_goes_168 : decode cX6_goes 168 = .ok (.aload_n 0, 1) := dk_42 (dk_at dksX6_goes_7 6 rfl rfl)
theorem dX6_goes_169 : decode cX6_goes 169 = .ok (.getfield 21, 3) := dk_180 0 21 (dk_at dksX6_goes_7 7 rfl rfl)
theorem dX6_goes_172 : decode cX6_goes 172 = .ok (.iload_n 2, 1) := dk_28 (dk_at dksX6_goes_7 10 rfl rfl)
theorem dX6_goes_173 : decode cX6_goes 173 = .ok (.aload_n 0, 1) := dk_42 (dk_at dksX6_goes_7 11 rfl rfl)
theorem dX6_goes_174 : decode cX6_goes 174 = .ok (.aload_n 1, 1) := dk_43 (dk_at dksX6_goes_7 12 rfl rfl)
theorem dX6_goes_175 : decode cX6_goes 175 = .ok (.iload_n 2, 1) := dk_28 (dk_at dksX6_goes_7 13 rfl rfl)
theorem dX6_goes_176 : decode cX6_goes 176 = .ok (.invokevirtual 174, 3) := dk_182 0 174 (dk_at dksX6_goes_7 14 rfl rfl)
theorem dX6_goes_179 : decode cX6_goes 179 = .ok (.iastore, 1) := dk_79 (dk_at dksX6_goes_7 17 rfl rfl)
theorem dX6_goes_180 : decode cX6_goes 180 = .ok (.iinc 2 1, 3) := dk_132 2 1 (dk_at dksX6_goes_7 18 rfl rfl)
theorem dX6_goes_183 : decode cX6_goes 183 = .ok (.goto (-23), 3) := dk_167 255 233 (dk_at dksX6_goes_7 21 rfl rfl)
theorem dX6_goes_186 : decode cX6_goes 186 = .ok (.iconst 0, 1) := dk_3 (dk_at dksX6_goes_8 0 rfl rfl)
theorem dX6_goes_187 : decode cX6_goes 187 = .ok (.istore_n 2, 1) := dk_61 (dk_at dksX6_goes_8 1 rfl rfl)
theorem dX6_goes_188 : decode cX6_goes 188 = .ok (.iload_n 2, 1) := dk_28 (dk_at dksX6_goes_8 2 rfl rfl)
theorem dX6_goes_189 : decode cX6_goes 189 = .ok (.aload_n 1, 1) := dk_43 (dk_at dksX6_goes_8 3 rfl rfl)
theorem dX6_goes_190 : decode cX6_goes 190 = .ok (.invokevirtual 82, 3) := dk_182 0 82 (dk_at dksX6_goes_8 4 rfl rfl)
theorem dX6_goes_193 : decode cX6_goes 193 = .ok (.if_icmp .ge 24, 3) := dk_162 0 24 (dk_at dksX6_goes_8 7 rfl rfl)
theorem dX6_goes_196 : decode cX6_goes 196 = .ok (.aload_n 0, 1) := dk_42 (dk_at dksX6_goes_8 10 rfl rfl)
theorem dX6_goes_197 : decode cX6_goes 197 = .ok (.getfield 9, 3) := dk_180 0 9 (dk_at dksX6_goes_8 11 rfl rfl)
theorem dX6_goes_200 : decode cX6_goes 200 = .ok (.iload_n 2, 1) := dk_28 (dk_at dksX6_goes_8 14 rfl rfl)
theorem dX6_goes_201 : decode cX6_goes 201 = .ok (.dup2, 1) := dk_92 (dk_at dksX6_goes_8 15 rfl rfl)
theorem dX6_goes_202 : decode cX6_goes 202 = .ok (.iaload, 1) := dk_46 (dk_at dksX6_goes_8 16 rfl rfl)
theorem dX6_goes_203 : decode cX6_goes 203 = .ok (.aload_n 0, 1) := dk_42 (dk_at dksX6_goes_8 17 rfl rfl)
theorem dX6_goes_204 : decode cX6_goes 204 = .ok (.getfield 21, 3) := dk_180 0 21 (dk_at dksX6_goes_8 18 rfl rfl)
theorem dX6_goes_207 : decode cX6_goes 207 = .ok (.iload_n 2, 1) := dk_28 (dk_at dksX6_goes_8 21 rfl rfl)
theorem dX6_goes_208 : decode cX6_goes 208 = .ok (.iaload, 1) := dk_46 (dk_at dksX6_goes_8 22 rfl rfl)
theorem dX6_goes_209 : decode cX6_goes 209 = .ok (.isub, 1) := dk_100 (dk_at dksX6_goes_8 23 rfl rfl)
theorem dX6_goes_210 : decode cX6_goes 210 = .ok (.iastore, 1) := dk_79 (dk_at dksX6_goes_9 0 rfl rfl)
theorem dX6_goes_211 : decode cX6_goes 211 = .ok (.iinc 2 1, 3) := dk_132 2 1 (dk_at dksX6_goes_9 1 rfl rfl)
theorem dX6_goes_214 : decode cX6_goes 214 = .ok (.goto (-26), 3) := dk_167 255 230 (dk_at dksX6_goes_9 4 rfl rfl)
theorem dX6_goes_217 : decode cX6_goes 217 = .ok (.aload_n 0, 1) := dk_42 (dk_at dksX6_goes_9 7 rfl rfl)
theorem dX6_goes_218 : decode cX6_goes 218 = .ok (.dup, 1) := dk_89 (dk_at dksX6_goes_9 8 rfl rfl)
theorem dX6_goes_219 : decode cX6_goes 219 = .ok (.getfield 24, 3) := dk_180 0 24 (dk_at dksX6_goes_9 9 rfl rfl)
theorem dX6_goes_222 : decode cX6_goes 222 = .ok (.iconst 1, 1) := dk_4 (dk_at dksX6_goes_9 12 rfl rfl)
theorem dX6_goes_223 : decode cX6_goes 223 = .ok (.iadd, 1) := dk_96 (dk_at dksX6_goes_9 13 rfl rfl)
theorem dX6_goes_224 : decode cX6_goes 224 = .ok (.putfield 24, 3) := dk_181 0 24 (dk_at dksX6_goes_9 14 rfl rfl)
theorem dX6_goes_227 : decode cX6_goes 227 = .ok (.return_, 1) := dk_177 (dk_at dksX6_goes_9 17 rfl rfl)
abbrev cX6_isResting : ByteArray := prog_13_method_5_code
def yX6_isResting : MethodName := ⟨RX6, "isResting", "(I)Z"⟩
def dkwX6_isResting_0 : List UInt8 := [42, 180, 0, 31, 27, 122, 4, 126, 4, 160, 0, 7, 4, 167, 0, 4, 3, 172]
abbrev dktX6_isResting_0 : List UInt8 := dkwX6_isResting_0 ++ []
theorem dksX6_isResting_0 : cX6_isResting.data.toList.drop 0 = dktX6_isResting_0 := by decide +kernel
theorem dX6_isResting_0 : decode cX6_isResting 0 = .ok (.aload_n 0, 1) := dk_42 (dk_at dksX6_isResting_0 0 rfl rfl)
theorem dX6_isResting_1 : decode cX6_isResting 1 = .ok (.getfield 31, 3) := dk_180 0 31 (dk_at dksX6_isResting_0 1 rfl rfl)
theorem dX6_isResting_4 : decode cX6_isResting 4 = .ok (.iload_n 1, 1) := dk_27 (dk_at dksX6_isResting_0 4 rfl rfl)
theorem dX6_isResting_5 : decode cX6_isResting 5 = .ok (.ishr, 1) := dk_122 (dk_at dksX6_isResting_0 5 rfl rfl)
theorem dX6_isResting_6 : decode cX6_isResting 6 = .ok (.iconst 1, 1) := dk_4 (dk_at dksX6_isResting_0 6 rfl rfl)
theorem dX6_isResting_7 : decode cX6_isResting 7 = .ok (.iand, 1) := dk_126 (dk_at dksX6_isResting_0 7 rfl rfl)
theorem dX6_isResting_8 : decode cX6_isResting 8 = .ok (.iconst 1, 1) := dk_4 (dk_at dksX6_isResting_0 8 rfl rfl)
theorem dX6_isResting_9 : decode cX6_isResting 9 = .ok (.if_icmp .ne 7, 3) := dk_160 0 7 (dk_at dksX6_isResting_0 9 rfl rfl)
theorem dX6_isResting_12 : decode cX6_isResting 12 = .ok (.iconst 1, 1) := dk_4 (dk_at dksX6_isResting_0 12 rfl rfl)
theorem dX6_isResting_13 : decode cX6_isResting 13 = .ok (.goto 4, 3) := dk_167 0 4 (dk_at dksX6_isResting_0 13 rfl rfl)
theorem dX6_isResting_16 : decode cX6_isResting 16 = .ok (.iconst 0, 1) := dk_3 (dk_at dksX6_isResting_0 16 rfl rfl)
theorem dX6_isResting_17 : decode cX6_isResting 17 = .ok (.ireturn, 1) := dk_172 (dk_at dksX6_isResting_0 17 rfl rfl)
abbrev cX6_swishes : ByteArray := prog_13_method_9_code
def yX6_swishes : MethodName := ⟨RX6, "swishes", "(LBlueBag$Coast;I)V"⟩
def dkwX6_swishes_1 : List UInt8 := [180, 0, 49, 28, 182, 0, 59, 192, 0, 63, 43, 42, 42, 180, 0, 15, 28, 46, 29, 182, 0, 145, 177]
abbrev dktX6_swishes_1 : List UInt8 := dkwX6_swishes_1 ++ []
def dkwX6_swishes_0 : List UInt8 := [42, 43, 28, 42, 180, 0, 39, 182, 0, 138, 62, 42, 42, 180, 0, 15, 28, 46, 29, 182, 0, 141, 43]
abbrev dktX6_swishes_0 : List UInt8 := dkwX6_swishes_0 ++ dktX6_swishes_1
theorem dksX6_swishes_0 : cX6_swishes.data.toList.drop 0 = dktX6_swishes_0 := by decide +kernel
theorem dksX6_swishes_1 : cX6_swishes.data.toList.drop 23 = dktX6_swishes_1 := dk_seg dksX6_swishes_0 23 rfl rfl
theorem dX6_swishes_0 : decode cX6_swishes 0 = .ok (.aload_n 0, 1) := dk_42 (dk_at dksX6_swishes_0 0 rfl rfl)
theorem dX6_swishes_1 : decode cX6_swishes 1 = .ok (.aload_n 1, 1) := dk_43 (dk_at dksX6_swishes_0 1 rfl rfl)
theorem dX6_swishes_2 : decode cX6_swishes 2 = .ok (.iload_n 2, 1) := dk_28 (dk_at dksX6_swishes_0 2 rfl rfl)
theorem dX6_swishes_3 : decode cX6_swishes 3 = .ok (.aload_n 0, 1) := dk_42 (dk_at dksX6_swishes_0 3 rfl rfl)
theorem dX6_swishes_4 : decode cX6_swishes 4 = .ok (.getfield 39, 3) := dk_180 0 39 (dk_at dksX6_swishes_0 4 rfl rfl)
theorem dX6_swishes_7 : decode cX6_swishes 7 = .ok (.invokevirtual 138, 3) := dk_182 0 138 (dk_at dksX6_swishes_0 7 rfl rfl)
theorem dX6_swishes_10 : decode cX6_swishes 10 = .ok (.istore_n 3, 1) := dk_62 (dk_at dksX6_swishes_0 10 rfl rfl)
theorem dX6_swishes_11 : decode cX6_swishes 11 = .ok (.aload_n 0, 1) := dk_42 (dk_at dksX6_swishes_0 11 rfl rfl)
theorem dX6_swishes_12 : decode cX6_swishes 12 = .ok (.aload_n 0, 1) := dk_42 (dk_at dksX6_swishes_0 12 rfl rfl)
theorem dX6_swishes_13 : decode cX6_swishes 13 = .ok (.getfield 15, 3) := dk_180 0 15 (dk_at dksX6_swishes_0 13 rfl rfl)
theorem dX6_swishes_16 : decode cX6_swishes 16 = .ok (.iload_n 2, 1) := dk_28 (dk_at dksX6_swishes_0 16 rfl rfl)
theorem dX6_swishes_17 : decode cX6_swishes 17 = .ok (.iaload, 1) := dk_46 (dk_at dksX6_swishes_0 17 rfl rfl)
theorem dX6_swishes_18 : decode cX6_swishes 18 = .ok (.iload_n 3, 1) := dk_29 (dk_at dksX6_swishes_0 18 rfl rfl)
theorem dX6_swishes_19 : decode cX6_swishes 19 = .ok (.invokevirtual 141, 3) := dk_182 0 141 (dk_at dksX6_swishes_0 19 rfl rfl)
theorem dX6_swishes_22 : decode cX6_swishes 22 = .ok (.aload_n 1, 1) := dk_43 (dk_at dksX6_swishes_0 22 rfl rfl)
theorem dX6_swishes_23 : decode cX6_swishes 23 = .ok (.getfield 49, 3) := dk_180 0 49 (dk_at dksX6_swishes_1 0 rfl rfl)
theorem dX6_swishes_26 : decode cX6_swishes 26 = .ok (.iload_n 2, 1) := dk_28 (dk_at dksX6_swishes_1 3 rfl rfl)
theorem dX6_swishes_27 : decode cX6_swishes 27 = .ok (.invokevirtual 59, 3) := dk_182 0 59 (dk_at dksX6_swishes_1 4 rfl rfl)
theorem dX6_swishes_30 : decode cX6_swishes 30 = .ok (.checkcast 63, 3) := dk_192 0 63 (dk_at dksX6_swishes_1 7 rfl rfl)
theorem dX6_swishes_33 : decode cX6_swishes 33 = .ok (.aload_n 1, 1) := dk_43 (dk_at dksX6_swishes_1 10 rfl rfl)
theorem dX6_swishes_34 : decode cX6_swishes 34 = .ok (.aload_n 0, 1) := dk_42 (dk_at dksX6_swishes_1 11 rfl rfl)
theorem dX6_swishes_35 : decode cX6_swishes 35 = .ok (.aload_n 0, 1) := dk_42 (dk_at dksX6_swishes_1 12 rfl rfl)
theorem dX6_swishes_36 : decode cX6_swishes 36 = .ok (.getfield 15, 3) := dk_180 0 15 (dk_at dksX6_swishes_1 13 rfl rfl)
theorem dX6_swishes_39 : decode cX6_swishes 39 = .ok (.iload_n 2, 1) := dk_28 (dk_at dksX6_swishes_1 16 rfl rfl)
theorem dX6_swishes_40 : decode cX6_swishes 40 = .ok (.iaload, 1) := dk_46 (dk_at dksX6_swishes_1 17 rfl rfl)
theorem dX6_swishes_41 : decode cX6_swishes 41 = .ok (.iload_n 3, 1) := dk_29 (dk_at dksX6_swishes_1 18 rfl rfl)
theorem dX6_swishes_42 : decode cX6_swishes 42 = .ok (.invokevirtual 145, 3) := dk_182 0 145 (dk_at dksX6_swishes_1 19 rfl rfl)
theorem dX6_swishes_45 : decode cX6_swishes 45 = .ok (.return_, 1) := dk_177 (dk_at dksX6_swishes_1 22 rfl rfl)
abbrev cX6_dyes : ByteArray := prog_13_method_8_code
def yX6_dyes : MethodName := ⟨RX6, "dyes", "(LBlueBag$Coast;II)I"⟩
def dkwX6_dyes_3 : List UInt8 := [21, 4, 184, 0, 76, 184, 0, 135, 172]
abbrev dktX6_dyes_3 : List UInt8 := dkwX6_dyes_3 ++ []
def dkwX6_dyes_2 : List UInt8 := [25, 5, 178, 0, 126, 29, 182, 0, 98, 43, 180, 0, 116, 25, 5, 182, 0, 129, 54, 4, 3, 16, 30]
abbrev dktX6_dyes_2 : List UInt8 := dkwX6_dyes_2 ++ dktX6_dyes_3
def dkwX6_dyes_1 : List UInt8 := [180, 0, 15, 28, 46, 182, 0, 120, 58, 5, 25, 5, 178, 0, 123, 42, 180, 0, 18, 28, 46, 182, 0, 98]
abbrev dktX6_dyes_1 : List UInt8 := dkwX6_dyes_1 ++ dktX6_dyes_2
def dkwX6_dyes_0 : List UInt8 := [5, 42, 180, 0, 18, 28, 46, 104, 6, 96, 54, 4, 43, 180, 0, 116, 198, 0, 50, 42, 43, 42]
abbrev dktX6_dyes_0 : List UInt8 := dkwX6_dyes_0 ++ dktX6_dyes_1
theorem dksX6_dyes_0 : cX6_dyes.data.toList.drop 0 = dktX6_dyes_0 := by decide +kernel
theorem dksX6_dyes_1 : cX6_dyes.data.toList.drop 22 = dktX6_dyes_1 := dk_seg dksX6_dyes_0 22 rfl rfl
theorem dksX6_dyes_2 : cX6_dyes.data.toList.drop 46 = dktX6_dyes_2 := dk_seg dksX6_dyes_1 24 rfl rfl
theorem dksX6_dyes_3 : cX6_dyes.data.toList.drop 69 = dktX6_dyes_3 := dk_seg dksX6_dyes_2 23 rfl rfl
theorem dX6_dyes_0 : decode cX6_dyes 0 = .ok (.iconst 2, 1) := dk_5 (dk_at dksX6_dyes_0 0 rfl rfl)
theorem dX6_dyes_1 : decode cX6_dyes 1 = .ok (.aload_n 0, 1) := dk_42 (dk_at dksX6_dyes_0 1 rfl rfl)
theorem dX6_dyes_2 : decode cX6_dyes 2 = .ok (.getfield 18, 3) := dk_180 0 18 (dk_at dksX6_dyes_0 2 rfl rfl)
theorem dX6_dyes_5 : decode cX6_dyes 5 = .ok (.iload_n 2, 1) := dk_28 (dk_at dksX6_dyes_0 5 rfl rfl)
theorem dX6_dyes_6 : decode cX6_dyes 6 = .ok (.iaload, 1) := dk_46 (dk_at dksX6_dyes_0 6 rfl rfl)
theorem dX6_dyes_7 : decode cX6_dyes 7 = .ok (.imul, 1) := dk_104 (dk_at dksX6_dyes_0 7 rfl rfl)
theorem dX6_dyes_8 : decode cX6_dyes 8 = .ok (.iconst 3, 1) := dk_6 (dk_at dksX6_dyes_0 8 rfl rfl)
theorem dX6_dyes_9 : decode cX6_dyes 9 = .ok (.iadd, 1) := dk_96 (dk_at dksX6_dyes_0 9 rfl rfl)
theorem dX6_dyes_10 : decode cX6_dyes 10 = .ok (.istore 4, 2) := dk_54 4 (dk_at dksX6_dyes_0 10 rfl rfl)
theorem dX6_dyes_12 : decode cX6_dyes 12 = .ok (.aload_n 1, 1) := dk_43 (dk_at dksX6_dyes_0 12 rfl rfl)
theorem dX6_dyes_13 : decode cX6_dyes 13 = .ok (.getfield 116, 3) := dk_180 0 116 (dk_at dksX6_dyes_0 13 rfl rfl)
theorem dX6_dyes_16 : decode cX6_dyes 16 = .ok (.ifnull 50, 3) := dk_198 0 50 (dk_at dksX6_dyes_0 16 rfl rfl)
theorem dX6_dyes_19 : decode cX6_dyes 19 = .ok (.aload_n 0, 1) := dk_42 (dk_at dksX6_dyes_0 19 rfl rfl)
theorem dX6_dyes_20 : decode cX6_dyes 20 = .ok (.aload_n 1, 1) := dk_43 (dk_at dksX6_dyes_0 20 rfl rfl)
theorem dX6_dyes_21 : decode cX6_dyes 21 = .ok (.aload_n 0, 1) := dk_42 (dk_at dksX6_dyes_0 21 rfl rfl)
theorem dX6_dyes_22 : decode cX6_dyes 22 = .ok (.getfield 15, 3) := dk_180 0 15 (dk_at dksX6_dyes_1 0 rfl rfl)
theorem dX6_dyes_25 : decode cX6_dyes 25 = .ok (.iload_n 2, 1) := dk_28 (dk_at dksX6_dyes_1 3 rfl rfl)
theorem dX6_dyes_26 : decode cX6_dyes 26 = .ok (.iaload, 1) := dk_46 (dk_at dksX6_dyes_1 4 rfl rfl)
theorem dX6_dyes_27 : decode cX6_dyes 27 = .ok (.invokevirtual 120, 3) := dk_182 0 120 (dk_at dksX6_dyes_1 5 rfl rfl)
theorem dX6_dyes_30 : decode cX6_dyes 30 = .ok (.astore 5, 2) := dk_58 5 (dk_at dksX6_dyes_1 8 rfl rfl)
theorem dX6_dyes_32 : decode cX6_dyes 32 = .ok (.aload 5, 2) := dk_25 5 (dk_at dksX6_dyes_1 10 rfl rfl)
theorem dX6_dyes_34 : decode cX6_dyes 34 = .ok (.getstatic 123, 3) := dk_178 0 123 (dk_at dksX6_dyes_1 12 rfl rfl)
theorem dX6_dyes_37 : decode cX6_dyes 37 = .ok (.aload_n 0, 1) := dk_42 (dk_at dksX6_dyes_1 15 rfl rfl)
theorem dX6_dyes_38 : decode cX6_dyes 38 = .ok (.getfield 18, 3) := dk_180 0 18 (dk_at dksX6_dyes_1 16 rfl rfl)
theorem dX6_dyes_41 : decode cX6_dyes 41 = .ok (.iload_n 2, 1) := dk_28 (dk_at dksX6_dyes_1 19 rfl rfl)
theorem dX6_dyes_42 : decode cX6_dyes 42 = .ok (.iaload, 1) := dk_46 (dk_at dksX6_dyes_1 20 rfl rfl)
theorem dX6_dyes_43 : decode cX6_dyes 43 = .ok (.invokevirtual 98, 3) := dk_182 0 98 (dk_at dksX6_dyes_1 21 rfl rfl)
theorem dX6_dyes_46 : decode cX6_dyes 46 = .ok (.aload 5, 2) := dk_25 5 (dk_at dksX6_dyes_2 0 rfl rfl)
theorem dX6_dyes_48 : decode cX6_dyes 48 = .ok (.getstatic 126, 3) := dk_178 0 126 (dk_at dksX6_dyes_2 2 rfl rfl)
theorem dX6_dyes_51 : decode cX6_dyes 51 = .ok (.iload_n 3, 1) := dk_29 (dk_at dksX6_dyes_2 5 rfl rfl)
theorem dX6_dyes_52 : decode cX6_dyes 52 = .ok (.invokevirtual 98, 3) := dk_182 0 98 (dk_at dksX6_dyes_2 6 rfl rfl)
theorem dX6_dyes_55 : decode cX6_dyes 55 = .ok (.aload_n 1, 1) := dk_43 (dk_at dksX6_dyes_2 9 rfl rfl)
theorem dX6_dyes_56 : decode cX6_dyes 56 = .ok (.getfield 116, 3) := dk_180 0 116 (dk_at dksX6_dyes_2 10 rfl rfl)
theorem dX6_dyes_59 : decode cX6_dyes 59 = .ok (.aload 5, 2) := dk_25 5 (dk_at dksX6_dyes_2 13 rfl rfl)
theorem dX6_dyes_61 : decode cX6_dyes 61 = .ok (.invokevirtual 129, 3) := dk_182 0 129 (dk_at dksX6_dyes_2 15 rfl rfl)
theorem dX6_dyes_64 : decode cX6_dyes 64 = .ok (.istore 4, 2) := dk_54 4 (dk_at dksX6_dyes_2 18 rfl rfl)
theorem dX6_dyes_66 : decode cX6_dyes 66 = .ok (.iconst 0, 1) := dk_3 (dk_at dksX6_dyes_2 20 rfl rfl)
theorem dX6_dyes_67 : decode cX6_dyes 67 = .ok (.bipush 30, 2) := dk_16 30 (dk_at dksX6_dyes_2 21 rfl rfl)
theorem dX6_dyes_69 : decode cX6_dyes 69 = .ok (.iload 4, 2) := dk_21 4 (dk_at dksX6_dyes_3 0 rfl rfl)
theorem dX6_dyes_71 : decode cX6_dyes 71 = .ok (.invokestatic 76, 3) := dk_184 0 76 (dk_at dksX6_dyes_3 2 rfl rfl)
theorem dX6_dyes_74 : decode cX6_dyes 74 = .ok (.invokestatic 135, 3) := dk_184 0 135 (dk_at dksX6_dyes_3 5 rfl rfl)
theorem dX6_dyes_77 : decode cX6_dyes 77 = .ok (.ireturn, 1) := dk_172 (dk_at dksX6_dyes_3 8 rfl rfl)
abbrev cX6_sees : ByteArray := prog_13_method_7_code
def yX6_sees : MethodName := ⟨RX6, "sees", "(LBlueBag$Coast;I)LBlueBag$View;"⟩
def dkwX6_sees_4 : List UInt8 := [180, 0, 24, 182, 0, 98, 25, 4, 176]
abbrev dktX6_sees_4 : List UInt8 := dkwX6_sees_4 ++ []
def dkwX6_sees_3 : List UInt8 := [182, 0, 98, 25, 4, 178, 0, 107, 28, 43, 180, 0, 110, 108, 182, 0, 98, 25, 4, 178, 0, 113, 42]
abbrev dktX6_sees_3 : List UInt8 := dkwX6_sees_3 ++ dktX6_sees_4
def dkwX6_sees_2 : List UInt8 := [58, 4, 25, 4, 178, 0, 92, 42, 180, 0, 9, 28, 46, 182, 0, 98, 25, 4, 178, 0, 104, 29]
abbrev dktX6_sees_2 : List UInt8 := dkwX6_sees_2 ++ dktX6_sees_3
def dkwX6_sees_1 : List UInt8 := [160, 0, 13, 29, 42, 180, 0, 9, 21, 4, 46, 96, 62, 132, 4, 1, 167, 255, 223, 43, 180, 0, 88]
abbrev dktX6_sees_1 : List UInt8 := dkwX6_sees_1 ++ dktX6_sees_2
def dkwX6_sees_0 : List UInt8 := [3, 62, 3, 54, 4, 21, 4, 43, 182, 0, 82, 162, 0, 30, 43, 28, 21, 4, 182, 0, 85, 4]
abbrev dktX6_sees_0 : List UInt8 := dkwX6_sees_0 ++ dktX6_sees_1
theorem dksX6_sees_0 : cX6_sees.data.toList.drop 0 = dktX6_sees_0 := by decide +kernel
theorem dksX6_sees_1 : cX6_sees.data.toList.drop 22 = dktX6_sees_1 := dk_seg dksX6_sees_0 22 rfl rfl
theorem dksX6_sees_2 : cX6_sees.data.toList.drop 45 = dktX6_sees_2 := dk_seg dksX6_sees_1 23 rfl rfl
theorem dksX6_sees_3 : cX6_sees.data.toList.drop 67 = dktX6_sees_3 := dk_seg dksX6_sees_2 22 rfl rfl
theorem dksX6_sees_4 : cX6_sees.data.toList.drop 90 = dktX6_sees_4 := dk_seg dksX6_sees_3 23 rfl rfl
theorem dX6_sees_0 : decode cX6_sees 0 = .ok (.iconst 0, 1) := dk_3 (dk_at dksX6_sees_0 0 rfl rfl)
theorem dX6_sees_1 : decode cX6_sees 1 = .ok (.istore_n 3, 1) := dk_62 (dk_at dksX6_sees_0 1 rfl rfl)
theorem dX6_sees_2 : decode cX6_sees 2 = .ok (.iconst 0, 1) := dk_3 (dk_at dksX6_sees_0 2 rfl rfl)
theorem dX6_sees_3 : decode cX6_sees 3 = .ok (.istore 4, 2) := dk_54 4 (dk_at dksX6_sees_0 3 rfl rfl)
theorem dX6_sees_5 : decode cX6_sees 5 = .ok (.iload 4, 2) := dk_21 4 (dk_at dksX6_sees_0 5 rfl rfl)
theorem dX6_sees_7 : decode cX6_sees 7 = .ok (.aload_n 1, 1) := dk_43 (dk_at dksX6_sees_0 7 rfl rfl)
theorem dX6_sees_8 : decode cX6_sees 8 = .ok (.invokevirtual 82, 3) := dk_182 0 82 (dk_at dksX6_sees_0 8 rfl rfl)
theorem dX6_sees_11 : decode cX6_sees 11 = .ok (.if_icmp .ge 30, 3) := dk_162 0 30 (dk_at dksX6_sees_0 11 rfl rfl)
theorem dX6_sees_14 : decode cX6_sees 14 = .ok (.aload_n 1, 1) := dk_43 (dk_at dksX6_sees_0 14 rfl rfl)
theorem dX6_sees_15 : decode cX6_sees 15 = .ok (.iload_n 2, 1) := dk_28 (dk_at dksX6_sees_0 15 rfl rfl)
theorem dX6_sees_16 : decode cX6_sees 16 = .ok (.iload 4, 2) := dk_21 4 (dk_at dksX6_sees_0 16 rfl rfl)
theorem dX6_sees_18 : decode cX6_sees 18 = .ok (.invokevirtual 85, 3) := dk_182 0 85 (dk_at dksX6_sees_0 18 rfl rfl)
theorem dX6_sees_21 : decode cX6_sees 21 = .ok (.iconst 1, 1) := dk_4 (dk_at dksX6_sees_0 21 rfl rfl)
theorem dX6_sees_22 : decode cX6_sees 22 = .ok (.if_icmp .ne 13, 3) := dk_160 0 13 (dk_at dksX6_sees_1 0 rfl rfl)
theorem dX6_sees_25 : decode cX6_sees 25 = .ok (.iload_n 3, 1) := dk_29 (dk_at dksX6_sees_1 3 rfl rfl)
theorem dX6_sees_26 : decode cX6_sees 26 = .ok (.aload_n 0, 1) := dk_42 (dk_at dksX6_sees_1 4 rfl rfl)
theorem dX6_sees_27 : decode cX6_sees 27 = .ok (.getfield 9, 3) := dk_180 0 9 (dk_at dksX6_sees_1 5 rfl rfl)
theorem dX6_sees_30 : decode cX6_sees 30 = .ok (.iload 4, 2) := dk_21 4 (dk_at dksX6_sees_1 8 rfl rfl)
theorem dX6_sees_32 : decode cX6_sees 32 = .ok (.iaload, 1) := dk_46 (dk_at dksX6_sees_1 10 rfl rfl)
theorem dX6_sees_33 : decode cX6_sees 33 = .ok (.iadd, 1) := dk_96 (dk_at dksX6_sees_1 11 rfl rfl)
theorem dX6_sees_34 : decode cX6_sees 34 = .ok (.istore_n 3, 1) := dk_62 (dk_at dksX6_sees_1 12 rfl rfl)
theorem dX6_sees_35 : decode cX6_sees 35 = .ok (.iinc 4 1, 3) := dk_132 4 1 (dk_at dksX6_sees_1 13 rfl rfl)
theorem dX6_sees_38 : decode cX6_sees 38 = .ok (.goto (-33), 3) := dk_167 255 223 (dk_at dksX6_sees_1 16 rfl rfl)
theorem dX6_sees_41 : decode cX6_sees 41 = .ok (.aload_n 1, 1) := dk_43 (dk_at dksX6_sees_1 19 rfl rfl)
theorem dX6_sees_42 : decode cX6_sees 42 = .ok (.getfield 88, 3) := dk_180 0 88 (dk_at dksX6_sees_1 20 rfl rfl)
theorem dX6_sees_45 : decode cX6_sees 45 = .ok (.astore 4, 2) := dk_58 4 (dk_at dksX6_sees_2 0 rfl rfl)
theorem dX6_sees_47 : decode cX6_sees 47 = .ok (.aload 4, 2) := dk_25 4 (dk_at dksX6_sees_2 2 rfl rfl)
theorem dX6_sees_49 : decode cX6_sees 49 = .ok (.getstatic 92, 3) := dk_178 0 92 (dk_at dksX6_sees_2 4 rfl rfl)
theorem dX6_sees_52 : decode cX6_sees 52 = .ok (.aload_n 0, 1) := dk_42 (dk_at dksX6_sees_2 7 rfl rfl)
theorem dX6_sees_53 : decode cX6_sees 53 = .ok (.getfield 9, 3) := dk_180 0 9 (dk_at dksX6_sees_2 8 rfl rfl)
theorem dX6_sees_56 : decode cX6_sees 56 = .ok (.iload_n 2, 1) := dk_28 (dk_at dksX6_sees_2 11 rfl rfl)
theorem dX6_sees_57 : decode cX6_sees 57 = .ok (.iaload, 1) := dk_46 (dk_at dksX6_sees_2 12 rfl rfl)
theorem dX6_sees_58 : decode cX6_sees 58 = .ok (.invokevirtual 98, 3) := dk_182 0 98 (dk_at dksX6_sees_2 13 rfl rfl)
theorem dX6_sees_61 : decode cX6_sees 61 = .ok (.aload 4, 2) := dk_25 4 (dk_at dksX6_sees_2 16 rfl rfl)
theorem dX6_sees_63 : decode cX6_sees 63 = .ok (.getstatic 104, 3) := dk_178 0 104 (dk_at dksX6_sees_2 18 rfl rfl)
theorem dX6_sees_66 : decode cX6_sees 66 = .ok (.iload_n 3, 1) := dk_29 (dk_at dksX6_sees_2 21 rfl rfl)
theorem dX6_sees_67 : decode cX6_sees 67 = .ok (.invokevirtual 98, 3) := dk_182 0 98 (dk_at dksX6_sees_3 0 rfl rfl)
theorem dX6_sees_70 : decode cX6_sees 70 = .ok (.aload 4, 2) := dk_25 4 (dk_at dksX6_sees_3 3 rfl rfl)
theorem dX6_sees_72 : decode cX6_sees 72 = .ok (.getstatic 107, 3) := dk_178 0 107 (dk_at dksX6_sees_3 5 rfl rfl)
theorem dX6_sees_75 : decode cX6_sees 75 = .ok (.iload_n 2, 1) := dk_28 (dk_at dksX6_sees_3 8 rfl rfl)
theorem dX6_sees_76 : decode cX6_sees 76 = .ok (.aload_n 1, 1) := dk_43 (dk_at dksX6_sees_3 9 rfl rfl)
theorem dX6_sees_77 : decode cX6_sees 77 = .ok (.getfield 110, 3) := dk_180 0 110 (dk_at dksX6_sees_3 10 rfl rfl)
theorem dX6_sees_80 : decode cX6_sees 80 = .ok (.idiv, 1) := dk_108 (dk_at dksX6_sees_3 13 rfl rfl)
theorem dX6_sees_81 : decode cX6_sees 81 = .ok (.invokevirtual 98, 3) := dk_182 0 98 (dk_at dksX6_sees_3 14 rfl rfl)
theorem dX6_sees_84 : decode cX6_sees 84 = .ok (.aload 4, 2) := dk_25 4 (dk_at dksX6_sees_3 17 rfl rfl)
theorem dX6_sees_86 : decode cX6_sees 86 = .ok (.getstatic 113, 3) := dk_178 0 113 (dk_at dksX6_sees_3 19 rfl rfl)
theorem dX6_sees_89 : decode cX6_sees 89 = .ok (.aload_n 0, 1) := dk_42 (dk_at dksX6_sees_3 22 rfl rfl)
theorem dX6_sees_90 : decode cX6_sees 90 = .ok (.getfield 24, 3) := dk_180 0 24 (dk_at dksX6_sees_4 0 rfl rfl)
theorem dX6_sees_93 : decode cX6_sees 93 = .ok (.invokevirtual 98, 3) := dk_182 0 98 (dk_at dksX6_sees_4 3 rfl rfl)
theorem dX6_sees_96 : decode cX6_sees 96 = .ok (.aload 4, 2) := dk_25 4 (dk_at dksX6_sees_4 6 rfl rfl)
theorem dX6_sees_98 : decode cX6_sees 98 = .ok (.areturn, 1) := dk_176 (dk_at dksX6_sees_4 8 rfl rfl)
abbrev cX6_takes : ByteArray := prog_13_method_6_code
def yX6_takes : MethodName := ⟨RX6, "takes", "(II)V"⟩
def dkwX6_takes_1 : List UInt8 := [184, 0, 76, 79, 177]
abbrev dktX6_takes_1 : List UInt8 := dkwX6_takes_1 ++ []
def dkwX6_takes_0 : List UInt8 := [42, 27, 182, 0, 44, 154, 0, 22, 42, 180, 0, 9, 27, 16, 99, 42, 180, 0, 9, 27, 46, 28, 96]
abbrev dktX6_takes_0 : List UInt8 := dkwX6_takes_0 ++ dktX6_takes_1
theorem dksX6_takes_0 : cX6_takes.data.toList.drop 0 = dktX6_takes_0 := by decide +kernel
theorem dksX6_takes_1 : cX6_takes.data.toList.drop 23 = dktX6_takes_1 := dk_seg dksX6_takes_0 23 rfl rfl
theorem dX6_takes_0 : decode cX6_takes 0 = .ok (.aload_n 0, 1) := dk_42 (dk_at dksX6_takes_0 0 rfl rfl)
theorem dX6_takes_1 : decode cX6_takes 1 = .ok (.iload_n 1, 1) := dk_27 (dk_at dksX6_takes_0 1 rfl rfl)
theorem dX6_takes_2 : decode cX6_takes 2 = .ok (.invokevirtual 44, 3) := dk_182 0 44 (dk_at dksX6_takes_0 2 rfl rfl)
theorem dX6_takes_5 : decode cX6_takes 5 = .ok (.ifCond .ne 22, 3) := dk_154 0 22 (dk_at dksX6_takes_0 5 rfl rfl)
theorem dX6_takes_8 : decode cX6_takes 8 = .ok (.aload_n 0, 1) := dk_42 (dk_at dksX6_takes_0 8 rfl rfl)
theorem dX6_takes_9 : decode cX6_takes 9 = .ok (.getfield 9, 3) := dk_180 0 9 (dk_at dksX6_takes_0 9 rfl rfl)
theorem dX6_takes_12 : decode cX6_takes 12 = .ok (.iload_n 1, 1) := dk_27 (dk_at dksX6_takes_0 12 rfl rfl)
theorem dX6_takes_13 : decode cX6_takes 13 = .ok (.bipush 99, 2) := dk_16 99 (dk_at dksX6_takes_0 13 rfl rfl)
theorem dX6_takes_15 : decode cX6_takes 15 = .ok (.aload_n 0, 1) := dk_42 (dk_at dksX6_takes_0 15 rfl rfl)
theorem dX6_takes_16 : decode cX6_takes 16 = .ok (.getfield 9, 3) := dk_180 0 9 (dk_at dksX6_takes_0 16 rfl rfl)
theorem dX6_takes_19 : decode cX6_takes 19 = .ok (.iload_n 1, 1) := dk_27 (dk_at dksX6_takes_0 19 rfl rfl)
theorem dX6_takes_20 : decode cX6_takes 20 = .ok (.iaload, 1) := dk_46 (dk_at dksX6_takes_0 20 rfl rfl)
theorem dX6_takes_21 : decode cX6_takes 21 = .ok (.iload_n 2, 1) := dk_28 (dk_at dksX6_takes_0 21 rfl rfl)
theorem dX6_takes_22 : decode cX6_takes 22 = .ok (.iadd, 1) := dk_96 (dk_at dksX6_takes_0 22 rfl rfl)
theorem dX6_takes_23 : decode cX6_takes 23 = .ok (.invokestatic 76, 3) := dk_184 0 76 (dk_at dksX6_takes_1 0 rfl rfl)
theorem dX6_takes_26 : decode cX6_takes 26 = .ok (.iastore, 1) := dk_79 (dk_at dksX6_takes_1 3 rfl rfl)
theorem dX6_takes_27 : decode cX6_takes 27 = .ok (.return_, 1) := dk_177 (dk_at dksX6_takes_1 4 rfl rfl)
abbrev cX6_fades : ByteArray := prog_13_method_10_code
def yX6_fades : MethodName := ⟨RX6, "fades", "(LBlueBag$Coast;I)I"⟩
def dkwX6_fades_1 : List UInt8 := [28, 182, 0, 120, 182, 0, 129, 62, 3, 42, 180, 0, 9, 28, 46, 29, 184, 0, 76, 184, 0, 135, 172]
abbrev dktX6_fades_1 : List UInt8 := dkwX6_fades_1 ++ []
def dkwX6_fades_0 : List UInt8 := [43, 180, 0, 149, 199, 0, 14, 42, 180, 0, 9, 28, 46, 8, 108, 167, 0, 16, 43, 180, 0, 149, 42, 43]
abbrev dktX6_fades_0 : List UInt8 := dkwX6_fades_0 ++ dktX6_fades_1
theorem dksX6_fades_0 : cX6_fades.data.toList.drop 0 = dktX6_fades_0 := by decide +kernel
theorem dksX6_fades_1 : cX6_fades.data.toList.drop 24 = dktX6_fades_1 := dk_seg dksX6_fades_0 24 rfl rfl
theorem dX6_fades_0 : decode cX6_fades 0 = .ok (.aload_n 1, 1) := dk_43 (dk_at dksX6_fades_0 0 rfl rfl)
theorem dX6_fades_1 : decode cX6_fades 1 = .ok (.getfield 149, 3) := dk_180 0 149 (dk_at dksX6_fades_0 1 rfl rfl)
theorem dX6_fades_4 : decode cX6_fades 4 = .ok (.ifnonnull 14, 3) := dk_199 0 14 (dk_at dksX6_fades_0 4 rfl rfl)
theorem dX6_fades_7 : decode cX6_fades 7 = .ok (.aload_n 0, 1) := dk_42 (dk_at dksX6_fades_0 7 rfl rfl)
theorem dX6_fades_8 : decode cX6_fades 8 = .ok (.getfield 9, 3) := dk_180 0 9 (dk_at dksX6_fades_0 8 rfl rfl)
theorem dX6_fades_11 : decode cX6_fades 11 = .ok (.iload_n 2, 1) := dk_28 (dk_at dksX6_fades_0 11 rfl rfl)
theorem dX6_fades_12 : decode cX6_fades 12 = .ok (.iaload, 1) := dk_46 (dk_at dksX6_fades_0 12 rfl rfl)
theorem dX6_fades_13 : decode cX6_fades 13 = .ok (.iconst 5, 1) := dk_8 (dk_at dksX6_fades_0 13 rfl rfl)
theorem dX6_fades_14 : decode cX6_fades 14 = .ok (.idiv, 1) := dk_108 (dk_at dksX6_fades_0 14 rfl rfl)
theorem dX6_fades_15 : decode cX6_fades 15 = .ok (.goto 16, 3) := dk_167 0 16 (dk_at dksX6_fades_0 15 rfl rfl)
theorem dX6_fades_18 : decode cX6_fades 18 = .ok (.aload_n 1, 1) := dk_43 (dk_at dksX6_fades_0 18 rfl rfl)
theorem dX6_fades_19 : decode cX6_fades 19 = .ok (.getfield 149, 3) := dk_180 0 149 (dk_at dksX6_fades_0 19 rfl rfl)
theorem dX6_fades_22 : decode cX6_fades 22 = .ok (.aload_n 0, 1) := dk_42 (dk_at dksX6_fades_0 22 rfl rfl)
theorem dX6_fades_23 : decode cX6_fades 23 = .ok (.aload_n 1, 1) := dk_43 (dk_at dksX6_fades_0 23 rfl rfl)
theorem dX6_fades_24 : decode cX6_fades 24 = .ok (.iload_n 2, 1) := dk_28 (dk_at dksX6_fades_1 0 rfl rfl)
theorem dX6_fades_25 : decode cX6_fades 25 = .ok (.invokevirtual 120, 3) := dk_182 0 120 (dk_at dksX6_fades_1 1 rfl rfl)
theorem dX6_fades_28 : decode cX6_fades 28 = .ok (.invokevirtual 129, 3) := dk_182 0 129 (dk_at dksX6_fades_1 4 rfl rfl)
theorem dX6_fades_31 : decode cX6_fades 31 = .ok (.istore_n 3, 1) := dk_62 (dk_at dksX6_fades_1 7 rfl rfl)
theorem dX6_fades_32 : decode cX6_fades 32 = .ok (.iconst 0, 1) := dk_3 (dk_at dksX6_fades_1 8 rfl rfl)
theorem dX6_fades_33 : decode cX6_fades 33 = .ok (.aload_n 0, 1) := dk_42 (dk_at dksX6_fades_1 9 rfl rfl)
theorem dX6_fades_34 : decode cX6_fades 34 = .ok (.getfield 9, 3) := dk_180 0 9 (dk_at dksX6_fades_1 10 rfl rfl)
theorem dX6_fades_37 : decode cX6_fades 37 = .ok (.iload_n 2, 1) := dk_28 (dk_at dksX6_fades_1 13 rfl rfl)
theorem dX6_fades_38 : decode cX6_fades 38 = .ok (.iaload, 1) := dk_46 (dk_at dksX6_fades_1 14 rfl rfl)
theorem dX6_fades_39 : decode cX6_fades 39 = .ok (.iload_n 3, 1) := dk_29 (dk_at dksX6_fades_1 15 rfl rfl)
theorem dX6_fades_40 : decode cX6_fades 40 = .ok (.invokestatic 76, 3) := dk_184 0 76 (dk_at dksX6_fades_1 16 rfl rfl)
theorem dX6_fades_43 : decode cX6_fades 43 = .ok (.invokestatic 135, 3) := dk_184 0 135 (dk_at dksX6_fades_1 19 rfl rfl)
theorem dX6_fades_46 : decode cX6_fades 46 = .ok (.ireturn, 1) := dk_172 (dk_at dksX6_fades_1 22 rfl rfl)
abbrev cX6_uneven : ByteArray := prog_13_method_13_code
def yX6_uneven : MethodName := ⟨RX6, "uneven", "(LBlueBag$Coast;)I"⟩
def dkwX6_uneven_1 : List UInt8 := [46, 42, 180, 0, 9, 42, 43, 3, 182, 0, 177, 46, 100, 172]
abbrev dktX6_uneven_1 : List UInt8 := dkwX6_uneven_1 ++ []
def dkwX6_uneven_0 : List UInt8 := [42, 43, 4, 182, 0, 177, 2, 160, 0, 7, 2, 167, 0, 26, 42, 180, 0, 9, 42, 43, 4, 182, 0, 177]
abbrev dktX6_uneven_0 : List UInt8 := dkwX6_uneven_0 ++ dktX6_uneven_1
theorem dksX6_uneven_0 : cX6_uneven.data.toList.drop 0 = dktX6_uneven_0 := by decide +kernel
theorem dksX6_uneven_1 : cX6_uneven.data.toList.drop 24 = dktX6_uneven_1 := dk_seg dksX6_uneven_0 24 rfl rfl
theorem dX6_uneven_0 : decode cX6_uneven 0 = .ok (.aload_n 0, 1) := dk_42 (dk_at dksX6_uneven_0 0 rfl rfl)
theorem dX6_uneven_1 : decode cX6_uneven 1 = .ok (.aload_n 1, 1) := dk_43 (dk_at dksX6_uneven_0 1 rfl rfl)
theorem dX6_uneven_2 : decode cX6_uneven 2 = .ok (.iconst 1, 1) := dk_4 (dk_at dksX6_uneven_0 2 rfl rfl)
theorem dX6_uneven_3 : decode cX6_uneven 3 = .ok (.invokevirtual 177, 3) := dk_182 0 177 (dk_at dksX6_uneven_0 3 rfl rfl)
theorem dX6_uneven_6 : decode cX6_uneven 6 = .ok (.iconst (-1), 1) := dk_2 (dk_at dksX6_uneven_0 6 rfl rfl)
theorem dX6_uneven_7 : decode cX6_uneven 7 = .ok (.if_icmp .ne 7, 3) := dk_160 0 7 (dk_at dksX6_uneven_0 7 rfl rfl)
theorem dX6_uneven_10 : decode cX6_uneven 10 = .ok (.iconst (-1), 1) := dk_2 (dk_at dksX6_uneven_0 10 rfl rfl)
theorem dX6_uneven_11 : decode cX6_uneven 11 = .ok (.goto 26, 3) := dk_167 0 26 (dk_at dksX6_uneven_0 11 rfl rfl)
theorem dX6_uneven_14 : decode cX6_uneven 14 = .ok (.aload_n 0, 1) := dk_42 (dk_at dksX6_uneven_0 14 rfl rfl)
theorem dX6_uneven_15 : decode cX6_uneven 15 = .ok (.getfield 9, 3) := dk_180 0 9 (dk_at dksX6_uneven_0 15 rfl rfl)
theorem dX6_uneven_18 : decode cX6_uneven 18 = .ok (.aload_n 0, 1) := dk_42 (dk_at dksX6_uneven_0 18 rfl rfl)
theorem dX6_uneven_19 : decode cX6_uneven 19 = .ok (.aload_n 1, 1) := dk_43 (dk_at dksX6_uneven_0 19 rfl rfl)
theorem dX6_uneven_20 : decode cX6_uneven 20 = .ok (.iconst 1, 1) := dk_4 (dk_at dksX6_uneven_0 20 rfl rfl)
theorem dX6_uneven_21 : decode cX6_uneven 21 = .ok (.invokevirtual 177, 3) := dk_182 0 177 (dk_at dksX6_uneven_0 21 rfl rfl)
theorem dX6_uneven_24 : decode cX6_uneven 24 = .ok (.iaload, 1) := dk_46 (dk_at dksX6_uneven_1 0 rfl rfl)
theorem dX6_uneven_25 : decode cX6_uneven 25 = .ok (.aload_n 0, 1) := dk_42 (dk_at dksX6_uneven_1 1 rfl rfl)
theorem dX6_uneven_26 : decode cX6_uneven 26 = .ok (.getfield 9, 3) := dk_180 0 9 (dk_at dksX6_uneven_1 2 rfl rfl)
theorem dX6_uneven_29 : decode cX6_uneven 29 = .ok (.aload_n 0, 1) := dk_42 (dk_at dksX6_uneven_1 5 rfl rfl)
theorem dX6_uneven_30 : decode cX6_uneven 30 = .ok (.aload_n 1, 1) := dk_43 (dk_at dksX6_uneven_1 6 rfl rfl)
theorem dX6_uneven_31 : decode cX6_uneven 31 = .ok (.iconst 0, 1) := dk_3 (dk_at dksX6_uneven_1 7 rfl rfl)
theorem dX6_uneven_32 : decode cX6_uneven 32 = .ok (.invokevirtual 177, 3) := dk_182 0 177 (dk_at dksX6_uneven_1 8 rfl rfl)
theorem dX6_uneven_35 : decode cX6_uneven 35 = .ok (.iaload, 1) := dk_46 (dk_at dksX6_uneven_1 11 rfl rfl)
theorem dX6_uneven_36 : decode cX6_uneven 36 = .ok (.isub, 1) := dk_100 (dk_at dksX6_uneven_1 12 rfl rfl)
theorem dX6_uneven_37 : decode cX6_uneven 37 = .ok (.ireturn, 1) := dk_172 (dk_at dksX6_uneven_1 13 rfl rfl)
abbrev cX6_extreme : ByteArray := prog_13_method_12_code
def yX6_extreme : MethodName := ⟨RX6, "extreme", "(LBlueBag$Coast;Z)I"⟩
def dkwX6_extreme_3 : List UInt8 := [132, 4, 1, 167, 255, 188, 29, 172]
abbrev dktX6_extreme_3 : List UInt8 := dkwX6_extreme_3 ++ []
def dkwX6_extreme_2 : List UInt8 := [167, 0, 19, 42, 180, 0, 9, 21, 4, 46, 42, 180, 0, 9, 29, 46, 162, 0, 6, 21, 4, 62]
abbrev dktX6_extreme_2 : List UInt8 := dkwX6_extreme_2 ++ dktX6_extreme_3
def dkwX6_extreme_1 : List UInt8 := [2, 159, 0, 42, 28, 153, 0, 22, 42, 180, 0, 9, 21, 4, 46, 42, 180, 0, 9, 29, 46, 164, 0, 25]
abbrev dktX6_extreme_1 : List UInt8 := dkwX6_extreme_1 ++ dktX6_extreme_2
def dkwX6_extreme_0 : List UInt8 := [2, 62, 3, 54, 4, 21, 4, 43, 182, 0, 82, 162, 0, 65, 42, 21, 4, 182, 0, 44, 154, 0, 50, 29]
abbrev dktX6_extreme_0 : List UInt8 := dkwX6_extreme_0 ++ dktX6_extreme_1
theorem dksX6_extreme_0 : cX6_extreme.data.toList.drop 0 = dktX6_extreme_0 := by decide +kernel
theorem dksX6_extreme_1 : cX6_extreme.data.toList.drop 24 = dktX6_extreme_1 := dk_seg dksX6_extreme_0 24 rfl rfl
theorem dksX6_extreme_2 : cX6_extreme.data.toList.drop 48 = dktX6_extreme_2 := dk_seg dksX6_extreme_1 24 rfl rfl
theorem dksX6_extreme_3 : cX6_extreme.data.toList.drop 70 = dktX6_extreme_3 := dk_seg dksX6_extreme_2 22 rfl rfl
theorem dX6_extreme_0 : decode cX6_extreme 0 = .ok (.iconst (-1), 1) := dk_2 (dk_at dksX6_extreme_0 0 rfl rfl)
theorem dX6_extreme_1 : decode cX6_extreme 1 = .ok (.istore_n 3, 1) := dk_62 (dk_at dksX6_extreme_0 1 rfl rfl)
theorem dX6_extreme_2 : decode cX6_extreme 2 = .ok (.iconst 0, 1) := dk_3 (dk_at dksX6_extreme_0 2 rfl rfl)
theorem dX6_extreme_3 : decode cX6_extreme 3 = .ok (.istore 4, 2) := dk_54 4 (dk_at dksX6_extreme_0 3 rfl rfl)
theorem dX6_extreme_5 : decode cX6_extreme 5 = .ok (.iload 4, 2) := dk_21 4 (dk_at dksX6_extreme_0 5 rfl rfl)
theorem dX6_extreme_7 : decode cX6_extreme 7 = .ok (.aload_n 1, 1) := dk_43 (dk_at dksX6_extreme_0 7 rfl rfl)
theorem dX6_extreme_8 : decode cX6_extreme 8 = .ok (.invokevirtual 82, 3) := dk_182 0 82 (dk_at dksX6_extreme_0 8 rfl rfl)
theorem dX6_extreme_11 : decode cX6_extreme 11 = .ok (.if_icmp .ge 65, 3) := dk_162 0 65 (dk_at dksX6_extreme_0 11 rfl rfl)
theorem dX6_extreme_14 : decode cX6_extreme 14 = .ok (.aload_n 0, 1) := dk_42 (dk_at dksX6_extreme_0 14 rfl rfl)
theorem dX6_extreme_15 : decode cX6_extreme 15 = .ok (.iload 4, 2) := dk_21 4 (dk_at dksX6_extreme_0 15 rfl rfl)
theorem dX6_extreme_17 : decode cX6_extreme 17 = .ok (.invokevirtual 44, 3) := dk_182 0 44 (dk_at dksX6_extreme_0 17 rfl rfl)
theorem dX6_extreme_20 : decode cX6_extreme 20 = .ok (.ifCond .ne 50, 3) := dk_154 0 50 (dk_at dksX6_extreme_0 20 rfl rfl)
theorem dX6_extreme_23 : decode cX6_extreme 23 = .ok (.iload_n 3, 1) := dk_29 (dk_at dksX6_extreme_0 23 rfl rfl)
theorem dX6_extreme_24 : decode cX6_extreme 24 = .ok (.iconst (-1), 1) := dk_2 (dk_at dksX6_extreme_1 0 rfl rfl)
theorem dX6_extreme_25 : decode cX6_extreme 25 = .ok (.if_icmp .eq 42, 3) := dk_159 0 42 (dk_at dksX6_extreme_1 1 rfl rfl)
theorem dX6_extreme_28 : decode cX6_extreme 28 = .ok (.iload_n 2, 1) := dk_28 (dk_at dksX6_extreme_1 4 rfl rfl)
theorem dX6_extreme_29 : decode cX6_extreme 29 = .ok (.ifCond .eq 22, 3) := dk_153 0 22 (dk_at dksX6_extreme_1 5 rfl rfl)
theorem dX6_extreme_32 : decode cX6_extreme 32 = .ok (.aload_n 0, 1) := dk_42 (dk_at dksX6_extreme_1 8 rfl rfl)
theorem dX6_extreme_33 : decode cX6_extreme 33 = .ok (.getfield 9, 3) := dk_180 0 9 (dk_at dksX6_extreme_1 9 rfl rfl)
theorem dX6_extreme_36 : decode cX6_extreme 36 = .ok (.iload 4, 2) := dk_21 4 (dk_at dksX6_extreme_1 12 rfl rfl)
theorem dX6_extreme_38 : decode cX6_extreme 38 = .ok (.iaload, 1) := dk_46 (dk_at dksX6_extreme_1 14 rfl rfl)
theorem dX6_extreme_39 : decode cX6_extreme 39 = .ok (.aload_n 0, 1) := dk_42 (dk_at dksX6_extreme_1 15 rfl rfl)
theorem dX6_extreme_40 : decode cX6_extreme 40 = .ok (.getfield 9, 3) := dk_180 0 9 (dk_at dksX6_extreme_1 16 rfl rfl)
theorem dX6_extreme_43 : decode cX6_extreme 43 = .ok (.iload_n 3, 1) := dk_29 (dk_at dksX6_extreme_1 19 rfl rfl)
theorem dX6_extreme_44 : decode cX6_extreme 44 = .ok (.iaload, 1) := dk_46 (dk_at dksX6_extreme_1 20 rfl rfl)
theorem dX6_extreme_45 : decode cX6_extreme 45 = .ok (.if_icmp .le 25, 3) := dk_164 0 25 (dk_at dksX6_extreme_1 21 rfl rfl)
theorem dX6_extreme_48 : decode cX6_extreme 48 = .ok (.goto 19, 3) := dk_167 0 19 (dk_at dksX6_extreme_2 0 rfl rfl)
theorem dX6_extreme_51 : decode cX6_extreme 51 = .ok (.aload_n 0, 1) := dk_42 (dk_at dksX6_extreme_2 3 rfl rfl)
theorem dX6_extreme_52 : decode cX6_extreme 52 = .ok (.getfield 9, 3) := dk_180 0 9 (dk_at dksX6_extreme_2 4 rfl rfl)
theorem dX6_extreme_55 : decode cX6_extreme 55 = .ok (.iload 4, 2) := dk_21 4 (dk_at dksX6_extreme_2 7 rfl rfl)
theorem dX6_extreme_57 : decode cX6_extreme 57 = .ok (.iaload, 1) := dk_46 (dk_at dksX6_extreme_2 9 rfl rfl)
theorem dX6_extreme_58 : decode cX6_extreme 58 = .ok (.aload_n 0, 1) := dk_42 (dk_at dksX6_extreme_2 10 rfl rfl)
theorem dX6_extreme_59 : decode cX6_extreme 59 = .ok (.getfield 9, 3) := dk_180 0 9 (dk_at dksX6_extreme_2 11 rfl rfl)
theorem dX6_extreme_62 : decode cX6_extreme 62 = .ok (.iload_n 3, 1) := dk_29 (dk_at dksX6_extreme_2 14 rfl rfl)
theorem dX6_extreme_63 : decode cX6_extreme 63 = .ok (.iaload, 1) := dk_46 (dk_at dksX6_extreme_2 15 rfl rfl)
theorem dX6_extreme_64 : decode cX6_extreme 64 = .ok (.if_icmp .ge 6, 3) := dk_162 0 6 (dk_at dksX6_extreme_2 16 rfl rfl)
theorem dX6_extreme_67 : decode cX6_extreme 67 = .ok (.iload 4, 2) := dk_21 4 (dk_at dksX6_extreme_2 19 rfl rfl)
theorem dX6_extreme_69 : decode cX6_extreme 69 = .ok (.istore_n 3, 1) := dk_62 (dk_at dksX6_extreme_2 21 rfl rfl)
theorem dX6_extreme_70 : decode cX6_extreme 70 = .ok (.iinc 4 1, 3) := dk_132 4 1 (dk_at dksX6_extreme_3 0 rfl rfl)
theorem dX6_extreme_73 : decode cX6_extreme 73 = .ok (.goto (-68), 3) := dk_167 255 188 (dk_at dksX6_extreme_3 3 rfl rfl)
theorem dX6_extreme_76 : decode cX6_extreme 76 = .ok (.iload_n 3, 1) := dk_29 (dk_at dksX6_extreme_3 6 rfl rfl)
theorem dX6_extreme_77 : decode cX6_extreme 77 = .ok (.ireturn, 1) := dk_172 (dk_at dksX6_extreme_3 7 rfl rfl)
abbrev cX6_all : ByteArray := prog_13_method_14_code
def yX6_all : MethodName := ⟨RX6, "all", "(I)I"⟩
def dkwX6_all_1 : List UInt8 := [28, 172]
abbrev dktX6_all_1 : List UInt8 := dkwX6_all_1 ++ []
def dkwX6_all_0 : List UInt8 := [3, 61, 3, 62, 29, 27, 162, 0, 18, 28, 42, 180, 0, 9, 29, 46, 96, 61, 132, 3, 1, 167, 255, 239]
abbrev dktX6_all_0 : List UInt8 := dkwX6_all_0 ++ dktX6_all_1
theorem dksX6_all_0 : cX6_all.data.toList.drop 0 = dktX6_all_0 := by decide +kernel
theorem dksX6_all_1 : cX6_all.data.toList.drop 24 = dktX6_all_1 := dk_seg dksX6_all_0 24 rfl rfl
theorem dX6_all_0 : decode cX6_all 0 = .ok (.iconst 0, 1) := dk_3 (dk_at dksX6_all_0 0 rfl rfl)
theorem dX6_all_1 : decode cX6_all 1 = .ok (.istore_n 2, 1) := dk_61 (dk_at dksX6_all_0 1 rfl rfl)
theorem dX6_all_2 : decode cX6_all 2 = .ok (.iconst 0, 1) := dk_3 (dk_at dksX6_all_0 2 rfl rfl)
theorem dX6_all_3 : decode cX6_all 3 = .ok (.istore_n 3, 1) := dk_62 (dk_at dksX6_all_0 3 rfl rfl)
theorem dX6_all_4 : decode cX6_all 4 = .ok (.iload_n 3, 1) := dk_29 (dk_at dksX6_all_0 4 rfl rfl)
theorem dX6_all_5 : decode cX6_all 5 = .ok (.iload_n 1, 1) := dk_27 (dk_at dksX6_all_0 5 rfl rfl)
theorem dX6_all_6 : decode cX6_all 6 = .ok (.if_icmp .ge 18, 3) := dk_162 0 18 (dk_at dksX6_all_0 6 rfl rfl)
theorem dX6_all_9 : decode cX6_all 9 = .ok (.iload_n 2, 1) := dk_28 (dk_at dksX6_all_0 9 rfl rfl)
theorem dX6_all_10 : decode cX6_all 10 = .ok (.aload_n 0, 1) := dk_42 (dk_at dksX6_all_0 10 rfl rfl)
theorem dX6_all_11 : decode cX6_all 11 = .ok (.getfield 9, 3) := dk_180 0 9 (dk_at dksX6_all_0 11 rfl rfl)
theorem dX6_all_14 : decode cX6_all 14 = .ok (.iload_n 3, 1) := dk_29 (dk_at dksX6_all_0 14 rfl rfl)
theorem dX6_all_15 : decode cX6_all 15 = .ok (.iaload, 1) := dk_46 (dk_at dksX6_all_0 15 rfl rfl)
theorem dX6_all_16 : decode cX6_all 16 = .ok (.iadd, 1) := dk_96 (dk_at dksX6_all_0 16 rfl rfl)
theorem dX6_all_17 : decode cX6_all 17 = .ok (.istore_n 2, 1) := dk_61 (dk_at dksX6_all_0 17 rfl rfl)
theorem dX6_all_18 : decode cX6_all 18 = .ok (.iinc 3 1, 3) := dk_132 3 1 (dk_at dksX6_all_0 18 rfl rfl)
theorem dX6_all_21 : decode cX6_all 21 = .ok (.goto (-17), 3) := dk_167 255 239 (dk_at dksX6_all_0 21 rfl rfl)
theorem dX6_all_24 : decode cX6_all 24 = .ok (.iload_n 2, 1) := dk_28 (dk_at dksX6_all_1 0 rfl rfl)
theorem dX6_all_25 : decode cX6_all 25 = .ok (.ireturn, 1) := dk_172 (dk_at dksX6_all_1 1 rfl rfl)
theorem q138 : (Jvm.Cond.initialized "BlueBag$State") ∈ lw_all := lw_g (lw_at lw_m1 26 rfl) rfl
theorem q531 : (Jvm.Cond.fieldLinkNest "BlueBag$State" (110 : Nat) "BlueBag$Coast" "wide" "I" "BlueBag") ∈ lw_tbl := lw_at lw_m2 179 rfl
theorem q538 : (Jvm.Cond.fieldLinkNest "BlueBag$State" (34 : Nat) "BlueBag$Coast" "knobs" "I" "BlueBag") ∈ lw_tbl := lw_at lw_m2 186 rfl
theorem q541 : (Jvm.Cond.fieldLinkNest "BlueBag$State" (171 : Nat) "BlueBag$Coast" "rinse" "I" "BlueBag") ∈ lw_tbl := lw_at lw_m2 189 rfl
theorem q545 : (Jvm.Cond.fieldLinkNest "BlueBag$State" (162 : Nat) "BlueBag$Coast" "bound" "I" "BlueBag") ∈ lw_tbl := lw_at lw_m2 193 rfl
theorem q548 : (Jvm.Cond.fieldLinkNest "BlueBag$State" (40 : Nat) "BlueBag$Coast" "pegs" "I" "BlueBag") ∈ lw_tbl := lw_at lw_m2 196 rfl
theorem q551 : (Jvm.Cond.fieldLinkNest "BlueBag$State" (48 : Nat) "BlueBag$Coast" "blue" "[I" "BlueBag") ∈ lw_tbl := lw_at lw_m2 199 rfl
theorem q554 : (Jvm.Cond.fieldLinkNest "BlueBag$State" (49 : Nat) "BlueBag$Coast" "girls" "Ljava/util/ArrayList;" "BlueBag") ∈ lw_tbl := lw_at lw_m2 202 rfl
theorem q557 : (Jvm.Cond.fieldLinkNest "BlueBag$State" (116 : Nat) "BlueBag$Coast" "dyes" "LBlueBag$Expr;" "BlueBag") ∈ lw_tbl := lw_at lw_m2 205 rfl
theorem q559 : (Jvm.Cond.fieldLinkNest "BlueBag$State" (149 : Nat) "BlueBag$Coast" "fades" "LBlueBag$Expr;" "BlueBag") ∈ lw_tbl := lw_at lw_m2 207 rfl
theorem q562 : (Jvm.Cond.fieldLinkNest "BlueBag$State" (88 : Nat) "BlueBag$Coast" "view" "LBlueBag$View;" "BlueBag") ∈ lw_tbl := lw_at lw_m2 210 rfl
theorem q593 : (Jvm.Cond.instantiable "BlueBag$State" (10 : Nat)) ∈ lw_all := lw_g (lw_at lw_m3 1 rfl) rfl
theorem q595 : (Jvm.Cond.instanceMethod ({ cls := "BlueBag$State", name := "<init>", desc := "()V" } : Jvm.MethodName)) ∈ lw_all := lw_g (lw_at lw_m3 3 rfl) rfl
theorem q596 : (Jvm.Cond.code ({ cls := "BlueBag$State", name := "<init>", desc := "()V" } : Jvm.MethodName) prog_13_method_1_code (1 : Nat) (Option.none : Option Jvm.ClassFile.FieldType)) ∈ lw_all := lw_g (lw_at lw_m3 4 rfl) rfl
theorem q597 : (Jvm.Cond.methodLink "BlueBag$State" (3 : Nat) ({ cls := "java/lang/Object", name := "<init>", desc := "()V" } : Jvm.MethodName)) ∈ lw_all := lw_g (lw_at lw_m3 5 rfl) rfl
theorem q598 : (Jvm.Cond.fieldLink "BlueBag$State" (9 : Nat) "BlueBag$State" "blue" "[I") ∈ lw_all := lw_g (lw_at lw_m3 6 rfl) rfl
theorem q600 : (Jvm.Cond.fieldLink "BlueBag$State" (15 : Nat) "BlueBag$State" "at" "[I") ∈ lw_all := lw_g (lw_at lw_m3 8 rfl) rfl
theorem q602 : (Jvm.Cond.fieldLink "BlueBag$State" (18 : Nat) "BlueBag$State" "skill" "[I") ∈ lw_all := lw_g (lw_at lw_m3 10 rfl) rfl
theorem q604 : (Jvm.Cond.fieldLink "BlueBag$State" (24 : Nat) "BlueBag$State" "day" "I") ∈ lw_all := lw_g (lw_at lw_m3 12 rfl) rfl
theorem q606 : (Jvm.Cond.fieldLink "BlueBag$State" (39 : Nat) "BlueBag$State" "knobs" "I") ∈ lw_all := lw_g (lw_at lw_m3 14 rfl) rfl
theorem q608 : (Jvm.Cond.fieldLink "BlueBag$State" (28 : Nat) "BlueBag$State" "martins" "I") ∈ lw_all := lw_g (lw_at lw_m3 16 rfl) rfl
theorem q610 : (Jvm.Cond.fieldLink "BlueBag$State" (31 : Nat) "BlueBag$State" "resting" "I") ∈ lw_all := lw_g (lw_at lw_m3 18 rfl) rfl
theorem q612 : (Jvm.Cond.fieldLink "BlueBag$State" (43 : Nat) "BlueBag$State" "pegs" "I") ∈ lw_all := lw_g (lw_at lw_m3 20 rfl) rfl
theorem q614 : (Jvm.Cond.fieldLink "BlueBag$State" (152 : Nat) "BlueBag$State" "overdone" "I") ∈ lw_all := lw_g (lw_at lw_m3 22 rfl) rfl
theorem q616 : (Jvm.Cond.fieldLink "BlueBag$State" (21 : Nat) "BlueBag$State" "fading" "[I") ∈ lw_all := lw_g (lw_at lw_m3 24 rfl) rfl
theorem q617 : (Jvm.Cond.laysFinal "BlueBag$State" "BlueBag$State" "blue" "[I") ∈ lw_all := lw_g (lw_at lw_m3 25 rfl) rfl
theorem q618 : (Jvm.Cond.soleField "BlueBag$State" "blue") ∈ lw_all := lw_g (lw_at lw_m3 26 rfl) rfl
theorem q619 : (Jvm.Cond.laysFinal "BlueBag$State" "BlueBag$State" "at" "[I") ∈ lw_all := lw_g (lw_at lw_m3 27 rfl) rfl
theorem q620 : (Jvm.Cond.soleField "BlueBag$State" "at") ∈ lw_all := lw_g (lw_at lw_m3 28 rfl) rfl
theorem q621 : (Jvm.Cond.laysFinal "BlueBag$State" "BlueBag$State" "skill" "[I") ∈ lw_all := lw_g (lw_at lw_m3 29 rfl) rfl
theorem q622 : (Jvm.Cond.soleField "BlueBag$State" "skill") ∈ lw_all := lw_g (lw_at lw_m3 30 rfl) rfl
theorem q623 : (Jvm.Cond.lays "BlueBag$State" "BlueBag$State" "day" "I") ∈ lw_all := lw_g (lw_at lw_m3 31 rfl) rfl
theorem q624 : (Jvm.Cond.soleField "BlueBag$State" "day") ∈ lw_all := lw_g (lw_at lw_m3 32 rfl) rfl
theorem q625 : (Jvm.Cond.lays "BlueBag$State" "BlueBag$State" "knobs" "I") ∈ lw_all := lw_g (lw_at lw_m3 33 rfl) rfl
theorem q626 : (Jvm.Cond.soleField "BlueBag$State" "knobs") ∈ lw_all := lw_g (lw_at lw_m3 34 rfl) rfl
theorem q627 : (Jvm.Cond.lays "BlueBag$State" "BlueBag$State" "martins" "I") ∈ lw_all := lw_g (lw_at lw_m3 35 rfl) rfl
theorem q628 : (Jvm.Cond.soleField "BlueBag$State" "martins") ∈ lw_all := lw_g (lw_at lw_m3 36 rfl) rfl
theorem q629 : (Jvm.Cond.lays "BlueBag$State" "BlueBag$State" "resting" "I") ∈ lw_all := lw_g (lw_at lw_m3 37 rfl) rfl
theorem q630 : (Jvm.Cond.soleField "BlueBag$State" "resting") ∈ lw_all := lw_g (lw_at lw_m3 38 rfl) rfl
theorem q631 : (Jvm.Cond.lays "BlueBag$State" "BlueBag$State" "pegs" "I") ∈ lw_all := lw_g (lw_at lw_m3 39 rfl) rfl
theorem q632 : (Jvm.Cond.soleField "BlueBag$State" "pegs") ∈ lw_all := lw_g (lw_at lw_m3 40 rfl) rfl
theorem q633 : (Jvm.Cond.lays "BlueBag$State" "BlueBag$State" "overdone" "I") ∈ lw_all := lw_g (lw_at lw_m3 41 rfl) rfl
theorem q634 : (Jvm.Cond.soleField "BlueBag$State" "overdone") ∈ lw_all := lw_g (lw_at lw_m3 42 rfl) rfl
theorem q635 : (Jvm.Cond.laysFinal "BlueBag$State" "BlueBag$State" "fading" "[I") ∈ lw_all := lw_g (lw_at lw_m3 43 rfl) rfl
theorem q636 : (Jvm.Cond.soleField "BlueBag$State" "fading") ∈ lw_all := lw_g (lw_at lw_m3 44 rfl) rfl
theorem q637 : (Jvm.Cond.superclass "BlueBag$State" "java/lang/Object") ∈ lw_all := lw_g (lw_at lw_m3 45 rfl) rfl
theorem q676 : (Jvm.Cond.selects "BlueBag$State" ({ cls := "java/lang/Object", name := "getClass", desc := "()Ljava/lang/Class;" } : Jvm.MethodName) ({ cls := "java/lang/Object", name := "getClass", desc := "()Ljava/lang/Class;" } : Jvm.MethodName)) ∈ lw_all := lw_g (lw_at lw_m3 84 rfl) rfl
theorem q729 : (Jvm.Cond.instanceMethod ({ cls := "BlueBag$State", name := "begins", desc := "(LBlueBag$Coast;)V" } : Jvm.MethodName)) ∈ lw_all := lw_g (lw_at lw_m3 137 rfl) rfl
theorem q730 : (Jvm.Cond.selects "BlueBag$State" ({ cls := "BlueBag$State", name := "begins", desc := "(LBlueBag$Coast;)V" } : Jvm.MethodName) ({ cls := "BlueBag$State", name := "begins", desc := "(LBlueBag$Coast;)V" } : Jvm.MethodName)) ∈ lw_all := lw_g (lw_at lw_m3 138 rfl) rfl
theorem q731 : (Jvm.Cond.code ({ cls := "BlueBag$State", name := "begins", desc := "(LBlueBag$Coast;)V" } : Jvm.MethodName) prog_13_method_2_code (3 : Nat) (Option.none : Option Jvm.ClassFile.FieldType)) ∈ lw_all := lw_g (lw_at lw_m3 139 rfl) rfl
theorem q732 : (Jvm.Cond.methodLink "BlueBag$State" (44 : Nat) ({ cls := "BlueBag$State", name := "isPeg", desc := "(I)Z" } : Jvm.MethodName)) ∈ lw_all := lw_g (lw_at lw_m3 140 rfl) rfl
theorem q733 : (Jvm.Cond.instanceMethod ({ cls := "BlueBag$State", name := "isPeg", desc := "(I)Z" } : Jvm.MethodName)) ∈ lw_all := lw_g (lw_at lw_m3 141 rfl) rfl
theorem q734 : (Jvm.Cond.selects "BlueBag$State" ({ cls := "BlueBag$State", name := "isPeg", desc := "(I)Z" } : Jvm.MethodName) ({ cls := "BlueBag$State", name := "isPeg", desc := "(I)Z" } : Jvm.MethodName)) ∈ lw_all := lw_g (lw_at lw_m3 142 rfl) rfl
theorem q735 : (Jvm.Cond.code ({ cls := "BlueBag$State", name := "isPeg", desc := "(I)Z" } : Jvm.MethodName) prog_13_method_4_code (2 : Nat) (Option.some Jvm.ClassFile.FieldType.boolean)) ∈ lw_all := lw_g (lw_at lw_m3 143 rfl) rfl
theorem q736 : (Jvm.Cond.methodLink "BlueBag$State" (53 : Nat) ({ cls := "java/util/ArrayList", name := "size", desc := "()I" } : Jvm.MethodName)) ∈ lw_all := lw_g (lw_at lw_m3 144 rfl) rfl
theorem q740 : (Jvm.Cond.methodLink "BlueBag$State" (59 : Nat) ({ cls := "java/util/ArrayList", name := "get", desc := "(I)Ljava/lang/Object;" } : Jvm.MethodName)) ∈ lw_all := lw_g (lw_at lw_m3 148 rfl) rfl
theorem q754 : (Jvm.Cond.classLink "BlueBag$State" (63 : Nat) "BlueBag$Girl") ∈ lw_all := lw_g (lw_at lw_m3 162 rfl) rfl
theorem q836 : (Jvm.Cond.instanceMethod ({ cls := "BlueBag$State", name := "like", desc := "(LBlueBag$State;)V" } : Jvm.MethodName)) ∈ lw_all := lw_g (lw_at lw_m4 4 rfl) rfl
theorem q837 : (Jvm.Cond.selects "BlueBag$State" ({ cls := "BlueBag$State", name := "like", desc := "(LBlueBag$State;)V" } : Jvm.MethodName) ({ cls := "BlueBag$State", name := "like", desc := "(LBlueBag$State;)V" } : Jvm.MethodName)) ∈ lw_all := lw_g (lw_at lw_m4 5 rfl) rfl
theorem q838 : (Jvm.Cond.code ({ cls := "BlueBag$State", name := "like", desc := "(LBlueBag$State;)V" } : Jvm.MethodName) prog_13_method_3_code (2 : Nat) (Option.none : Option Jvm.ClassFile.FieldType)) ∈ lw_all := lw_g (lw_at lw_m4 6 rfl) rfl
theorem q839 : (Jvm.Cond.methodLink "BlueBag$State" (70 : Nat) ({ cls := "java/lang/System", name := "arraycopy", desc := "(Ljava/lang/Object;ILjava/lang/Object;II)V" } : Jvm.MethodName)) ∈ lw_all := lw_g (lw_at lw_m4 7 rfl) rfl
theorem q845 : (Jvm.Cond.instanceMethod ({ cls := "BlueBag$State", name := "goes", desc := "(LBlueBag$Coast;)V" } : Jvm.MethodName)) ∈ lw_all := lw_g (lw_at lw_m4 13 rfl) rfl
theorem q846 : (Jvm.Cond.selects "BlueBag$State" ({ cls := "BlueBag$State", name := "goes", desc := "(LBlueBag$Coast;)V" } : Jvm.MethodName) ({ cls := "BlueBag$State", name := "goes", desc := "(LBlueBag$Coast;)V" } : Jvm.MethodName)) ∈ lw_all := lw_g (lw_at lw_m4 14 rfl) rfl
theorem q847 : (Jvm.Cond.code ({ cls := "BlueBag$State", name := "goes", desc := "(LBlueBag$Coast;)V" } : Jvm.MethodName) prog_13_method_11_code (3 : Nat) (Option.none : Option Jvm.ClassFile.FieldType)) ∈ lw_all := lw_g (lw_at lw_m4 15 rfl) rfl
theorem q848 : (Jvm.Cond.methodLink "BlueBag$State" (155 : Nat) ({ cls := "BlueBag$State", name := "isResting", desc := "(I)Z" } : Jvm.MethodName)) ∈ lw_all := lw_g (lw_at lw_m4 16 rfl) rfl
theorem q849 : (Jvm.Cond.instanceMethod ({ cls := "BlueBag$State", name := "isResting", desc := "(I)Z" } : Jvm.MethodName)) ∈ lw_all := lw_g (lw_at lw_m4 17 rfl) rfl
theorem q850 : (Jvm.Cond.selects "BlueBag$State" ({ cls := "BlueBag$State", name := "isResting", desc := "(I)Z" } : Jvm.MethodName) ({ cls := "BlueBag$State", name := "isResting", desc := "(I)Z" } : Jvm.MethodName)) ∈ lw_all := lw_g (lw_at lw_m4 18 rfl) rfl
theorem q851 : (Jvm.Cond.code ({ cls := "BlueBag$State", name := "isResting", desc := "(I)Z" } : Jvm.MethodName) prog_13_method_5_code (2 : Nat) (Option.some Jvm.ClassFile.FieldType.boolean)) ∈ lw_all := lw_g (lw_at lw_m4 19 rfl) rfl
theorem q852 : (Jvm.Cond.methodLink "BlueBag$State" (158 : Nat) ({ cls := "BlueBag$State", name := "swishes", desc := "(LBlueBag$Coast;I)V" } : Jvm.MethodName)) ∈ lw_all := lw_g (lw_at lw_m4 20 rfl) rfl
theorem q853 : (Jvm.Cond.instanceMethod ({ cls := "BlueBag$State", name := "swishes", desc := "(LBlueBag$Coast;I)V" } : Jvm.MethodName)) ∈ lw_all := lw_g (lw_at lw_m4 21 rfl) rfl
theorem q854 : (Jvm.Cond.selects "BlueBag$State" ({ cls := "BlueBag$State", name := "swishes", desc := "(LBlueBag$Coast;I)V" } : Jvm.MethodName) ({ cls := "BlueBag$State", name := "swishes", desc := "(LBlueBag$Coast;I)V" } : Jvm.MethodName)) ∈ lw_all := lw_g (lw_at lw_m4 22 rfl) rfl
theorem q855 : (Jvm.Cond.code ({ cls := "BlueBag$State", name := "swishes", desc := "(LBlueBag$Coast;I)V" } : Jvm.MethodName) prog_13_method_9_code (4 : Nat) (Option.none : Option Jvm.ClassFile.FieldType)) ∈ lw_all := lw_g (lw_at lw_m4 23 rfl) rfl
theorem q856 : (Jvm.Cond.methodLink "BlueBag$State" (138 : Nat) ({ cls := "BlueBag$State", name := "dyes", desc := "(LBlueBag$Coast;II)I" } : Jvm.MethodName)) ∈ lw_all := lw_g (lw_at lw_m4 24 rfl) rfl
theorem q857 : (Jvm.Cond.instanceMethod ({ cls := "BlueBag$State", name := "dyes", desc := "(LBlueBag$Coast;II)I" } : Jvm.MethodName)) ∈ lw_all := lw_g (lw_at lw_m4 25 rfl) rfl
theorem q858 : (Jvm.Cond.selects "BlueBag$State" ({ cls := "BlueBag$State", name := "dyes", desc := "(LBlueBag$Coast;II)I" } : Jvm.MethodName) ({ cls := "BlueBag$State", name := "dyes", desc := "(LBlueBag$Coast;II)I" } : Jvm.MethodName)) ∈ lw_all := lw_g (lw_at lw_m4 26 rfl) rfl
theorem q859 : (Jvm.Cond.code ({ cls := "BlueBag$State", name := "dyes", desc := "(LBlueBag$Coast;II)I" } : Jvm.MethodName) prog_13_method_8_code (6 : Nat) (Option.some Jvm.ClassFile.FieldType.int)) ∈ lw_all := lw_g (lw_at lw_m4 27 rfl) rfl
theorem q860 : (Jvm.Cond.methodLink "BlueBag$State" (120 : Nat) ({ cls := "BlueBag$State", name := "sees", desc := "(LBlueBag$Coast;I)LBlueBag$View;" } : Jvm.MethodName)) ∈ lw_all := lw_g (lw_at lw_m4 28 rfl) rfl
theorem q861 : (Jvm.Cond.privateMethod ({ cls := "BlueBag$State", name := "sees", desc := "(LBlueBag$Coast;I)LBlueBag$View;" } : Jvm.MethodName)) ∈ lw_tbl := lw_at lw_m4 29 rfl
theorem q862 : (Jvm.Cond.instanceMethod ({ cls := "BlueBag$State", name := "sees", desc := "(LBlueBag$Coast;I)LBlueBag$View;" } : Jvm.MethodName)) ∈ lw_all := lw_g (lw_at lw_m4 30 rfl) rfl
theorem q863 : (Jvm.Cond.code ({ cls := "BlueBag$State", name := "sees", desc := "(LBlueBag$Coast;I)LBlueBag$View;" } : Jvm.MethodName) prog_13_method_7_code (5 : Nat) (Option.some (Jvm.ClassFile.FieldType.object "BlueBag$View"))) ∈ lw_all := lw_g (lw_at lw_m4 31 rfl) rfl
theorem q864 : (Jvm.Cond.methodLink "BlueBag$State" (82 : Nat) ({ cls := "BlueBag$Coast", name := "cells", desc := "()I" } : Jvm.MethodName)) ∈ lw_all := lw_g (lw_at lw_m4 32 rfl) rfl
theorem q868 : (Jvm.Cond.methodLink "BlueBag$State" (85 : Nat) ({ cls := "BlueBag$Coast", name := "steps", desc := "(II)I" } : Jvm.MethodName)) ∈ lw_all := lw_g (lw_at lw_m4 36 rfl) rfl
theorem q875 : (Jvm.Cond.fieldLink "BlueBag$State" (92 : Nat) "BlueBag$Value" "BLUE" "LBlueBag$Value;") ∈ lw_all := lw_g (lw_at lw_m4 43 rfl) rfl
theorem q877 : (Jvm.Cond.methodLink "BlueBag$State" (98 : Nat) ({ cls := "BlueBag$View", name := "sees", desc := "(LBlueBag$Value;I)V" } : Jvm.MethodName)) ∈ lw_all := lw_g (lw_at lw_m4 45 rfl) rfl
theorem q887 : (Jvm.Cond.fieldLink "BlueBag$State" (104 : Nat) "BlueBag$Value" "BESIDE" "LBlueBag$Value;") ∈ lw_all := lw_g (lw_at lw_m4 55 rfl) rfl
theorem q889 : (Jvm.Cond.fieldLink "BlueBag$State" (107 : Nat) "BlueBag$Value" "ROW" "LBlueBag$Value;") ∈ lw_all := lw_g (lw_at lw_m4 57 rfl) rfl
theorem q891 : (Jvm.Cond.fieldLink "BlueBag$State" (113 : Nat) "BlueBag$Value" "DAY" "LBlueBag$Value;") ∈ lw_all := lw_g (lw_at lw_m4 59 rfl) rfl
theorem q893 : (Jvm.Cond.fieldLink "BlueBag$State" (123 : Nat) "BlueBag$Value" "SKILL" "LBlueBag$Value;") ∈ lw_all := lw_g (lw_at lw_m4 61 rfl) rfl
theorem q895 : (Jvm.Cond.fieldLink "BlueBag$State" (126 : Nat) "BlueBag$Value" "LEFT" "LBlueBag$Value;") ∈ lw_all := lw_g (lw_at lw_m4 63 rfl) rfl
theorem q897 : (Jvm.Cond.methodLink "BlueBag$State" (129 : Nat) ({ cls := "BlueBag$Expr", name := "by", desc := "(LBlueBag$View;)I" } : Jvm.MethodName)) ∈ lw_all := lw_g (lw_at lw_m4 65 rfl) rfl
theorem q915 : (Jvm.Cond.methodLink "BlueBag$State" (76 : Nat) ({ cls := "java/lang/Math", name := "min", desc := "(II)I" } : Jvm.MethodName)) ∈ lw_all := lw_g (lw_at lw_m4 83 rfl) rfl
theorem q916 : (Jvm.Cond.methodLink "BlueBag$State" (135 : Nat) ({ cls := "java/lang/Math", name := "max", desc := "(II)I" } : Jvm.MethodName)) ∈ lw_all := lw_g (lw_at lw_m4 84 rfl) rfl
theorem q917 : (Jvm.Cond.methodLink "BlueBag$State" (141 : Nat) ({ cls := "BlueBag$State", name := "takes", desc := "(II)V" } : Jvm.MethodName)) ∈ lw_all := lw_g (lw_at lw_m4 85 rfl) rfl
theorem q918 : (Jvm.Cond.instanceMethod ({ cls := "BlueBag$State", name := "takes", desc := "(II)V" } : Jvm.MethodName)) ∈ lw_all := lw_g (lw_at lw_m4 86 rfl) rfl
theorem q919 : (Jvm.Cond.selects "BlueBag$State" ({ cls := "BlueBag$State", name := "takes", desc := "(II)V" } : Jvm.MethodName) ({ cls := "BlueBag$State", name := "takes", desc := "(II)V" } : Jvm.MethodName)) ∈ lw_all := lw_g (lw_at lw_m4 87 rfl) rfl
theorem q920 : (Jvm.Cond.code ({ cls := "BlueBag$State", name := "takes", desc := "(II)V" } : Jvm.MethodName) prog_13_method_6_code (3 : Nat) (Option.none : Option Jvm.ClassFile.FieldType)) ∈ lw_all := lw_g (lw_at lw_m4 88 rfl) rfl
theorem q921 : (Jvm.Cond.methodLink "BlueBag$State" (145 : Nat) ({ cls := "BlueBag$Girl", name := "spreads", desc := "(LBlueBag$Coast;LBlueBag$State;II)V" } : Jvm.MethodName)) ∈ lw_all := lw_g (lw_at lw_m4 89 rfl) rfl
theorem q934 : (Jvm.Cond.methodLink "BlueBag$State" (165 : Nat) ({ cls := "java/lang/Integer", name := "bitCount", desc := "(I)I" } : Jvm.MethodName)) ∈ lw_all := lw_g (lw_at lw_m4 102 rfl) rfl
theorem q940 : (Jvm.Cond.methodLink "BlueBag$State" (174 : Nat) ({ cls := "BlueBag$State", name := "fades", desc := "(LBlueBag$Coast;I)I" } : Jvm.MethodName)) ∈ lw_all := lw_g (lw_at lw_m4 108 rfl) rfl
theorem q941 : (Jvm.Cond.privateMethod ({ cls := "BlueBag$State", name := "fades", desc := "(LBlueBag$Coast;I)I" } : Jvm.MethodName)) ∈ lw_tbl := lw_at lw_m4 109 rfl
theorem q942 : (Jvm.Cond.instanceMethod ({ cls := "BlueBag$State", name := "fades", desc := "(LBlueBag$Coast;I)I" } : Jvm.MethodName)) ∈ lw_all := lw_g (lw_at lw_m4 110 rfl) rfl
theorem q943 : (Jvm.Cond.code ({ cls := "BlueBag$State", name := "fades", desc := "(LBlueBag$Coast;I)I" } : Jvm.MethodName) prog_13_method_10_code (4 : Nat) (Option.some Jvm.ClassFile.FieldType.int)) ∈ lw_all := lw_g (lw_at lw_m4 111 rfl) rfl
theorem q972 : (Jvm.Cond.instanceMethod ({ cls := "BlueBag$State", name := "uneven", desc := "(LBlueBag$Coast;)I" } : Jvm.MethodName)) ∈ lw_all := lw_g (lw_at lw_m4 140 rfl) rfl
theorem q973 : (Jvm.Cond.selects "BlueBag$State" ({ cls := "BlueBag$State", name := "uneven", desc := "(LBlueBag$Coast;)I" } : Jvm.MethodName) ({ cls := "BlueBag$State", name := "uneven", desc := "(LBlueBag$Coast;)I" } : Jvm.MethodName)) ∈ lw_all := lw_g (lw_at lw_m4 141 rfl) rfl
theorem q974 : (Jvm.Cond.code ({ cls := "BlueBag$State", name := "uneven", desc := "(LBlueBag$Coast;)I" } : Jvm.MethodName) prog_13_method_13_code (2 : Nat) (Option.some Jvm.ClassFile.FieldType.int)) ∈ lw_all := lw_g (lw_at lw_m4 142 rfl) rfl
theorem q975 : (Jvm.Cond.methodLink "BlueBag$State" (177 : Nat) ({ cls := "BlueBag$State", name := "extreme", desc := "(LBlueBag$Coast;Z)I" } : Jvm.MethodName)) ∈ lw_all := lw_g (lw_at lw_m4 143 rfl) rfl
theorem q976 : (Jvm.Cond.instanceMethod ({ cls := "BlueBag$State", name := "extreme", desc := "(LBlueBag$Coast;Z)I" } : Jvm.MethodName)) ∈ lw_all := lw_g (lw_at lw_m4 144 rfl) rfl
theorem q977 : (Jvm.Cond.selects "BlueBag$State" ({ cls := "BlueBag$State", name := "extreme", desc := "(LBlueBag$Coast;Z)I" } : Jvm.MethodName) ({ cls := "BlueBag$State", name := "extreme", desc := "(LBlueBag$Coast;Z)I" } : Jvm.MethodName)) ∈ lw_all := lw_g (lw_at lw_m4 145 rfl) rfl
theorem q978 : (Jvm.Cond.code ({ cls := "BlueBag$State", name := "extreme", desc := "(LBlueBag$Coast;Z)I" } : Jvm.MethodName) prog_13_method_12_code (5 : Nat) (Option.some Jvm.ClassFile.FieldType.int)) ∈ lw_all := lw_g (lw_at lw_m4 146 rfl) rfl
theorem q1369 : (Jvm.Cond.fieldLink "BlueBag$State" (68 : Nat) "BlueBag$Girl" "skill" "I") ∈ lw_all := lw_g (lw_at lw_m6 57 rfl) rfl
theorem q1372 : (Jvm.Cond.fieldLink "BlueBag$State" (65 : Nat) "BlueBag$Girl" "cell" "I") ∈ lw_all := lw_g (lw_at lw_m6 60 rfl) rfl
theorem q1413 : (Jvm.Cond.instanceMethod ({ cls := "BlueBag$State", name := "all", desc := "(I)I" } : Jvm.MethodName)) ∈ lw_all := lw_g (lw_at lw_m6 101 rfl) rfl
theorem q1414 : (Jvm.Cond.selects "BlueBag$State" ({ cls := "BlueBag$State", name := "all", desc := "(I)I" } : Jvm.MethodName) ({ cls := "BlueBag$State", name := "all", desc := "(I)I" } : Jvm.MethodName)) ∈ lw_all := lw_g (lw_at lw_m6 102 rfl) rfl
theorem q1415 : (Jvm.Cond.code ({ cls := "BlueBag$State", name := "all", desc := "(I)I" } : Jvm.MethodName) prog_13_method_14_code (4 : Nat) (Option.some Jvm.ClassFile.FieldType.int)) ∈ lw_all := lw_g (lw_at lw_m6 103 rfl) rfl
theorem q2361 : (Jvm.Cond.castable "BlueBag$State" "java/lang/Object") ∈ lw_tbl := lw_at lw_m10 89 rfl
theorem in_X6 : ∀ w ∈ wsX60, w ∈ lw_all := lw_in wsX60 [617, 619, 621, 623, 625, 627, 629, 631, 633, 635] (by decide +kernel) (by decide +kernel)
/-! BlueBag$Reader -/
set_option maxRecDepth 100000
def RX8 : String := "BlueBag$Reader"
def TX8 : u_T := fun k => match k with
  | 0 => ("BlueBag$Reader", "text", "[B", true)
  | 1 => ("BlueBag$Reader", "size", "I", true)
  | 2 => ("BlueBag$Reader", "next", "I", false)
  | 3 => ("BlueBag$Reader", "place", "I", false)
  | 4 => ("BlueBag$Reader", "value", "I", false)
  | 5 => ("BlueBag$Reader", "isLong", "Z", false)
  | 6 => ("BlueBag$Reader", "sort", "LBlueBag$Sort;", false)
  | 7 => ("BlueBag$Reader", "word", "Ljava/lang/String;", false)
  | 8 => ("BlueBag$Reader", "has", "[Z", true)
  | 9 => ("BlueBag$Reader", "told", "I", false)
  | 10 => ("BlueBag$Reader", "values", "I", false)
  | _ => ("BlueBag$Reader", "isAny", "Z", false)
def tyX8 : Nat → FieldType := fun k => match k with
  | 0 => .array .byte
  | 1 => .int
  | 2 => .int
  | 3 => .int
  | 4 => .int
  | 5 => .boolean
  | 6 => .object "BlueBag$Sort"
  | 7 => .object "java/lang/String"
  | 8 => .array .boolean
  | 9 => .int
  | 10 => .int
  | _ => .boolean
abbrev wsX80 : List Cond := u_ws RX8 TX8 12
theorem nmX8 : ∀ a, a < 12 → ∀ b, b < 12 → a ≠ b → (TX8 a).2.1 ≠ (TX8 b).2.1 := by decide +kernel
theorem tyX8_ok : ∀ k, k < 12 → parseFieldDescriptor (TX8 k).2.2.1 = some (tyX8 k) := by decide +kernel
abbrev cX8_init : ByteArray := prog_10_method_1_code
def yX8_init : MethodName := ⟨RX8, "<init>", "([BI)V"⟩
def dkwX8_init_1 : List UInt8 := [28, 181, 0, 25, 42, 182, 0, 29, 177]
abbrev dktX8_init_1 : List UInt8 := dkwX8_init_1 ++ []
def dkwX8_init_0 : List UInt8 := [42, 183, 0, 3, 42, 18, 9, 181, 0, 11, 42, 16, 6, 188, 4, 181, 0, 17, 42, 43, 181, 0, 21, 42]
abbrev dktX8_init_0 : List UInt8 := dkwX8_init_0 ++ dktX8_init_1
theorem dksX8_init_0 : cX8_init.data.toList.drop 0 = dktX8_init_0 := by decide +kernel
theorem dksX8_init_1 : cX8_init.data.toList.drop 24 = dktX8_init_1 := dk_seg dksX8_init_0 24 rfl rfl
theorem dX8_init_0 : decode cX8_init 0 = .ok (.aload_n 0, 1) := dk_42 (dk_at dksX8_init_0 0 rfl rfl)
theorem dX8_init_1 : decode cX8_init 1 = .ok (.invokespecial 3, 3) := dk_183 0 3 (dk_at dksX8_init_0 1 rfl rfl)
theorem dX8_init_4 : decode cX8_init 4 = .ok (.aload_n 0, 1) := dk_42 (dk_at dksX8_init_0 4 rfl rfl)
theorem dX8_init_5 : decode cX8_init 5 = .ok (.ldc 9, 2) := dk_18 9 (dk_at dksX8_init_0 5 rfl rfl)
theorem dX8_init_7 : decode cX8_init 7 = .ok (.putfield 11, 3) := dk_181 0 11 (dk_at dksX8_init_0 7 rfl rfl)
theorem dX8_init_10 : decode cX8_init 10 = .ok (.aload_n 0, 1) := dk_42 (dk_at dksX8_init_0 10 rfl rfl)
theorem dX8_init_11 : decode cX8_init 11 = .ok (.bipush 6, 2) := dk_16 6 (dk_at dksX8_init_0 11 rfl rfl)
theorem dX8_init_13 : decode cX8_init 13 = .ok (.newarray .boolean, 2) := dk_188_4 (dk_at dksX8_init_0 13 rfl rfl)
theorem dX8_init_15 : decode cX8_init 15 = .ok (.putfield 17, 3) := dk_181 0 17 (dk_at dksX8_init_0 15 rfl rfl)
theorem dX8_init_18 : decode cX8_init 18 = .ok (.aload_n 0, 1) := dk_42 (dk_at dksX8_init_0 18 rfl rfl)
theorem dX8_init_19 : decode cX8_init 19 = .ok (.aload_n 1, 1) := dk_43 (dk_at dksX8_init_0 19 rfl rfl)
theorem dX8_init_20 : decode cX8_init 20 = .ok (.putfield 21, 3) := dk_181 0 21 (dk_at dksX8_init_0 20 rfl rfl)
theorem dX8_init_23 : decode cX8_init 23 = .ok (.aload_n 0, 1) := dk_42 (dk_at dksX8_init_0 23 rfl rfl)
theorem dX8_init_24 : decode cX8_init 24 = .ok (.iload_n 2, 1) := dk_28 (dk_at dksX8_init_1 0 rfl rfl)
theorem dX8_init_25 : decode cX8_init 25 = .ok (.putfield 25, 3) := dk_181 0 25 (dk_at dksX8_init_1 1 rfl rfl)
theorem dX8_init_28 : decode cX8_init 28 = .ok (.aload_n 0, 1) := dk_42 (dk_at dksX8_init_1 4 rfl rfl)
theorem dX8_init_29 : decode cX8_init 29 = .ok (.invokevirtual 29, 3) := dk_182 0 29 (dk_at dksX8_init_1 5 rfl rfl)
theorem dX8_init_32 : decode cX8_init 32 = .ok (.return_, 1) := dk_177 (dk_at dksX8_init_1 8 rfl rfl)
abbrev cX8_go : ByteArray := prog_10_method_6_code
def yX8_go : MethodName := ⟨RX8, "go", "()V"⟩
def dkwX8_go_14 : List UInt8 := [146, 184, 0, 97, 181, 0, 11, 42, 89, 180, 0, 32, 4, 96, 181, 0, 32, 177]
abbrev dktX8_go_14 : List UInt8 := dkwX8_go_14 ++ []
def dkwX8_go_13 : List UInt8 := [178, 0, 91, 167, 0, 6, 178, 0, 94, 181, 0, 52, 42, 180, 0, 52, 178, 0, 91, 166, 0, 12, 42, 27]
abbrev dktX8_go_13 : List UInt8 := dkwX8_go_13 ++ dktX8_go_14
def dkwX8_go_12 : List UInt8 := [3, 181, 0, 42, 42, 178, 0, 85, 181, 0, 52, 167, 0, 52, 42, 27, 184, 0, 88, 153, 0, 9]
abbrev dktX8_go_12 : List UInt8 := dkwX8_go_12 ++ dktX8_go_13
def dkwX8_go_11 : List UInt8 := [181, 0, 32, 167, 255, 196, 42, 42, 180, 0, 32, 42, 180, 0, 39, 100, 7, 164, 0, 7, 4, 167, 0, 4]
abbrev dktX8_go_11 : List UInt8 := dkwX8_go_11 ++ dktX8_go_12
def dkwX8_go_10 : List UInt8 := [42, 42, 180, 0, 32, 182, 0, 35, 96, 16, 48, 100, 181, 0, 82, 42, 89, 180, 0, 32, 4, 96]
abbrev dktX8_go_10 : List UInt8 := dkwX8_go_10 ++ dktX8_go_11
def dkwX8_go_9 : List UInt8 := [153, 0, 52, 42, 180, 0, 32, 42, 180, 0, 39, 100, 7, 162, 0, 26, 42, 16, 10, 42, 180, 0, 82, 104]
abbrev dktX8_go_9 : List UInt8 := dkwX8_go_9 ++ dktX8_go_10
def dkwX8_go_8 : List UInt8 := [184, 0, 79, 153, 0, 103, 42, 3, 181, 0, 82, 42, 42, 180, 0, 32, 182, 0, 35, 184, 0, 79]
abbrev dktX8_go_8 : List UInt8 := dkwX8_go_8 ++ dktX8_go_9
def dkwX8_go_7 : List UInt8 := [167, 255, 209, 42, 44, 182, 0, 72, 181, 0, 11, 42, 178, 0, 76, 181, 0, 52, 167, 0, 159, 27]
abbrev dktX8_go_7 : List UInt8 := dkwX8_go_7 ++ dktX8_go_8
def dkwX8_go_6 : List UInt8 := [42, 180, 0, 32, 182, 0, 35, 146, 182, 0, 68, 87, 42, 89, 180, 0, 32, 4, 96, 181, 0, 32]
abbrev dktX8_go_6 : List UInt8 := dkwX8_go_6 ++ dktX8_go_7
def dkwX8_go_5 : List UInt8 := [42, 180, 0, 32, 182, 0, 35, 184, 0, 55, 153, 0, 39, 44, 182, 0, 64, 16, 12, 162, 0, 17, 44, 42]
abbrev dktX8_go_5 : List UInt8 := dkwX8_go_5 ++ dktX8_go_6
def dkwX8_go_4 : List UInt8 := [181, 0, 52, 167, 0, 244, 27, 184, 0, 55, 153, 0, 81, 187, 0, 59, 89, 16, 9, 183, 0, 61, 77, 42]
abbrev dktX8_go_4 : List UInt8 := dkwX8_go_4 ++ dktX8_go_5
def dkwX8_go_3 : List UInt8 := [180, 0, 32, 182, 0, 35, 60, 42, 180, 0, 32, 42, 180, 0, 25, 161, 0, 13, 42, 178, 0, 46]
abbrev dktX8_go_3 : List UInt8 := dkwX8_go_3 ++ dktX8_go_4
def dkwX8_go_2 : List UInt8 := [167, 255, 209, 42, 42, 180, 0, 32, 181, 0, 39, 42, 18, 9, 181, 0, 11, 42, 3, 181, 0, 42, 42, 42]
abbrev dktX8_go_2 : List UInt8 := dkwX8_go_2 ++ dktX8_go_3
def dkwX8_go_1 : List UInt8 := [42, 42, 180, 0, 32, 182, 0, 35, 16, 10, 160, 0, 16, 42, 89, 180, 0, 32, 4, 96, 181, 0, 32]
abbrev dktX8_go_1 : List UInt8 := dkwX8_go_1 ++ dktX8_go_2
def dkwX8_go_0 : List UInt8 := [42, 180, 0, 32, 42, 180, 0, 25, 162, 0, 42, 42, 42, 180, 0, 32, 182, 0, 35, 16, 32, 159, 0, 16]
abbrev dktX8_go_0 : List UInt8 := dkwX8_go_0 ++ dktX8_go_1
theorem dksX8_go_0 : cX8_go.data.toList.drop 0 = dktX8_go_0 := by decide +kernel
theorem dksX8_go_1 : cX8_go.data.toList.drop 24 = dktX8_go_1 := dk_seg dksX8_go_0 24 rfl rfl
theorem dksX8_go_2 : cX8_go.data.toList.drop 47 = dktX8_go_2 := dk_seg dksX8_go_1 23 rfl rfl
theorem dksX8_go_3 : cX8_go.data.toList.drop 71 = dktX8_go_3 := dk_seg dksX8_go_2 24 rfl rfl
theorem dksX8_go_4 : cX8_go.data.toList.drop 93 = dktX8_go_4 := dk_seg dksX8_go_3 22 rfl rfl
theorem dksX8_go_5 : cX8_go.data.toList.drop 117 = dktX8_go_5 := dk_seg dksX8_go_4 24 rfl rfl
theorem dksX8_go_6 : cX8_go.data.toList.drop 141 = dktX8_go_6 := dk_seg dksX8_go_5 24 rfl rfl
theorem dksX8_go_7 : cX8_go.data.toList.drop 163 = dktX8_go_7 := dk_seg dksX8_go_6 22 rfl rfl
theorem dksX8_go_8 : cX8_go.data.toList.drop 185 = dktX8_go_8 := dk_seg dksX8_go_7 22 rfl rfl
theorem dksX8_go_9 : cX8_go.data.toList.drop 207 = dktX8_go_9 := dk_seg dksX8_go_8 22 rfl rfl
theorem dksX8_go_10 : cX8_go.data.toList.drop 231 = dktX8_go_10 := dk_seg dksX8_go_9 24 rfl rfl
theorem dksX8_go_11 : cX8_go.data.toList.drop 253 = dktX8_go_11 := dk_seg dksX8_go_10 22 rfl rfl
theorem dksX8_go_12 : cX8_go.data.toList.drop 277 = dktX8_go_12 := dk_seg dksX8_go_11 24 rfl rfl
theorem dksX8_go_13 : cX8_go.data.toList.drop 299 = dktX8_go_13 := dk_seg dksX8_go_12 22 rfl rfl
theorem dksX8_go_14 : cX8_go.data.toList.drop 323 = dktX8_go_14 := dk_seg dksX8_go_13 24 rfl rfl
theorem dX8_go_0 : decode cX8_go 0 = .ok (.aload_n 0, 1) := dk_42 (dk_at dksX8_go_0 0 rfl rfl)
theorem dX8_go_1 : decode cX8_go 1 = .ok (.getfield 32, 3) := dk_180 0 32 (dk_at dksX8_go_0 1 rfl rfl)
theorem dX8_go_4 : decode cX8_go 4 = .ok (.aload_n 0, 1) := dk_42 (dk_at dksX8_go_0 4 rfl rfl)
theorem dX8_go_5 : decode cX8_go 5 = .ok (.getfield 25, 3) := dk_180 0 25 (dk_at dksX8_go_0 5 rfl rfl)
theorem dX8_go_8 : decode cX8_go 8 = .ok (.if_icmp .ge 42, 3) := dk_162 0 42 (dk_at dksX8_go_0 8 rfl rfl)
theorem dX8_go_11 : decode cX8_go 11 = .ok (.aload_n 0, 1) := dk_42 (dk_at dksX8_go_0 11 rfl rfl)
theorem dX8_go_12 : decode cX8_go 12 = .ok (.aload_n 0, 1) := dk_42 (dk_at dksX8_go_0 12 rfl rfl)
theorem dX8_go_13 : decode cX8_go 13 = .ok (.getfield 32, 3) := dk_180 0 32 (dk_at dksX8_go_0 13 rfl rfl)
theorem dX8_go_16 : decode cX8_go 16 = .ok (.invokevirtual 35, 3) := dk_182 0 35 (dk_at dksX8_go_0 16 rfl rfl)
theorem dX8_go_19 : decode cX8_go 19 = .ok (.bipush 32, 2) := dk_16 32 (dk_at dksX8_go_0 19 rfl rfl)
theorem dX8_go_21 : decode cX8_go 21 = .ok (.if_icmp .eq 16, 3) := dk_159 0 16 (dk_at dksX8_go_0 21 rfl rfl)
theorem dX8_go_24 : decode cX8_go 24 = .ok (.aload_n 0, 1) := dk_42 (dk_at dksX8_go_1 0 rfl rfl)
theorem dX8_go_25 : decode cX8_go 25 = .ok (.aload_n 0, 1) := dk_42 (dk_at dksX8_go_1 1 rfl rfl)
theorem dX8_go_26 : decode cX8_go 26 = .ok (.getfield 32, 3) := dk_180 0 32 (dk_at dksX8_go_1 2 rfl rfl)
theorem dX8_go_29 : decode cX8_go 29 = .ok (.invokevirtual 35, 3) := dk_182 0 35 (dk_at dksX8_go_1 5 rfl rfl)
theorem dX8_go_32 : decode cX8_go 32 = .ok (.bipush 10, 2) := dk_16 10 (dk_at dksX8_go_1 8 rfl rfl)
theorem dX8_go_34 : decode cX8_go 34 = .ok (.if_icmp .ne 16, 3) := dk_160 0 16 (dk_at dksX8_go_1 10 rfl rfl)
theorem dX8_go_37 : decode cX8_go 37 = .ok (.aload_n 0, 1) := dk_42 (dk_at dksX8_go_1 13 rfl rfl)
theorem dX8_go_38 : decode cX8_go 38 = .ok (.dup, 1) := dk_89 (dk_at dksX8_go_1 14 rfl rfl)
theorem dX8_go_39 : decode cX8_go 39 = .ok (.getfield 32, 3) := dk_180 0 32 (dk_at dksX8_go_1 15 rfl rfl)
theorem dX8_go_42 : decode cX8_go 42 = .ok (.iconst 1, 1) := dk_4 (dk_at dksX8_go_1 18 rfl rfl)
theorem dX8_go_43 : decode cX8_go 43 = .ok (.iadd, 1) := dk_96 (dk_at dksX8_go_1 19 rfl rfl)
theorem dX8_go_44 : decode cX8_go 44 = .ok (.putfield 32, 3) := dk_181 0 32 (dk_at dksX8_go_1 20 rfl rfl)
theorem dX8_go_47 : decode cX8_go 47 = .ok (.goto (-47), 3) := dk_167 255 209 (dk_at dksX8_go_2 0 rfl rfl)
theorem dX8_go_50 : decode cX8_go 50 = .ok (.aload_n 0, 1) := dk_42 (dk_at dksX8_go_2 3 rfl rfl)
theorem dX8_go_51 : decode cX8_go 51 = .ok (.aload_n 0, 1) := dk_42 (dk_at dksX8_go_2 4 rfl rfl)
theorem dX8_go_52 : decode cX8_go 52 = .ok (.getfield 32, 3) := dk_180 0 32 (dk_at dksX8_go_2 5 rfl rfl)
theorem dX8_go_55 : decode cX8_go 55 = .ok (.putfield 39, 3) := dk_181 0 39 (dk_at dksX8_go_2 8 rfl rfl)
theorem dX8_go_58 : decode cX8_go 58 = .ok (.aload_n 0, 1) := dk_42 (dk_at dksX8_go_2 11 rfl rfl)
theorem dX8_go_59 : decode cX8_go 59 = .ok (.ldc 9, 2) := dk_18 9 (dk_at dksX8_go_2 12 rfl rfl)
theorem dX8_go_61 : decode cX8_go 61 = .ok (.putfield 11, 3) := dk_181 0 11 (dk_at dksX8_go_2 14 rfl rfl)
theorem dX8_go_64 : decode cX8_go 64 = .ok (.aload_n 0, 1) := dk_42 (dk_at dksX8_go_2 17 rfl rfl)
theorem dX8_go_65 : decode cX8_go 65 = .ok (.iconst 0, 1) := dk_3 (dk_at dksX8_go_2 18 rfl rfl)
theorem dX8_go_66 : decode cX8_go 66 = .ok (.putfield 42, 3) := dk_181 0 42 (dk_at dksX8_go_2 19 rfl rfl)
theorem dX8_go_69 : decode cX8_go 69 = .ok (.aload_n 0, 1) := dk_42 (dk_at dksX8_go_2 22 rfl rfl)
theorem dX8_go_70 : decode cX8_go 70 = .ok (.aload_n 0, 1) := dk_42 (dk_at dksX8_go_2 23 rfl rfl)
theorem dX8_go_71 : decode cX8_go 71 = .ok (.getfield 32, 3) := dk_180 0 32 (dk_at dksX8_go_3 0 rfl rfl)
theorem dX8_go_74 : decode cX8_go 74 = .ok (.invokevirtual 35, 3) := dk_182 0 35 (dk_at dksX8_go_3 3 rfl rfl)
theorem dX8_go_77 : decode cX8_go 77 = .ok (.istore_n 1, 1) := dk_60 (dk_at dksX8_go_3 6 rfl rfl)
theorem dX8_go_78 : decode cX8_go 78 = .ok (.aload_n 0, 1) := dk_42 (dk_at dksX8_go_3 7 rfl rfl)
theorem dX8_go_79 : decode cX8_go 79 = .ok (.getfield 32, 3) := dk_180 0 32 (dk_at dksX8_go_3 8 rfl rfl)
theorem dX8_go_82 : decode cX8_go 82 = .ok (.aload_n 0, 1) := dk_42 (dk_at dksX8_go_3 11 rfl rfl)
theorem dX8_go_83 : decode cX8_go 83 = .ok (.getfield 25, 3) := dk_180 0 25 (dk_at dksX8_go_3 12 rfl rfl)
theorem dX8_go_86 : decode cX8_go 86 = .ok (.if_icmp .lt 13, 3) := dk_161 0 13 (dk_at dksX8_go_3 15 rfl rfl)
theorem dX8_go_89 : decode cX8_go 89 = .ok (.aload_n 0, 1) := dk_42 (dk_at dksX8_go_3 18 rfl rfl)
theorem dX8_go_90 : decode cX8_go 90 = .ok (.getstatic 46, 3) := dk_178 0 46 (dk_at dksX8_go_3 19 rfl rfl)
theorem dX8_go_93 : decode cX8_go 93 = .ok (.putfield 52, 3) := dk_181 0 52 (dk_at dksX8_go_4 0 rfl rfl)
theorem dX8_go_96 : decode cX8_go 96 = .ok (.goto 244, 3) := dk_167 0 244 (dk_at dksX8_go_4 3 rfl rfl)
theorem dX8_go_99 : decode cX8_go 99 = .ok (.iload_n 1, 1) := dk_27 (dk_at dksX8_go_4 6 rfl rfl)
theorem dX8_go_100 : decode cX8_go 100 = .ok (.invokestatic 55, 3) := dk_184 0 55 (dk_at dksX8_go_4 7 rfl rfl)
theorem dX8_go_103 : decode cX8_go 103 = .ok (.ifCond .eq 81, 3) := dk_153 0 81 (dk_at dksX8_go_4 10 rfl rfl)
theorem dX8_go_106 : decode cX8_go 106 = .ok (.new 59, 3) := dk_187 0 59 (dk_at dksX8_go_4 13 rfl rfl)
theorem dX8_go_109 : decode cX8_go 109 = .ok (.dup, 1) := dk_89 (dk_at dksX8_go_4 16 rfl rfl)
theorem dX8_go_110 : decode cX8_go 110 = .ok (.bipush 9, 2) := dk_16 9 (dk_at dksX8_go_4 17 rfl rfl)
theorem dX8_go_112 : decode cX8_go 112 = .ok (.invokespecial 61, 3) := dk_183 0 61 (dk_at dksX8_go_4 19 rfl rfl)
theorem dX8_go_115 : decode cX8_go 115 = .ok (.astore_n 2, 1) := dk_77 (dk_at dksX8_go_4 22 rfl rfl)
theorem dX8_go_116 : decode cX8_go 116 = .ok (.aload_n 0, 1) := dk_42 (dk_at dksX8_go_4 23 rfl rfl)
theorem dX8_go_117 : decode cX8_go 117 = .ok (.aload_n 0, 1) := dk_42 (dk_at dksX8_go_5 0 rfl rfl)
theorem dX8_go_118 : decode cX8_go 118 = .ok (.getfield 32, 3) := dk_180 0 32 (dk_at dksX8_go_5 1 rfl rfl)
theorem dX8_go_121 : decode cX8_go 121 = .ok (.invokevirtual 35, 3) := dk_182 0 35 (dk_at dksX8_go_5 4 rfl rfl)
theorem dX8_go_124 : decode cX8_go 124 = .ok (.invokestatic 55, 3) := dk_184 0 55 (dk_at dksX8_go_5 7 rfl rfl)
theorem dX8_go_127 : decode cX8_go 127 = .ok (.ifCond .eq 39, 3) := dk_153 0 39 (dk_at dksX8_go_5 10 rfl rfl)
theorem dX8_go_130 : decode cX8_go 130 = .ok (.aload_n 2, 1) := dk_44 (dk_at dksX8_go_5 13 rfl rfl)
theorem dX8_go_131 : decode cX8_go 131 = .ok (.invokevirtual 64, 3) := dk_182 0 64 (dk_at dksX8_go_5 14 rfl rfl)
theorem dX8_go_134 : decode cX8_go 134 = .ok (.bipush 12, 2) := dk_16 12 (dk_at dksX8_go_5 17 rfl rfl)
theorem dX8_go_136 : decode cX8_go 136 = .ok (.if_icmp .ge 17, 3) := dk_162 0 17 (dk_at dksX8_go_5 19 rfl rfl)
theorem dX8_go_139 : decode cX8_go 139 = .ok (.aload_n 2, 1) := dk_44 (dk_at dksX8_go_5 22 rfl rfl)
theorem dX8_go_140 : decode cX8_go 140 = .ok (.aload_n 0, 1) := dk_42 (dk_at dksX8_go_5 23 rfl rfl)
theorem dX8_go_141 : decode cX8_go 141 = .ok (.aload_n 0, 1) := dk_42 (dk_at dksX8_go_6 0 rfl rfl)
theorem dX8_go_142 : decode cX8_go 142 = .ok (.getfield 32, 3) := dk_180 0 32 (dk_at dksX8_go_6 1 rfl rfl)
theorem dX8_go_145 : decode cX8_go 145 = .ok (.invokevirtual 35, 3) := dk_182 0 35 (dk_at dksX8_go_6 4 rfl rfl)
theorem dX8_go_148 : decode cX8_go 148 = .ok (.i2c, 1) := dk_146 (dk_at dksX8_go_6 7 rfl rfl)
theorem dX8_go_149 : decode cX8_go 149 = .ok (.invokevirtual 68, 3) := dk_182 0 68 (dk_at dksX8_go_6 8 rfl rfl)
theorem dX8_go_152 : decode cX8_go 152 = .ok (.pop, 1) := dk_87 (dk_at dksX8_go_6 11 rfl rfl)
theorem dX8_go_153 : decode cX8_go 153 = .ok (.aload_n 0, 1) := dk_42 (dk_at dksX8_go_6 12 rfl rfl)
theorem dX8_go_154 : decode cX8_go 154 = .ok (.dup, 1) := dk_89 (dk_at dksX8_go_6 13 rfl rfl)
theorem dX8_go_155 : decode cX8_go 155 = .ok (.getfield 32, 3) := dk_180 0 32 (dk_at dksX8_go_6 14 rfl rfl)
theorem dX8_go_158 : decode cX8_go 158 = .ok (.iconst 1, 1) := dk_4 (dk_at dksX8_go_6 17 rfl rfl)
theorem dX8_go_159 : decode cX8_go 159 = .ok (.iadd, 1) := dk_96 (dk_at dksX8_go_6 18 rfl rfl)
theorem dX8_go_160 : decode cX8_go 160 = .ok (.putfield 32, 3) := dk_181 0 32 (dk_at dksX8_go_6 19 rfl rfl)
theorem dX8_go_163 : decode cX8_go 163 = .ok (.goto (-47), 3) := dk_167 255 209 (dk_at dksX8_go_7 0 rfl rfl)
theorem dX8_go_166 : decode cX8_go 166 = .ok (.aload_n 0, 1) := dk_42 (dk_at dksX8_go_7 3 rfl rfl)
theorem dX8_go_167 : decode cX8_go 167 = .ok (.aload_n 2, 1) := dk_44 (dk_at dksX8_go_7 4 rfl rfl)
theorem dX8_go_168 : decode cX8_go 168 = .ok (.invokevirtual 72, 3) := dk_182 0 72 (dk_at dksX8_go_7 5 rfl rfl)
theorem dX8_go_171 : decode cX8_go 171 = .ok (.putfield 11, 3) := dk_181 0 11 (dk_at dksX8_go_7 8 rfl rfl)
theorem dX8_go_174 : decode cX8_go 174 = .ok (.aload_n 0, 1) := dk_42 (dk_at dksX8_go_7 11 rfl rfl)
theorem dX8_go_175 : decode cX8_go 175 = .ok (.getstatic 76, 3) := dk_178 0 76 (dk_at dksX8_go_7 12 rfl rfl)
theorem dX8_go_178 : decode cX8_go 178 = .ok (.putfield 52, 3) := dk_181 0 52 (dk_at dksX8_go_7 15 rfl rfl)
theorem dX8_go_181 : decode cX8_go 181 = .ok (.goto 159, 3) := dk_167 0 159 (dk_at dksX8_go_7 18 rfl rfl)
theorem dX8_go_184 : decode cX8_go 184 = .ok (.iload_n 1, 1) := dk_27 (dk_at dksX8_go_7 21 rfl rfl)
theorem dX8_go_185 : decode cX8_go 185 = .ok (.invokestatic 79, 3) := dk_184 0 79 (dk_at dksX8_go_8 0 rfl rfl)
theorem dX8_go_188 : decode cX8_go 188 = .ok (.ifCond .eq 103, 3) := dk_153 0 103 (dk_at dksX8_go_8 3 rfl rfl)
theorem dX8_go_191 : decode cX8_go 191 = .ok (.aload_n 0, 1) := dk_42 (dk_at dksX8_go_8 6 rfl rfl)
theorem dX8_go_192 : decode cX8_go 192 = .ok (.iconst 0, 1) := dk_3 (dk_at dksX8_go_8 7 rfl rfl)
theorem dX8_go_193 : decode cX8_go 193 = .ok (.putfield 82, 3) := dk_181 0 82 (dk_at dksX8_go_8 8 rfl rfl)
theorem dX8_go_196 : decode cX8_go 196 = .ok (.aload_n 0, 1) := dk_42 (dk_at dksX8_go_8 11 rfl rfl)
theorem dX8_go_197 : decode cX8_go 197 = .ok (.aload_n 0, 1) := dk_42 (dk_at dksX8_go_8 12 rfl rfl)
theorem dX8_go_198 : decode cX8_go 198 = .ok (.getfield 32, 3) := dk_180 0 32 (dk_at dksX8_go_8 13 rfl rfl)
theorem dX8_go_201 : decode cX8_go 201 = .ok (.invokevirtual 35, 3) := dk_182 0 35 (dk_at dksX8_go_8 16 rfl rfl)
theorem dX8_go_204 : decode cX8_go 204 = .ok (.invokestatic 79, 3) := dk_184 0 79 (dk_at dksX8_go_8 19 rfl rfl)
theorem dX8_go_207 : decode cX8_go 207 = .ok (.ifCond .eq 52, 3) := dk_153 0 52 (dk_at dksX8_go_9 0 rfl rfl)
theorem dX8_go_210 : decode cX8_go 210 = .ok (.aload_n 0, 1) := dk_42 (dk_at dksX8_go_9 3 rfl rfl)
theorem dX8_go_211 : decode cX8_go 211 = .ok (.getfield 32, 3) := dk_180 0 32 (dk_at dksX8_go_9 4 rfl rfl)
theorem dX8_go_214 : decode cX8_go 214 = .ok (.aload_n 0, 1) := dk_42 (dk_at dksX8_go_9 7 rfl rfl)
theorem dX8_go_215 : decode cX8_go 215 = .ok (.getfield 39, 3) := dk_180 0 39 (dk_at dksX8_go_9 8 rfl rfl)
theorem dX8_go_218 : decode cX8_go 218 = .ok (.isub, 1) := dk_100 (dk_at dksX8_go_9 11 rfl rfl)
theorem dX8_go_219 : decode cX8_go 219 = .ok (.iconst 4, 1) := dk_7 (dk_at dksX8_go_9 12 rfl rfl)
theorem dX8_go_220 : decode cX8_go 220 = .ok (.if_icmp .ge 26, 3) := dk_162 0 26 (dk_at dksX8_go_9 13 rfl rfl)
theorem dX8_go_223 : decode cX8_go 223 = .ok (.aload_n 0, 1) := dk_42 (dk_at dksX8_go_9 16 rfl rfl)
theorem dX8_go_224 : decode cX8_go 224 = .ok (.bipush 10, 2) := dk_16 10 (dk_at dksX8_go_9 17 rfl rfl)
theorem dX8_go_226 : decode cX8_go 226 = .ok (.aload_n 0, 1) := dk_42 (dk_at dksX8_go_9 19 rfl rfl)
theorem dX8_go_227 : decode cX8_go 227 = .ok (.getfield 82, 3) := dk_180 0 82 (dk_at dksX8_go_9 20 rfl rfl)
theorem dX8_go_230 : decode cX8_go 230 = .ok (.imul, 1) := dk_104 (dk_at dksX8_go_9 23 rfl rfl)
theorem dX8_go_231 : decode cX8_go 231 = .ok (.aload_n 0, 1) := dk_42 (dk_at dksX8_go_10 0 rfl rfl)
theorem dX8_go_232 : decode cX8_go 232 = .ok (.aload_n 0, 1) := dk_42 (dk_at dksX8_go_10 1 rfl rfl)
theorem dX8_go_233 : decode cX8_go 233 = .ok (.getfield 32, 3) := dk_180 0 32 (dk_at dksX8_go_10 2 rfl rfl)
theorem dX8_go_236 : decode cX8_go 236 = .ok (.invokevirtual 35, 3) := dk_182 0 35 (dk_at dksX8_go_10 5 rfl rfl)
theorem dX8_go_239 : decode cX8_go 239 = .ok (.iadd, 1) := dk_96 (dk_at dksX8_go_10 8 rfl rfl)
theorem dX8_go_240 : decode cX8_go 240 = .ok (.bipush 48, 2) := dk_16 48 (dk_at dksX8_go_10 9 rfl rfl)
theorem dX8_go_242 : decode cX8_go 242 = .ok (.isub, 1) := dk_100 (dk_at dksX8_go_10 11 rfl rfl)
theorem dX8_go_243 : decode cX8_go 243 = .ok (.putfield 82, 3) := dk_181 0 82 (dk_at dksX8_go_10 12 rfl rfl)
theorem dX8_go_246 : decode cX8_go 246 = .ok (.aload_n 0, 1) := dk_42 (dk_at dksX8_go_10 15 rfl rfl)
theorem dX8_go_247 : decode cX8_go 247 = .ok (.dup, 1) := dk_89 (dk_at dksX8_go_10 16 rfl rfl)
theorem dX8_go_248 : decode cX8_go 248 = .ok (.getfield 32, 3) := dk_180 0 32 (dk_at dksX8_go_10 17 rfl rfl)
theorem dX8_go_251 : decode cX8_go 251 = .ok (.iconst 1, 1) := dk_4 (dk_at dksX8_go_10 20 rfl rfl)
theorem dX8_go_252 : decode cX8_go 252 = .ok (.iadd, 1) := dk_96 (dk_at dksX8_go_10 21 rfl rfl)
theorem dX8_go_253 : decode cX8_go 253 = .ok (.putfield 32, 3) := dk_181 0 32 (dk_at dksX8_go_11 0 rfl rfl)
theorem dX8_go_256 : decode cX8_go 256 = .ok (.goto (-60), 3) := dk_167 255 196 (dk_at dksX8_go_11 3 rfl rfl)
theorem dX8_go_259 : decode cX8_go 259 = .ok (.aload_n 0, 1) := dk_42 (dk_at dksX8_go_11 6 rfl rfl)
theorem dX8_go_260 : decode cX8_go 260 = .ok (.aload_n 0, 1) := dk_42 (dk_at dksX8_go_11 7 rfl rfl)
theorem dX8_go_261 : decode cX8_go 261 = .ok (.getfield 32, 3) := dk_180 0 32 (dk_at dksX8_go_11 8 rfl rfl)
theorem dX8_go_264 : decode cX8_go 264 = .ok (.aload_n 0, 1) := dk_42 (dk_at dksX8_go_11 11 rfl rfl)
theorem dX8_go_265 : decode cX8_go 265 = .ok (.getfield 39, 3) := dk_180 0 39 (dk_at dksX8_go_11 12 rfl rfl)
theorem dX8_go_268 : decode cX8_go 268 = .ok (.isub, 1) := dk_100 (dk_at dksX8_go_11 15 rfl rfl)
theorem dX8_go_269 : decode cX8_go 269 = .ok (.iconst 4, 1) := dk_7 (dk_at dksX8_go_11 16 rfl rfl)
theorem dX8_go_270 : decode cX8_go 270 = .ok (.if_icmp .le 7, 3) := dk_164 0 7 (dk_at dksX8_go_11 17 rfl rfl)
theorem dX8_go_273 : decode cX8_go 273 = .ok (.iconst 1, 1) := dk_4 (dk_at dksX8_go_11 20 rfl rfl)
theorem dX8_go_274 : decode cX8_go 274 = .ok (.goto 4, 3) := dk_167 0 4 (dk_at dksX8_go_11 21 rfl rfl)
theorem dX8_go_277 : decode cX8_go 277 = .ok (.iconst 0, 1) := dk_3 (dk_at dksX8_go_12 0 rfl rfl)
theorem dX8_go_278 : decode cX8_go 278 = .ok (.putfield 42, 3) := dk_181 0 42 (dk_at dksX8_go_12 1 rfl rfl)
theorem dX8_go_281 : decode cX8_go 281 = .ok (.aload_n 0, 1) := dk_42 (dk_at dksX8_go_12 4 rfl rfl)
theorem dX8_go_282 : decode cX8_go 282 = .ok (.getstatic 85, 3) := dk_178 0 85 (dk_at dksX8_go_12 5 rfl rfl)
theorem dX8_go_285 : decode cX8_go 285 = .ok (.putfield 52, 3) := dk_181 0 52 (dk_at dksX8_go_12 8 rfl rfl)
theorem dX8_go_288 : decode cX8_go 288 = .ok (.goto 52, 3) := dk_167 0 52 (dk_at dksX8_go_12 11 rfl rfl)
theorem dX8_go_291 : decode cX8_go 291 = .ok (.aload_n 0, 1) := dk_42 (dk_at dksX8_go_12 14 rfl rfl)
theorem dX8_go_292 : decode cX8_go 292 = .ok (.iload_n 1, 1) := dk_27 (dk_at dksX8_go_12 15 rfl rfl)
theorem dX8_go_293 : decode cX8_go 293 = .ok (.invokestatic 88, 3) := dk_184 0 88 (dk_at dksX8_go_12 16 rfl rfl)
theorem dX8_go_296 : decode cX8_go 296 = .ok (.ifCond .eq 9, 3) := dk_153 0 9 (dk_at dksX8_go_12 19 rfl rfl)
theorem dX8_go_299 : decode cX8_go 299 = .ok (.getstatic 91, 3) := dk_178 0 91 (dk_at dksX8_go_13 0 rfl rfl)
theorem dX8_go_302 : decode cX8_go 302 = .ok (.goto 6, 3) := dk_167 0 6 (dk_at dksX8_go_13 3 rfl rfl)
theorem dX8_go_305 : decode cX8_go 305 = .ok (.getstatic 94, 3) := dk_178 0 94 (dk_at dksX8_go_13 6 rfl rfl)
theorem dX8_go_308 : decode cX8_go 308 = .ok (.putfield 52, 3) := dk_181 0 52 (dk_at dksX8_go_13 9 rfl rfl)
theorem dX8_go_311 : decode cX8_go 311 = .ok (.aload_n 0, 1) := dk_42 (dk_at dksX8_go_13 12 rfl rfl)
theorem dX8_go_312 : decode cX8_go 312 = .ok (.getfield 52, 3) := dk_180 0 52 (dk_at dksX8_go_13 13 rfl rfl)
theorem dX8_go_315 : decode cX8_go 315 = .ok (.getstatic 91, 3) := dk_178 0 91 (dk_at dksX8_go_13 16 rfl rfl)
theorem dX8_go_318 : decode cX8_go 318 = .ok (.if_acmp .ne 12, 3) := dk_166 0 12 (dk_at dksX8_go_13 19 rfl rfl)
theorem dX8_go_321 : decode cX8_go 321 = .ok (.aload_n 0, 1) := dk_42 (dk_at dksX8_go_13 22 rfl rfl)
theorem dX8_go_322 : decode cX8_go 322 = .ok (.iload_n 1, 1) := dk_27 (dk_at dksX8_go_13 23 rfl rfl)
theorem dX8_go_323 : decode cX8_go 323 = .ok (.i2c, 1) := dk_146 (dk_at dksX8_go_14 0 rfl rfl)
theorem dX8_go_324 : decode cX8_go 324 = .ok (.invokestatic 97, 3) := dk_184 0 97 (dk_at dksX8_go_14 1 rfl rfl)
theorem dX8_go_327 : decode cX8_go 327 = .ok (.putfield 11, 3) := dk_181 0 11 (dk_at dksX8_go_14 4 rfl rfl)
theorem dX8_go_330 : decode cX8_go 330 = .ok (.aload_n 0, 1) := dk_42 (dk_at dksX8_go_14 7 rfl rfl)
theorem dX8_go_331 : decode cX8_go 331 = .ok (.dup, 1) := dk_89 (dk_at dksX8_go_14 8 rfl rfl)
theorem dX8_go_332 : decode cX8_go 332 = .ok (.getfield 32, 3) := dk_180 0 32 (dk_at dksX8_go_14 9 rfl rfl)
theorem dX8_go_335 : decode cX8_go 335 = .ok (.iconst 1, 1) := dk_4 (dk_at dksX8_go_14 12 rfl rfl)
theorem dX8_go_336 : decode cX8_go 336 = .ok (.iadd, 1) := dk_96 (dk_at dksX8_go_14 13 rfl rfl)
theorem dX8_go_337 : decode cX8_go 337 = .ok (.putfield 32, 3) := dk_181 0 32 (dk_at dksX8_go_14 14 rfl rfl)
theorem dX8_go_340 : decode cX8_go 340 = .ok (.return_, 1) := dk_177 (dk_at dksX8_go_14 17 rfl rfl)
abbrev cX8_byteAt : ByteArray := prog_10_method_2_code
def yX8_byteAt : MethodName := ⟨RX8, "byteAt", "(I)I"⟩
def dkwX8_byteAt_0 : List UInt8 := [27, 42, 180, 0, 25, 162, 0, 16, 42, 180, 0, 21, 27, 51, 17, 0, 255, 126, 167, 0, 4, 3, 172]
abbrev dktX8_byteAt_0 : List UInt8 := dkwX8_byteAt_0 ++ []
theorem dksX8_byteAt_0 : cX8_byteAt.data.toList.drop 0 = dktX8_byteAt_0 := by decide +kernel
theorem dX8_byteAt_0 : decode cX8_byteAt 0 = .ok (.iload_n 1, 1) := dk_27 (dk_at dksX8_byteAt_0 0 rfl rfl)
theorem dX8_byteAt_1 : decode cX8_byteAt 1 = .ok (.aload_n 0, 1) := dk_42 (dk_at dksX8_byteAt_0 1 rfl rfl)
theorem dX8_byteAt_2 : decode cX8_byteAt 2 = .ok (.getfield 25, 3) := dk_180 0 25 (dk_at dksX8_byteAt_0 2 rfl rfl)
theorem dX8_byteAt_5 : decode cX8_byteAt 5 = .ok (.if_icmp .ge 16, 3) := dk_162 0 16 (dk_at dksX8_byteAt_0 5 rfl rfl)
theorem dX8_byteAt_8 : decode cX8_byteAt 8 = .ok (.aload_n 0, 1) := dk_42 (dk_at dksX8_byteAt_0 8 rfl rfl)
theorem dX8_byteAt_9 : decode cX8_byteAt 9 = .ok (.getfield 21, 3) := dk_180 0 21 (dk_at dksX8_byteAt_0 9 rfl rfl)
theorem dX8_byteAt_12 : decode cX8_byteAt 12 = .ok (.iload_n 1, 1) := dk_27 (dk_at dksX8_byteAt_0 12 rfl rfl)
theorem dX8_byteAt_13 : decode cX8_byteAt 13 = .ok (.baload, 1) := dk_51 (dk_at dksX8_byteAt_0 13 rfl rfl)
theorem dX8_byteAt_14 : decode cX8_byteAt 14 = .ok (.sipush 255, 3) := dk_17 0 255 (dk_at dksX8_byteAt_0 14 rfl rfl)
theorem dX8_byteAt_17 : decode cX8_byteAt 17 = .ok (.iand, 1) := dk_126 (dk_at dksX8_byteAt_0 17 rfl rfl)
theorem dX8_byteAt_18 : decode cX8_byteAt 18 = .ok (.goto 4, 3) := dk_167 0 4 (dk_at dksX8_byteAt_0 18 rfl rfl)
theorem dX8_byteAt_21 : decode cX8_byteAt 21 = .ok (.iconst 0, 1) := dk_3 (dk_at dksX8_byteAt_0 21 rfl rfl)
theorem dX8_byteAt_22 : decode cX8_byteAt 22 = .ok (.ireturn, 1) := dk_172 (dk_at dksX8_byteAt_0 22 rfl rfl)
abbrev cX8_isLetter : ByteArray := prog_10_method_3_code
def yX8_isLetter : MethodName := ⟨RX8, "isLetter", "(I)Z"⟩
def dkwX8_isLetter_0 : List UInt8 := [26, 16, 97, 161, 0, 13, 26, 16, 122, 163, 0, 7, 4, 167, 0, 4, 3, 172]
abbrev dktX8_isLetter_0 : List UInt8 := dkwX8_isLetter_0 ++ []
theorem dksX8_isLetter_0 : cX8_isLetter.data.toList.drop 0 = dktX8_isLetter_0 := by decide +kernel
theorem dX8_isLetter_0 : decode cX8_isLetter 0 = .ok (.iload_n 0, 1) := dk_26 (dk_at dksX8_isLetter_0 0 rfl rfl)
theorem dX8_isLetter_1 : decode cX8_isLetter 1 = .ok (.bipush 97, 2) := dk_16 97 (dk_at dksX8_isLetter_0 1 rfl rfl)
theorem dX8_isLetter_3 : decode cX8_isLetter 3 = .ok (.if_icmp .lt 13, 3) := dk_161 0 13 (dk_at dksX8_isLetter_0 3 rfl rfl)
theorem dX8_isLetter_6 : decode cX8_isLetter 6 = .ok (.iload_n 0, 1) := dk_26 (dk_at dksX8_isLetter_0 6 rfl rfl)
theorem dX8_isLetter_7 : decode cX8_isLetter 7 = .ok (.bipush 122, 2) := dk_16 122 (dk_at dksX8_isLetter_0 7 rfl rfl)
theorem dX8_isLetter_9 : decode cX8_isLetter 9 = .ok (.if_icmp .gt 7, 3) := dk_163 0 7 (dk_at dksX8_isLetter_0 9 rfl rfl)
theorem dX8_isLetter_12 : decode cX8_isLetter 12 = .ok (.iconst 1, 1) := dk_4 (dk_at dksX8_isLetter_0 12 rfl rfl)
theorem dX8_isLetter_13 : decode cX8_isLetter 13 = .ok (.goto 4, 3) := dk_167 0 4 (dk_at dksX8_isLetter_0 13 rfl rfl)
theorem dX8_isLetter_16 : decode cX8_isLetter 16 = .ok (.iconst 0, 1) := dk_3 (dk_at dksX8_isLetter_0 16 rfl rfl)
theorem dX8_isLetter_17 : decode cX8_isLetter 17 = .ok (.ireturn, 1) := dk_172 (dk_at dksX8_isLetter_0 17 rfl rfl)
abbrev cX8_isDigit : ByteArray := prog_10_method_4_code
def yX8_isDigit : MethodName := ⟨RX8, "isDigit", "(I)Z"⟩
def dkwX8_isDigit_0 : List UInt8 := [26, 16, 48, 161, 0, 13, 26, 16, 57, 163, 0, 7, 4, 167, 0, 4, 3, 172]
abbrev dktX8_isDigit_0 : List UInt8 := dkwX8_isDigit_0 ++ []
theorem dksX8_isDigit_0 : cX8_isDigit.data.toList.drop 0 = dktX8_isDigit_0 := by decide +kernel
theorem dX8_isDigit_0 : decode cX8_isDigit 0 = .ok (.iload_n 0, 1) := dk_26 (dk_at dksX8_isDigit_0 0 rfl rfl)
theorem dX8_isDigit_1 : decode cX8_isDigit 1 = .ok (.bipush 48, 2) := dk_16 48 (dk_at dksX8_isDigit_0 1 rfl rfl)
theorem dX8_isDigit_3 : decode cX8_isDigit 3 = .ok (.if_icmp .lt 13, 3) := dk_161 0 13 (dk_at dksX8_isDigit_0 3 rfl rfl)
theorem dX8_isDigit_6 : decode cX8_isDigit 6 = .ok (.iload_n 0, 1) := dk_26 (dk_at dksX8_isDigit_0 6 rfl rfl)
theorem dX8_isDigit_7 : decode cX8_isDigit 7 = .ok (.bipush 57, 2) := dk_16 57 (dk_at dksX8_isDigit_0 7 rfl rfl)
theorem dX8_isDigit_9 : decode cX8_isDigit 9 = .ok (.if_icmp .gt 7, 3) := dk_163 0 7 (dk_at dksX8_isDigit_0 9 rfl rfl)
theorem dX8_isDigit_12 : decode cX8_isDigit 12 = .ok (.iconst 1, 1) := dk_4 (dk_at dksX8_isDigit_0 12 rfl rfl)
theorem dX8_isDigit_13 : decode cX8_isDigit 13 = .ok (.goto 4, 3) := dk_167 0 4 (dk_at dksX8_isDigit_0 13 rfl rfl)
theorem dX8_isDigit_16 : decode cX8_isDigit 16 = .ok (.iconst 0, 1) := dk_3 (dk_at dksX8_isDigit_0 16 rfl rfl)
theorem dX8_isDigit_17 : decode cX8_isDigit 17 = .ok (.ireturn, 1) := dk_172 (dk_at dksX8_isDigit_0 17 rfl rfl)
abbrev cX8_isSign : ByteArray := prog_10_method_5_code
def yX8_isSign : MethodName := ⟨RX8, "isSign", "(I)Z"⟩
def dkwX8_isSign_2 : List UInt8 := [26, 16, 61, 160, 0, 7, 4, 167, 0, 4, 3, 172]
abbrev dktX8_isSign_2 : List UInt8 := dkwX8_isSign_2 ++ []
def dkwX8_isSign_1 : List UInt8 := [26, 16, 45, 159, 0, 27, 26, 16, 42, 159, 0, 21, 26, 16, 47, 159, 0, 15, 26, 16, 60, 159, 0, 9]
abbrev dktX8_isSign_1 : List UInt8 := dkwX8_isSign_1 ++ dktX8_isSign_2
def dkwX8_isSign_0 : List UInt8 := [26, 16, 59, 159, 0, 51, 26, 16, 40, 159, 0, 45, 26, 16, 41, 159, 0, 39, 26, 16, 43, 159, 0, 33]
abbrev dktX8_isSign_0 : List UInt8 := dkwX8_isSign_0 ++ dktX8_isSign_1
theorem dksX8_isSign_0 : cX8_isSign.data.toList.drop 0 = dktX8_isSign_0 := by decide +kernel
theorem dksX8_isSign_1 : cX8_isSign.data.toList.drop 24 = dktX8_isSign_1 := dk_seg dksX8_isSign_0 24 rfl rfl
theorem dksX8_isSign_2 : cX8_isSign.data.toList.drop 48 = dktX8_isSign_2 := dk_seg dksX8_isSign_1 24 rfl rfl
theorem dX8_isSign_0 : decode cX8_isSign 0 = .ok (.iload_n 0, 1) := dk_26 (dk_at dksX8_isSign_0 0 rfl rfl)
theorem dX8_isSign_1 : decode cX8_isSign 1 = .ok (.bipush 59, 2) := dk_16 59 (dk_at dksX8_isSign_0 1 rfl rfl)
theorem dX8_isSign_3 : decode cX8_isSign 3 = .ok (.if_icmp .eq 51, 3) := dk_159 0 51 (dk_at dksX8_isSign_0 3 rfl rfl)
theorem dX8_isSign_6 : decode cX8_isSign 6 = .ok (.iload_n 0, 1) := dk_26 (dk_at dksX8_isSign_0 6 rfl rfl)
theorem dX8_isSign_7 : decode cX8_isSign 7 = .ok (.bipush 40, 2) := dk_16 40 (dk_at dksX8_isSign_0 7 rfl rfl)
theorem dX8_isSign_9 : decode cX8_isSign 9 = .ok (.if_icmp .eq 45, 3) := dk_159 0 45 (dk_at dksX8_isSign_0 9 rfl rfl)
theorem dX8_isSign_12 : decode cX8_isSign 12 = .ok (.iload_n 0, 1) := dk_26 (dk_at dksX8_isSign_0 12 rfl rfl)
theorem dX8_isSign_13 : decode cX8_isSign 13 = .ok (.bipush 41, 2) := dk_16 41 (dk_at dksX8_isSign_0 13 rfl rfl)
theorem dX8_isSign_15 : decode cX8_isSign 15 = .ok (.if_icmp .eq 39, 3) := dk_159 0 39 (dk_at dksX8_isSign_0 15 rfl rfl)
theorem dX8_isSign_18 : decode cX8_isSign 18 = .ok (.iload_n 0, 1) := dk_26 (dk_at dksX8_isSign_0 18 rfl rfl)
theorem dX8_isSign_19 : decode cX8_isSign 19 = .ok (.bipush 43, 2) := dk_16 43 (dk_at dksX8_isSign_0 19 rfl rfl)
theorem dX8_isSign_21 : decode cX8_isSign 21 = .ok (.if_icmp .eq 33, 3) := dk_159 0 33 (dk_at dksX8_isSign_0 21 rfl rfl)
theorem dX8_isSign_24 : decode cX8_isSign 24 = .ok (.iload_n 0, 1) := dk_26 (dk_at dksX8_isSign_1 0 rfl rfl)
theorem dX8_isSign_25 : decode cX8_isSign 25 = .ok (.bipush 45, 2) := dk_16 45 (dk_at dksX8_isSign_1 1 rfl rfl)
theorem dX8_isSign_27 : decode cX8_isSign 27 = .ok (.if_icmp .eq 27, 3) := dk_159 0 27 (dk_at dksX8_isSign_1 3 rfl rfl)
theorem dX8_isSign_30 : decode cX8_isSign 30 = .ok (.iload_n 0, 1) := dk_26 (dk_at dksX8_isSign_1 6 rfl rfl)
theorem dX8_isSign_31 : decode cX8_isSign 31 = .ok (.bipush 42, 2) := dk_16 42 (dk_at dksX8_isSign_1 7 rfl rfl)
theorem dX8_isSign_33 : decode cX8_isSign 33 = .ok (.if_icmp .eq 21, 3) := dk_159 0 21 (dk_at dksX8_isSign_1 9 rfl rfl)
theorem dX8_isSign_36 : decode cX8_isSign 36 = .ok (.iload_n 0, 1) := dk_26 (dk_at dksX8_isSign_1 12 rfl rfl)
theorem dX8_isSign_37 : decode cX8_isSign 37 = .ok (.bipush 47, 2) := dk_16 47 (dk_at dksX8_isSign_1 13 rfl rfl)
theorem dX8_isSign_39 : decode cX8_isSign 39 = .ok (.if_icmp .eq 15, 3) := dk_159 0 15 (dk_at dksX8_isSign_1 15 rfl rfl)
theorem dX8_isSign_42 : decode cX8_isSign 42 = .ok (.iload_n 0, 1) := dk_26 (dk_at dksX8_isSign_1 18 rfl rfl)
theorem dX8_isSign_43 : decode cX8_isSign 43 = .ok (.bipush 60, 2) := dk_16 60 (dk_at dksX8_isSign_1 19 rfl rfl)
theorem dX8_isSign_45 : decode cX8_isSign 45 = .ok (.if_icmp .eq 9, 3) := dk_159 0 9 (dk_at dksX8_isSign_1 21 rfl rfl)
theorem dX8_isSign_48 : decode cX8_isSign 48 = .ok (.iload_n 0, 1) := dk_26 (dk_at dksX8_isSign_2 0 rfl rfl)
theorem dX8_isSign_49 : decode cX8_isSign 49 = .ok (.bipush 61, 2) := dk_16 61 (dk_at dksX8_isSign_2 1 rfl rfl)
theorem dX8_isSign_51 : decode cX8_isSign 51 = .ok (.if_icmp .ne 7, 3) := dk_160 0 7 (dk_at dksX8_isSign_2 3 rfl rfl)
theorem dX8_isSign_54 : decode cX8_isSign 54 = .ok (.iconst 1, 1) := dk_4 (dk_at dksX8_isSign_2 6 rfl rfl)
theorem dX8_isSign_55 : decode cX8_isSign 55 = .ok (.goto 4, 3) := dk_167 0 4 (dk_at dksX8_isSign_2 7 rfl rfl)
theorem dX8_isSign_58 : decode cX8_isSign 58 = .ok (.iconst 0, 1) := dk_3 (dk_at dksX8_isSign_2 10 rfl rfl)
theorem dX8_isSign_59 : decode cX8_isSign 59 = .ok (.ireturn, 1) := dk_172 (dk_at dksX8_isSign_2 11 rfl rfl)
abbrev cX8_coast : ByteArray := prog_10_method_18_code
def yX8_coast : MethodName := ⟨RX8, "coast", "()LBlueBag$Coast;"⟩
def dkwX8_coast_8 : List UInt8 := [43, 182, 0, 213, 42, 18, 215, 182, 0, 217, 167, 255, 67, 43, 176]
abbrev dktX8_coast_8 : List UInt8 := dkwX8_coast_8 ++ []
def dkwX8_coast_7 : List UInt8 := [182, 0, 170, 153, 0, 20, 43, 42, 178, 0, 204, 182, 0, 208, 182, 0, 196, 181, 0, 211, 167, 0, 8, 42]
abbrev dktX8_coast_7 : List UInt8 := dkwX8_coast_7 ++ dktX8_coast_8
def dkwX8_coast_6 : List UInt8 := [153, 0, 18, 43, 42, 184, 0, 191, 190, 182, 0, 196, 181, 0, 199, 167, 0, 35, 42, 18, 202, 8]
abbrev dktX8_coast_6 : List UInt8 := dkwX8_coast_6 ++ dktX8_coast_7
def dkwX8_coast_5 : List UInt8 := [153, 0, 17, 43, 42, 4, 16, 99, 182, 0, 146, 181, 0, 187, 167, 0, 60, 42, 18, 189, 7, 182, 0, 170]
abbrev dktX8_coast_5 : List UInt8 := dkwX8_coast_5 ++ dktX8_coast_6
def dkwX8_coast_4 : List UInt8 := [153, 0, 17, 43, 42, 3, 16, 20, 182, 0, 146, 181, 0, 183, 167, 0, 84, 42, 18, 185, 6, 182, 0, 170]
abbrev dktX8_coast_4 : List UInt8 := dkwX8_coast_4 ++ dktX8_coast_5
def dkwX8_coast_3 : List UInt8 := [153, 0, 17, 43, 42, 3, 16, 99, 182, 0, 146, 181, 0, 179, 167, 0, 108, 42, 18, 181, 5, 182, 0, 170]
abbrev dktX8_coast_3 : List UInt8 := dkwX8_coast_3 ++ dktX8_coast_4
def dkwX8_coast_2 : List UInt8 := [18, 168, 3, 182, 0, 170, 153, 0, 11, 42, 43, 182, 0, 174, 167, 0, 132, 42, 18, 177, 4, 182, 0, 170]
abbrev dktX8_coast_2 : List UInt8 := dkwX8_coast_2 ++ dktX8_coast_3
def dkwX8_coast_1 : List UInt8 := [182, 0, 112, 153, 0, 10, 42, 180, 0, 132, 154, 0, 7, 4, 167, 0, 4, 3, 7, 182, 0, 116, 42]
abbrev dktX8_coast_1 : List UInt8 := dkwX8_coast_1 ++ dktX8_coast_2
def dkwX8_coast_0 : List UInt8 := [187, 0, 128, 89, 183, 0, 167, 76, 42, 180, 0, 52, 178, 0, 46, 165, 0, 185, 42, 42, 18, 168]
abbrev dktX8_coast_0 : List UInt8 := dkwX8_coast_0 ++ dktX8_coast_1
theorem dksX8_coast_0 : cX8_coast.data.toList.drop 0 = dktX8_coast_0 := by decide +kernel
theorem dksX8_coast_1 : cX8_coast.data.toList.drop 22 = dktX8_coast_1 := dk_seg dksX8_coast_0 22 rfl rfl
theorem dksX8_coast_2 : cX8_coast.data.toList.drop 45 = dktX8_coast_2 := dk_seg dksX8_coast_1 23 rfl rfl
theorem dksX8_coast_3 : cX8_coast.data.toList.drop 69 = dktX8_coast_3 := dk_seg dksX8_coast_2 24 rfl rfl
theorem dksX8_coast_4 : cX8_coast.data.toList.drop 93 = dktX8_coast_4 := dk_seg dksX8_coast_3 24 rfl rfl
theorem dksX8_coast_5 : cX8_coast.data.toList.drop 117 = dktX8_coast_5 := dk_seg dksX8_coast_4 24 rfl rfl
theorem dksX8_coast_6 : cX8_coast.data.toList.drop 141 = dktX8_coast_6 := dk_seg dksX8_coast_5 24 rfl rfl
theorem dksX8_coast_7 : cX8_coast.data.toList.drop 163 = dktX8_coast_7 := dk_seg dksX8_coast_6 22 rfl rfl
theorem dksX8_coast_8 : cX8_coast.data.toList.drop 187 = dktX8_coast_8 := dk_seg dksX8_coast_7 24 rfl rfl
theorem dX8_coast_0 : decode cX8_coast 0 = .ok (.new 128, 3) := dk_187 0 128 (dk_at dksX8_coast_0 0 rfl rfl)
theorem dX8_coast_3 : decode cX8_coast 3 = .ok (.dup, 1) := dk_89 (dk_at dksX8_coast_0 3 rfl rfl)
theorem dX8_coast_4 : decode cX8_coast 4 = .ok (.invokespecial 167, 3) := dk_183 0 167 (dk_at dksX8_coast_0 4 rfl rfl)
theorem dX8_coast_7 : decode cX8_coast 7 = .ok (.astore_n 1, 1) := dk_76 (dk_at dksX8_coast_0 7 rfl rfl)
theorem dX8_coast_8 : decode cX8_coast 8 = .ok (.aload_n 0, 1) := dk_42 (dk_at dksX8_coast_0 8 rfl rfl)
theorem dX8_coast_9 : decode cX8_coast 9 = .ok (.getfield 52, 3) := dk_180 0 52 (dk_at dksX8_coast_0 9 rfl rfl)
theorem dX8_coast_12 : decode cX8_coast 12 = .ok (.getstatic 46, 3) := dk_178 0 46 (dk_at dksX8_coast_0 12 rfl rfl)
theorem dX8_coast_15 : decode cX8_coast 15 = .ok (.if_acmp .eq 185, 3) := dk_165 0 185 (dk_at dksX8_coast_0 15 rfl rfl)
theorem dX8_coast_18 : decode cX8_coast 18 = .ok (.aload_n 0, 1) := dk_42 (dk_at dksX8_coast_0 18 rfl rfl)
theorem dX8_coast_19 : decode cX8_coast 19 = .ok (.aload_n 0, 1) := dk_42 (dk_at dksX8_coast_0 19 rfl rfl)
theorem dX8_coast_20 : decode cX8_coast 20 = .ok (.ldc 168, 2) := dk_18 168 (dk_at dksX8_coast_0 20 rfl rfl)
theorem dX8_coast_22 : decode cX8_coast 22 = .ok (.invokevirtual 112, 3) := dk_182 0 112 (dk_at dksX8_coast_1 0 rfl rfl)
theorem dX8_coast_25 : decode cX8_coast 25 = .ok (.ifCond .eq 10, 3) := dk_153 0 10 (dk_at dksX8_coast_1 3 rfl rfl)
theorem dX8_coast_28 : decode cX8_coast 28 = .ok (.aload_n 0, 1) := dk_42 (dk_at dksX8_coast_1 6 rfl rfl)
theorem dX8_coast_29 : decode cX8_coast 29 = .ok (.getfield 132, 3) := dk_180 0 132 (dk_at dksX8_coast_1 7 rfl rfl)
theorem dX8_coast_32 : decode cX8_coast 32 = .ok (.ifCond .ne 7, 3) := dk_154 0 7 (dk_at dksX8_coast_1 10 rfl rfl)
theorem dX8_coast_35 : decode cX8_coast 35 = .ok (.iconst 1, 1) := dk_4 (dk_at dksX8_coast_1 13 rfl rfl)
theorem dX8_coast_36 : decode cX8_coast 36 = .ok (.goto 4, 3) := dk_167 0 4 (dk_at dksX8_coast_1 14 rfl rfl)
theorem dX8_coast_39 : decode cX8_coast 39 = .ok (.iconst 0, 1) := dk_3 (dk_at dksX8_coast_1 17 rfl rfl)
theorem dX8_coast_40 : decode cX8_coast 40 = .ok (.iconst 4, 1) := dk_7 (dk_at dksX8_coast_1 18 rfl rfl)
theorem dX8_coast_41 : decode cX8_coast 41 = .ok (.invokevirtual 116, 3) := dk_182 0 116 (dk_at dksX8_coast_1 19 rfl rfl)
theorem dX8_coast_44 : decode cX8_coast 44 = .ok (.aload_n 0, 1) := dk_42 (dk_at dksX8_coast_1 22 rfl rfl)
theorem dX8_coast_45 : decode cX8_coast 45 = .ok (.ldc 168, 2) := dk_18 168 (dk_at dksX8_coast_2 0 rfl rfl)
theorem dX8_coast_47 : decode cX8_coast 47 = .ok (.iconst 0, 1) := dk_3 (dk_at dksX8_coast_2 2 rfl rfl)
theorem dX8_coast_48 : decode cX8_coast 48 = .ok (.invokevirtual 170, 3) := dk_182 0 170 (dk_at dksX8_coast_2 3 rfl rfl)
theorem dX8_coast_51 : decode cX8_coast 51 = .ok (.ifCond .eq 11, 3) := dk_153 0 11 (dk_at dksX8_coast_2 6 rfl rfl)
theorem dX8_coast_54 : decode cX8_coast 54 = .ok (.aload_n 0, 1) := dk_42 (dk_at dksX8_coast_2 9 rfl rfl)
theorem dX8_coast_55 : decode cX8_coast 55 = .ok (.aload_n 1, 1) := dk_43 (dk_at dksX8_coast_2 10 rfl rfl)
theorem dX8_coast_56 : decode cX8_coast 56 = .ok (.invokevirtual 174, 3) := dk_182 0 174 (dk_at dksX8_coast_2 11 rfl rfl)
theorem dX8_coast_59 : decode cX8_coast 59 = .ok (.goto 132, 3) := dk_167 0 132 (dk_at dksX8_coast_2 14 rfl rfl)
theorem dX8_coast_62 : decode cX8_coast 62 = .ok (.aload_n 0, 1) := dk_42 (dk_at dksX8_coast_2 17 rfl rfl)
theorem dX8_coast_63 : decode cX8_coast 63 = .ok (.ldc 177, 2) := dk_18 177 (dk_at dksX8_coast_2 18 rfl rfl)
theorem dX8_coast_65 : decode cX8_coast 65 = .ok (.iconst 1, 1) := dk_4 (dk_at dksX8_coast_2 20 rfl rfl)
theorem dX8_coast_66 : decode cX8_coast 66 = .ok (.invokevirtual 170, 3) := dk_182 0 170 (dk_at dksX8_coast_2 21 rfl rfl)
theorem dX8_coast_69 : decode cX8_coast 69 = .ok (.ifCond .eq 17, 3) := dk_153 0 17 (dk_at dksX8_coast_3 0 rfl rfl)
theorem dX8_coast_72 : decode cX8_coast 72 = .ok (.aload_n 1, 1) := dk_43 (dk_at dksX8_coast_3 3 rfl rfl)
theorem dX8_coast_73 : decode cX8_coast 73 = .ok (.aload_n 0, 1) := dk_42 (dk_at dksX8_coast_3 4 rfl rfl)
theorem dX8_coast_74 : decode cX8_coast 74 = .ok (.iconst 0, 1) := dk_3 (dk_at dksX8_coast_3 5 rfl rfl)
theorem dX8_coast_75 : decode cX8_coast 75 = .ok (.bipush 99, 2) := dk_16 99 (dk_at dksX8_coast_3 6 rfl rfl)
theorem dX8_coast_77 : decode cX8_coast 77 = .ok (.invokevirtual 146, 3) := dk_182 0 146 (dk_at dksX8_coast_3 8 rfl rfl)
theorem dX8_coast_80 : decode cX8_coast 80 = .ok (.putfield 179, 3) := dk_181 0 179 (dk_at dksX8_coast_3 11 rfl rfl)
theorem dX8_coast_83 : decode cX8_coast 83 = .ok (.goto 108, 3) := dk_167 0 108 (dk_at dksX8_coast_3 14 rfl rfl)
theorem dX8_coast_86 : decode cX8_coast 86 = .ok (.aload_n 0, 1) := dk_42 (dk_at dksX8_coast_3 17 rfl rfl)
theorem dX8_coast_87 : decode cX8_coast 87 = .ok (.ldc 181, 2) := dk_18 181 (dk_at dksX8_coast_3 18 rfl rfl)
theorem dX8_coast_89 : decode cX8_coast 89 = .ok (.iconst 2, 1) := dk_5 (dk_at dksX8_coast_3 20 rfl rfl)
theorem dX8_coast_90 : decode cX8_coast 90 = .ok (.invokevirtual 170, 3) := dk_182 0 170 (dk_at dksX8_coast_3 21 rfl rfl)
theorem dX8_coast_93 : decode cX8_coast 93 = .ok (.ifCond .eq 17, 3) := dk_153 0 17 (dk_at dksX8_coast_4 0 rfl rfl)
theorem dX8_coast_96 : decode cX8_coast 96 = .ok (.aload_n 1, 1) := dk_43 (dk_at dksX8_coast_4 3 rfl rfl)
theorem dX8_coast_97 : decode cX8_coast 97 = .ok (.aload_n 0, 1) := dk_42 (dk_at dksX8_coast_4 4 rfl rfl)
theorem dX8_coast_98 : decode cX8_coast 98 = .ok (.iconst 0, 1) := dk_3 (dk_at dksX8_coast_4 5 rfl rfl)
theorem dX8_coast_99 : decode cX8_coast 99 = .ok (.bipush 20, 2) := dk_16 20 (dk_at dksX8_coast_4 6 rfl rfl)
theorem dX8_coast_101 : decode cX8_coast 101 = .ok (.invokevirtual 146, 3) := dk_182 0 146 (dk_at dksX8_coast_4 8 rfl rfl)
theorem dX8_coast_104 : decode cX8_coast 104 = .ok (.putfield 183, 3) := dk_181 0 183 (dk_at dksX8_coast_4 11 rfl rfl)
theorem dX8_coast_107 : decode cX8_coast 107 = .ok (.goto 84, 3) := dk_167 0 84 (dk_at dksX8_coast_4 14 rfl rfl)
theorem dX8_coast_110 : decode cX8_coast 110 = .ok (.aload_n 0, 1) := dk_42 (dk_at dksX8_coast_4 17 rfl rfl)
theorem dX8_coast_111 : decode cX8_coast 111 = .ok (.ldc 185, 2) := dk_18 185 (dk_at dksX8_coast_4 18 rfl rfl)
theorem dX8_coast_113 : decode cX8_coast 113 = .ok (.iconst 3, 1) := dk_6 (dk_at dksX8_coast_4 20 rfl rfl)
theorem dX8_coast_114 : decode cX8_coast 114 = .ok (.invokevirtual 170, 3) := dk_182 0 170 (dk_at dksX8_coast_4 21 rfl rfl)
theorem dX8_coast_117 : decode cX8_coast 117 = .ok (.ifCond .eq 17, 3) := dk_153 0 17 (dk_at dksX8_coast_5 0 rfl rfl)
theorem dX8_coast_120 : decode cX8_coast 120 = .ok (.aload_n 1, 1) := dk_43 (dk_at dksX8_coast_5 3 rfl rfl)
theorem dX8_coast_121 : decode cX8_coast 121 = .ok (.aload_n 0, 1) := dk_42 (dk_at dksX8_coast_5 4 rfl rfl)
theorem dX8_coast_122 : decode cX8_coast 122 = .ok (.iconst 1, 1) := dk_4 (dk_at dksX8_coast_5 5 rfl rfl)
theorem dX8_coast_123 : decode cX8_coast 123 = .ok (.bipush 99, 2) := dk_16 99 (dk_at dksX8_coast_5 6 rfl rfl)
theorem dX8_coast_125 : decode cX8_coast 125 = .ok (.invokevirtual 146, 3) := dk_182 0 146 (dk_at dksX8_coast_5 8 rfl rfl)
theorem dX8_coast_128 : decode cX8_coast 128 = .ok (.putfield 187, 3) := dk_181 0 187 (dk_at dksX8_coast_5 11 rfl rfl)
theorem dX8_coast_131 : decode cX8_coast 131 = .ok (.goto 60, 3) := dk_167 0 60 (dk_at dksX8_coast_5 14 rfl rfl)
theorem dX8_coast_134 : decode cX8_coast 134 = .ok (.aload_n 0, 1) := dk_42 (dk_at dksX8_coast_5 17 rfl rfl)
theorem dX8_coast_135 : decode cX8_coast 135 = .ok (.ldc 189, 2) := dk_18 189 (dk_at dksX8_coast_5 18 rfl rfl)
theorem dX8_coast_137 : decode cX8_coast 137 = .ok (.iconst 4, 1) := dk_7 (dk_at dksX8_coast_5 20 rfl rfl)
theorem dX8_coast_138 : decode cX8_coast 138 = .ok (.invokevirtual 170, 3) := dk_182 0 170 (dk_at dksX8_coast_5 21 rfl rfl)
theorem dX8_coast_141 : decode cX8_coast 141 = .ok (.ifCond .eq 18, 3) := dk_153 0 18 (dk_at dksX8_coast_6 0 rfl rfl)
theorem dX8_coast_144 : decode cX8_coast 144 = .ok (.aload_n 1, 1) := dk_43 (dk_at dksX8_coast_6 3 rfl rfl)
theorem dX8_coast_145 : decode cX8_coast 145 = .ok (.aload_n 0, 1) := dk_42 (dk_at dksX8_coast_6 4 rfl rfl)
theorem dX8_coast_146 : decode cX8_coast 146 = .ok (.invokestatic 191, 3) := dk_184 0 191 (dk_at dksX8_coast_6 5 rfl rfl)
theorem dX8_coast_149 : decode cX8_coast 149 = .ok (.arraylength, 1) := dk_190 (dk_at dksX8_coast_6 8 rfl rfl)
theorem dX8_coast_150 : decode cX8_coast 150 = .ok (.invokevirtual 196, 3) := dk_182 0 196 (dk_at dksX8_coast_6 9 rfl rfl)
theorem dX8_coast_153 : decode cX8_coast 153 = .ok (.putfield 199, 3) := dk_181 0 199 (dk_at dksX8_coast_6 12 rfl rfl)
theorem dX8_coast_156 : decode cX8_coast 156 = .ok (.goto 35, 3) := dk_167 0 35 (dk_at dksX8_coast_6 15 rfl rfl)
theorem dX8_coast_159 : decode cX8_coast 159 = .ok (.aload_n 0, 1) := dk_42 (dk_at dksX8_coast_6 18 rfl rfl)
theorem dX8_coast_160 : decode cX8_coast 160 = .ok (.ldc 202, 2) := dk_18 202 (dk_at dksX8_coast_6 19 rfl rfl)
theorem dX8_coast_162 : decode cX8_coast 162 = .ok (.iconst 5, 1) := dk_8 (dk_at dksX8_coast_6 21 rfl rfl)
theorem dX8_coast_163 : decode cX8_coast 163 = .ok (.invokevirtual 170, 3) := dk_182 0 170 (dk_at dksX8_coast_7 0 rfl rfl)
theorem dX8_coast_166 : decode cX8_coast 166 = .ok (.ifCond .eq 20, 3) := dk_153 0 20 (dk_at dksX8_coast_7 3 rfl rfl)
theorem dX8_coast_169 : decode cX8_coast 169 = .ok (.aload_n 1, 1) := dk_43 (dk_at dksX8_coast_7 6 rfl rfl)
theorem dX8_coast_170 : decode cX8_coast 170 = .ok (.aload_n 0, 1) := dk_42 (dk_at dksX8_coast_7 7 rfl rfl)
theorem dX8_coast_171 : decode cX8_coast 171 = .ok (.getstatic 204, 3) := dk_178 0 204 (dk_at dksX8_coast_7 8 rfl rfl)
theorem dX8_coast_174 : decode cX8_coast 174 = .ok (.invokevirtual 208, 3) := dk_182 0 208 (dk_at dksX8_coast_7 11 rfl rfl)
theorem dX8_coast_177 : decode cX8_coast 177 = .ok (.invokevirtual 196, 3) := dk_182 0 196 (dk_at dksX8_coast_7 14 rfl rfl)
theorem dX8_coast_180 : decode cX8_coast 180 = .ok (.putfield 211, 3) := dk_181 0 211 (dk_at dksX8_coast_7 17 rfl rfl)
theorem dX8_coast_183 : decode cX8_coast 183 = .ok (.goto 8, 3) := dk_167 0 8 (dk_at dksX8_coast_7 20 rfl rfl)
theorem dX8_coast_186 : decode cX8_coast 186 = .ok (.aload_n 0, 1) := dk_42 (dk_at dksX8_coast_7 23 rfl rfl)
theorem dX8_coast_187 : decode cX8_coast 187 = .ok (.aload_n 1, 1) := dk_43 (dk_at dksX8_coast_8 0 rfl rfl)
theorem dX8_coast_188 : decode cX8_coast 188 = .ok (.invokevirtual 213, 3) := dk_182 0 213 (dk_at dksX8_coast_8 1 rfl rfl)
theorem dX8_coast_191 : decode cX8_coast 191 = .ok (.aload_n 0, 1) := dk_42 (dk_at dksX8_coast_8 4 rfl rfl)
theorem dX8_coast_192 : decode cX8_coast 192 = .ok (.ldc 215, 2) := dk_18 215 (dk_at dksX8_coast_8 5 rfl rfl)
theorem dX8_coast_194 : decode cX8_coast 194 = .ok (.invokevirtual 217, 3) := dk_182 0 217 (dk_at dksX8_coast_8 7 rfl rfl)
theorem dX8_coast_197 : decode cX8_coast 197 = .ok (.goto (-189), 3) := dk_167 255 67 (dk_at dksX8_coast_8 10 rfl rfl)
theorem dX8_coast_200 : decode cX8_coast 200 = .ok (.aload_n 1, 1) := dk_43 (dk_at dksX8_coast_8 13 rfl rfl)
theorem dX8_coast_201 : decode cX8_coast 201 = .ok (.areturn, 1) := dk_176 (dk_at dksX8_coast_8 14 rfl rfl)
abbrev cX8_is : ByteArray := prog_10_method_7_code
def yX8_is : MethodName := ⟨RX8, "is", "(Ljava/lang/String;)Z"⟩
def dkwX8_is_1 : List UInt8 := [43, 182, 0, 103, 153, 0, 7, 4, 167, 0, 4, 3, 172]
abbrev dktX8_is_1 : List UInt8 := dkwX8_is_1 ++ []
def dkwX8_is_0 : List UInt8 := [42, 180, 0, 52, 178, 0, 76, 165, 0, 13, 42, 180, 0, 52, 178, 0, 91, 166, 0, 18, 42, 180, 0, 11]
abbrev dktX8_is_0 : List UInt8 := dkwX8_is_0 ++ dktX8_is_1
theorem dksX8_is_0 : cX8_is.data.toList.drop 0 = dktX8_is_0 := by decide +kernel
theorem dksX8_is_1 : cX8_is.data.toList.drop 24 = dktX8_is_1 := dk_seg dksX8_is_0 24 rfl rfl
theorem dX8_is_0 : decode cX8_is 0 = .ok (.aload_n 0, 1) := dk_42 (dk_at dksX8_is_0 0 rfl rfl)
theorem dX8_is_1 : decode cX8_is 1 = .ok (.getfield 52, 3) := dk_180 0 52 (dk_at dksX8_is_0 1 rfl rfl)
theorem dX8_is_4 : decode cX8_is 4 = .ok (.getstatic 76, 3) := dk_178 0 76 (dk_at dksX8_is_0 4 rfl rfl)
theorem dX8_is_7 : decode cX8_is 7 = .ok (.if_acmp .eq 13, 3) := dk_165 0 13 (dk_at dksX8_is_0 7 rfl rfl)
theorem dX8_is_10 : decode cX8_is 10 = .ok (.aload_n 0, 1) := dk_42 (dk_at dksX8_is_0 10 rfl rfl)
theorem dX8_is_11 : decode cX8_is 11 = .ok (.getfield 52, 3) := dk_180 0 52 (dk_at dksX8_is_0 11 rfl rfl)
theorem dX8_is_14 : decode cX8_is 14 = .ok (.getstatic 91, 3) := dk_178 0 91 (dk_at dksX8_is_0 14 rfl rfl)
theorem dX8_is_17 : decode cX8_is 17 = .ok (.if_acmp .ne 18, 3) := dk_166 0 18 (dk_at dksX8_is_0 17 rfl rfl)
theorem dX8_is_20 : decode cX8_is 20 = .ok (.aload_n 0, 1) := dk_42 (dk_at dksX8_is_0 20 rfl rfl)
theorem dX8_is_21 : decode cX8_is 21 = .ok (.getfield 11, 3) := dk_180 0 11 (dk_at dksX8_is_0 21 rfl rfl)
theorem dX8_is_24 : decode cX8_is 24 = .ok (.aload_n 1, 1) := dk_43 (dk_at dksX8_is_1 0 rfl rfl)
theorem dX8_is_25 : decode cX8_is 25 = .ok (.invokevirtual 103, 3) := dk_182 0 103 (dk_at dksX8_is_1 1 rfl rfl)
theorem dX8_is_28 : decode cX8_is 28 = .ok (.ifCond .eq 7, 3) := dk_153 0 7 (dk_at dksX8_is_1 4 rfl rfl)
theorem dX8_is_31 : decode cX8_is 31 = .ok (.iconst 1, 1) := dk_4 (dk_at dksX8_is_1 7 rfl rfl)
theorem dX8_is_32 : decode cX8_is 32 = .ok (.goto 4, 3) := dk_167 0 4 (dk_at dksX8_is_1 8 rfl rfl)
theorem dX8_is_35 : decode cX8_is 35 = .ok (.iconst 0, 1) := dk_3 (dk_at dksX8_is_1 11 rfl rfl)
theorem dX8_is_36 : decode cX8_is 36 = .ok (.ireturn, 1) := dk_172 (dk_at dksX8_is_1 12 rfl rfl)
abbrev cX8_check : ByteArray := prog_10_method_8_code
def yX8_check : MethodName := ⟨RX8, "check", "(ZI)V"⟩
def dkwX8_check_0 : List UInt8 := [27, 154, 0, 16, 187, 0, 107, 89, 28, 42, 180, 0, 39, 183, 0, 109, 191, 177]
abbrev dktX8_check_0 : List UInt8 := dkwX8_check_0 ++ []
theorem dksX8_check_0 : cX8_check.data.toList.drop 0 = dktX8_check_0 := by decide +kernel
theorem dX8_check_0 : decode cX8_check 0 = .ok (.iload_n 1, 1) := dk_27 (dk_at dksX8_check_0 0 rfl rfl)
theorem dX8_check_1 : decode cX8_check 1 = .ok (.ifCond .ne 16, 3) := dk_154 0 16 (dk_at dksX8_check_0 1 rfl rfl)
theorem dX8_check_4 : decode cX8_check 4 = .ok (.new 107, 3) := dk_187 0 107 (dk_at dksX8_check_0 4 rfl rfl)
theorem dX8_check_7 : decode cX8_check 7 = .ok (.dup, 1) := dk_89 (dk_at dksX8_check_0 7 rfl rfl)
theorem dX8_check_8 : decode cX8_check 8 = .ok (.iload_n 2, 1) := dk_28 (dk_at dksX8_check_0 8 rfl rfl)
theorem dX8_check_9 : decode cX8_check 9 = .ok (.aload_n 0, 1) := dk_42 (dk_at dksX8_check_0 9 rfl rfl)
theorem dX8_check_10 : decode cX8_check 10 = .ok (.getfield 39, 3) := dk_180 0 39 (dk_at dksX8_check_0 10 rfl rfl)
theorem dX8_check_13 : decode cX8_check 13 = .ok (.invokespecial 109, 3) := dk_183 0 109 (dk_at dksX8_check_0 13 rfl rfl)
theorem dX8_check_16 : decode cX8_check 16 = .ok (.athrow, 1) := dk_191 (dk_at dksX8_check_0 16 rfl rfl)
theorem dX8_check_17 : decode cX8_check 17 = .ok (.return_, 1) := dk_177 (dk_at dksX8_check_0 17 rfl rfl)
abbrev cX8_begins : ByteArray := prog_10_method_11_code
def yX8_begins : MethodName := ⟨RX8, "begins", "(Ljava/lang/String;I)Z"⟩
def dkwX8_begins_1 : List UInt8 := [3, 8, 182, 0, 116, 42, 180, 0, 17, 28, 4, 84, 42, 182, 0, 29, 4, 172]
abbrev dktX8_begins_1 : List UInt8 := dkwX8_begins_1 ++ []
def dkwX8_begins_0 : List UInt8 := [42, 43, 182, 0, 112, 154, 0, 5, 3, 172, 42, 42, 180, 0, 17, 28, 51, 154, 0, 7, 4, 167, 0, 4]
abbrev dktX8_begins_0 : List UInt8 := dkwX8_begins_0 ++ dktX8_begins_1
theorem dksX8_begins_0 : cX8_begins.data.toList.drop 0 = dktX8_begins_0 := by decide +kernel
theorem dksX8_begins_1 : cX8_begins.data.toList.drop 24 = dktX8_begins_1 := dk_seg dksX8_begins_0 24 rfl rfl
theorem dX8_begins_0 : decode cX8_begins 0 = .ok (.aload_n 0, 1) := dk_42 (dk_at dksX8_begins_0 0 rfl rfl)
theorem dX8_begins_1 : decode cX8_begins 1 = .ok (.aload_n 1, 1) := dk_43 (dk_at dksX8_begins_0 1 rfl rfl)
theorem dX8_begins_2 : decode cX8_begins 2 = .ok (.invokevirtual 112, 3) := dk_182 0 112 (dk_at dksX8_begins_0 2 rfl rfl)
theorem dX8_begins_5 : decode cX8_begins 5 = .ok (.ifCond .ne 5, 3) := dk_154 0 5 (dk_at dksX8_begins_0 5 rfl rfl)
theorem dX8_begins_8 : decode cX8_begins 8 = .ok (.iconst 0, 1) := dk_3 (dk_at dksX8_begins_0 8 rfl rfl)
theorem dX8_begins_9 : decode cX8_begins 9 = .ok (.ireturn, 1) := dk_172 (dk_at dksX8_begins_0 9 rfl rfl)
theorem dX8_begins_10 : decode cX8_begins 10 = .ok (.aload_n 0, 1) := dk_42 (dk_at dksX8_begins_0 10 rfl rfl)
theorem dX8_begins_11 : decode cX8_begins 11 = .ok (.aload_n 0, 1) := dk_42 (dk_at dksX8_begins_0 11 rfl rfl)
theorem dX8_begins_12 : decode cX8_begins 12 = .ok (.getfield 17, 3) := dk_180 0 17 (dk_at dksX8_begins_0 12 rfl rfl)
theorem dX8_begins_15 : decode cX8_begins 15 = .ok (.iload_n 2, 1) := dk_28 (dk_at dksX8_begins_0 15 rfl rfl)
theorem dX8_begins_16 : decode cX8_begins 16 = .ok (.baload, 1) := dk_51 (dk_at dksX8_begins_0 16 rfl rfl)
theorem dX8_begins_17 : decode cX8_begins 17 = .ok (.ifCond .ne 7, 3) := dk_154 0 7 (dk_at dksX8_begins_0 17 rfl rfl)
theorem dX8_begins_20 : decode cX8_begins 20 = .ok (.iconst 1, 1) := dk_4 (dk_at dksX8_begins_0 20 rfl rfl)
theorem dX8_begins_21 : decode cX8_begins 21 = .ok (.goto 4, 3) := dk_167 0 4 (dk_at dksX8_begins_0 21 rfl rfl)
theorem dX8_begins_24 : decode cX8_begins 24 = .ok (.iconst 0, 1) := dk_3 (dk_at dksX8_begins_1 0 rfl rfl)
theorem dX8_begins_25 : decode cX8_begins 25 = .ok (.iconst 5, 1) := dk_8 (dk_at dksX8_begins_1 1 rfl rfl)
theorem dX8_begins_26 : decode cX8_begins 26 = .ok (.invokevirtual 116, 3) := dk_182 0 116 (dk_at dksX8_begins_1 2 rfl rfl)
theorem dX8_begins_29 : decode cX8_begins 29 = .ok (.aload_n 0, 1) := dk_42 (dk_at dksX8_begins_1 5 rfl rfl)
theorem dX8_begins_30 : decode cX8_begins 30 = .ok (.getfield 17, 3) := dk_180 0 17 (dk_at dksX8_begins_1 6 rfl rfl)
theorem dX8_begins_33 : decode cX8_begins 33 = .ok (.iload_n 2, 1) := dk_28 (dk_at dksX8_begins_1 9 rfl rfl)
theorem dX8_begins_34 : decode cX8_begins 34 = .ok (.iconst 1, 1) := dk_4 (dk_at dksX8_begins_1 10 rfl rfl)
theorem dX8_begins_35 : decode cX8_begins 35 = .ok (.bastore, 1) := dk_84 (dk_at dksX8_begins_1 11 rfl rfl)
theorem dX8_begins_36 : decode cX8_begins 36 = .ok (.aload_n 0, 1) := dk_42 (dk_at dksX8_begins_1 12 rfl rfl)
theorem dX8_begins_37 : decode cX8_begins 37 = .ok (.invokevirtual 29, 3) := dk_182 0 29 (dk_at dksX8_begins_1 13 rfl rfl)
theorem dX8_begins_40 : decode cX8_begins 40 = .ok (.iconst 1, 1) := dk_4 (dk_at dksX8_begins_1 16 rfl rfl)
theorem dX8_begins_41 : decode cX8_begins 41 = .ok (.ireturn, 1) := dk_172 (dk_at dksX8_begins_1 17 rfl rfl)
abbrev cX8_sky : ByteArray := prog_10_method_17_code
def yX8_sky : MethodName := ⟨RX8, "sky", "(LBlueBag$Coast;)V"⟩
def dkwX8_sky_0 : List UInt8 := [42, 4, 16, 6, 182, 0, 146, 61, 43, 42, 4, 8, 182, 0, 146, 181, 0, 161, 43, 28, 181, 0, 164, 177]
abbrev dktX8_sky_0 : List UInt8 := dkwX8_sky_0 ++ []
theorem dksX8_sky_0 : cX8_sky.data.toList.drop 0 = dktX8_sky_0 := by decide +kernel
theorem dX8_sky_0 : decode cX8_sky 0 = .ok (.aload_n 0, 1) := dk_42 (dk_at dksX8_sky_0 0 rfl rfl)
theorem dX8_sky_1 : decode cX8_sky 1 = .ok (.iconst 1, 1) := dk_4 (dk_at dksX8_sky_0 1 rfl rfl)
theorem dX8_sky_2 : decode cX8_sky 2 = .ok (.bipush 6, 2) := dk_16 6 (dk_at dksX8_sky_0 2 rfl rfl)
theorem dX8_sky_4 : decode cX8_sky 4 = .ok (.invokevirtual 146, 3) := dk_182 0 146 (dk_at dksX8_sky_0 4 rfl rfl)
theorem dX8_sky_7 : decode cX8_sky 7 = .ok (.istore_n 2, 1) := dk_61 (dk_at dksX8_sky_0 7 rfl rfl)
theorem dX8_sky_8 : decode cX8_sky 8 = .ok (.aload_n 1, 1) := dk_43 (dk_at dksX8_sky_0 8 rfl rfl)
theorem dX8_sky_9 : decode cX8_sky 9 = .ok (.aload_n 0, 1) := dk_42 (dk_at dksX8_sky_0 9 rfl rfl)
theorem dX8_sky_10 : decode cX8_sky 10 = .ok (.iconst 1, 1) := dk_4 (dk_at dksX8_sky_0 10 rfl rfl)
theorem dX8_sky_11 : decode cX8_sky 11 = .ok (.iconst 5, 1) := dk_8 (dk_at dksX8_sky_0 11 rfl rfl)
theorem dX8_sky_12 : decode cX8_sky 12 = .ok (.invokevirtual 146, 3) := dk_182 0 146 (dk_at dksX8_sky_0 12 rfl rfl)
theorem dX8_sky_15 : decode cX8_sky 15 = .ok (.putfield 161, 3) := dk_181 0 161 (dk_at dksX8_sky_0 15 rfl rfl)
theorem dX8_sky_18 : decode cX8_sky 18 = .ok (.aload_n 1, 1) := dk_43 (dk_at dksX8_sky_0 18 rfl rfl)
theorem dX8_sky_19 : decode cX8_sky 19 = .ok (.iload_n 2, 1) := dk_28 (dk_at dksX8_sky_0 19 rfl rfl)
theorem dX8_sky_20 : decode cX8_sky 20 = .ok (.putfield 164, 3) := dk_181 0 164 (dk_at dksX8_sky_0 20 rfl rfl)
theorem dX8_sky_23 : decode cX8_sky 23 = .ok (.return_, 1) := dk_177 (dk_at dksX8_sky_0 23 rfl rfl)
abbrev cX8_number : ByteArray := prog_10_method_10_code
def yX8_number : MethodName := ⟨RX8, "number", "(II)I"⟩
def dkwX8_number_2 : List UInt8 := [167, 0, 4, 3, 5, 182, 0, 116, 42, 180, 0, 82, 62, 42, 182, 0, 29, 29, 172]
abbrev dktX8_number_2 : List UInt8 := dkwX8_number_2 ++ []
def dkwX8_number_1 : List UInt8 := [180, 0, 42, 154, 0, 23, 42, 180, 0, 82, 27, 161, 0, 15, 42, 180, 0, 82, 28, 163, 0, 7, 4]
abbrev dktX8_number_1 : List UInt8 := dkwX8_number_1 ++ dktX8_number_2
def dkwX8_number_0 : List UInt8 := [42, 42, 180, 0, 52, 178, 0, 85, 166, 0, 7, 4, 167, 0, 4, 3, 4, 182, 0, 116, 42, 42]
abbrev dktX8_number_0 : List UInt8 := dkwX8_number_0 ++ dktX8_number_1
theorem dksX8_number_0 : cX8_number.data.toList.drop 0 = dktX8_number_0 := by decide +kernel
theorem dksX8_number_1 : cX8_number.data.toList.drop 22 = dktX8_number_1 := dk_seg dksX8_number_0 22 rfl rfl
theorem dksX8_number_2 : cX8_number.data.toList.drop 45 = dktX8_number_2 := dk_seg dksX8_number_1 23 rfl rfl
theorem dX8_number_0 : decode cX8_number 0 = .ok (.aload_n 0, 1) := dk_42 (dk_at dksX8_number_0 0 rfl rfl)
theorem dX8_number_1 : decode cX8_number 1 = .ok (.aload_n 0, 1) := dk_42 (dk_at dksX8_number_0 1 rfl rfl)
theorem dX8_number_2 : decode cX8_number 2 = .ok (.getfield 52, 3) := dk_180 0 52 (dk_at dksX8_number_0 2 rfl rfl)
theorem dX8_number_5 : decode cX8_number 5 = .ok (.getstatic 85, 3) := dk_178 0 85 (dk_at dksX8_number_0 5 rfl rfl)
theorem dX8_number_8 : decode cX8_number 8 = .ok (.if_acmp .ne 7, 3) := dk_166 0 7 (dk_at dksX8_number_0 8 rfl rfl)
theorem dX8_number_11 : decode cX8_number 11 = .ok (.iconst 1, 1) := dk_4 (dk_at dksX8_number_0 11 rfl rfl)
theorem dX8_number_12 : decode cX8_number 12 = .ok (.goto 4, 3) := dk_167 0 4 (dk_at dksX8_number_0 12 rfl rfl)
theorem dX8_number_15 : decode cX8_number 15 = .ok (.iconst 0, 1) := dk_3 (dk_at dksX8_number_0 15 rfl rfl)
theorem dX8_number_16 : decode cX8_number 16 = .ok (.iconst 1, 1) := dk_4 (dk_at dksX8_number_0 16 rfl rfl)
theorem dX8_number_17 : decode cX8_number 17 = .ok (.invokevirtual 116, 3) := dk_182 0 116 (dk_at dksX8_number_0 17 rfl rfl)
theorem dX8_number_20 : decode cX8_number 20 = .ok (.aload_n 0, 1) := dk_42 (dk_at dksX8_number_0 20 rfl rfl)
theorem dX8_number_21 : decode cX8_number 21 = .ok (.aload_n 0, 1) := dk_42 (dk_at dksX8_number_0 21 rfl rfl)
theorem dX8_number_22 : decode cX8_number 22 = .ok (.getfield 42, 3) := dk_180 0 42 (dk_at dksX8_number_1 0 rfl rfl)
theorem dX8_number_25 : decode cX8_number 25 = .ok (.ifCond .ne 23, 3) := dk_154 0 23 (dk_at dksX8_number_1 3 rfl rfl)
theorem dX8_number_28 : decode cX8_number 28 = .ok (.aload_n 0, 1) := dk_42 (dk_at dksX8_number_1 6 rfl rfl)
theorem dX8_number_29 : decode cX8_number 29 = .ok (.getfield 82, 3) := dk_180 0 82 (dk_at dksX8_number_1 7 rfl rfl)
theorem dX8_number_32 : decode cX8_number 32 = .ok (.iload_n 1, 1) := dk_27 (dk_at dksX8_number_1 10 rfl rfl)
theorem dX8_number_33 : decode cX8_number 33 = .ok (.if_icmp .lt 15, 3) := dk_161 0 15 (dk_at dksX8_number_1 11 rfl rfl)
theorem dX8_number_36 : decode cX8_number 36 = .ok (.aload_n 0, 1) := dk_42 (dk_at dksX8_number_1 14 rfl rfl)
theorem dX8_number_37 : decode cX8_number 37 = .ok (.getfield 82, 3) := dk_180 0 82 (dk_at dksX8_number_1 15 rfl rfl)
theorem dX8_number_40 : decode cX8_number 40 = .ok (.iload_n 2, 1) := dk_28 (dk_at dksX8_number_1 18 rfl rfl)
theorem dX8_number_41 : decode cX8_number 41 = .ok (.if_icmp .gt 7, 3) := dk_163 0 7 (dk_at dksX8_number_1 19 rfl rfl)
theorem dX8_number_44 : decode cX8_number 44 = .ok (.iconst 1, 1) := dk_4 (dk_at dksX8_number_1 22 rfl rfl)
theorem dX8_number_45 : decode cX8_number 45 = .ok (.goto 4, 3) := dk_167 0 4 (dk_at dksX8_number_2 0 rfl rfl)
theorem dX8_number_48 : decode cX8_number 48 = .ok (.iconst 0, 1) := dk_3 (dk_at dksX8_number_2 3 rfl rfl)
theorem dX8_number_49 : decode cX8_number 49 = .ok (.iconst 2, 1) := dk_5 (dk_at dksX8_number_2 4 rfl rfl)
theorem dX8_number_50 : decode cX8_number 50 = .ok (.invokevirtual 116, 3) := dk_182 0 116 (dk_at dksX8_number_2 5 rfl rfl)
theorem dX8_number_53 : decode cX8_number 53 = .ok (.aload_n 0, 1) := dk_42 (dk_at dksX8_number_2 8 rfl rfl)
theorem dX8_number_54 : decode cX8_number 54 = .ok (.getfield 82, 3) := dk_180 0 82 (dk_at dksX8_number_2 9 rfl rfl)
theorem dX8_number_57 : decode cX8_number 57 = .ok (.istore_n 3, 1) := dk_62 (dk_at dksX8_number_2 12 rfl rfl)
theorem dX8_number_58 : decode cX8_number 58 = .ok (.aload_n 0, 1) := dk_42 (dk_at dksX8_number_2 13 rfl rfl)
theorem dX8_number_59 : decode cX8_number 59 = .ok (.invokevirtual 29, 3) := dk_182 0 29 (dk_at dksX8_number_2 14 rfl rfl)
theorem dX8_number_62 : decode cX8_number 62 = .ok (.iload_n 3, 1) := dk_29 (dk_at dksX8_number_2 17 rfl rfl)
theorem dX8_number_63 : decode cX8_number 63 = .ok (.ireturn, 1) := dk_172 (dk_at dksX8_number_2 18 rfl rfl)
abbrev cX8_rule : ByteArray := prog_10_method_12_code
def yX8_rule : MethodName := ⟨RX8, "rule", "(I)LBlueBag$Expr;"⟩
def dkwX8_rule_0 : List UInt8 := [42, 27, 181, 0, 120, 42, 3, 182, 0, 123, 176]
abbrev dktX8_rule_0 : List UInt8 := dkwX8_rule_0 ++ []
theorem dksX8_rule_0 : cX8_rule.data.toList.drop 0 = dktX8_rule_0 := by decide +kernel
theorem dX8_rule_0 : decode cX8_rule 0 = .ok (.aload_n 0, 1) := dk_42 (dk_at dksX8_rule_0 0 rfl rfl)
theorem dX8_rule_1 : decode cX8_rule 1 = .ok (.iload_n 1, 1) := dk_27 (dk_at dksX8_rule_0 1 rfl rfl)
theorem dX8_rule_2 : decode cX8_rule 2 = .ok (.putfield 120, 3) := dk_181 0 120 (dk_at dksX8_rule_0 2 rfl rfl)
theorem dX8_rule_5 : decode cX8_rule 5 = .ok (.aload_n 0, 1) := dk_42 (dk_at dksX8_rule_0 5 rfl rfl)
theorem dX8_rule_6 : decode cX8_rule 6 = .ok (.iconst 0, 1) := dk_3 (dk_at dksX8_rule_0 6 rfl rfl)
theorem dX8_rule_7 : decode cX8_rule 7 = .ok (.invokevirtual 123, 3) := dk_182 0 123 (dk_at dksX8_rule_0 7 rfl rfl)
theorem dX8_rule_10 : decode cX8_rule 10 = .ok (.areturn, 1) := dk_176 (dk_at dksX8_rule_0 10 rfl rfl)
abbrev cX8_expr : ByteArray := prog_10_method_20_code
def yX8_expr : MethodName := ⟨RX8, "expr", "(I)LBlueBag$Expr;"⟩
def dkwX8_expr_3 : List UInt8 := [42, 27, 182, 0, 246, 183, 0, 253, 77, 167, 255, 227, 44, 176]
abbrev dktX8_expr_3 : List UInt8 := dkwX8_expr_3 ++ []
def dkwX8_expr_2 : List UInt8 := [182, 0, 246, 77, 42, 18, 249, 182, 0, 112, 153, 0, 26, 42, 182, 0, 29, 187, 0, 251, 89, 16, 124, 44]
abbrev dktX8_expr_2 : List UInt8 := dkwX8_expr_2 ++ dktX8_expr_3
def dkwX8_expr_1 : List UInt8 := [165, 0, 16, 42, 18, 244, 182, 0, 112, 154, 0, 7, 4, 167, 0, 4, 3, 5, 182, 0, 116, 42, 27]
abbrev dktX8_expr_1 : List UInt8 := dkwX8_expr_1 ++ dktX8_expr_2
def dkwX8_expr_0 : List UInt8 := [27, 16, 6, 161, 0, 42, 42, 42, 180, 0, 52, 178, 0, 85, 165, 0, 26, 42, 180, 0, 52, 178, 0, 76]
abbrev dktX8_expr_0 : List UInt8 := dkwX8_expr_0 ++ dktX8_expr_1
theorem dksX8_expr_0 : cX8_expr.data.toList.drop 0 = dktX8_expr_0 := by decide +kernel
theorem dksX8_expr_1 : cX8_expr.data.toList.drop 24 = dktX8_expr_1 := dk_seg dksX8_expr_0 24 rfl rfl
theorem dksX8_expr_2 : cX8_expr.data.toList.drop 47 = dktX8_expr_2 := dk_seg dksX8_expr_1 23 rfl rfl
theorem dksX8_expr_3 : cX8_expr.data.toList.drop 71 = dktX8_expr_3 := dk_seg dksX8_expr_2 24 rfl rfl
theorem dX8_expr_0 : decode cX8_expr 0 = .ok (.iload_n 1, 1) := dk_27 (dk_at dksX8_expr_0 0 rfl rfl)
theorem dX8_expr_1 : decode cX8_expr 1 = .ok (.bipush 6, 2) := dk_16 6 (dk_at dksX8_expr_0 1 rfl rfl)
theorem dX8_expr_3 : decode cX8_expr 3 = .ok (.if_icmp .lt 42, 3) := dk_161 0 42 (dk_at dksX8_expr_0 3 rfl rfl)
theorem dX8_expr_6 : decode cX8_expr 6 = .ok (.aload_n 0, 1) := dk_42 (dk_at dksX8_expr_0 6 rfl rfl)
theorem dX8_expr_7 : decode cX8_expr 7 = .ok (.aload_n 0, 1) := dk_42 (dk_at dksX8_expr_0 7 rfl rfl)
theorem dX8_expr_8 : decode cX8_expr 8 = .ok (.getfield 52, 3) := dk_180 0 52 (dk_at dksX8_expr_0 8 rfl rfl)
theorem dX8_expr_11 : decode cX8_expr 11 = .ok (.getstatic 85, 3) := dk_178 0 85 (dk_at dksX8_expr_0 11 rfl rfl)
theorem dX8_expr_14 : decode cX8_expr 14 = .ok (.if_acmp .eq 26, 3) := dk_165 0 26 (dk_at dksX8_expr_0 14 rfl rfl)
theorem dX8_expr_17 : decode cX8_expr 17 = .ok (.aload_n 0, 1) := dk_42 (dk_at dksX8_expr_0 17 rfl rfl)
theorem dX8_expr_18 : decode cX8_expr 18 = .ok (.getfield 52, 3) := dk_180 0 52 (dk_at dksX8_expr_0 18 rfl rfl)
theorem dX8_expr_21 : decode cX8_expr 21 = .ok (.getstatic 76, 3) := dk_178 0 76 (dk_at dksX8_expr_0 21 rfl rfl)
theorem dX8_expr_24 : decode cX8_expr 24 = .ok (.if_acmp .eq 16, 3) := dk_165 0 16 (dk_at dksX8_expr_1 0 rfl rfl)
theorem dX8_expr_27 : decode cX8_expr 27 = .ok (.aload_n 0, 1) := dk_42 (dk_at dksX8_expr_1 3 rfl rfl)
theorem dX8_expr_28 : decode cX8_expr 28 = .ok (.ldc 244, 2) := dk_18 244 (dk_at dksX8_expr_1 4 rfl rfl)
theorem dX8_expr_30 : decode cX8_expr 30 = .ok (.invokevirtual 112, 3) := dk_182 0 112 (dk_at dksX8_expr_1 6 rfl rfl)
theorem dX8_expr_33 : decode cX8_expr 33 = .ok (.ifCond .ne 7, 3) := dk_154 0 7 (dk_at dksX8_expr_1 9 rfl rfl)
theorem dX8_expr_36 : decode cX8_expr 36 = .ok (.iconst 1, 1) := dk_4 (dk_at dksX8_expr_1 12 rfl rfl)
theorem dX8_expr_37 : decode cX8_expr 37 = .ok (.goto 4, 3) := dk_167 0 4 (dk_at dksX8_expr_1 13 rfl rfl)
theorem dX8_expr_40 : decode cX8_expr 40 = .ok (.iconst 0, 1) := dk_3 (dk_at dksX8_expr_1 16 rfl rfl)
theorem dX8_expr_41 : decode cX8_expr 41 = .ok (.iconst 2, 1) := dk_5 (dk_at dksX8_expr_1 17 rfl rfl)
theorem dX8_expr_42 : decode cX8_expr 42 = .ok (.invokevirtual 116, 3) := dk_182 0 116 (dk_at dksX8_expr_1 18 rfl rfl)
theorem dX8_expr_45 : decode cX8_expr 45 = .ok (.aload_n 0, 1) := dk_42 (dk_at dksX8_expr_1 21 rfl rfl)
theorem dX8_expr_46 : decode cX8_expr 46 = .ok (.iload_n 1, 1) := dk_27 (dk_at dksX8_expr_1 22 rfl rfl)
theorem dX8_expr_47 : decode cX8_expr 47 = .ok (.invokevirtual 246, 3) := dk_182 0 246 (dk_at dksX8_expr_2 0 rfl rfl)
theorem dX8_expr_50 : decode cX8_expr 50 = .ok (.astore_n 2, 1) := dk_77 (dk_at dksX8_expr_2 3 rfl rfl)
theorem dX8_expr_51 : decode cX8_expr 51 = .ok (.aload_n 0, 1) := dk_42 (dk_at dksX8_expr_2 4 rfl rfl)
theorem dX8_expr_52 : decode cX8_expr 52 = .ok (.ldc 249, 2) := dk_18 249 (dk_at dksX8_expr_2 5 rfl rfl)
theorem dX8_expr_54 : decode cX8_expr 54 = .ok (.invokevirtual 112, 3) := dk_182 0 112 (dk_at dksX8_expr_2 7 rfl rfl)
theorem dX8_expr_57 : decode cX8_expr 57 = .ok (.ifCond .eq 26, 3) := dk_153 0 26 (dk_at dksX8_expr_2 10 rfl rfl)
theorem dX8_expr_60 : decode cX8_expr 60 = .ok (.aload_n 0, 1) := dk_42 (dk_at dksX8_expr_2 13 rfl rfl)
theorem dX8_expr_61 : decode cX8_expr 61 = .ok (.invokevirtual 29, 3) := dk_182 0 29 (dk_at dksX8_expr_2 14 rfl rfl)
theorem dX8_expr_64 : decode cX8_expr 64 = .ok (.new 251, 3) := dk_187 0 251 (dk_at dksX8_expr_2 17 rfl rfl)
theorem dX8_expr_67 : decode cX8_expr 67 = .ok (.dup, 1) := dk_89 (dk_at dksX8_expr_2 20 rfl rfl)
theorem dX8_expr_68 : decode cX8_expr 68 = .ok (.bipush 124, 2) := dk_16 124 (dk_at dksX8_expr_2 21 rfl rfl)
theorem dX8_expr_70 : decode cX8_expr 70 = .ok (.aload_n 2, 1) := dk_44 (dk_at dksX8_expr_2 23 rfl rfl)
theorem dX8_expr_71 : decode cX8_expr 71 = .ok (.aload_n 0, 1) := dk_42 (dk_at dksX8_expr_3 0 rfl rfl)
theorem dX8_expr_72 : decode cX8_expr 72 = .ok (.iload_n 1, 1) := dk_27 (dk_at dksX8_expr_3 1 rfl rfl)
theorem dX8_expr_73 : decode cX8_expr 73 = .ok (.invokevirtual 246, 3) := dk_182 0 246 (dk_at dksX8_expr_3 2 rfl rfl)
theorem dX8_expr_76 : decode cX8_expr 76 = .ok (.invokespecial 253, 3) := dk_183 0 253 (dk_at dksX8_expr_3 5 rfl rfl)
theorem dX8_expr_79 : decode cX8_expr 79 = .ok (.astore_n 2, 1) := dk_77 (dk_at dksX8_expr_3 8 rfl rfl)
theorem dX8_expr_80 : decode cX8_expr 80 = .ok (.goto (-29), 3) := dk_167 255 227 (dk_at dksX8_expr_3 9 rfl rfl)
theorem dX8_expr_83 : decode cX8_expr 83 = .ok (.aload_n 2, 1) := dk_44 (dk_at dksX8_expr_3 12 rfl rfl)
theorem dX8_expr_84 : decode cX8_expr 84 = .ok (.areturn, 1) := dk_176 (dk_at dksX8_expr_3 13 rfl rfl)
abbrev cX8_and : ByteArray := prog_10_method_21_code
def yX8_and : MethodName := ⟨RX8, "and", "(I)LBlueBag$Expr;"⟩
def dkwX8_and_1 : List UInt8 := [16, 38, 44, 42, 27, 182, 1, 0, 183, 0, 253, 77, 167, 255, 226, 44, 176]
abbrev dktX8_and_1 : List UInt8 := dkwX8_and_1 ++ []
def dkwX8_and_0 : List UInt8 := [42, 27, 182, 1, 0, 77, 42, 19, 1, 3, 182, 0, 112, 153, 0, 26, 42, 182, 0, 29, 187, 0, 251, 89]
abbrev dktX8_and_0 : List UInt8 := dkwX8_and_0 ++ dktX8_and_1
theorem dksX8_and_0 : cX8_and.data.toList.drop 0 = dktX8_and_0 := by decide +kernel
theorem dksX8_and_1 : cX8_and.data.toList.drop 24 = dktX8_and_1 := dk_seg dksX8_and_0 24 rfl rfl
theorem dX8_and_0 : decode cX8_and 0 = .ok (.aload_n 0, 1) := dk_42 (dk_at dksX8_and_0 0 rfl rfl)
theorem dX8_and_1 : decode cX8_and 1 = .ok (.iload_n 1, 1) := dk_27 (dk_at dksX8_and_0 1 rfl rfl)
theorem dX8_and_2 : decode cX8_and 2 = .ok (.invokevirtual 256, 3) := dk_182 1 0 (dk_at dksX8_and_0 2 rfl rfl)
theorem dX8_and_5 : decode cX8_and 5 = .ok (.astore_n 2, 1) := dk_77 (dk_at dksX8_and_0 5 rfl rfl)
theorem dX8_and_6 : decode cX8_and 6 = .ok (.aload_n 0, 1) := dk_42 (dk_at dksX8_and_0 6 rfl rfl)
theorem dX8_and_7 : decode cX8_and 7 = .ok (.ldc_w 259, 3) := dk_19 1 3 (dk_at dksX8_and_0 7 rfl rfl)
theorem dX8_and_10 : decode cX8_and 10 = .ok (.invokevirtual 112, 3) := dk_182 0 112 (dk_at dksX8_and_0 10 rfl rfl)
theorem dX8_and_13 : decode cX8_and 13 = .ok (.ifCond .eq 26, 3) := dk_153 0 26 (dk_at dksX8_and_0 13 rfl rfl)
theorem dX8_and_16 : decode cX8_and 16 = .ok (.aload_n 0, 1) := dk_42 (dk_at dksX8_and_0 16 rfl rfl)
theorem dX8_and_17 : decode cX8_and 17 = .ok (.invokevirtual 29, 3) := dk_182 0 29 (dk_at dksX8_and_0 17 rfl rfl)
theorem dX8_and_20 : decode cX8_and 20 = .ok (.new 251, 3) := dk_187 0 251 (dk_at dksX8_and_0 20 rfl rfl)
theorem dX8_and_23 : decode cX8_and 23 = .ok (.dup, 1) := dk_89 (dk_at dksX8_and_0 23 rfl rfl)
theorem dX8_and_24 : decode cX8_and 24 = .ok (.bipush 38, 2) := dk_16 38 (dk_at dksX8_and_1 0 rfl rfl)
theorem dX8_and_26 : decode cX8_and 26 = .ok (.aload_n 2, 1) := dk_44 (dk_at dksX8_and_1 2 rfl rfl)
theorem dX8_and_27 : decode cX8_and 27 = .ok (.aload_n 0, 1) := dk_42 (dk_at dksX8_and_1 3 rfl rfl)
theorem dX8_and_28 : decode cX8_and 28 = .ok (.iload_n 1, 1) := dk_27 (dk_at dksX8_and_1 4 rfl rfl)
theorem dX8_and_29 : decode cX8_and 29 = .ok (.invokevirtual 256, 3) := dk_182 1 0 (dk_at dksX8_and_1 5 rfl rfl)
theorem dX8_and_32 : decode cX8_and 32 = .ok (.invokespecial 253, 3) := dk_183 0 253 (dk_at dksX8_and_1 8 rfl rfl)
theorem dX8_and_35 : decode cX8_and 35 = .ok (.astore_n 2, 1) := dk_77 (dk_at dksX8_and_1 11 rfl rfl)
theorem dX8_and_36 : decode cX8_and 36 = .ok (.goto (-30), 3) := dk_167 255 226 (dk_at dksX8_and_1 12 rfl rfl)
theorem dX8_and_39 : decode cX8_and 39 = .ok (.aload_n 2, 1) := dk_44 (dk_at dksX8_and_1 15 rfl rfl)
theorem dX8_and_40 : decode cX8_and 40 = .ok (.areturn, 1) := dk_176 (dk_at dksX8_and_1 16 rfl rfl)
abbrev cX8_not : ByteArray := prog_10_method_22_code
def yX8_not : MethodName := ⟨RX8, "not", "(I)LBlueBag$Expr;"⟩
def dkwX8_not_4 : List UInt8 := [158, 0, 18, 187, 1, 16, 89, 45, 183, 1, 18, 78, 132, 2, 255, 167, 255, 240, 45, 176]
abbrev dktX8_not_4 : List UInt8 := dkwX8_not_4 ++ []
def dkwX8_not_3 : List UInt8 := [54, 4, 42, 182, 0, 29, 187, 0, 251, 89, 21, 4, 45, 42, 27, 182, 1, 5, 183, 0, 253, 78, 28]
abbrev dktX8_not_3 : List UInt8 := dkwX8_not_3 ++ dktX8_not_4
def dkwX8_not_2 : List UInt8 := [182, 0, 112, 154, 0, 13, 42, 19, 1, 10, 182, 0, 112, 153, 0, 33, 42, 180, 0, 11, 3, 182, 1, 12]
abbrev dktX8_not_2 : List UInt8 := dkwX8_not_2 ++ dktX8_not_3
def dkwX8_not_1 : List UInt8 := [5, 182, 0, 116, 42, 182, 0, 29, 132, 2, 1, 167, 255, 223, 42, 27, 182, 1, 5, 78, 42, 19, 1, 8]
abbrev dktX8_not_1 : List UInt8 := dkwX8_not_1 ++ dktX8_not_2
def dkwX8_not_0 : List UInt8 := [3, 61, 42, 19, 1, 4, 182, 0, 112, 153, 0, 29, 42, 28, 16, 6, 162, 0, 7, 4, 167, 0, 4, 3]
abbrev dktX8_not_0 : List UInt8 := dkwX8_not_0 ++ dktX8_not_1
theorem dksX8_not_0 : cX8_not.data.toList.drop 0 = dktX8_not_0 := by decide +kernel
theorem dksX8_not_1 : cX8_not.data.toList.drop 24 = dktX8_not_1 := dk_seg dksX8_not_0 24 rfl rfl
theorem dksX8_not_2 : cX8_not.data.toList.drop 48 = dktX8_not_2 := dk_seg dksX8_not_1 24 rfl rfl
theorem dksX8_not_3 : cX8_not.data.toList.drop 72 = dktX8_not_3 := dk_seg dksX8_not_2 24 rfl rfl
theorem dksX8_not_4 : cX8_not.data.toList.drop 95 = dktX8_not_4 := dk_seg dksX8_not_3 23 rfl rfl
theorem dX8_not_0 : decode cX8_not 0 = .ok (.iconst 0, 1) := dk_3 (dk_at dksX8_not_0 0 rfl rfl)
theorem dX8_not_1 : decode cX8_not 1 = .ok (.istore_n 2, 1) := dk_61 (dk_at dksX8_not_0 1 rfl rfl)
theorem dX8_not_2 : decode cX8_not 2 = .ok (.aload_n 0, 1) := dk_42 (dk_at dksX8_not_0 2 rfl rfl)
theorem dX8_not_3 : decode cX8_not 3 = .ok (.ldc_w 260, 3) := dk_19 1 4 (dk_at dksX8_not_0 3 rfl rfl)
theorem dX8_not_6 : decode cX8_not 6 = .ok (.invokevirtual 112, 3) := dk_182 0 112 (dk_at dksX8_not_0 6 rfl rfl)
theorem dX8_not_9 : decode cX8_not 9 = .ok (.ifCond .eq 29, 3) := dk_153 0 29 (dk_at dksX8_not_0 9 rfl rfl)
theorem dX8_not_12 : decode cX8_not 12 = .ok (.aload_n 0, 1) := dk_42 (dk_at dksX8_not_0 12 rfl rfl)
theorem dX8_not_13 : decode cX8_not 13 = .ok (.iload_n 2, 1) := dk_28 (dk_at dksX8_not_0 13 rfl rfl)
theorem dX8_not_14 : decode cX8_not 14 = .ok (.bipush 6, 2) := dk_16 6 (dk_at dksX8_not_0 14 rfl rfl)
theorem dX8_not_16 : decode cX8_not 16 = .ok (.if_icmp .ge 7, 3) := dk_162 0 7 (dk_at dksX8_not_0 16 rfl rfl)
theorem dX8_not_19 : decode cX8_not 19 = .ok (.iconst 1, 1) := dk_4 (dk_at dksX8_not_0 19 rfl rfl)
theorem dX8_not_20 : decode cX8_not 20 = .ok (.goto 4, 3) := dk_167 0 4 (dk_at dksX8_not_0 20 rfl rfl)
theorem dX8_not_23 : decode cX8_not 23 = .ok (.iconst 0, 1) := dk_3 (dk_at dksX8_not_0 23 rfl rfl)
theorem dX8_not_24 : decode cX8_not 24 = .ok (.iconst 2, 1) := dk_5 (dk_at dksX8_not_1 0 rfl rfl)
theorem dX8_not_25 : decode cX8_not 25 = .ok (.invokevirtual 116, 3) := dk_182 0 116 (dk_at dksX8_not_1 1 rfl rfl)
theorem dX8_not_28 : decode cX8_not 28 = .ok (.aload_n 0, 1) := dk_42 (dk_at dksX8_not_1 4 rfl rfl)
theorem dX8_not_29 : decode cX8_not 29 = .ok (.invokevirtual 29, 3) := dk_182 0 29 (dk_at dksX8_not_1 5 rfl rfl)
theorem dX8_not_32 : decode cX8_not 32 = .ok (.iinc 2 1, 3) := dk_132 2 1 (dk_at dksX8_not_1 8 rfl rfl)
theorem dX8_not_35 : decode cX8_not 35 = .ok (.goto (-33), 3) := dk_167 255 223 (dk_at dksX8_not_1 11 rfl rfl)
theorem dX8_not_38 : decode cX8_not 38 = .ok (.aload_n 0, 1) := dk_42 (dk_at dksX8_not_1 14 rfl rfl)
theorem dX8_not_39 : decode cX8_not 39 = .ok (.iload_n 1, 1) := dk_27 (dk_at dksX8_not_1 15 rfl rfl)
theorem dX8_not_40 : decode cX8_not 40 = .ok (.invokevirtual 261, 3) := dk_182 1 5 (dk_at dksX8_not_1 16 rfl rfl)
theorem dX8_not_43 : decode cX8_not 43 = .ok (.astore_n 3, 1) := dk_78 (dk_at dksX8_not_1 19 rfl rfl)
theorem dX8_not_44 : decode cX8_not 44 = .ok (.aload_n 0, 1) := dk_42 (dk_at dksX8_not_1 20 rfl rfl)
theorem dX8_not_45 : decode cX8_not 45 = .ok (.ldc_w 264, 3) := dk_19 1 8 (dk_at dksX8_not_1 21 rfl rfl)
theorem dX8_not_48 : decode cX8_not 48 = .ok (.invokevirtual 112, 3) := dk_182 0 112 (dk_at dksX8_not_2 0 rfl rfl)
theorem dX8_not_51 : decode cX8_not 51 = .ok (.ifCond .ne 13, 3) := dk_154 0 13 (dk_at dksX8_not_2 3 rfl rfl)
theorem dX8_not_54 : decode cX8_not 54 = .ok (.aload_n 0, 1) := dk_42 (dk_at dksX8_not_2 6 rfl rfl)
theorem dX8_not_55 : decode cX8_not 55 = .ok (.ldc_w 266, 3) := dk_19 1 10 (dk_at dksX8_not_2 7 rfl rfl)
theorem dX8_not_58 : decode cX8_not 58 = .ok (.invokevirtual 112, 3) := dk_182 0 112 (dk_at dksX8_not_2 10 rfl rfl)
theorem dX8_not_61 : decode cX8_not 61 = .ok (.ifCond .eq 33, 3) := dk_153 0 33 (dk_at dksX8_not_2 13 rfl rfl)
theorem dX8_not_64 : decode cX8_not 64 = .ok (.aload_n 0, 1) := dk_42 (dk_at dksX8_not_2 16 rfl rfl)
theorem dX8_not_65 : decode cX8_not 65 = .ok (.getfield 11, 3) := dk_180 0 11 (dk_at dksX8_not_2 17 rfl rfl)
theorem dX8_not_68 : decode cX8_not 68 = .ok (.iconst 0, 1) := dk_3 (dk_at dksX8_not_2 20 rfl rfl)
theorem dX8_not_69 : decode cX8_not 69 = .ok (.invokevirtual 268, 3) := dk_182 1 12 (dk_at dksX8_not_2 21 rfl rfl)
theorem dX8_not_72 : decode cX8_not 72 = .ok (.istore 4, 2) := dk_54 4 (dk_at dksX8_not_3 0 rfl rfl)
theorem dX8_not_74 : decode cX8_not 74 = .ok (.aload_n 0, 1) := dk_42 (dk_at dksX8_not_3 2 rfl rfl)
theorem dX8_not_75 : decode cX8_not 75 = .ok (.invokevirtual 29, 3) := dk_182 0 29 (dk_at dksX8_not_3 3 rfl rfl)
theorem dX8_not_78 : decode cX8_not 78 = .ok (.new 251, 3) := dk_187 0 251 (dk_at dksX8_not_3 6 rfl rfl)
theorem dX8_not_81 : decode cX8_not 81 = .ok (.dup, 1) := dk_89 (dk_at dksX8_not_3 9 rfl rfl)
theorem dX8_not_82 : decode cX8_not 82 = .ok (.iload 4, 2) := dk_21 4 (dk_at dksX8_not_3 10 rfl rfl)
theorem dX8_not_84 : decode cX8_not 84 = .ok (.aload_n 3, 1) := dk_45 (dk_at dksX8_not_3 12 rfl rfl)
theorem dX8_not_85 : decode cX8_not 85 = .ok (.aload_n 0, 1) := dk_42 (dk_at dksX8_not_3 13 rfl rfl)
theorem dX8_not_86 : decode cX8_not 86 = .ok (.iload_n 1, 1) := dk_27 (dk_at dksX8_not_3 14 rfl rfl)
theorem dX8_not_87 : decode cX8_not 87 = .ok (.invokevirtual 261, 3) := dk_182 1 5 (dk_at dksX8_not_3 15 rfl rfl)
theorem dX8_not_90 : decode cX8_not 90 = .ok (.invokespecial 253, 3) := dk_183 0 253 (dk_at dksX8_not_3 18 rfl rfl)
theorem dX8_not_93 : decode cX8_not 93 = .ok (.astore_n 3, 1) := dk_78 (dk_at dksX8_not_3 21 rfl rfl)
theorem dX8_not_94 : decode cX8_not 94 = .ok (.iload_n 2, 1) := dk_28 (dk_at dksX8_not_3 22 rfl rfl)
theorem dX8_not_95 : decode cX8_not 95 = .ok (.ifCond .le 18, 3) := dk_158 0 18 (dk_at dksX8_not_4 0 rfl rfl)
theorem dX8_not_98 : decode cX8_not 98 = .ok (.new 272, 3) := dk_187 1 16 (dk_at dksX8_not_4 3 rfl rfl)
theorem dX8_not_101 : decode cX8_not 101 = .ok (.dup, 1) := dk_89 (dk_at dksX8_not_4 6 rfl rfl)
theorem dX8_not_102 : decode cX8_not 102 = .ok (.aload_n 3, 1) := dk_45 (dk_at dksX8_not_4 7 rfl rfl)
theorem dX8_not_103 : decode cX8_not 103 = .ok (.invokespecial 274, 3) := dk_183 1 18 (dk_at dksX8_not_4 8 rfl rfl)
theorem dX8_not_106 : decode cX8_not 106 = .ok (.astore_n 3, 1) := dk_78 (dk_at dksX8_not_4 11 rfl rfl)
theorem dX8_not_107 : decode cX8_not 107 = .ok (.iinc 2 (-1), 3) := dk_132 2 255 (dk_at dksX8_not_4 12 rfl rfl)
theorem dX8_not_110 : decode cX8_not 110 = .ok (.goto (-16), 3) := dk_167 255 240 (dk_at dksX8_not_4 15 rfl rfl)
theorem dX8_not_113 : decode cX8_not 113 = .ok (.aload_n 3, 1) := dk_45 (dk_at dksX8_not_4 18 rfl rfl)
theorem dX8_not_114 : decode cX8_not 114 = .ok (.areturn, 1) := dk_176 (dk_at dksX8_not_4 19 rfl rfl)
abbrev cX8_sum : ByteArray := prog_10_method_23_code
def yX8_sum : MethodName := ⟨RX8, "sum", "(I)LBlueBag$Expr;"⟩
def dkwX8_sum_2 : List UInt8 := [182, 1, 21, 183, 0, 253, 77, 167, 255, 208, 44, 176]
abbrev dktX8_sum_2 : List UInt8 := dkwX8_sum_2 ++ []
def dkwX8_sum_1 : List UInt8 := [153, 0, 34, 42, 180, 0, 11, 3, 182, 1, 12, 62, 42, 182, 0, 29, 187, 0, 251, 89, 29, 44, 42, 27]
abbrev dktX8_sum_1 : List UInt8 := dkwX8_sum_1 ++ dktX8_sum_2
def dkwX8_sum_0 : List UInt8 := [42, 27, 182, 1, 21, 77, 42, 19, 1, 24, 182, 0, 112, 154, 0, 13, 42, 19, 1, 26, 182, 0, 112]
abbrev dktX8_sum_0 : List UInt8 := dkwX8_sum_0 ++ dktX8_sum_1
theorem dksX8_sum_0 : cX8_sum.data.toList.drop 0 = dktX8_sum_0 := by decide +kernel
theorem dksX8_sum_1 : cX8_sum.data.toList.drop 23 = dktX8_sum_1 := dk_seg dksX8_sum_0 23 rfl rfl
theorem dksX8_sum_2 : cX8_sum.data.toList.drop 47 = dktX8_sum_2 := dk_seg dksX8_sum_1 24 rfl rfl
theorem dX8_sum_0 : decode cX8_sum 0 = .ok (.aload_n 0, 1) := dk_42 (dk_at dksX8_sum_0 0 rfl rfl)
theorem dX8_sum_1 : decode cX8_sum 1 = .ok (.iload_n 1, 1) := dk_27 (dk_at dksX8_sum_0 1 rfl rfl)
theorem dX8_sum_2 : decode cX8_sum 2 = .ok (.invokevirtual 277, 3) := dk_182 1 21 (dk_at dksX8_sum_0 2 rfl rfl)
theorem dX8_sum_5 : decode cX8_sum 5 = .ok (.astore_n 2, 1) := dk_77 (dk_at dksX8_sum_0 5 rfl rfl)
theorem dX8_sum_6 : decode cX8_sum 6 = .ok (.aload_n 0, 1) := dk_42 (dk_at dksX8_sum_0 6 rfl rfl)
theorem dX8_sum_7 : decode cX8_sum 7 = .ok (.ldc_w 280, 3) := dk_19 1 24 (dk_at dksX8_sum_0 7 rfl rfl)
theorem dX8_sum_10 : decode cX8_sum 10 = .ok (.invokevirtual 112, 3) := dk_182 0 112 (dk_at dksX8_sum_0 10 rfl rfl)
theorem dX8_sum_13 : decode cX8_sum 13 = .ok (.ifCond .ne 13, 3) := dk_154 0 13 (dk_at dksX8_sum_0 13 rfl rfl)
theorem dX8_sum_16 : decode cX8_sum 16 = .ok (.aload_n 0, 1) := dk_42 (dk_at dksX8_sum_0 16 rfl rfl)
theorem dX8_sum_17 : decode cX8_sum 17 = .ok (.ldc_w 282, 3) := dk_19 1 26 (dk_at dksX8_sum_0 17 rfl rfl)
theorem dX8_sum_20 : decode cX8_sum 20 = .ok (.invokevirtual 112, 3) := dk_182 0 112 (dk_at dksX8_sum_0 20 rfl rfl)
theorem dX8_sum_23 : decode cX8_sum 23 = .ok (.ifCond .eq 34, 3) := dk_153 0 34 (dk_at dksX8_sum_1 0 rfl rfl)
theorem dX8_sum_26 : decode cX8_sum 26 = .ok (.aload_n 0, 1) := dk_42 (dk_at dksX8_sum_1 3 rfl rfl)
theorem dX8_sum_27 : decode cX8_sum 27 = .ok (.getfield 11, 3) := dk_180 0 11 (dk_at dksX8_sum_1 4 rfl rfl)
theorem dX8_sum_30 : decode cX8_sum 30 = .ok (.iconst 0, 1) := dk_3 (dk_at dksX8_sum_1 7 rfl rfl)
theorem dX8_sum_31 : decode cX8_sum 31 = .ok (.invokevirtual 268, 3) := dk_182 1 12 (dk_at dksX8_sum_1 8 rfl rfl)
theorem dX8_sum_34 : decode cX8_sum 34 = .ok (.istore_n 3, 1) := dk_62 (dk_at dksX8_sum_1 11 rfl rfl)
theorem dX8_sum_35 : decode cX8_sum 35 = .ok (.aload_n 0, 1) := dk_42 (dk_at dksX8_sum_1 12 rfl rfl)
theorem dX8_sum_36 : decode cX8_sum 36 = .ok (.invokevirtual 29, 3) := dk_182 0 29 (dk_at dksX8_sum_1 13 rfl rfl)
theorem dX8_sum_39 : decode cX8_sum 39 = .ok (.new 251, 3) := dk_187 0 251 (dk_at dksX8_sum_1 16 rfl rfl)
theorem dX8_sum_42 : decode cX8_sum 42 = .ok (.dup, 1) := dk_89 (dk_at dksX8_sum_1 19 rfl rfl)
theorem dX8_sum_43 : decode cX8_sum 43 = .ok (.iload_n 3, 1) := dk_29 (dk_at dksX8_sum_1 20 rfl rfl)
theorem dX8_sum_44 : decode cX8_sum 44 = .ok (.aload_n 2, 1) := dk_44 (dk_at dksX8_sum_1 21 rfl rfl)
theorem dX8_sum_45 : decode cX8_sum 45 = .ok (.aload_n 0, 1) := dk_42 (dk_at dksX8_sum_1 22 rfl rfl)
theorem dX8_sum_46 : decode cX8_sum 46 = .ok (.iload_n 1, 1) := dk_27 (dk_at dksX8_sum_1 23 rfl rfl)
theorem dX8_sum_47 : decode cX8_sum 47 = .ok (.invokevirtual 277, 3) := dk_182 1 21 (dk_at dksX8_sum_2 0 rfl rfl)
theorem dX8_sum_50 : decode cX8_sum 50 = .ok (.invokespecial 253, 3) := dk_183 0 253 (dk_at dksX8_sum_2 3 rfl rfl)
theorem dX8_sum_53 : decode cX8_sum 53 = .ok (.astore_n 2, 1) := dk_77 (dk_at dksX8_sum_2 6 rfl rfl)
theorem dX8_sum_54 : decode cX8_sum 54 = .ok (.goto (-48), 3) := dk_167 255 208 (dk_at dksX8_sum_2 7 rfl rfl)
theorem dX8_sum_57 : decode cX8_sum 57 = .ok (.aload_n 2, 1) := dk_44 (dk_at dksX8_sum_2 10 rfl rfl)
theorem dX8_sum_58 : decode cX8_sum 58 = .ok (.areturn, 1) := dk_176 (dk_at dksX8_sum_2 11 rfl rfl)
abbrev cX8_product : ByteArray := prog_10_method_24_code
def yX8_product : MethodName := ⟨RX8, "product", "(I)LBlueBag$Expr;"⟩
def dkwX8_product_2 : List UInt8 := [182, 1, 28, 183, 0, 253, 77, 167, 255, 208, 44, 176]
abbrev dktX8_product_2 : List UInt8 := dkwX8_product_2 ++ []
def dkwX8_product_1 : List UInt8 := [153, 0, 34, 42, 180, 0, 11, 3, 182, 1, 12, 62, 42, 182, 0, 29, 187, 0, 251, 89, 29, 44, 42, 27]
abbrev dktX8_product_1 : List UInt8 := dkwX8_product_1 ++ dktX8_product_2
def dkwX8_product_0 : List UInt8 := [42, 27, 182, 1, 28, 77, 42, 19, 1, 31, 182, 0, 112, 154, 0, 13, 42, 19, 1, 33, 182, 0, 112]
abbrev dktX8_product_0 : List UInt8 := dkwX8_product_0 ++ dktX8_product_1
theorem dksX8_product_0 : cX8_product.data.toList.drop 0 = dktX8_product_0 := by decide +kernel
theorem dksX8_product_1 : cX8_product.data.toList.drop 23 = dktX8_product_1 := dk_seg dksX8_product_0 23 rfl rfl
theorem dksX8_product_2 : cX8_product.data.toList.drop 47 = dktX8_product_2 := dk_seg dksX8_product_1 24 rfl rfl
theorem dX8_product_0 : decode cX8_product 0 = .ok (.aload_n 0, 1) := dk_42 (dk_at dksX8_product_0 0 rfl rfl)
theorem dX8_product_1 : decode cX8_product 1 = .ok (.iload_n 1, 1) := dk_27 (dk_at dksX8_product_0 1 rfl rfl)
theorem dX8_product_2 : decode cX8_product 2 = .ok (.invokevirtual 284, 3) := dk_182 1 28 (dk_at dksX8_product_0 2 rfl rfl)
theorem dX8_product_5 : decode cX8_product 5 = .ok (.astore_n 2, 1) := dk_77 (dk_at dksX8_product_0 5 rfl rfl)
theorem dX8_product_6 : decode cX8_product 6 = .ok (.aload_n 0, 1) := dk_42 (dk_at dksX8_product_0 6 rfl rfl)
theorem dX8_product_7 : decode cX8_product 7 = .ok (.ldc_w 287, 3) := dk_19 1 31 (dk_at dksX8_product_0 7 rfl rfl)
theorem dX8_product_10 : decode cX8_product 10 = .ok (.invokevirtual 112, 3) := dk_182 0 112 (dk_at dksX8_product_0 10 rfl rfl)
theorem dX8_product_13 : decode cX8_product 13 = .ok (.ifCond .ne 13, 3) := dk_154 0 13 (dk_at dksX8_product_0 13 rfl rfl)
theorem dX8_product_16 : decode cX8_product 16 = .ok (.aload_n 0, 1) := dk_42 (dk_at dksX8_product_0 16 rfl rfl)
theorem dX8_product_17 : decode cX8_product 17 = .ok (.ldc_w 289, 3) := dk_19 1 33 (dk_at dksX8_product_0 17 rfl rfl)
theorem dX8_product_20 : decode cX8_product 20 = .ok (.invokevirtual 112, 3) := dk_182 0 112 (dk_at dksX8_product_0 20 rfl rfl)
theorem dX8_product_23 : decode cX8_product 23 = .ok (.ifCond .eq 34, 3) := dk_153 0 34 (dk_at dksX8_product_1 0 rfl rfl)
theorem dX8_product_26 : decode cX8_product 26 = .ok (.aload_n 0, 1) := dk_42 (dk_at dksX8_product_1 3 rfl rfl)
theorem dX8_product_27 : decode cX8_product 27 = .ok (.getfield 11, 3) := dk_180 0 11 (dk_at dksX8_product_1 4 rfl rfl)
theorem dX8_product_30 : decode cX8_product 30 = .ok (.iconst 0, 1) := dk_3 (dk_at dksX8_product_1 7 rfl rfl)
theorem dX8_product_31 : decode cX8_product 31 = .ok (.invokevirtual 268, 3) := dk_182 1 12 (dk_at dksX8_product_1 8 rfl rfl)
theorem dX8_product_34 : decode cX8_product 34 = .ok (.istore_n 3, 1) := dk_62 (dk_at dksX8_product_1 11 rfl rfl)
theorem dX8_product_35 : decode cX8_product 35 = .ok (.aload_n 0, 1) := dk_42 (dk_at dksX8_product_1 12 rfl rfl)
theorem dX8_product_36 : decode cX8_product 36 = .ok (.invokevirtual 29, 3) := dk_182 0 29 (dk_at dksX8_product_1 13 rfl rfl)
theorem dX8_product_39 : decode cX8_product 39 = .ok (.new 251, 3) := dk_187 0 251 (dk_at dksX8_product_1 16 rfl rfl)
theorem dX8_product_42 : decode cX8_product 42 = .ok (.dup, 1) := dk_89 (dk_at dksX8_product_1 19 rfl rfl)
theorem dX8_product_43 : decode cX8_product 43 = .ok (.iload_n 3, 1) := dk_29 (dk_at dksX8_product_1 20 rfl rfl)
theorem dX8_product_44 : decode cX8_product 44 = .ok (.aload_n 2, 1) := dk_44 (dk_at dksX8_product_1 21 rfl rfl)
theorem dX8_product_45 : decode cX8_product 45 = .ok (.aload_n 0, 1) := dk_42 (dk_at dksX8_product_1 22 rfl rfl)
theorem dX8_product_46 : decode cX8_product 46 = .ok (.iload_n 1, 1) := dk_27 (dk_at dksX8_product_1 23 rfl rfl)
theorem dX8_product_47 : decode cX8_product 47 = .ok (.invokevirtual 284, 3) := dk_182 1 28 (dk_at dksX8_product_2 0 rfl rfl)
theorem dX8_product_50 : decode cX8_product 50 = .ok (.invokespecial 253, 3) := dk_183 0 253 (dk_at dksX8_product_2 3 rfl rfl)
theorem dX8_product_53 : decode cX8_product 53 = .ok (.astore_n 2, 1) := dk_77 (dk_at dksX8_product_2 6 rfl rfl)
theorem dX8_product_54 : decode cX8_product 54 = .ok (.goto (-48), 3) := dk_167 255 208 (dk_at dksX8_product_2 7 rfl rfl)
theorem dX8_product_57 : decode cX8_product 57 = .ok (.aload_n 2, 1) := dk_44 (dk_at dksX8_product_2 10 rfl rfl)
theorem dX8_product_58 : decode cX8_product 58 = .ok (.areturn, 1) := dk_176 (dk_at dksX8_product_2 11 rfl rfl)
abbrev cX8_part : ByteArray := prog_10_method_25_code
def yX8_part : MethodName := ⟨RX8, "part", "(I)LBlueBag$Expr;"⟩
def dkwX8_part_4 : List UInt8 := [167, 0, 4, 3, 6, 182, 0, 116, 42, 182, 0, 29, 187, 1, 43, 89, 44, 183, 1, 45, 176]
abbrev dktX8_part_4 : List UInt8 := dkwX8_part_4 ++ []
def dkwX8_part_3 : List UInt8 := [167, 0, 4, 3, 4, 182, 0, 116, 42, 42, 180, 0, 11, 182, 1, 40, 77, 42, 44, 198, 0, 7, 4]
abbrev dktX8_part_3 : List UInt8 := dkwX8_part_3 ++ dktX8_part_4
def dkwX8_part_2 : List UInt8 := [77, 42, 19, 1, 38, 182, 0, 217, 44, 176, 42, 42, 180, 0, 52, 178, 0, 76, 166, 0, 7, 4]
abbrev dktX8_part_2 : List UInt8 := dkwX8_part_2 ++ dktX8_part_3
def dkwX8_part_1 : List UInt8 := [183, 1, 37, 176, 42, 18, 244, 182, 0, 112, 153, 0, 24, 42, 182, 0, 29, 42, 27, 4, 96, 182, 0, 123]
abbrev dktX8_part_1 : List UInt8 := dkwX8_part_1 ++ dktX8_part_2
def dkwX8_part_0 : List UInt8 := [42, 180, 0, 52, 178, 0, 85, 166, 0, 19, 187, 1, 35, 89, 42, 3, 17, 39, 15, 182, 0, 146]
abbrev dktX8_part_0 : List UInt8 := dkwX8_part_0 ++ dktX8_part_1
theorem dksX8_part_0 : cX8_part.data.toList.drop 0 = dktX8_part_0 := by decide +kernel
theorem dksX8_part_1 : cX8_part.data.toList.drop 22 = dktX8_part_1 := dk_seg dksX8_part_0 22 rfl rfl
theorem dksX8_part_2 : cX8_part.data.toList.drop 46 = dktX8_part_2 := dk_seg dksX8_part_1 24 rfl rfl
theorem dksX8_part_3 : cX8_part.data.toList.drop 68 = dktX8_part_3 := dk_seg dksX8_part_2 22 rfl rfl
theorem dksX8_part_4 : cX8_part.data.toList.drop 91 = dktX8_part_4 := dk_seg dksX8_part_3 23 rfl rfl
theorem dX8_part_0 : decode cX8_part 0 = .ok (.aload_n 0, 1) := dk_42 (dk_at dksX8_part_0 0 rfl rfl)
theorem dX8_part_1 : decode cX8_part 1 = .ok (.getfield 52, 3) := dk_180 0 52 (dk_at dksX8_part_0 1 rfl rfl)
theorem dX8_part_4 : decode cX8_part 4 = .ok (.getstatic 85, 3) := dk_178 0 85 (dk_at dksX8_part_0 4 rfl rfl)
theorem dX8_part_7 : decode cX8_part 7 = .ok (.if_acmp .ne 19, 3) := dk_166 0 19 (dk_at dksX8_part_0 7 rfl rfl)
theorem dX8_part_10 : decode cX8_part 10 = .ok (.new 291, 3) := dk_187 1 35 (dk_at dksX8_part_0 10 rfl rfl)
theorem dX8_part_13 : decode cX8_part 13 = .ok (.dup, 1) := dk_89 (dk_at dksX8_part_0 13 rfl rfl)
theorem dX8_part_14 : decode cX8_part 14 = .ok (.aload_n 0, 1) := dk_42 (dk_at dksX8_part_0 14 rfl rfl)
theorem dX8_part_15 : decode cX8_part 15 = .ok (.iconst 0, 1) := dk_3 (dk_at dksX8_part_0 15 rfl rfl)
theorem dX8_part_16 : decode cX8_part 16 = .ok (.sipush 9999, 3) := dk_17 39 15 (dk_at dksX8_part_0 16 rfl rfl)
theorem dX8_part_19 : decode cX8_part 19 = .ok (.invokevirtual 146, 3) := dk_182 0 146 (dk_at dksX8_part_0 19 rfl rfl)
theorem dX8_part_22 : decode cX8_part 22 = .ok (.invokespecial 293, 3) := dk_183 1 37 (dk_at dksX8_part_1 0 rfl rfl)
theorem dX8_part_25 : decode cX8_part 25 = .ok (.areturn, 1) := dk_176 (dk_at dksX8_part_1 3 rfl rfl)
theorem dX8_part_26 : decode cX8_part 26 = .ok (.aload_n 0, 1) := dk_42 (dk_at dksX8_part_1 4 rfl rfl)
theorem dX8_part_27 : decode cX8_part 27 = .ok (.ldc 244, 2) := dk_18 244 (dk_at dksX8_part_1 5 rfl rfl)
theorem dX8_part_29 : decode cX8_part 29 = .ok (.invokevirtual 112, 3) := dk_182 0 112 (dk_at dksX8_part_1 7 rfl rfl)
theorem dX8_part_32 : decode cX8_part 32 = .ok (.ifCond .eq 24, 3) := dk_153 0 24 (dk_at dksX8_part_1 10 rfl rfl)
theorem dX8_part_35 : decode cX8_part 35 = .ok (.aload_n 0, 1) := dk_42 (dk_at dksX8_part_1 13 rfl rfl)
theorem dX8_part_36 : decode cX8_part 36 = .ok (.invokevirtual 29, 3) := dk_182 0 29 (dk_at dksX8_part_1 14 rfl rfl)
theorem dX8_part_39 : decode cX8_part 39 = .ok (.aload_n 0, 1) := dk_42 (dk_at dksX8_part_1 17 rfl rfl)
theorem dX8_part_40 : decode cX8_part 40 = .ok (.iload_n 1, 1) := dk_27 (dk_at dksX8_part_1 18 rfl rfl)
theorem dX8_part_41 : decode cX8_part 41 = .ok (.iconst 1, 1) := dk_4 (dk_at dksX8_part_1 19 rfl rfl)
theorem dX8_part_42 : decode cX8_part 42 = .ok (.iadd, 1) := dk_96 (dk_at dksX8_part_1 20 rfl rfl)
theorem dX8_part_43 : decode cX8_part 43 = .ok (.invokevirtual 123, 3) := dk_182 0 123 (dk_at dksX8_part_1 21 rfl rfl)
theorem dX8_part_46 : decode cX8_part 46 = .ok (.astore_n 2, 1) := dk_77 (dk_at dksX8_part_2 0 rfl rfl)
theorem dX8_part_47 : decode cX8_part 47 = .ok (.aload_n 0, 1) := dk_42 (dk_at dksX8_part_2 1 rfl rfl)
theorem dX8_part_48 : decode cX8_part 48 = .ok (.ldc_w 294, 3) := dk_19 1 38 (dk_at dksX8_part_2 2 rfl rfl)
theorem dX8_part_51 : decode cX8_part 51 = .ok (.invokevirtual 217, 3) := dk_182 0 217 (dk_at dksX8_part_2 5 rfl rfl)
theorem dX8_part_54 : decode cX8_part 54 = .ok (.aload_n 2, 1) := dk_44 (dk_at dksX8_part_2 8 rfl rfl)
theorem dX8_part_55 : decode cX8_part 55 = .ok (.areturn, 1) := dk_176 (dk_at dksX8_part_2 9 rfl rfl)
theorem dX8_part_56 : decode cX8_part 56 = .ok (.aload_n 0, 1) := dk_42 (dk_at dksX8_part_2 10 rfl rfl)
theorem dX8_part_57 : decode cX8_part 57 = .ok (.aload_n 0, 1) := dk_42 (dk_at dksX8_part_2 11 rfl rfl)
theorem dX8_part_58 : decode cX8_part 58 = .ok (.getfield 52, 3) := dk_180 0 52 (dk_at dksX8_part_2 12 rfl rfl)
theorem dX8_part_61 : decode cX8_part 61 = .ok (.getstatic 76, 3) := dk_178 0 76 (dk_at dksX8_part_2 15 rfl rfl)
theorem dX8_part_64 : decode cX8_part 64 = .ok (.if_acmp .ne 7, 3) := dk_166 0 7 (dk_at dksX8_part_2 18 rfl rfl)
theorem dX8_part_67 : decode cX8_part 67 = .ok (.iconst 1, 1) := dk_4 (dk_at dksX8_part_2 21 rfl rfl)
theorem dX8_part_68 : decode cX8_part 68 = .ok (.goto 4, 3) := dk_167 0 4 (dk_at dksX8_part_3 0 rfl rfl)
theorem dX8_part_71 : decode cX8_part 71 = .ok (.iconst 0, 1) := dk_3 (dk_at dksX8_part_3 3 rfl rfl)
theorem dX8_part_72 : decode cX8_part 72 = .ok (.iconst 1, 1) := dk_4 (dk_at dksX8_part_3 4 rfl rfl)
theorem dX8_part_73 : decode cX8_part 73 = .ok (.invokevirtual 116, 3) := dk_182 0 116 (dk_at dksX8_part_3 5 rfl rfl)
theorem dX8_part_76 : decode cX8_part 76 = .ok (.aload_n 0, 1) := dk_42 (dk_at dksX8_part_3 8 rfl rfl)
theorem dX8_part_77 : decode cX8_part 77 = .ok (.aload_n 0, 1) := dk_42 (dk_at dksX8_part_3 9 rfl rfl)
theorem dX8_part_78 : decode cX8_part 78 = .ok (.getfield 11, 3) := dk_180 0 11 (dk_at dksX8_part_3 10 rfl rfl)
theorem dX8_part_81 : decode cX8_part 81 = .ok (.invokevirtual 296, 3) := dk_182 1 40 (dk_at dksX8_part_3 13 rfl rfl)
theorem dX8_part_84 : decode cX8_part 84 = .ok (.astore_n 2, 1) := dk_77 (dk_at dksX8_part_3 16 rfl rfl)
theorem dX8_part_85 : decode cX8_part 85 = .ok (.aload_n 0, 1) := dk_42 (dk_at dksX8_part_3 17 rfl rfl)
theorem dX8_part_86 : decode cX8_part 86 = .ok (.aload_n 2, 1) := dk_44 (dk_at dksX8_part_3 18 rfl rfl)
theorem dX8_part_87 : decode cX8_part 87 = .ok (.ifnull 7, 3) := dk_198 0 7 (dk_at dksX8_part_3 19 rfl rfl)
theorem dX8_part_90 : decode cX8_part 90 = .ok (.iconst 1, 1) := dk_4 (dk_at dksX8_part_3 22 rfl rfl)
theorem dX8_part_91 : decode cX8_part 91 = .ok (.goto 4, 3) := dk_167 0 4 (dk_at dksX8_part_4 0 rfl rfl)
theorem dX8_part_94 : decode cX8_part 94 = .ok (.iconst 0, 1) := dk_3 (dk_at dksX8_part_4 3 rfl rfl)
theorem dX8_part_95 : decode cX8_part 95 = .ok (.iconst 3, 1) := dk_6 (dk_at dksX8_part_4 4 rfl rfl)
theorem dX8_part_96 : decode cX8_part 96 = .ok (.invokevirtual 116, 3) := dk_182 0 116 (dk_at dksX8_part_4 5 rfl rfl)
theorem dX8_part_99 : decode cX8_part 99 = .ok (.aload_n 0, 1) := dk_42 (dk_at dksX8_part_4 8 rfl rfl)
theorem dX8_part_100 : decode cX8_part 100 = .ok (.invokevirtual 29, 3) := dk_182 0 29 (dk_at dksX8_part_4 9 rfl rfl)
theorem dX8_part_103 : decode cX8_part 103 = .ok (.new 299, 3) := dk_187 1 43 (dk_at dksX8_part_4 12 rfl rfl)
theorem dX8_part_106 : decode cX8_part 106 = .ok (.dup, 1) := dk_89 (dk_at dksX8_part_4 15 rfl rfl)
theorem dX8_part_107 : decode cX8_part 107 = .ok (.aload_n 2, 1) := dk_44 (dk_at dksX8_part_4 16 rfl rfl)
theorem dX8_part_108 : decode cX8_part 108 = .ok (.invokespecial 301, 3) := dk_183 1 45 (dk_at dksX8_part_4 17 rfl rfl)
theorem dX8_part_111 : decode cX8_part 111 = .ok (.areturn, 1) := dk_176 (dk_at dksX8_part_4 20 rfl rfl)
abbrev cX8_need : ByteArray := prog_10_method_9_code
def yX8_need : MethodName := ⟨RX8, "need", "(Ljava/lang/String;)V"⟩
def dkwX8_need_0 : List UInt8 := [42, 42, 43, 182, 0, 112, 4, 182, 0, 116, 42, 182, 0, 29, 177]
abbrev dktX8_need_0 : List UInt8 := dkwX8_need_0 ++ []
theorem dksX8_need_0 : cX8_need.data.toList.drop 0 = dktX8_need_0 := by decide +kernel
theorem dX8_need_0 : decode cX8_need 0 = .ok (.aload_n 0, 1) := dk_42 (dk_at dksX8_need_0 0 rfl rfl)
theorem dX8_need_1 : decode cX8_need 1 = .ok (.aload_n 0, 1) := dk_42 (dk_at dksX8_need_0 1 rfl rfl)
theorem dX8_need_2 : decode cX8_need 2 = .ok (.aload_n 1, 1) := dk_43 (dk_at dksX8_need_0 2 rfl rfl)
theorem dX8_need_3 : decode cX8_need 3 = .ok (.invokevirtual 112, 3) := dk_182 0 112 (dk_at dksX8_need_0 3 rfl rfl)
theorem dX8_need_6 : decode cX8_need 6 = .ok (.iconst 1, 1) := dk_4 (dk_at dksX8_need_0 6 rfl rfl)
theorem dX8_need_7 : decode cX8_need 7 = .ok (.invokevirtual 116, 3) := dk_182 0 116 (dk_at dksX8_need_0 7 rfl rfl)
theorem dX8_need_10 : decode cX8_need 10 = .ok (.aload_n 0, 1) := dk_42 (dk_at dksX8_need_0 10 rfl rfl)
theorem dX8_need_11 : decode cX8_need 11 = .ok (.invokevirtual 29, 3) := dk_182 0 29 (dk_at dksX8_need_0 11 rfl rfl)
theorem dX8_need_14 : decode cX8_need 14 = .ok (.return_, 1) := dk_177 (dk_at dksX8_need_0 14 rfl rfl)
abbrev cX8_valueOf : ByteArray := prog_10_method_26_code
def yX8_valueOf : MethodName := ⟨RX8, "valueOf", "(Ljava/lang/String;)LBlueBag$Value;"⟩
def dkwX8_valueOf_5 : List UInt8 := [180, 0, 120, 161, 0, 7, 1, 167, 0, 4, 44, 176]
abbrev dktX8_valueOf_5 : List UInt8 := dkwX8_valueOf_5 ++ []
def dkwX8_valueOf_4 : List UInt8 := [182, 0, 103, 153, 0, 9, 178, 1, 70, 167, 0, 4, 1, 77, 44, 198, 0, 14, 44, 182, 0, 208, 42]
abbrev dktX8_valueOf_4 : List UInt8 := dkwX8_valueOf_4 ++ dktX8_valueOf_5
def dkwX8_valueOf_3 : List UInt8 := [199, 0, 37, 43, 19, 1, 66, 182, 0, 103, 153, 0, 9, 178, 0, 204, 167, 0, 20, 43, 19, 1, 68]
abbrev dktX8_valueOf_3 : List UInt8 := dkwX8_valueOf_3 ++ dktX8_valueOf_4
def dkwX8_valueOf_2 : List UInt8 := [167, 0, 20, 43, 19, 1, 61, 182, 0, 103, 153, 0, 9, 178, 1, 63, 167, 0, 4, 1, 77, 44]
abbrev dktX8_valueOf_2 : List UInt8 := dkwX8_valueOf_2 ++ dktX8_valueOf_3
def dkwX8_valueOf_1 : List UInt8 := [153, 0, 9, 178, 1, 53, 167, 0, 36, 43, 19, 1, 56, 182, 0, 103, 153, 0, 9, 178, 1, 58]
abbrev dktX8_valueOf_1 : List UInt8 := dkwX8_valueOf_1 ++ dktX8_valueOf_2
def dkwX8_valueOf_0 : List UInt8 := [43, 18, 221, 182, 0, 103, 153, 0, 9, 178, 1, 48, 167, 0, 52, 43, 19, 1, 51, 182, 0, 103]
abbrev dktX8_valueOf_0 : List UInt8 := dkwX8_valueOf_0 ++ dktX8_valueOf_1
theorem dksX8_valueOf_0 : cX8_valueOf.data.toList.drop 0 = dktX8_valueOf_0 := by decide +kernel
theorem dksX8_valueOf_1 : cX8_valueOf.data.toList.drop 22 = dktX8_valueOf_1 := dk_seg dksX8_valueOf_0 22 rfl rfl
theorem dksX8_valueOf_2 : cX8_valueOf.data.toList.drop 44 = dktX8_valueOf_2 := dk_seg dksX8_valueOf_1 22 rfl rfl
theorem dksX8_valueOf_3 : cX8_valueOf.data.toList.drop 66 = dktX8_valueOf_3 := dk_seg dksX8_valueOf_2 22 rfl rfl
theorem dksX8_valueOf_4 : cX8_valueOf.data.toList.drop 89 = dktX8_valueOf_4 := dk_seg dksX8_valueOf_3 23 rfl rfl
theorem dksX8_valueOf_5 : cX8_valueOf.data.toList.drop 112 = dktX8_valueOf_5 := dk_seg dksX8_valueOf_4 23 rfl rfl
theorem dX8_valueOf_0 : decode cX8_valueOf 0 = .ok (.aload_n 1, 1) := dk_43 (dk_at dksX8_valueOf_0 0 rfl rfl)
theorem dX8_valueOf_1 : decode cX8_valueOf 1 = .ok (.ldc 221, 2) := dk_18 221 (dk_at dksX8_valueOf_0 1 rfl rfl)
theorem dX8_valueOf_3 : decode cX8_valueOf 3 = .ok (.invokevirtual 103, 3) := dk_182 0 103 (dk_at dksX8_valueOf_0 3 rfl rfl)
theorem dX8_valueOf_6 : decode cX8_valueOf 6 = .ok (.ifCond .eq 9, 3) := dk_153 0 9 (dk_at dksX8_valueOf_0 6 rfl rfl)
theorem dX8_valueOf_9 : decode cX8_valueOf 9 = .ok (.getstatic 304, 3) := dk_178 1 48 (dk_at dksX8_valueOf_0 9 rfl rfl)
theorem dX8_valueOf_12 : decode cX8_valueOf 12 = .ok (.goto 52, 3) := dk_167 0 52 (dk_at dksX8_valueOf_0 12 rfl rfl)
theorem dX8_valueOf_15 : decode cX8_valueOf 15 = .ok (.aload_n 1, 1) := dk_43 (dk_at dksX8_valueOf_0 15 rfl rfl)
theorem dX8_valueOf_16 : decode cX8_valueOf 16 = .ok (.ldc_w 307, 3) := dk_19 1 51 (dk_at dksX8_valueOf_0 16 rfl rfl)
theorem dX8_valueOf_19 : decode cX8_valueOf 19 = .ok (.invokevirtual 103, 3) := dk_182 0 103 (dk_at dksX8_valueOf_0 19 rfl rfl)
theorem dX8_valueOf_22 : decode cX8_valueOf 22 = .ok (.ifCond .eq 9, 3) := dk_153 0 9 (dk_at dksX8_valueOf_1 0 rfl rfl)
theorem dX8_valueOf_25 : decode cX8_valueOf 25 = .ok (.getstatic 309, 3) := dk_178 1 53 (dk_at dksX8_valueOf_1 3 rfl rfl)
theorem dX8_valueOf_28 : decode cX8_valueOf 28 = .ok (.goto 36, 3) := dk_167 0 36 (dk_at dksX8_valueOf_1 6 rfl rfl)
theorem dX8_valueOf_31 : decode cX8_valueOf 31 = .ok (.aload_n 1, 1) := dk_43 (dk_at dksX8_valueOf_1 9 rfl rfl)
theorem dX8_valueOf_32 : decode cX8_valueOf 32 = .ok (.ldc_w 312, 3) := dk_19 1 56 (dk_at dksX8_valueOf_1 10 rfl rfl)
theorem dX8_valueOf_35 : decode cX8_valueOf 35 = .ok (.invokevirtual 103, 3) := dk_182 0 103 (dk_at dksX8_valueOf_1 13 rfl rfl)
theorem dX8_valueOf_38 : decode cX8_valueOf 38 = .ok (.ifCond .eq 9, 3) := dk_153 0 9 (dk_at dksX8_valueOf_1 16 rfl rfl)
theorem dX8_valueOf_41 : decode cX8_valueOf 41 = .ok (.getstatic 314, 3) := dk_178 1 58 (dk_at dksX8_valueOf_1 19 rfl rfl)
theorem dX8_valueOf_44 : decode cX8_valueOf 44 = .ok (.goto 20, 3) := dk_167 0 20 (dk_at dksX8_valueOf_2 0 rfl rfl)
theorem dX8_valueOf_47 : decode cX8_valueOf 47 = .ok (.aload_n 1, 1) := dk_43 (dk_at dksX8_valueOf_2 3 rfl rfl)
theorem dX8_valueOf_48 : decode cX8_valueOf 48 = .ok (.ldc_w 317, 3) := dk_19 1 61 (dk_at dksX8_valueOf_2 4 rfl rfl)
theorem dX8_valueOf_51 : decode cX8_valueOf 51 = .ok (.invokevirtual 103, 3) := dk_182 0 103 (dk_at dksX8_valueOf_2 7 rfl rfl)
theorem dX8_valueOf_54 : decode cX8_valueOf 54 = .ok (.ifCond .eq 9, 3) := dk_153 0 9 (dk_at dksX8_valueOf_2 10 rfl rfl)
theorem dX8_valueOf_57 : decode cX8_valueOf 57 = .ok (.getstatic 319, 3) := dk_178 1 63 (dk_at dksX8_valueOf_2 13 rfl rfl)
theorem dX8_valueOf_60 : decode cX8_valueOf 60 = .ok (.goto 4, 3) := dk_167 0 4 (dk_at dksX8_valueOf_2 16 rfl rfl)
theorem dX8_valueOf_63 : decode cX8_valueOf 63 = .ok (.aconst_null, 1) := dk_1 (dk_at dksX8_valueOf_2 19 rfl rfl)
theorem dX8_valueOf_64 : decode cX8_valueOf 64 = .ok (.astore_n 2, 1) := dk_77 (dk_at dksX8_valueOf_2 20 rfl rfl)
theorem dX8_valueOf_65 : decode cX8_valueOf 65 = .ok (.aload_n 2, 1) := dk_44 (dk_at dksX8_valueOf_2 21 rfl rfl)
theorem dX8_valueOf_66 : decode cX8_valueOf 66 = .ok (.ifnonnull 37, 3) := dk_199 0 37 (dk_at dksX8_valueOf_3 0 rfl rfl)
theorem dX8_valueOf_69 : decode cX8_valueOf 69 = .ok (.aload_n 1, 1) := dk_43 (dk_at dksX8_valueOf_3 3 rfl rfl)
theorem dX8_valueOf_70 : decode cX8_valueOf 70 = .ok (.ldc_w 322, 3) := dk_19 1 66 (dk_at dksX8_valueOf_3 4 rfl rfl)
theorem dX8_valueOf_73 : decode cX8_valueOf 73 = .ok (.invokevirtual 103, 3) := dk_182 0 103 (dk_at dksX8_valueOf_3 7 rfl rfl)
theorem dX8_valueOf_76 : decode cX8_valueOf 76 = .ok (.ifCond .eq 9, 3) := dk_153 0 9 (dk_at dksX8_valueOf_3 10 rfl rfl)
theorem dX8_valueOf_79 : decode cX8_valueOf 79 = .ok (.getstatic 204, 3) := dk_178 0 204 (dk_at dksX8_valueOf_3 13 rfl rfl)
theorem dX8_valueOf_82 : decode cX8_valueOf 82 = .ok (.goto 20, 3) := dk_167 0 20 (dk_at dksX8_valueOf_3 16 rfl rfl)
theorem dX8_valueOf_85 : decode cX8_valueOf 85 = .ok (.aload_n 1, 1) := dk_43 (dk_at dksX8_valueOf_3 19 rfl rfl)
theorem dX8_valueOf_86 : decode cX8_valueOf 86 = .ok (.ldc_w 324, 3) := dk_19 1 68 (dk_at dksX8_valueOf_3 20 rfl rfl)
theorem dX8_valueOf_89 : decode cX8_valueOf 89 = .ok (.invokevirtual 103, 3) := dk_182 0 103 (dk_at dksX8_valueOf_4 0 rfl rfl)
theorem dX8_valueOf_92 : decode cX8_valueOf 92 = .ok (.ifCond .eq 9, 3) := dk_153 0 9 (dk_at dksX8_valueOf_4 3 rfl rfl)
theorem dX8_valueOf_95 : decode cX8_valueOf 95 = .ok (.getstatic 326, 3) := dk_178 1 70 (dk_at dksX8_valueOf_4 6 rfl rfl)
theorem dX8_valueOf_98 : decode cX8_valueOf 98 = .ok (.goto 4, 3) := dk_167 0 4 (dk_at dksX8_valueOf_4 9 rfl rfl)
theorem dX8_valueOf_101 : decode cX8_valueOf 101 = .ok (.aconst_null, 1) := dk_1 (dk_at dksX8_valueOf_4 12 rfl rfl)
theorem dX8_valueOf_102 : decode cX8_valueOf 102 = .ok (.astore_n 2, 1) := dk_77 (dk_at dksX8_valueOf_4 13 rfl rfl)
theorem dX8_valueOf_103 : decode cX8_valueOf 103 = .ok (.aload_n 2, 1) := dk_44 (dk_at dksX8_valueOf_4 14 rfl rfl)
theorem dX8_valueOf_104 : decode cX8_valueOf 104 = .ok (.ifnull 14, 3) := dk_198 0 14 (dk_at dksX8_valueOf_4 15 rfl rfl)
theorem dX8_valueOf_107 : decode cX8_valueOf 107 = .ok (.aload_n 2, 1) := dk_44 (dk_at dksX8_valueOf_4 18 rfl rfl)
theorem dX8_valueOf_108 : decode cX8_valueOf 108 = .ok (.invokevirtual 208, 3) := dk_182 0 208 (dk_at dksX8_valueOf_4 19 rfl rfl)
theorem dX8_valueOf_111 : decode cX8_valueOf 111 = .ok (.aload_n 0, 1) := dk_42 (dk_at dksX8_valueOf_4 22 rfl rfl)
theorem dX8_valueOf_112 : decode cX8_valueOf 112 = .ok (.getfield 120, 3) := dk_180 0 120 (dk_at dksX8_valueOf_5 0 rfl rfl)
theorem dX8_valueOf_115 : decode cX8_valueOf 115 = .ok (.if_icmp .lt 7, 3) := dk_161 0 7 (dk_at dksX8_valueOf_5 3 rfl rfl)
theorem dX8_valueOf_118 : decode cX8_valueOf 118 = .ok (.aconst_null, 1) := dk_1 (dk_at dksX8_valueOf_5 6 rfl rfl)
theorem dX8_valueOf_119 : decode cX8_valueOf 119 = .ok (.goto 4, 3) := dk_167 0 4 (dk_at dksX8_valueOf_5 7 rfl rfl)
theorem dX8_valueOf_122 : decode cX8_valueOf 122 = .ok (.aload_n 2, 1) := dk_44 (dk_at dksX8_valueOf_5 10 rfl rfl)
theorem dX8_valueOf_123 : decode cX8_valueOf 123 = .ok (.areturn, 1) := dk_176 (dk_at dksX8_valueOf_5 11 rfl rfl)
abbrev cX8_cells : ByteArray := prog_10_method_19_code
def yX8_cells : MethodName := ⟨RX8, "cells", "(LBlueBag$Coast;)V"⟩
def dkwX8_cells_4 : List UInt8 := [180, 0, 230, 42, 43, 182, 0, 238, 182, 0, 241, 87, 177]
abbrev dktX8_cells_4 : List UInt8 := dkwX8_cells_4 ++ []
def dkwX8_cells_3 : List UInt8 := [42, 43, 180, 0, 230, 182, 0, 234, 16, 6, 162, 0, 7, 4, 167, 0, 4, 3, 5, 182, 0, 116, 43]
abbrev dktX8_cells_3 : List UInt8 := dkwX8_cells_3 ++ dktX8_cells_4
def dkwX8_cells_2 : List UInt8 := [182, 0, 112, 154, 0, 12, 42, 18, 153, 182, 0, 112, 153, 0, 7, 4, 167, 0, 4, 3, 4, 182, 0, 116]
abbrev dktX8_cells_2 : List UInt8 := dkwX8_cells_2 ++ dktX8_cells_3
def dkwX8_cells_1 : List UInt8 := [182, 0, 112, 153, 0, 15, 42, 182, 0, 29, 42, 43, 182, 0, 226, 167, 0, 66, 42, 42, 18, 228]
abbrev dktX8_cells_1 : List UInt8 := dkwX8_cells_1 ++ dktX8_cells_2
def dkwX8_cells_0 : List UInt8 := [42, 18, 221, 182, 0, 112, 153, 0, 15, 42, 182, 0, 29, 42, 43, 182, 0, 222, 167, 0, 87, 42, 18, 224]
abbrev dktX8_cells_0 : List UInt8 := dkwX8_cells_0 ++ dktX8_cells_1
theorem dksX8_cells_0 : cX8_cells.data.toList.drop 0 = dktX8_cells_0 := by decide +kernel
theorem dksX8_cells_1 : cX8_cells.data.toList.drop 24 = dktX8_cells_1 := dk_seg dksX8_cells_0 24 rfl rfl
theorem dksX8_cells_2 : cX8_cells.data.toList.drop 46 = dktX8_cells_2 := dk_seg dksX8_cells_1 22 rfl rfl
theorem dksX8_cells_3 : cX8_cells.data.toList.drop 70 = dktX8_cells_3 := dk_seg dksX8_cells_2 24 rfl rfl
theorem dksX8_cells_4 : cX8_cells.data.toList.drop 93 = dktX8_cells_4 := dk_seg dksX8_cells_3 23 rfl rfl
theorem dX8_cells_0 : decode cX8_cells 0 = .ok (.aload_n 0, 1) := dk_42 (dk_at dksX8_cells_0 0 rfl rfl)
theorem dX8_cells_1 : decode cX8_cells 1 = .ok (.ldc 221, 2) := dk_18 221 (dk_at dksX8_cells_0 1 rfl rfl)
theorem dX8_cells_3 : decode cX8_cells 3 = .ok (.invokevirtual 112, 3) := dk_182 0 112 (dk_at dksX8_cells_0 3 rfl rfl)
theorem dX8_cells_6 : decode cX8_cells 6 = .ok (.ifCond .eq 15, 3) := dk_153 0 15 (dk_at dksX8_cells_0 6 rfl rfl)
theorem dX8_cells_9 : decode cX8_cells 9 = .ok (.aload_n 0, 1) := dk_42 (dk_at dksX8_cells_0 9 rfl rfl)
theorem dX8_cells_10 : decode cX8_cells 10 = .ok (.invokevirtual 29, 3) := dk_182 0 29 (dk_at dksX8_cells_0 10 rfl rfl)
theorem dX8_cells_13 : decode cX8_cells 13 = .ok (.aload_n 0, 1) := dk_42 (dk_at dksX8_cells_0 13 rfl rfl)
theorem dX8_cells_14 : decode cX8_cells 14 = .ok (.aload_n 1, 1) := dk_43 (dk_at dksX8_cells_0 14 rfl rfl)
theorem dX8_cells_15 : decode cX8_cells 15 = .ok (.invokevirtual 222, 3) := dk_182 0 222 (dk_at dksX8_cells_0 15 rfl rfl)
theorem dX8_cells_18 : decode cX8_cells 18 = .ok (.goto 87, 3) := dk_167 0 87 (dk_at dksX8_cells_0 18 rfl rfl)
theorem dX8_cells_21 : decode cX8_cells 21 = .ok (.aload_n 0, 1) := dk_42 (dk_at dksX8_cells_0 21 rfl rfl)
theorem dX8_cells_22 : decode cX8_cells 22 = .ok (.ldc 224, 2) := dk_18 224 (dk_at dksX8_cells_0 22 rfl rfl)
theorem dX8_cells_24 : decode cX8_cells 24 = .ok (.invokevirtual 112, 3) := dk_182 0 112 (dk_at dksX8_cells_1 0 rfl rfl)
theorem dX8_cells_27 : decode cX8_cells 27 = .ok (.ifCond .eq 15, 3) := dk_153 0 15 (dk_at dksX8_cells_1 3 rfl rfl)
theorem dX8_cells_30 : decode cX8_cells 30 = .ok (.aload_n 0, 1) := dk_42 (dk_at dksX8_cells_1 6 rfl rfl)
theorem dX8_cells_31 : decode cX8_cells 31 = .ok (.invokevirtual 29, 3) := dk_182 0 29 (dk_at dksX8_cells_1 7 rfl rfl)
theorem dX8_cells_34 : decode cX8_cells 34 = .ok (.aload_n 0, 1) := dk_42 (dk_at dksX8_cells_1 10 rfl rfl)
theorem dX8_cells_35 : decode cX8_cells 35 = .ok (.aload_n 1, 1) := dk_43 (dk_at dksX8_cells_1 11 rfl rfl)
theorem dX8_cells_36 : decode cX8_cells 36 = .ok (.invokevirtual 226, 3) := dk_182 0 226 (dk_at dksX8_cells_1 12 rfl rfl)
theorem dX8_cells_39 : decode cX8_cells 39 = .ok (.goto 66, 3) := dk_167 0 66 (dk_at dksX8_cells_1 15 rfl rfl)
theorem dX8_cells_42 : decode cX8_cells 42 = .ok (.aload_n 0, 1) := dk_42 (dk_at dksX8_cells_1 18 rfl rfl)
theorem dX8_cells_43 : decode cX8_cells 43 = .ok (.aload_n 0, 1) := dk_42 (dk_at dksX8_cells_1 19 rfl rfl)
theorem dX8_cells_44 : decode cX8_cells 44 = .ok (.ldc 228, 2) := dk_18 228 (dk_at dksX8_cells_1 20 rfl rfl)
theorem dX8_cells_46 : decode cX8_cells 46 = .ok (.invokevirtual 112, 3) := dk_182 0 112 (dk_at dksX8_cells_2 0 rfl rfl)
theorem dX8_cells_49 : decode cX8_cells 49 = .ok (.ifCond .ne 12, 3) := dk_154 0 12 (dk_at dksX8_cells_2 3 rfl rfl)
theorem dX8_cells_52 : decode cX8_cells 52 = .ok (.aload_n 0, 1) := dk_42 (dk_at dksX8_cells_2 6 rfl rfl)
theorem dX8_cells_53 : decode cX8_cells 53 = .ok (.ldc 153, 2) := dk_18 153 (dk_at dksX8_cells_2 7 rfl rfl)
theorem dX8_cells_55 : decode cX8_cells 55 = .ok (.invokevirtual 112, 3) := dk_182 0 112 (dk_at dksX8_cells_2 9 rfl rfl)
theorem dX8_cells_58 : decode cX8_cells 58 = .ok (.ifCond .eq 7, 3) := dk_153 0 7 (dk_at dksX8_cells_2 12 rfl rfl)
theorem dX8_cells_61 : decode cX8_cells 61 = .ok (.iconst 1, 1) := dk_4 (dk_at dksX8_cells_2 15 rfl rfl)
theorem dX8_cells_62 : decode cX8_cells 62 = .ok (.goto 4, 3) := dk_167 0 4 (dk_at dksX8_cells_2 16 rfl rfl)
theorem dX8_cells_65 : decode cX8_cells 65 = .ok (.iconst 0, 1) := dk_3 (dk_at dksX8_cells_2 19 rfl rfl)
theorem dX8_cells_66 : decode cX8_cells 66 = .ok (.iconst 1, 1) := dk_4 (dk_at dksX8_cells_2 20 rfl rfl)
theorem dX8_cells_67 : decode cX8_cells 67 = .ok (.invokevirtual 116, 3) := dk_182 0 116 (dk_at dksX8_cells_2 21 rfl rfl)
theorem dX8_cells_70 : decode cX8_cells 70 = .ok (.aload_n 0, 1) := dk_42 (dk_at dksX8_cells_3 0 rfl rfl)
theorem dX8_cells_71 : decode cX8_cells 71 = .ok (.aload_n 1, 1) := dk_43 (dk_at dksX8_cells_3 1 rfl rfl)
theorem dX8_cells_72 : decode cX8_cells 72 = .ok (.getfield 230, 3) := dk_180 0 230 (dk_at dksX8_cells_3 2 rfl rfl)
theorem dX8_cells_75 : decode cX8_cells 75 = .ok (.invokevirtual 234, 3) := dk_182 0 234 (dk_at dksX8_cells_3 5 rfl rfl)
theorem dX8_cells_78 : decode cX8_cells 78 = .ok (.bipush 6, 2) := dk_16 6 (dk_at dksX8_cells_3 8 rfl rfl)
theorem dX8_cells_80 : decode cX8_cells 80 = .ok (.if_icmp .ge 7, 3) := dk_162 0 7 (dk_at dksX8_cells_3 10 rfl rfl)
theorem dX8_cells_83 : decode cX8_cells 83 = .ok (.iconst 1, 1) := dk_4 (dk_at dksX8_cells_3 13 rfl rfl)
theorem dX8_cells_84 : decode cX8_cells 84 = .ok (.goto 4, 3) := dk_167 0 4 (dk_at dksX8_cells_3 14 rfl rfl)
theorem dX8_cells_87 : decode cX8_cells 87 = .ok (.iconst 0, 1) := dk_3 (dk_at dksX8_cells_3 17 rfl rfl)
theorem dX8_cells_88 : decode cX8_cells 88 = .ok (.iconst 2, 1) := dk_5 (dk_at dksX8_cells_3 18 rfl rfl)
theorem dX8_cells_89 : decode cX8_cells 89 = .ok (.invokevirtual 116, 3) := dk_182 0 116 (dk_at dksX8_cells_3 19 rfl rfl)
theorem dX8_cells_92 : decode cX8_cells 92 = .ok (.aload_n 1, 1) := dk_43 (dk_at dksX8_cells_3 22 rfl rfl)
theorem dX8_cells_93 : decode cX8_cells 93 = .ok (.getfield 230, 3) := dk_180 0 230 (dk_at dksX8_cells_4 0 rfl rfl)
theorem dX8_cells_96 : decode cX8_cells 96 = .ok (.aload_n 0, 1) := dk_42 (dk_at dksX8_cells_4 3 rfl rfl)
theorem dX8_cells_97 : decode cX8_cells 97 = .ok (.aload_n 1, 1) := dk_43 (dk_at dksX8_cells_4 4 rfl rfl)
theorem dX8_cells_98 : decode cX8_cells 98 = .ok (.invokevirtual 238, 3) := dk_182 0 238 (dk_at dksX8_cells_4 5 rfl rfl)
theorem dX8_cells_101 : decode cX8_cells 101 = .ok (.invokevirtual 241, 3) := dk_182 0 241 (dk_at dksX8_cells_4 8 rfl rfl)
theorem dX8_cells_104 : decode cX8_cells 104 = .ok (.pop, 1) := dk_87 (dk_at dksX8_cells_4 11 rfl rfl)
theorem dX8_cells_105 : decode cX8_cells 105 = .ok (.return_, 1) := dk_177 (dk_at dksX8_cells_4 12 rfl rfl)
abbrev cX8_blue : ByteArray := prog_10_method_14_code
def yX8_blue : MethodName := ⟨RX8, "blue", "(LBlueBag$Coast;)V"⟩
def dkwX8_blue_2 : List UInt8 := [42, 3, 16, 99, 182, 0, 146, 79, 177]
abbrev dktX8_blue_2 : List UInt8 := dkwX8_blue_2 ++ []
def dkwX8_blue_1 : List UInt8 := [182, 0, 116, 42, 89, 180, 0, 139, 4, 28, 120, 128, 181, 0, 139, 42, 182, 0, 29, 43, 180, 0, 142, 28]
abbrev dktX8_blue_1 : List UInt8 := dkwX8_blue_1 ++ dktX8_blue_2
def dkwX8_blue_0 : List UInt8 := [42, 43, 182, 0, 135, 61, 42, 42, 180, 0, 139, 28, 122, 4, 126, 154, 0, 7, 4, 167, 0, 4, 3, 7]
abbrev dktX8_blue_0 : List UInt8 := dkwX8_blue_0 ++ dktX8_blue_1
theorem dksX8_blue_0 : cX8_blue.data.toList.drop 0 = dktX8_blue_0 := by decide +kernel
theorem dksX8_blue_1 : cX8_blue.data.toList.drop 24 = dktX8_blue_1 := dk_seg dksX8_blue_0 24 rfl rfl
theorem dksX8_blue_2 : cX8_blue.data.toList.drop 48 = dktX8_blue_2 := dk_seg dksX8_blue_1 24 rfl rfl
theorem dX8_blue_0 : decode cX8_blue 0 = .ok (.aload_n 0, 1) := dk_42 (dk_at dksX8_blue_0 0 rfl rfl)
theorem dX8_blue_1 : decode cX8_blue 1 = .ok (.aload_n 1, 1) := dk_43 (dk_at dksX8_blue_0 1 rfl rfl)
theorem dX8_blue_2 : decode cX8_blue 2 = .ok (.invokevirtual 135, 3) := dk_182 0 135 (dk_at dksX8_blue_0 2 rfl rfl)
theorem dX8_blue_5 : decode cX8_blue 5 = .ok (.istore_n 2, 1) := dk_61 (dk_at dksX8_blue_0 5 rfl rfl)
theorem dX8_blue_6 : decode cX8_blue 6 = .ok (.aload_n 0, 1) := dk_42 (dk_at dksX8_blue_0 6 rfl rfl)
theorem dX8_blue_7 : decode cX8_blue 7 = .ok (.aload_n 0, 1) := dk_42 (dk_at dksX8_blue_0 7 rfl rfl)
theorem dX8_blue_8 : decode cX8_blue 8 = .ok (.getfield 139, 3) := dk_180 0 139 (dk_at dksX8_blue_0 8 rfl rfl)
theorem dX8_blue_11 : decode cX8_blue 11 = .ok (.iload_n 2, 1) := dk_28 (dk_at dksX8_blue_0 11 rfl rfl)
theorem dX8_blue_12 : decode cX8_blue 12 = .ok (.ishr, 1) := dk_122 (dk_at dksX8_blue_0 12 rfl rfl)
theorem dX8_blue_13 : decode cX8_blue 13 = .ok (.iconst 1, 1) := dk_4 (dk_at dksX8_blue_0 13 rfl rfl)
theorem dX8_blue_14 : decode cX8_blue 14 = .ok (.iand, 1) := dk_126 (dk_at dksX8_blue_0 14 rfl rfl)
theorem dX8_blue_15 : decode cX8_blue 15 = .ok (.ifCond .ne 7, 3) := dk_154 0 7 (dk_at dksX8_blue_0 15 rfl rfl)
theorem dX8_blue_18 : decode cX8_blue 18 = .ok (.iconst 1, 1) := dk_4 (dk_at dksX8_blue_0 18 rfl rfl)
theorem dX8_blue_19 : decode cX8_blue 19 = .ok (.goto 4, 3) := dk_167 0 4 (dk_at dksX8_blue_0 19 rfl rfl)
theorem dX8_blue_22 : decode cX8_blue 22 = .ok (.iconst 0, 1) := dk_3 (dk_at dksX8_blue_0 22 rfl rfl)
theorem dX8_blue_23 : decode cX8_blue 23 = .ok (.iconst 4, 1) := dk_7 (dk_at dksX8_blue_0 23 rfl rfl)
theorem dX8_blue_24 : decode cX8_blue 24 = .ok (.invokevirtual 116, 3) := dk_182 0 116 (dk_at dksX8_blue_1 0 rfl rfl)
theorem dX8_blue_27 : decode cX8_blue 27 = .ok (.aload_n 0, 1) := dk_42 (dk_at dksX8_blue_1 3 rfl rfl)
theorem dX8_blue_28 : decode cX8_blue 28 = .ok (.dup, 1) := dk_89 (dk_at dksX8_blue_1 4 rfl rfl)
theorem dX8_blue_29 : decode cX8_blue 29 = .ok (.getfield 139, 3) := dk_180 0 139 (dk_at dksX8_blue_1 5 rfl rfl)
theorem dX8_blue_32 : decode cX8_blue 32 = .ok (.iconst 1, 1) := dk_4 (dk_at dksX8_blue_1 8 rfl rfl)
theorem dX8_blue_33 : decode cX8_blue 33 = .ok (.iload_n 2, 1) := dk_28 (dk_at dksX8_blue_1 9 rfl rfl)
theorem dX8_blue_34 : decode cX8_blue 34 = .ok (.ishl, 1) := dk_120 (dk_at dksX8_blue_1 10 rfl rfl)
theorem dX8_blue_35 : decode cX8_blue 35 = .ok (.ior, 1) := dk_128 (dk_at dksX8_blue_1 11 rfl rfl)
theorem dX8_blue_36 : decode cX8_blue 36 = .ok (.putfield 139, 3) := dk_181 0 139 (dk_at dksX8_blue_1 12 rfl rfl)
theorem dX8_blue_39 : decode cX8_blue 39 = .ok (.aload_n 0, 1) := dk_42 (dk_at dksX8_blue_1 15 rfl rfl)
theorem dX8_blue_40 : decode cX8_blue 40 = .ok (.invokevirtual 29, 3) := dk_182 0 29 (dk_at dksX8_blue_1 16 rfl rfl)
theorem dX8_blue_43 : decode cX8_blue 43 = .ok (.aload_n 1, 1) := dk_43 (dk_at dksX8_blue_1 19 rfl rfl)
theorem dX8_blue_44 : decode cX8_blue 44 = .ok (.getfield 142, 3) := dk_180 0 142 (dk_at dksX8_blue_1 20 rfl rfl)
theorem dX8_blue_47 : decode cX8_blue 47 = .ok (.iload_n 2, 1) := dk_28 (dk_at dksX8_blue_1 23 rfl rfl)
theorem dX8_blue_48 : decode cX8_blue 48 = .ok (.aload_n 0, 1) := dk_42 (dk_at dksX8_blue_2 0 rfl rfl)
theorem dX8_blue_49 : decode cX8_blue 49 = .ok (.iconst 0, 1) := dk_3 (dk_at dksX8_blue_2 1 rfl rfl)
theorem dX8_blue_50 : decode cX8_blue 50 = .ok (.bipush 99, 2) := dk_16 99 (dk_at dksX8_blue_2 2 rfl rfl)
theorem dX8_blue_52 : decode cX8_blue 52 = .ok (.invokevirtual 146, 3) := dk_182 0 146 (dk_at dksX8_blue_2 4 rfl rfl)
theorem dX8_blue_55 : decode cX8_blue 55 = .ok (.iastore, 1) := dk_79 (dk_at dksX8_blue_2 7 rfl rfl)
theorem dX8_blue_56 : decode cX8_blue 56 = .ok (.return_, 1) := dk_177 (dk_at dksX8_blue_2 8 rfl rfl)
abbrev cX8_cell : ByteArray := prog_10_method_13_code
def yX8_cell : MethodName := ⟨RX8, "cell", "(LBlueBag$Coast;)I"⟩
def dkwX8_cell_2 : List UInt8 := [162, 0, 7, 4, 167, 0, 4, 3, 6, 182, 0, 116, 42, 4, 181, 0, 132, 42, 180, 0, 82, 172]
abbrev dktX8_cell_2 : List UInt8 := dkwX8_cell_2 ++ []
def dkwX8_cell_1 : List UInt8 := [180, 0, 42, 154, 0, 7, 4, 167, 0, 4, 3, 5, 182, 0, 116, 42, 42, 180, 0, 82, 43, 182, 0, 127]
abbrev dktX8_cell_1 : List UInt8 := dkwX8_cell_1 ++ dktX8_cell_2
def dkwX8_cell_0 : List UInt8 := [42, 42, 180, 0, 52, 178, 0, 85, 166, 0, 7, 4, 167, 0, 4, 3, 4, 182, 0, 116, 42, 42]
abbrev dktX8_cell_0 : List UInt8 := dkwX8_cell_0 ++ dktX8_cell_1
theorem dksX8_cell_0 : cX8_cell.data.toList.drop 0 = dktX8_cell_0 := by decide +kernel
theorem dksX8_cell_1 : cX8_cell.data.toList.drop 22 = dktX8_cell_1 := dk_seg dksX8_cell_0 22 rfl rfl
theorem dksX8_cell_2 : cX8_cell.data.toList.drop 46 = dktX8_cell_2 := dk_seg dksX8_cell_1 24 rfl rfl
theorem dX8_cell_0 : decode cX8_cell 0 = .ok (.aload_n 0, 1) := dk_42 (dk_at dksX8_cell_0 0 rfl rfl)
theorem dX8_cell_1 : decode cX8_cell 1 = .ok (.aload_n 0, 1) := dk_42 (dk_at dksX8_cell_0 1 rfl rfl)
theorem dX8_cell_2 : decode cX8_cell 2 = .ok (.getfield 52, 3) := dk_180 0 52 (dk_at dksX8_cell_0 2 rfl rfl)
theorem dX8_cell_5 : decode cX8_cell 5 = .ok (.getstatic 85, 3) := dk_178 0 85 (dk_at dksX8_cell_0 5 rfl rfl)
theorem dX8_cell_8 : decode cX8_cell 8 = .ok (.if_acmp .ne 7, 3) := dk_166 0 7 (dk_at dksX8_cell_0 8 rfl rfl)
theorem dX8_cell_11 : decode cX8_cell 11 = .ok (.iconst 1, 1) := dk_4 (dk_at dksX8_cell_0 11 rfl rfl)
theorem dX8_cell_12 : decode cX8_cell 12 = .ok (.goto 4, 3) := dk_167 0 4 (dk_at dksX8_cell_0 12 rfl rfl)
theorem dX8_cell_15 : decode cX8_cell 15 = .ok (.iconst 0, 1) := dk_3 (dk_at dksX8_cell_0 15 rfl rfl)
theorem dX8_cell_16 : decode cX8_cell 16 = .ok (.iconst 1, 1) := dk_4 (dk_at dksX8_cell_0 16 rfl rfl)
theorem dX8_cell_17 : decode cX8_cell 17 = .ok (.invokevirtual 116, 3) := dk_182 0 116 (dk_at dksX8_cell_0 17 rfl rfl)
theorem dX8_cell_20 : decode cX8_cell 20 = .ok (.aload_n 0, 1) := dk_42 (dk_at dksX8_cell_0 20 rfl rfl)
theorem dX8_cell_21 : decode cX8_cell 21 = .ok (.aload_n 0, 1) := dk_42 (dk_at dksX8_cell_0 21 rfl rfl)
theorem dX8_cell_22 : decode cX8_cell 22 = .ok (.getfield 42, 3) := dk_180 0 42 (dk_at dksX8_cell_1 0 rfl rfl)
theorem dX8_cell_25 : decode cX8_cell 25 = .ok (.ifCond .ne 7, 3) := dk_154 0 7 (dk_at dksX8_cell_1 3 rfl rfl)
theorem dX8_cell_28 : decode cX8_cell 28 = .ok (.iconst 1, 1) := dk_4 (dk_at dksX8_cell_1 6 rfl rfl)
theorem dX8_cell_29 : decode cX8_cell 29 = .ok (.goto 4, 3) := dk_167 0 4 (dk_at dksX8_cell_1 7 rfl rfl)
theorem dX8_cell_32 : decode cX8_cell 32 = .ok (.iconst 0, 1) := dk_3 (dk_at dksX8_cell_1 10 rfl rfl)
theorem dX8_cell_33 : decode cX8_cell 33 = .ok (.iconst 2, 1) := dk_5 (dk_at dksX8_cell_1 11 rfl rfl)
theorem dX8_cell_34 : decode cX8_cell 34 = .ok (.invokevirtual 116, 3) := dk_182 0 116 (dk_at dksX8_cell_1 12 rfl rfl)
theorem dX8_cell_37 : decode cX8_cell 37 = .ok (.aload_n 0, 1) := dk_42 (dk_at dksX8_cell_1 15 rfl rfl)
theorem dX8_cell_38 : decode cX8_cell 38 = .ok (.aload_n 0, 1) := dk_42 (dk_at dksX8_cell_1 16 rfl rfl)
theorem dX8_cell_39 : decode cX8_cell 39 = .ok (.getfield 82, 3) := dk_180 0 82 (dk_at dksX8_cell_1 17 rfl rfl)
theorem dX8_cell_42 : decode cX8_cell 42 = .ok (.aload_n 1, 1) := dk_43 (dk_at dksX8_cell_1 20 rfl rfl)
theorem dX8_cell_43 : decode cX8_cell 43 = .ok (.invokevirtual 127, 3) := dk_182 0 127 (dk_at dksX8_cell_1 21 rfl rfl)
theorem dX8_cell_46 : decode cX8_cell 46 = .ok (.if_icmp .ge 7, 3) := dk_162 0 7 (dk_at dksX8_cell_2 0 rfl rfl)
theorem dX8_cell_49 : decode cX8_cell 49 = .ok (.iconst 1, 1) := dk_4 (dk_at dksX8_cell_2 3 rfl rfl)
theorem dX8_cell_50 : decode cX8_cell 50 = .ok (.goto 4, 3) := dk_167 0 4 (dk_at dksX8_cell_2 4 rfl rfl)
theorem dX8_cell_53 : decode cX8_cell 53 = .ok (.iconst 0, 1) := dk_3 (dk_at dksX8_cell_2 7 rfl rfl)
theorem dX8_cell_54 : decode cX8_cell 54 = .ok (.iconst 3, 1) := dk_6 (dk_at dksX8_cell_2 8 rfl rfl)
theorem dX8_cell_55 : decode cX8_cell 55 = .ok (.invokevirtual 116, 3) := dk_182 0 116 (dk_at dksX8_cell_2 9 rfl rfl)
theorem dX8_cell_58 : decode cX8_cell 58 = .ok (.aload_n 0, 1) := dk_42 (dk_at dksX8_cell_2 12 rfl rfl)
theorem dX8_cell_59 : decode cX8_cell 59 = .ok (.iconst 1, 1) := dk_4 (dk_at dksX8_cell_2 13 rfl rfl)
theorem dX8_cell_60 : decode cX8_cell 60 = .ok (.putfield 132, 3) := dk_181 0 132 (dk_at dksX8_cell_2 14 rfl rfl)
theorem dX8_cell_63 : decode cX8_cell 63 = .ok (.aload_n 0, 1) := dk_42 (dk_at dksX8_cell_2 17 rfl rfl)
theorem dX8_cell_64 : decode cX8_cell 64 = .ok (.getfield 82, 3) := dk_180 0 82 (dk_at dksX8_cell_2 18 rfl rfl)
theorem dX8_cell_67 : decode cX8_cell 67 = .ok (.ireturn, 1) := dk_172 (dk_at dksX8_cell_2 21 rfl rfl)
abbrev cX8_pegs : ByteArray := prog_10_method_15_code
def yX8_pegs : MethodName := ⟨RX8, "pegs", "(LBlueBag$Coast;)V"⟩
def dkwX8_pegs_2 : List UInt8 := [178, 0, 85, 165, 255, 206, 177]
abbrev dktX8_pegs_2 : List UInt8 := dkwX8_pegs_2 ++ []
def dkwX8_pegs_1 : List UInt8 := [182, 0, 116, 43, 89, 180, 0, 150, 4, 28, 120, 128, 181, 0, 150, 42, 182, 0, 29, 42, 180, 0, 52]
abbrev dktX8_pegs_1 : List UInt8 := dkwX8_pegs_1 ++ dktX8_pegs_2
def dkwX8_pegs_0 : List UInt8 := [42, 43, 182, 0, 135, 61, 42, 43, 180, 0, 150, 28, 122, 4, 126, 154, 0, 7, 4, 167, 0, 4, 3, 7]
abbrev dktX8_pegs_0 : List UInt8 := dkwX8_pegs_0 ++ dktX8_pegs_1
theorem dksX8_pegs_0 : cX8_pegs.data.toList.drop 0 = dktX8_pegs_0 := by decide +kernel
theorem dksX8_pegs_1 : cX8_pegs.data.toList.drop 24 = dktX8_pegs_1 := dk_seg dksX8_pegs_0 24 rfl rfl
theorem dksX8_pegs_2 : cX8_pegs.data.toList.drop 47 = dktX8_pegs_2 := dk_seg dksX8_pegs_1 23 rfl rfl
theorem dX8_pegs_0 : decode cX8_pegs 0 = .ok (.aload_n 0, 1) := dk_42 (dk_at dksX8_pegs_0 0 rfl rfl)
theorem dX8_pegs_1 : decode cX8_pegs 1 = .ok (.aload_n 1, 1) := dk_43 (dk_at dksX8_pegs_0 1 rfl rfl)
theorem dX8_pegs_2 : decode cX8_pegs 2 = .ok (.invokevirtual 135, 3) := dk_182 0 135 (dk_at dksX8_pegs_0 2 rfl rfl)
theorem dX8_pegs_5 : decode cX8_pegs 5 = .ok (.istore_n 2, 1) := dk_61 (dk_at dksX8_pegs_0 5 rfl rfl)
theorem dX8_pegs_6 : decode cX8_pegs 6 = .ok (.aload_n 0, 1) := dk_42 (dk_at dksX8_pegs_0 6 rfl rfl)
theorem dX8_pegs_7 : decode cX8_pegs 7 = .ok (.aload_n 1, 1) := dk_43 (dk_at dksX8_pegs_0 7 rfl rfl)
theorem dX8_pegs_8 : decode cX8_pegs 8 = .ok (.getfield 150, 3) := dk_180 0 150 (dk_at dksX8_pegs_0 8 rfl rfl)
theorem dX8_pegs_11 : decode cX8_pegs 11 = .ok (.iload_n 2, 1) := dk_28 (dk_at dksX8_pegs_0 11 rfl rfl)
theorem dX8_pegs_12 : decode cX8_pegs 12 = .ok (.ishr, 1) := dk_122 (dk_at dksX8_pegs_0 12 rfl rfl)
theorem dX8_pegs_13 : decode cX8_pegs 13 = .ok (.iconst 1, 1) := dk_4 (dk_at dksX8_pegs_0 13 rfl rfl)
theorem dX8_pegs_14 : decode cX8_pegs 14 = .ok (.iand, 1) := dk_126 (dk_at dksX8_pegs_0 14 rfl rfl)
theorem dX8_pegs_15 : decode cX8_pegs 15 = .ok (.ifCond .ne 7, 3) := dk_154 0 7 (dk_at dksX8_pegs_0 15 rfl rfl)
theorem dX8_pegs_18 : decode cX8_pegs 18 = .ok (.iconst 1, 1) := dk_4 (dk_at dksX8_pegs_0 18 rfl rfl)
theorem dX8_pegs_19 : decode cX8_pegs 19 = .ok (.goto 4, 3) := dk_167 0 4 (dk_at dksX8_pegs_0 19 rfl rfl)
theorem dX8_pegs_22 : decode cX8_pegs 22 = .ok (.iconst 0, 1) := dk_3 (dk_at dksX8_pegs_0 22 rfl rfl)
theorem dX8_pegs_23 : decode cX8_pegs 23 = .ok (.iconst 4, 1) := dk_7 (dk_at dksX8_pegs_0 23 rfl rfl)
theorem dX8_pegs_24 : decode cX8_pegs 24 = .ok (.invokevirtual 116, 3) := dk_182 0 116 (dk_at dksX8_pegs_1 0 rfl rfl)
theorem dX8_pegs_27 : decode cX8_pegs 27 = .ok (.aload_n 1, 1) := dk_43 (dk_at dksX8_pegs_1 3 rfl rfl)
theorem dX8_pegs_28 : decode cX8_pegs 28 = .ok (.dup, 1) := dk_89 (dk_at dksX8_pegs_1 4 rfl rfl)
theorem dX8_pegs_29 : decode cX8_pegs 29 = .ok (.getfield 150, 3) := dk_180 0 150 (dk_at dksX8_pegs_1 5 rfl rfl)
theorem dX8_pegs_32 : decode cX8_pegs 32 = .ok (.iconst 1, 1) := dk_4 (dk_at dksX8_pegs_1 8 rfl rfl)
theorem dX8_pegs_33 : decode cX8_pegs 33 = .ok (.iload_n 2, 1) := dk_28 (dk_at dksX8_pegs_1 9 rfl rfl)
theorem dX8_pegs_34 : decode cX8_pegs 34 = .ok (.ishl, 1) := dk_120 (dk_at dksX8_pegs_1 10 rfl rfl)
theorem dX8_pegs_35 : decode cX8_pegs 35 = .ok (.ior, 1) := dk_128 (dk_at dksX8_pegs_1 11 rfl rfl)
theorem dX8_pegs_36 : decode cX8_pegs 36 = .ok (.putfield 150, 3) := dk_181 0 150 (dk_at dksX8_pegs_1 12 rfl rfl)
theorem dX8_pegs_39 : decode cX8_pegs 39 = .ok (.aload_n 0, 1) := dk_42 (dk_at dksX8_pegs_1 15 rfl rfl)
theorem dX8_pegs_40 : decode cX8_pegs 40 = .ok (.invokevirtual 29, 3) := dk_182 0 29 (dk_at dksX8_pegs_1 16 rfl rfl)
theorem dX8_pegs_43 : decode cX8_pegs 43 = .ok (.aload_n 0, 1) := dk_42 (dk_at dksX8_pegs_1 19 rfl rfl)
theorem dX8_pegs_44 : decode cX8_pegs 44 = .ok (.getfield 52, 3) := dk_180 0 52 (dk_at dksX8_pegs_1 20 rfl rfl)
theorem dX8_pegs_47 : decode cX8_pegs 47 = .ok (.getstatic 85, 3) := dk_178 0 85 (dk_at dksX8_pegs_2 0 rfl rfl)
theorem dX8_pegs_50 : decode cX8_pegs 50 = .ok (.if_acmp .eq (-50), 3) := dk_165 255 206 (dk_at dksX8_pegs_2 3 rfl rfl)
theorem dX8_pegs_53 : decode cX8_pegs 53 = .ok (.return_, 1) := dk_177 (dk_at dksX8_pegs_2 6 rfl rfl)
abbrev cX8_girl : ByteArray := prog_10_method_16_code
def yX8_girl : MethodName := ⟨RX8, "girl", "(LBlueBag$Coast;)LBlueBag$Girl;"⟩
def dkwX8_girl_2 : List UInt8 := [187, 0, 158, 89, 29, 21, 4, 183, 0, 160, 176]
abbrev dktX8_girl_2 : List UInt8 := dkwX8_girl_2 ++ []
def dkwX8_girl_1 : List UInt8 := [54, 4, 42, 182, 0, 29, 28, 153, 0, 16, 187, 0, 155, 89, 29, 21, 4, 183, 0, 157, 167, 0, 13]
abbrev dktX8_girl_1 : List UInt8 := dkwX8_girl_1 ++ dktX8_girl_2
def dkwX8_girl_0 : List UInt8 := [42, 18, 153, 182, 0, 112, 61, 42, 182, 0, 29, 42, 3, 16, 9, 182, 0, 146, 62, 42, 43, 182, 0, 135]
abbrev dktX8_girl_0 : List UInt8 := dkwX8_girl_0 ++ dktX8_girl_1
theorem dksX8_girl_0 : cX8_girl.data.toList.drop 0 = dktX8_girl_0 := by decide +kernel
theorem dksX8_girl_1 : cX8_girl.data.toList.drop 24 = dktX8_girl_1 := dk_seg dksX8_girl_0 24 rfl rfl
theorem dksX8_girl_2 : cX8_girl.data.toList.drop 47 = dktX8_girl_2 := dk_seg dksX8_girl_1 23 rfl rfl
theorem dX8_girl_0 : decode cX8_girl 0 = .ok (.aload_n 0, 1) := dk_42 (dk_at dksX8_girl_0 0 rfl rfl)
theorem dX8_girl_1 : decode cX8_girl 1 = .ok (.ldc 153, 2) := dk_18 153 (dk_at dksX8_girl_0 1 rfl rfl)
theorem dX8_girl_3 : decode cX8_girl 3 = .ok (.invokevirtual 112, 3) := dk_182 0 112 (dk_at dksX8_girl_0 3 rfl rfl)
theorem dX8_girl_6 : decode cX8_girl 6 = .ok (.istore_n 2, 1) := dk_61 (dk_at dksX8_girl_0 6 rfl rfl)
theorem dX8_girl_7 : decode cX8_girl 7 = .ok (.aload_n 0, 1) := dk_42 (dk_at dksX8_girl_0 7 rfl rfl)
theorem dX8_girl_8 : decode cX8_girl 8 = .ok (.invokevirtual 29, 3) := dk_182 0 29 (dk_at dksX8_girl_0 8 rfl rfl)
theorem dX8_girl_11 : decode cX8_girl 11 = .ok (.aload_n 0, 1) := dk_42 (dk_at dksX8_girl_0 11 rfl rfl)
theorem dX8_girl_12 : decode cX8_girl 12 = .ok (.iconst 0, 1) := dk_3 (dk_at dksX8_girl_0 12 rfl rfl)
theorem dX8_girl_13 : decode cX8_girl 13 = .ok (.bipush 9, 2) := dk_16 9 (dk_at dksX8_girl_0 13 rfl rfl)
theorem dX8_girl_15 : decode cX8_girl 15 = .ok (.invokevirtual 146, 3) := dk_182 0 146 (dk_at dksX8_girl_0 15 rfl rfl)
theorem dX8_girl_18 : decode cX8_girl 18 = .ok (.istore_n 3, 1) := dk_62 (dk_at dksX8_girl_0 18 rfl rfl)
theorem dX8_girl_19 : decode cX8_girl 19 = .ok (.aload_n 0, 1) := dk_42 (dk_at dksX8_girl_0 19 rfl rfl)
theorem dX8_girl_20 : decode cX8_girl 20 = .ok (.aload_n 1, 1) := dk_43 (dk_at dksX8_girl_0 20 rfl rfl)
theorem dX8_girl_21 : decode cX8_girl 21 = .ok (.invokevirtual 135, 3) := dk_182 0 135 (dk_at dksX8_girl_0 21 rfl rfl)
theorem dX8_girl_24 : decode cX8_girl 24 = .ok (.istore 4, 2) := dk_54 4 (dk_at dksX8_girl_1 0 rfl rfl)
theorem dX8_girl_26 : decode cX8_girl 26 = .ok (.aload_n 0, 1) := dk_42 (dk_at dksX8_girl_1 2 rfl rfl)
theorem dX8_girl_27 : decode cX8_girl 27 = .ok (.invokevirtual 29, 3) := dk_182 0 29 (dk_at dksX8_girl_1 3 rfl rfl)
theorem dX8_girl_30 : decode cX8_girl 30 = .ok (.iload_n 2, 1) := dk_28 (dk_at dksX8_girl_1 6 rfl rfl)
theorem dX8_girl_31 : decode cX8_girl 31 = .ok (.ifCond .eq 16, 3) := dk_153 0 16 (dk_at dksX8_girl_1 7 rfl rfl)
theorem dX8_girl_34 : decode cX8_girl 34 = .ok (.new 155, 3) := dk_187 0 155 (dk_at dksX8_girl_1 10 rfl rfl)
theorem dX8_girl_37 : decode cX8_girl 37 = .ok (.dup, 1) := dk_89 (dk_at dksX8_girl_1 13 rfl rfl)
theorem dX8_girl_38 : decode cX8_girl 38 = .ok (.iload_n 3, 1) := dk_29 (dk_at dksX8_girl_1 14 rfl rfl)
theorem dX8_girl_39 : decode cX8_girl 39 = .ok (.iload 4, 2) := dk_21 4 (dk_at dksX8_girl_1 15 rfl rfl)
theorem dX8_girl_41 : decode cX8_girl 41 = .ok (.invokespecial 157, 3) := dk_183 0 157 (dk_at dksX8_girl_1 17 rfl rfl)
theorem dX8_girl_44 : decode cX8_girl 44 = .ok (.goto 13, 3) := dk_167 0 13 (dk_at dksX8_girl_1 20 rfl rfl)
theorem dX8_girl_47 : decode cX8_girl 47 = .ok (.new 158, 3) := dk_187 0 158 (dk_at dksX8_girl_2 0 rfl rfl)
theorem dX8_girl_50 : decode cX8_girl 50 = .ok (.dup, 1) := dk_89 (dk_at dksX8_girl_2 3 rfl rfl)
theorem dX8_girl_51 : decode cX8_girl 51 = .ok (.iload_n 3, 1) := dk_29 (dk_at dksX8_girl_2 4 rfl rfl)
theorem dX8_girl_52 : decode cX8_girl 52 = .ok (.iload 4, 2) := dk_21 4 (dk_at dksX8_girl_2 5 rfl rfl)
theorem dX8_girl_54 : decode cX8_girl 54 = .ok (.invokespecial 160, 3) := dk_183 0 160 (dk_at dksX8_girl_2 7 rfl rfl)
theorem dX8_girl_57 : decode cX8_girl 57 = .ok (.areturn, 1) := dk_176 (dk_at dksX8_girl_2 10 rfl rfl)
theorem q141 : (Jvm.Cond.initialized "BlueBag$Reader") ∈ lw_all := lw_g (lw_at lw_m1 29 rfl) rfl
theorem q533 : (Jvm.Cond.fieldLinkNest "BlueBag$Reader" (164 : Nat) "BlueBag$Coast" "wide" "I" "BlueBag") ∈ lw_tbl := lw_at lw_m2 181 rfl
theorem q535 : (Jvm.Cond.fieldLinkNest "BlueBag$Reader" (161 : Nat) "BlueBag$Coast" "high" "I" "BlueBag") ∈ lw_tbl := lw_at lw_m2 183 rfl
theorem q539 : (Jvm.Cond.fieldLinkNest "BlueBag$Reader" (179 : Nat) "BlueBag$Coast" "knobs" "I" "BlueBag") ∈ lw_tbl := lw_at lw_m2 187 rfl
theorem q543 : (Jvm.Cond.fieldLinkNest "BlueBag$Reader" (183 : Nat) "BlueBag$Coast" "rinse" "I" "BlueBag") ∈ lw_tbl := lw_at lw_m2 191 rfl
theorem q547 : (Jvm.Cond.fieldLinkNest "BlueBag$Reader" (187 : Nat) "BlueBag$Coast" "bound" "I" "BlueBag") ∈ lw_tbl := lw_at lw_m2 195 rfl
theorem q549 : (Jvm.Cond.fieldLinkNest "BlueBag$Reader" (150 : Nat) "BlueBag$Coast" "pegs" "I" "BlueBag") ∈ lw_tbl := lw_at lw_m2 197 rfl
theorem q552 : (Jvm.Cond.fieldLinkNest "BlueBag$Reader" (142 : Nat) "BlueBag$Coast" "blue" "[I" "BlueBag") ∈ lw_tbl := lw_at lw_m2 200 rfl
theorem q556 : (Jvm.Cond.fieldLinkNest "BlueBag$Reader" (230 : Nat) "BlueBag$Coast" "girls" "Ljava/util/ArrayList;" "BlueBag") ∈ lw_tbl := lw_at lw_m2 204 rfl
theorem q558 : (Jvm.Cond.fieldLinkNest "BlueBag$Reader" (199 : Nat) "BlueBag$Coast" "dyes" "LBlueBag$Expr;" "BlueBag") ∈ lw_tbl := lw_at lw_m2 206 rfl
theorem q560 : (Jvm.Cond.fieldLinkNest "BlueBag$Reader" (211 : Nat) "BlueBag$Coast" "fades" "LBlueBag$Expr;" "BlueBag") ∈ lw_tbl := lw_at lw_m2 208 rfl
theorem q673 : (Jvm.Cond.selects "BlueBag$Reader" ({ cls := "java/lang/Object", name := "getClass", desc := "()Ljava/lang/Class;" } : Jvm.MethodName) ({ cls := "java/lang/Object", name := "getClass", desc := "()Ljava/lang/Class;" } : Jvm.MethodName)) ∈ lw_all := lw_g (lw_at lw_m3 81 rfl) rfl
theorem q1036 : (Jvm.Cond.instantiable "BlueBag$Reader" (12 : Nat)) ∈ lw_all := lw_g (lw_at lw_m4 204 rfl) rfl
theorem q1038 : (Jvm.Cond.instanceMethod ({ cls := "BlueBag$Reader", name := "<init>", desc := "([BI)V" } : Jvm.MethodName)) ∈ lw_all := lw_g (lw_at lw_m4 206 rfl) rfl
theorem q1039 : (Jvm.Cond.code ({ cls := "BlueBag$Reader", name := "<init>", desc := "([BI)V" } : Jvm.MethodName) prog_10_method_1_code (3 : Nat) (Option.none : Option Jvm.ClassFile.FieldType)) ∈ lw_all := lw_g (lw_at lw_m4 207 rfl) rfl
theorem q1040 : (Jvm.Cond.methodLink "BlueBag$Reader" (3 : Nat) ({ cls := "java/lang/Object", name := "<init>", desc := "()V" } : Jvm.MethodName)) ∈ lw_all := lw_g (lw_at lw_m4 208 rfl) rfl
theorem q1041 : (Jvm.Cond.stringRef "BlueBag$Reader" (9 : Nat) "") ∈ lw_tbl := lw_at lw_m4 209 rfl
theorem q1042 : (Jvm.Cond.methodLink "BlueBag$Reader" (29 : Nat) ({ cls := "BlueBag$Reader", name := "go", desc := "()V" } : Jvm.MethodName)) ∈ lw_all := lw_g (lw_at lw_m4 210 rfl) rfl
theorem q1043 : (Jvm.Cond.privateMethod ({ cls := "BlueBag$Reader", name := "go", desc := "()V" } : Jvm.MethodName)) ∈ lw_tbl := lw_at lw_m4 211 rfl
theorem q1044 : (Jvm.Cond.instanceMethod ({ cls := "BlueBag$Reader", name := "go", desc := "()V" } : Jvm.MethodName)) ∈ lw_all := lw_g (lw_at lw_m4 212 rfl) rfl
theorem q1045 : (Jvm.Cond.code ({ cls := "BlueBag$Reader", name := "go", desc := "()V" } : Jvm.MethodName) prog_10_method_6_code (3 : Nat) (Option.none : Option Jvm.ClassFile.FieldType)) ∈ lw_all := lw_g (lw_at lw_m4 213 rfl) rfl
theorem q1046 : (Jvm.Cond.methodLink "BlueBag$Reader" (35 : Nat) ({ cls := "BlueBag$Reader", name := "byteAt", desc := "(I)I" } : Jvm.MethodName)) ∈ lw_all := lw_g (lw_at lw_m4 214 rfl) rfl
theorem q1047 : (Jvm.Cond.privateMethod ({ cls := "BlueBag$Reader", name := "byteAt", desc := "(I)I" } : Jvm.MethodName)) ∈ lw_tbl := lw_at lw_m4 215 rfl
theorem q1048 : (Jvm.Cond.instanceMethod ({ cls := "BlueBag$Reader", name := "byteAt", desc := "(I)I" } : Jvm.MethodName)) ∈ lw_all := lw_g (lw_at lw_m4 216 rfl) rfl
theorem q1049 : (Jvm.Cond.code ({ cls := "BlueBag$Reader", name := "byteAt", desc := "(I)I" } : Jvm.MethodName) prog_10_method_2_code (2 : Nat) (Option.some Jvm.ClassFile.FieldType.int)) ∈ lw_all := lw_g (lw_at lw_m4 217 rfl) rfl
theorem q1050 : (Jvm.Cond.fieldLink "BlueBag$Reader" (46 : Nat) "BlueBag$Sort" "END" "LBlueBag$Sort;") ∈ lw_all := lw_g (lw_at lw_m4 218 rfl) rfl
theorem q1052 : (Jvm.Cond.methodLink "BlueBag$Reader" (55 : Nat) ({ cls := "BlueBag$Reader", name := "isLetter", desc := "(I)Z" } : Jvm.MethodName)) ∈ lw_all := lw_g (lw_at lw_m4 220 rfl) rfl
theorem q1053 : (Jvm.Cond.static ({ cls := "BlueBag$Reader", name := "isLetter", desc := "(I)Z" } : Jvm.MethodName)) ∈ lw_all := lw_g (lw_at lw_m4 221 rfl) rfl
theorem q1054 : (Jvm.Cond.code ({ cls := "BlueBag$Reader", name := "isLetter", desc := "(I)Z" } : Jvm.MethodName) prog_10_method_3_code (1 : Nat) (Option.some Jvm.ClassFile.FieldType.boolean)) ∈ lw_all := lw_g (lw_at lw_m4 222 rfl) rfl
theorem q1055 : (Jvm.Cond.classLink "BlueBag$Reader" (59 : Nat) "java/lang/StringBuilder") ∈ lw_all := lw_g (lw_at lw_m4 223 rfl) rfl
theorem q1056 : (Jvm.Cond.methodLink "BlueBag$Reader" (61 : Nat) ({ cls := "java/lang/StringBuilder", name := "<init>", desc := "(I)V" } : Jvm.MethodName)) ∈ lw_all := lw_g (lw_at lw_m4 224 rfl) rfl
theorem q1059 : (Jvm.Cond.methodLink "BlueBag$Reader" (64 : Nat) ({ cls := "java/lang/StringBuilder", name := "length", desc := "()I" } : Jvm.MethodName)) ∈ lw_all := lw_g (lw_at lw_m4 227 rfl) rfl
theorem q1060 : (Jvm.Cond.methodLink "BlueBag$Reader" (68 : Nat) ({ cls := "java/lang/StringBuilder", name := "append", desc := "(C)Ljava/lang/StringBuilder;" } : Jvm.MethodName)) ∈ lw_all := lw_g (lw_at lw_m4 228 rfl) rfl
theorem q1080 : (Jvm.Cond.methodLink "BlueBag$Reader" (72 : Nat) ({ cls := "java/lang/StringBuilder", name := "toString", desc := "()Ljava/lang/String;" } : Jvm.MethodName)) ∈ lw_all := lw_g (lw_at lw_m5 8 rfl) rfl
theorem q1081 : (Jvm.Cond.fieldLink "BlueBag$Reader" (76 : Nat) "BlueBag$Sort" "WORD" "LBlueBag$Sort;") ∈ lw_all := lw_g (lw_at lw_m5 9 rfl) rfl
theorem q1083 : (Jvm.Cond.methodLink "BlueBag$Reader" (79 : Nat) ({ cls := "BlueBag$Reader", name := "isDigit", desc := "(I)Z" } : Jvm.MethodName)) ∈ lw_all := lw_g (lw_at lw_m5 11 rfl) rfl
theorem q1084 : (Jvm.Cond.static ({ cls := "BlueBag$Reader", name := "isDigit", desc := "(I)Z" } : Jvm.MethodName)) ∈ lw_all := lw_g (lw_at lw_m5 12 rfl) rfl
theorem q1085 : (Jvm.Cond.code ({ cls := "BlueBag$Reader", name := "isDigit", desc := "(I)Z" } : Jvm.MethodName) prog_10_method_4_code (1 : Nat) (Option.some Jvm.ClassFile.FieldType.boolean)) ∈ lw_all := lw_g (lw_at lw_m5 13 rfl) rfl
theorem q1086 : (Jvm.Cond.fieldLink "BlueBag$Reader" (85 : Nat) "BlueBag$Sort" "NUMBER" "LBlueBag$Sort;") ∈ lw_all := lw_g (lw_at lw_m5 14 rfl) rfl
theorem q1088 : (Jvm.Cond.methodLink "BlueBag$Reader" (88 : Nat) ({ cls := "BlueBag$Reader", name := "isSign", desc := "(I)Z" } : Jvm.MethodName)) ∈ lw_all := lw_g (lw_at lw_m5 16 rfl) rfl
theorem q1089 : (Jvm.Cond.static ({ cls := "BlueBag$Reader", name := "isSign", desc := "(I)Z" } : Jvm.MethodName)) ∈ lw_all := lw_g (lw_at lw_m5 17 rfl) rfl
theorem q1090 : (Jvm.Cond.code ({ cls := "BlueBag$Reader", name := "isSign", desc := "(I)Z" } : Jvm.MethodName) prog_10_method_5_code (1 : Nat) (Option.some Jvm.ClassFile.FieldType.boolean)) ∈ lw_all := lw_g (lw_at lw_m5 18 rfl) rfl
theorem q1091 : (Jvm.Cond.fieldLink "BlueBag$Reader" (91 : Nat) "BlueBag$Sort" "SIGN" "LBlueBag$Sort;") ∈ lw_all := lw_g (lw_at lw_m5 19 rfl) rfl
theorem q1093 : (Jvm.Cond.fieldLink "BlueBag$Reader" (94 : Nat) "BlueBag$Sort" "BAD" "LBlueBag$Sort;") ∈ lw_all := lw_g (lw_at lw_m5 21 rfl) rfl
theorem q1095 : (Jvm.Cond.methodLink "BlueBag$Reader" (97 : Nat) ({ cls := "java/lang/String", name := "valueOf", desc := "(C)Ljava/lang/String;" } : Jvm.MethodName)) ∈ lw_all := lw_g (lw_at lw_m5 23 rfl) rfl
theorem q1109 : (Jvm.Cond.fieldLink "BlueBag$Reader" (21 : Nat) "BlueBag$Reader" "text" "[B") ∈ lw_all := lw_g (lw_at lw_m5 37 rfl) rfl
theorem q1110 : (Jvm.Cond.fieldLink "BlueBag$Reader" (25 : Nat) "BlueBag$Reader" "size" "I") ∈ lw_all := lw_g (lw_at lw_m5 38 rfl) rfl
theorem q1111 : (Jvm.Cond.fieldLink "BlueBag$Reader" (32 : Nat) "BlueBag$Reader" "next" "I") ∈ lw_all := lw_g (lw_at lw_m5 39 rfl) rfl
theorem q1112 : (Jvm.Cond.fieldLink "BlueBag$Reader" (39 : Nat) "BlueBag$Reader" "place" "I") ∈ lw_all := lw_g (lw_at lw_m5 40 rfl) rfl
theorem q1113 : (Jvm.Cond.fieldLink "BlueBag$Reader" (82 : Nat) "BlueBag$Reader" "value" "I") ∈ lw_all := lw_g (lw_at lw_m5 41 rfl) rfl
theorem q1114 : (Jvm.Cond.fieldLink "BlueBag$Reader" (42 : Nat) "BlueBag$Reader" "isLong" "Z") ∈ lw_all := lw_g (lw_at lw_m5 42 rfl) rfl
theorem q1115 : (Jvm.Cond.fieldLink "BlueBag$Reader" (52 : Nat) "BlueBag$Reader" "sort" "LBlueBag$Sort;") ∈ lw_all := lw_g (lw_at lw_m5 43 rfl) rfl
theorem q1116 : (Jvm.Cond.fieldLink "BlueBag$Reader" (11 : Nat) "BlueBag$Reader" "word" "Ljava/lang/String;") ∈ lw_all := lw_g (lw_at lw_m5 44 rfl) rfl
theorem q1117 : (Jvm.Cond.fieldLink "BlueBag$Reader" (17 : Nat) "BlueBag$Reader" "has" "[Z") ∈ lw_all := lw_g (lw_at lw_m5 45 rfl) rfl
theorem q1118 : (Jvm.Cond.fieldLink "BlueBag$Reader" (139 : Nat) "BlueBag$Reader" "told" "I") ∈ lw_all := lw_g (lw_at lw_m5 46 rfl) rfl
theorem q1119 : (Jvm.Cond.fieldLink "BlueBag$Reader" (120 : Nat) "BlueBag$Reader" "values" "I") ∈ lw_all := lw_g (lw_at lw_m5 47 rfl) rfl
theorem q1120 : (Jvm.Cond.fieldLink "BlueBag$Reader" (132 : Nat) "BlueBag$Reader" "isAny" "Z") ∈ lw_all := lw_g (lw_at lw_m5 48 rfl) rfl
theorem q1121 : (Jvm.Cond.laysFinal "BlueBag$Reader" "BlueBag$Reader" "text" "[B") ∈ lw_all := lw_g (lw_at lw_m5 49 rfl) rfl
theorem q1122 : (Jvm.Cond.soleField "BlueBag$Reader" "text") ∈ lw_all := lw_g (lw_at lw_m5 50 rfl) rfl
theorem q1123 : (Jvm.Cond.laysFinal "BlueBag$Reader" "BlueBag$Reader" "size" "I") ∈ lw_all := lw_g (lw_at lw_m5 51 rfl) rfl
theorem q1124 : (Jvm.Cond.soleField "BlueBag$Reader" "size") ∈ lw_all := lw_g (lw_at lw_m5 52 rfl) rfl
theorem q1125 : (Jvm.Cond.lays "BlueBag$Reader" "BlueBag$Reader" "next" "I") ∈ lw_all := lw_g (lw_at lw_m5 53 rfl) rfl
theorem q1126 : (Jvm.Cond.soleField "BlueBag$Reader" "next") ∈ lw_all := lw_g (lw_at lw_m5 54 rfl) rfl
theorem q1127 : (Jvm.Cond.lays "BlueBag$Reader" "BlueBag$Reader" "place" "I") ∈ lw_all := lw_g (lw_at lw_m5 55 rfl) rfl
theorem q1128 : (Jvm.Cond.soleField "BlueBag$Reader" "place") ∈ lw_all := lw_g (lw_at lw_m5 56 rfl) rfl
theorem q1129 : (Jvm.Cond.lays "BlueBag$Reader" "BlueBag$Reader" "value" "I") ∈ lw_all := lw_g (lw_at lw_m5 57 rfl) rfl
theorem q1130 : (Jvm.Cond.soleField "BlueBag$Reader" "value") ∈ lw_all := lw_g (lw_at lw_m5 58 rfl) rfl
theorem q1131 : (Jvm.Cond.lays "BlueBag$Reader" "BlueBag$Reader" "isLong" "Z") ∈ lw_all := lw_g (lw_at lw_m5 59 rfl) rfl
theorem q1132 : (Jvm.Cond.soleField "BlueBag$Reader" "isLong") ∈ lw_all := lw_g (lw_at lw_m5 60 rfl) rfl
theorem q1133 : (Jvm.Cond.lays "BlueBag$Reader" "BlueBag$Reader" "sort" "LBlueBag$Sort;") ∈ lw_all := lw_g (lw_at lw_m5 61 rfl) rfl
theorem q1134 : (Jvm.Cond.soleField "BlueBag$Reader" "sort") ∈ lw_all := lw_g (lw_at lw_m5 62 rfl) rfl
theorem q1135 : (Jvm.Cond.lays "BlueBag$Reader" "BlueBag$Reader" "word" "Ljava/lang/String;") ∈ lw_all := lw_g (lw_at lw_m5 63 rfl) rfl
theorem q1136 : (Jvm.Cond.soleField "BlueBag$Reader" "word") ∈ lw_all := lw_g (lw_at lw_m5 64 rfl) rfl
theorem q1137 : (Jvm.Cond.laysFinal "BlueBag$Reader" "BlueBag$Reader" "has" "[Z") ∈ lw_all := lw_g (lw_at lw_m5 65 rfl) rfl
theorem q1138 : (Jvm.Cond.soleField "BlueBag$Reader" "has") ∈ lw_all := lw_g (lw_at lw_m5 66 rfl) rfl
theorem q1139 : (Jvm.Cond.lays "BlueBag$Reader" "BlueBag$Reader" "told" "I") ∈ lw_all := lw_g (lw_at lw_m5 67 rfl) rfl
theorem q1140 : (Jvm.Cond.soleField "BlueBag$Reader" "told") ∈ lw_all := lw_g (lw_at lw_m5 68 rfl) rfl
theorem q1141 : (Jvm.Cond.lays "BlueBag$Reader" "BlueBag$Reader" "values" "I") ∈ lw_all := lw_g (lw_at lw_m5 69 rfl) rfl
theorem q1142 : (Jvm.Cond.soleField "BlueBag$Reader" "values") ∈ lw_all := lw_g (lw_at lw_m5 70 rfl) rfl
theorem q1143 : (Jvm.Cond.lays "BlueBag$Reader" "BlueBag$Reader" "isAny" "Z") ∈ lw_all := lw_g (lw_at lw_m5 71 rfl) rfl
theorem q1144 : (Jvm.Cond.soleField "BlueBag$Reader" "isAny") ∈ lw_all := lw_g (lw_at lw_m5 72 rfl) rfl
theorem q1145 : (Jvm.Cond.superclass "BlueBag$Reader" "java/lang/Object") ∈ lw_all := lw_g (lw_at lw_m5 73 rfl) rfl
theorem q1148 : (Jvm.Cond.instanceMethod ({ cls := "BlueBag$Reader", name := "coast", desc := "()LBlueBag$Coast;" } : Jvm.MethodName)) ∈ lw_all := lw_g (lw_at lw_m5 76 rfl) rfl
theorem q1149 : (Jvm.Cond.selects "BlueBag$Reader" ({ cls := "BlueBag$Reader", name := "coast", desc := "()LBlueBag$Coast;" } : Jvm.MethodName) ({ cls := "BlueBag$Reader", name := "coast", desc := "()LBlueBag$Coast;" } : Jvm.MethodName)) ∈ lw_all := lw_g (lw_at lw_m5 77 rfl) rfl
theorem q1150 : (Jvm.Cond.code ({ cls := "BlueBag$Reader", name := "coast", desc := "()LBlueBag$Coast;" } : Jvm.MethodName) prog_10_method_18_code (2 : Nat) (Option.some (Jvm.ClassFile.FieldType.object "BlueBag$Coast"))) ∈ lw_all := lw_g (lw_at lw_m5 78 rfl) rfl
theorem q1151 : (Jvm.Cond.classLink "BlueBag$Reader" (128 : Nat) "BlueBag$Coast") ∈ lw_all := lw_g (lw_at lw_m5 79 rfl) rfl
theorem q1152 : (Jvm.Cond.methodLinkNest "BlueBag$Reader" (167 : Nat) ({ cls := "BlueBag$Coast", name := "<init>", desc := "()V" } : Jvm.MethodName) "BlueBag") ∈ lw_tbl := lw_at lw_m5 80 rfl
theorem q1153 : (Jvm.Cond.stringRef "BlueBag$Reader" (168 : Nat) "sky") ∈ lw_tbl := lw_at lw_m5 81 rfl
theorem q1154 : (Jvm.Cond.methodLink "BlueBag$Reader" (112 : Nat) ({ cls := "BlueBag$Reader", name := "is", desc := "(Ljava/lang/String;)Z" } : Jvm.MethodName)) ∈ lw_all := lw_g (lw_at lw_m5 82 rfl) rfl
theorem q1155 : (Jvm.Cond.privateMethod ({ cls := "BlueBag$Reader", name := "is", desc := "(Ljava/lang/String;)Z" } : Jvm.MethodName)) ∈ lw_tbl := lw_at lw_m5 83 rfl
theorem q1156 : (Jvm.Cond.instanceMethod ({ cls := "BlueBag$Reader", name := "is", desc := "(Ljava/lang/String;)Z" } : Jvm.MethodName)) ∈ lw_all := lw_g (lw_at lw_m5 84 rfl) rfl
theorem q1157 : (Jvm.Cond.code ({ cls := "BlueBag$Reader", name := "is", desc := "(Ljava/lang/String;)Z" } : Jvm.MethodName) prog_10_method_7_code (2 : Nat) (Option.some Jvm.ClassFile.FieldType.boolean)) ∈ lw_all := lw_g (lw_at lw_m5 85 rfl) rfl
theorem q1158 : (Jvm.Cond.methodLink "BlueBag$Reader" (103 : Nat) ({ cls := "java/lang/String", name := "equals", desc := "(Ljava/lang/Object;)Z" } : Jvm.MethodName)) ∈ lw_all := lw_g (lw_at lw_m5 86 rfl) rfl
theorem q1165 : (Jvm.Cond.methodLink "BlueBag$Reader" (116 : Nat) ({ cls := "BlueBag$Reader", name := "check", desc := "(ZI)V" } : Jvm.MethodName)) ∈ lw_all := lw_g (lw_at lw_m5 93 rfl) rfl
theorem q1166 : (Jvm.Cond.privateMethod ({ cls := "BlueBag$Reader", name := "check", desc := "(ZI)V" } : Jvm.MethodName)) ∈ lw_tbl := lw_at lw_m5 94 rfl
theorem q1167 : (Jvm.Cond.instanceMethod ({ cls := "BlueBag$Reader", name := "check", desc := "(ZI)V" } : Jvm.MethodName)) ∈ lw_all := lw_g (lw_at lw_m5 95 rfl) rfl
theorem q1168 : (Jvm.Cond.code ({ cls := "BlueBag$Reader", name := "check", desc := "(ZI)V" } : Jvm.MethodName) prog_10_method_8_code (3 : Nat) (Option.none : Option Jvm.ClassFile.FieldType)) ∈ lw_all := lw_g (lw_at lw_m5 96 rfl) rfl
theorem q1169 : (Jvm.Cond.classLink "BlueBag$Reader" (107 : Nat) "BlueBag$Fault") ∈ lw_all := lw_g (lw_at lw_m5 97 rfl) rfl
theorem q1178 : (Jvm.Cond.methodLink "BlueBag$Reader" (109 : Nat) ({ cls := "BlueBag$Fault", name := "<init>", desc := "(II)V" } : Jvm.MethodName)) ∈ lw_all := lw_g (lw_at lw_m5 106 rfl) rfl
theorem q1192 : (Jvm.Cond.methodLink "BlueBag$Reader" (170 : Nat) ({ cls := "BlueBag$Reader", name := "begins", desc := "(Ljava/lang/String;I)Z" } : Jvm.MethodName)) ∈ lw_all := lw_g (lw_at lw_m5 120 rfl) rfl
theorem q1193 : (Jvm.Cond.privateMethod ({ cls := "BlueBag$Reader", name := "begins", desc := "(Ljava/lang/String;I)Z" } : Jvm.MethodName)) ∈ lw_tbl := lw_at lw_m5 121 rfl
theorem q1194 : (Jvm.Cond.instanceMethod ({ cls := "BlueBag$Reader", name := "begins", desc := "(Ljava/lang/String;I)Z" } : Jvm.MethodName)) ∈ lw_all := lw_g (lw_at lw_m5 122 rfl) rfl
theorem q1195 : (Jvm.Cond.code ({ cls := "BlueBag$Reader", name := "begins", desc := "(Ljava/lang/String;I)Z" } : Jvm.MethodName) prog_10_method_11_code (3 : Nat) (Option.some Jvm.ClassFile.FieldType.boolean)) ∈ lw_all := lw_g (lw_at lw_m5 123 rfl) rfl
theorem q1196 : (Jvm.Cond.methodLink "BlueBag$Reader" (174 : Nat) ({ cls := "BlueBag$Reader", name := "sky", desc := "(LBlueBag$Coast;)V" } : Jvm.MethodName)) ∈ lw_all := lw_g (lw_at lw_m5 124 rfl) rfl
theorem q1197 : (Jvm.Cond.privateMethod ({ cls := "BlueBag$Reader", name := "sky", desc := "(LBlueBag$Coast;)V" } : Jvm.MethodName)) ∈ lw_tbl := lw_at lw_m5 125 rfl
theorem q1198 : (Jvm.Cond.instanceMethod ({ cls := "BlueBag$Reader", name := "sky", desc := "(LBlueBag$Coast;)V" } : Jvm.MethodName)) ∈ lw_all := lw_g (lw_at lw_m5 126 rfl) rfl
theorem q1199 : (Jvm.Cond.code ({ cls := "BlueBag$Reader", name := "sky", desc := "(LBlueBag$Coast;)V" } : Jvm.MethodName) prog_10_method_17_code (3 : Nat) (Option.none : Option Jvm.ClassFile.FieldType)) ∈ lw_all := lw_g (lw_at lw_m5 127 rfl) rfl
theorem q1200 : (Jvm.Cond.methodLink "BlueBag$Reader" (146 : Nat) ({ cls := "BlueBag$Reader", name := "number", desc := "(II)I" } : Jvm.MethodName)) ∈ lw_all := lw_g (lw_at lw_m5 128 rfl) rfl
theorem q1201 : (Jvm.Cond.privateMethod ({ cls := "BlueBag$Reader", name := "number", desc := "(II)I" } : Jvm.MethodName)) ∈ lw_tbl := lw_at lw_m5 129 rfl
theorem q1202 : (Jvm.Cond.instanceMethod ({ cls := "BlueBag$Reader", name := "number", desc := "(II)I" } : Jvm.MethodName)) ∈ lw_all := lw_g (lw_at lw_m5 130 rfl) rfl
theorem q1203 : (Jvm.Cond.code ({ cls := "BlueBag$Reader", name := "number", desc := "(II)I" } : Jvm.MethodName) prog_10_method_10_code (4 : Nat) (Option.some Jvm.ClassFile.FieldType.int)) ∈ lw_all := lw_g (lw_at lw_m5 131 rfl) rfl
theorem q1204 : (Jvm.Cond.stringRef "BlueBag$Reader" (177 : Nat) "knobs") ∈ lw_tbl := lw_at lw_m5 132 rfl
theorem q1205 : (Jvm.Cond.stringRef "BlueBag$Reader" (181 : Nat) "rinse") ∈ lw_tbl := lw_at lw_m5 133 rfl
theorem q1206 : (Jvm.Cond.stringRef "BlueBag$Reader" (185 : Nat) "bound") ∈ lw_tbl := lw_at lw_m5 134 rfl
theorem q1207 : (Jvm.Cond.stringRef "BlueBag$Reader" (189 : Nat) "dyes") ∈ lw_tbl := lw_at lw_m5 135 rfl
theorem q1208 : (Jvm.Cond.methodLink "BlueBag$Reader" (191 : Nat) ({ cls := "BlueBag$Value", name := "values", desc := "()[LBlueBag$Value;" } : Jvm.MethodName)) ∈ lw_all := lw_g (lw_at lw_m5 136 rfl) rfl
theorem q1209 : (Jvm.Cond.methodLink "BlueBag$Reader" (196 : Nat) ({ cls := "BlueBag$Reader", name := "rule", desc := "(I)LBlueBag$Expr;" } : Jvm.MethodName)) ∈ lw_all := lw_g (lw_at lw_m5 137 rfl) rfl
theorem q1210 : (Jvm.Cond.privateMethod ({ cls := "BlueBag$Reader", name := "rule", desc := "(I)LBlueBag$Expr;" } : Jvm.MethodName)) ∈ lw_tbl := lw_at lw_m5 138 rfl
theorem q1211 : (Jvm.Cond.instanceMethod ({ cls := "BlueBag$Reader", name := "rule", desc := "(I)LBlueBag$Expr;" } : Jvm.MethodName)) ∈ lw_all := lw_g (lw_at lw_m5 139 rfl) rfl
theorem q1212 : (Jvm.Cond.code ({ cls := "BlueBag$Reader", name := "rule", desc := "(I)LBlueBag$Expr;" } : Jvm.MethodName) prog_10_method_12_code (2 : Nat) (Option.some (Jvm.ClassFile.FieldType.object "BlueBag$Expr"))) ∈ lw_all := lw_g (lw_at lw_m5 140 rfl) rfl
theorem q1213 : (Jvm.Cond.methodLink "BlueBag$Reader" (123 : Nat) ({ cls := "BlueBag$Reader", name := "expr", desc := "(I)LBlueBag$Expr;" } : Jvm.MethodName)) ∈ lw_all := lw_g (lw_at lw_m5 141 rfl) rfl
theorem q1214 : (Jvm.Cond.privateMethod ({ cls := "BlueBag$Reader", name := "expr", desc := "(I)LBlueBag$Expr;" } : Jvm.MethodName)) ∈ lw_tbl := lw_at lw_m5 142 rfl
theorem q1215 : (Jvm.Cond.instanceMethod ({ cls := "BlueBag$Reader", name := "expr", desc := "(I)LBlueBag$Expr;" } : Jvm.MethodName)) ∈ lw_all := lw_g (lw_at lw_m5 143 rfl) rfl
theorem q1216 : (Jvm.Cond.code ({ cls := "BlueBag$Reader", name := "expr", desc := "(I)LBlueBag$Expr;" } : Jvm.MethodName) prog_10_method_20_code (3 : Nat) (Option.some (Jvm.ClassFile.FieldType.object "BlueBag$Expr"))) ∈ lw_all := lw_g (lw_at lw_m5 144 rfl) rfl
theorem q1217 : (Jvm.Cond.stringRef "BlueBag$Reader" (244 : Nat) "(") ∈ lw_tbl := lw_at lw_m5 145 rfl
theorem q1218 : (Jvm.Cond.methodLink "BlueBag$Reader" (246 : Nat) ({ cls := "BlueBag$Reader", name := "and", desc := "(I)LBlueBag$Expr;" } : Jvm.MethodName)) ∈ lw_all := lw_g (lw_at lw_m5 146 rfl) rfl
theorem q1219 : (Jvm.Cond.privateMethod ({ cls := "BlueBag$Reader", name := "and", desc := "(I)LBlueBag$Expr;" } : Jvm.MethodName)) ∈ lw_tbl := lw_at lw_m5 147 rfl
theorem q1220 : (Jvm.Cond.instanceMethod ({ cls := "BlueBag$Reader", name := "and", desc := "(I)LBlueBag$Expr;" } : Jvm.MethodName)) ∈ lw_all := lw_g (lw_at lw_m5 148 rfl) rfl
theorem q1221 : (Jvm.Cond.code ({ cls := "BlueBag$Reader", name := "and", desc := "(I)LBlueBag$Expr;" } : Jvm.MethodName) prog_10_method_21_code (3 : Nat) (Option.some (Jvm.ClassFile.FieldType.object "BlueBag$Expr"))) ∈ lw_all := lw_g (lw_at lw_m5 149 rfl) rfl
theorem q1222 : (Jvm.Cond.methodLink "BlueBag$Reader" (256 : Nat) ({ cls := "BlueBag$Reader", name := "not", desc := "(I)LBlueBag$Expr;" } : Jvm.MethodName)) ∈ lw_all := lw_g (lw_at lw_m5 150 rfl) rfl
theorem q1223 : (Jvm.Cond.privateMethod ({ cls := "BlueBag$Reader", name := "not", desc := "(I)LBlueBag$Expr;" } : Jvm.MethodName)) ∈ lw_tbl := lw_at lw_m5 151 rfl
theorem q1224 : (Jvm.Cond.instanceMethod ({ cls := "BlueBag$Reader", name := "not", desc := "(I)LBlueBag$Expr;" } : Jvm.MethodName)) ∈ lw_all := lw_g (lw_at lw_m5 152 rfl) rfl
theorem q1225 : (Jvm.Cond.code ({ cls := "BlueBag$Reader", name := "not", desc := "(I)LBlueBag$Expr;" } : Jvm.MethodName) prog_10_method_22_code (5 : Nat) (Option.some (Jvm.ClassFile.FieldType.object "BlueBag$Expr"))) ∈ lw_all := lw_g (lw_at lw_m5 153 rfl) rfl
theorem q1226 : (Jvm.Cond.stringRef "BlueBag$Reader" (260 : Nat) "not") ∈ lw_tbl := lw_at lw_m5 154 rfl
theorem q1227 : (Jvm.Cond.methodLink "BlueBag$Reader" (261 : Nat) ({ cls := "BlueBag$Reader", name := "sum", desc := "(I)LBlueBag$Expr;" } : Jvm.MethodName)) ∈ lw_all := lw_g (lw_at lw_m5 155 rfl) rfl
theorem q1228 : (Jvm.Cond.privateMethod ({ cls := "BlueBag$Reader", name := "sum", desc := "(I)LBlueBag$Expr;" } : Jvm.MethodName)) ∈ lw_tbl := lw_at lw_m5 156 rfl
theorem q1229 : (Jvm.Cond.instanceMethod ({ cls := "BlueBag$Reader", name := "sum", desc := "(I)LBlueBag$Expr;" } : Jvm.MethodName)) ∈ lw_all := lw_g (lw_at lw_m5 157 rfl) rfl
theorem q1230 : (Jvm.Cond.code ({ cls := "BlueBag$Reader", name := "sum", desc := "(I)LBlueBag$Expr;" } : Jvm.MethodName) prog_10_method_23_code (4 : Nat) (Option.some (Jvm.ClassFile.FieldType.object "BlueBag$Expr"))) ∈ lw_all := lw_g (lw_at lw_m5 158 rfl) rfl
theorem q1231 : (Jvm.Cond.methodLink "BlueBag$Reader" (277 : Nat) ({ cls := "BlueBag$Reader", name := "product", desc := "(I)LBlueBag$Expr;" } : Jvm.MethodName)) ∈ lw_all := lw_g (lw_at lw_m5 159 rfl) rfl
theorem q1232 : (Jvm.Cond.privateMethod ({ cls := "BlueBag$Reader", name := "product", desc := "(I)LBlueBag$Expr;" } : Jvm.MethodName)) ∈ lw_tbl := lw_at lw_m5 160 rfl
theorem q1233 : (Jvm.Cond.instanceMethod ({ cls := "BlueBag$Reader", name := "product", desc := "(I)LBlueBag$Expr;" } : Jvm.MethodName)) ∈ lw_all := lw_g (lw_at lw_m5 161 rfl) rfl
theorem q1234 : (Jvm.Cond.code ({ cls := "BlueBag$Reader", name := "product", desc := "(I)LBlueBag$Expr;" } : Jvm.MethodName) prog_10_method_24_code (4 : Nat) (Option.some (Jvm.ClassFile.FieldType.object "BlueBag$Expr"))) ∈ lw_all := lw_g (lw_at lw_m5 162 rfl) rfl
theorem q1235 : (Jvm.Cond.methodLink "BlueBag$Reader" (284 : Nat) ({ cls := "BlueBag$Reader", name := "part", desc := "(I)LBlueBag$Expr;" } : Jvm.MethodName)) ∈ lw_all := lw_g (lw_at lw_m5 163 rfl) rfl
theorem q1236 : (Jvm.Cond.privateMethod ({ cls := "BlueBag$Reader", name := "part", desc := "(I)LBlueBag$Expr;" } : Jvm.MethodName)) ∈ lw_tbl := lw_at lw_m5 164 rfl
theorem q1237 : (Jvm.Cond.instanceMethod ({ cls := "BlueBag$Reader", name := "part", desc := "(I)LBlueBag$Expr;" } : Jvm.MethodName)) ∈ lw_all := lw_g (lw_at lw_m5 165 rfl) rfl
theorem q1238 : (Jvm.Cond.code ({ cls := "BlueBag$Reader", name := "part", desc := "(I)LBlueBag$Expr;" } : Jvm.MethodName) prog_10_method_25_code (3 : Nat) (Option.some (Jvm.ClassFile.FieldType.object "BlueBag$Expr"))) ∈ lw_all := lw_g (lw_at lw_m5 166 rfl) rfl
theorem q1239 : (Jvm.Cond.classLink "BlueBag$Reader" (291 : Nat) "BlueBag$Told") ∈ lw_all := lw_g (lw_at lw_m5 167 rfl) rfl
theorem q1241 : (Jvm.Cond.methodLink "BlueBag$Reader" (293 : Nat) ({ cls := "BlueBag$Told", name := "<init>", desc := "(I)V" } : Jvm.MethodName)) ∈ lw_all := lw_g (lw_at lw_m5 169 rfl) rfl
theorem q1252 : (Jvm.Cond.stringRef "BlueBag$Reader" (294 : Nat) ")") ∈ lw_tbl := lw_at lw_m5 180 rfl
theorem q1253 : (Jvm.Cond.methodLink "BlueBag$Reader" (217 : Nat) ({ cls := "BlueBag$Reader", name := "need", desc := "(Ljava/lang/String;)V" } : Jvm.MethodName)) ∈ lw_all := lw_g (lw_at lw_m5 181 rfl) rfl
theorem q1254 : (Jvm.Cond.privateMethod ({ cls := "BlueBag$Reader", name := "need", desc := "(Ljava/lang/String;)V" } : Jvm.MethodName)) ∈ lw_tbl := lw_at lw_m5 182 rfl
theorem q1255 : (Jvm.Cond.instanceMethod ({ cls := "BlueBag$Reader", name := "need", desc := "(Ljava/lang/String;)V" } : Jvm.MethodName)) ∈ lw_all := lw_g (lw_at lw_m5 183 rfl) rfl
theorem q1256 : (Jvm.Cond.code ({ cls := "BlueBag$Reader", name := "need", desc := "(Ljava/lang/String;)V" } : Jvm.MethodName) prog_10_method_9_code (2 : Nat) (Option.none : Option Jvm.ClassFile.FieldType)) ∈ lw_all := lw_g (lw_at lw_m5 184 rfl) rfl
theorem q1257 : (Jvm.Cond.methodLink "BlueBag$Reader" (296 : Nat) ({ cls := "BlueBag$Reader", name := "valueOf", desc := "(Ljava/lang/String;)LBlueBag$Value;" } : Jvm.MethodName)) ∈ lw_all := lw_g (lw_at lw_m5 185 rfl) rfl
theorem q1258 : (Jvm.Cond.privateMethod ({ cls := "BlueBag$Reader", name := "valueOf", desc := "(Ljava/lang/String;)LBlueBag$Value;" } : Jvm.MethodName)) ∈ lw_tbl := lw_at lw_m5 186 rfl
theorem q1259 : (Jvm.Cond.instanceMethod ({ cls := "BlueBag$Reader", name := "valueOf", desc := "(Ljava/lang/String;)LBlueBag$Value;" } : Jvm.MethodName)) ∈ lw_all := lw_g (lw_at lw_m5 187 rfl) rfl
theorem q1260 : (Jvm.Cond.code ({ cls := "BlueBag$Reader", name := "valueOf", desc := "(Ljava/lang/String;)LBlueBag$Value;" } : Jvm.MethodName) prog_10_method_26_code (3 : Nat) (Option.some (Jvm.ClassFile.FieldType.object "BlueBag$Value"))) ∈ lw_all := lw_g (lw_at lw_m5 188 rfl) rfl
theorem q1261 : (Jvm.Cond.stringRef "BlueBag$Reader" (221 : Nat) "blue") ∈ lw_tbl := lw_at lw_m5 189 rfl
theorem q1262 : (Jvm.Cond.fieldLink "BlueBag$Reader" (304 : Nat) "BlueBag$Value" "BLUE" "LBlueBag$Value;") ∈ lw_all := lw_g (lw_at lw_m5 190 rfl) rfl
theorem q1263 : (Jvm.Cond.stringRef "BlueBag$Reader" (307 : Nat) "beside") ∈ lw_tbl := lw_at lw_m5 191 rfl
theorem q1264 : (Jvm.Cond.fieldLink "BlueBag$Reader" (309 : Nat) "BlueBag$Value" "BESIDE" "LBlueBag$Value;") ∈ lw_all := lw_g (lw_at lw_m5 192 rfl) rfl
theorem q1265 : (Jvm.Cond.stringRef "BlueBag$Reader" (312 : Nat) "row") ∈ lw_tbl := lw_at lw_m5 193 rfl
theorem q1266 : (Jvm.Cond.fieldLink "BlueBag$Reader" (314 : Nat) "BlueBag$Value" "ROW" "LBlueBag$Value;") ∈ lw_all := lw_g (lw_at lw_m5 194 rfl) rfl
theorem q1267 : (Jvm.Cond.stringRef "BlueBag$Reader" (317 : Nat) "day") ∈ lw_tbl := lw_at lw_m5 195 rfl
theorem q1268 : (Jvm.Cond.fieldLink "BlueBag$Reader" (319 : Nat) "BlueBag$Value" "DAY" "LBlueBag$Value;") ∈ lw_all := lw_g (lw_at lw_m5 196 rfl) rfl
theorem q1269 : (Jvm.Cond.stringRef "BlueBag$Reader" (322 : Nat) "skill") ∈ lw_tbl := lw_at lw_m5 197 rfl
theorem q1270 : (Jvm.Cond.fieldLink "BlueBag$Reader" (204 : Nat) "BlueBag$Value" "SKILL" "LBlueBag$Value;") ∈ lw_all := lw_g (lw_at lw_m5 198 rfl) rfl
theorem q1271 : (Jvm.Cond.stringRef "BlueBag$Reader" (324 : Nat) "left") ∈ lw_tbl := lw_at lw_m5 199 rfl
theorem q1272 : (Jvm.Cond.fieldLink "BlueBag$Reader" (326 : Nat) "BlueBag$Value" "LEFT" "LBlueBag$Value;") ∈ lw_all := lw_g (lw_at lw_m5 200 rfl) rfl
theorem q1273 : (Jvm.Cond.methodLink "BlueBag$Reader" (208 : Nat) ({ cls := "BlueBag$Value", name := "ordinal", desc := "()I" } : Jvm.MethodName)) ∈ lw_all := lw_g (lw_at lw_m5 201 rfl) rfl
theorem q1274 : (Jvm.Cond.classLink "BlueBag$Reader" (299 : Nat) "BlueBag$Seen") ∈ lw_all := lw_g (lw_at lw_m5 202 rfl) rfl
theorem q1276 : (Jvm.Cond.methodLink "BlueBag$Reader" (301 : Nat) ({ cls := "BlueBag$Seen", name := "<init>", desc := "(LBlueBag$Value;)V" } : Jvm.MethodName)) ∈ lw_all := lw_g (lw_at lw_m5 204 rfl) rfl
theorem q1284 : (Jvm.Cond.stringRef "BlueBag$Reader" (287 : Nat) "*") ∈ lw_tbl := lw_at lw_m5 212 rfl
theorem q1285 : (Jvm.Cond.stringRef "BlueBag$Reader" (289 : Nat) "/") ∈ lw_tbl := lw_at lw_m5 213 rfl
theorem q1286 : (Jvm.Cond.methodLink "BlueBag$Reader" (268 : Nat) ({ cls := "java/lang/String", name := "charAt", desc := "(I)C" } : Jvm.MethodName)) ∈ lw_all := lw_g (lw_at lw_m5 214 rfl) rfl
theorem q1301 : (Jvm.Cond.classLink "BlueBag$Reader" (251 : Nat) "BlueBag$Both") ∈ lw_all := lw_g (lw_at lw_m5 229 rfl) rfl
theorem q1303 : (Jvm.Cond.methodLink "BlueBag$Reader" (253 : Nat) ({ cls := "BlueBag$Both", name := "<init>", desc := "(CLBlueBag$Expr;LBlueBag$Expr;)V" } : Jvm.MethodName)) ∈ lw_all := lw_g (lw_at lw_m5 231 rfl) rfl
theorem q1317 : (Jvm.Cond.stringRef "BlueBag$Reader" (280 : Nat) "+") ∈ lw_tbl := lw_at lw_m6 5 rfl
theorem q1318 : (Jvm.Cond.stringRef "BlueBag$Reader" (282 : Nat) "-") ∈ lw_tbl := lw_at lw_m6 6 rfl
theorem q1319 : (Jvm.Cond.stringRef "BlueBag$Reader" (264 : Nat) "<") ∈ lw_tbl := lw_at lw_m6 7 rfl
theorem q1320 : (Jvm.Cond.stringRef "BlueBag$Reader" (266 : Nat) "=") ∈ lw_tbl := lw_at lw_m6 8 rfl
theorem q1321 : (Jvm.Cond.classLink "BlueBag$Reader" (272 : Nat) "BlueBag$Not") ∈ lw_all := lw_g (lw_at lw_m6 9 rfl) rfl
theorem q1323 : (Jvm.Cond.methodLink "BlueBag$Reader" (274 : Nat) ({ cls := "BlueBag$Not", name := "<init>", desc := "(LBlueBag$Expr;)V" } : Jvm.MethodName)) ∈ lw_all := lw_g (lw_at lw_m6 11 rfl) rfl
theorem q1331 : (Jvm.Cond.stringRef "BlueBag$Reader" (259 : Nat) "and") ∈ lw_tbl := lw_at lw_m6 19 rfl
theorem q1332 : (Jvm.Cond.stringRef "BlueBag$Reader" (249 : Nat) "or") ∈ lw_tbl := lw_at lw_m6 20 rfl
theorem q1333 : (Jvm.Cond.stringRef "BlueBag$Reader" (202 : Nat) "fades") ∈ lw_tbl := lw_at lw_m6 21 rfl
theorem q1334 : (Jvm.Cond.methodLink "BlueBag$Reader" (213 : Nat) ({ cls := "BlueBag$Reader", name := "cells", desc := "(LBlueBag$Coast;)V" } : Jvm.MethodName)) ∈ lw_all := lw_g (lw_at lw_m6 22 rfl) rfl
theorem q1335 : (Jvm.Cond.privateMethod ({ cls := "BlueBag$Reader", name := "cells", desc := "(LBlueBag$Coast;)V" } : Jvm.MethodName)) ∈ lw_tbl := lw_at lw_m6 23 rfl
theorem q1336 : (Jvm.Cond.instanceMethod ({ cls := "BlueBag$Reader", name := "cells", desc := "(LBlueBag$Coast;)V" } : Jvm.MethodName)) ∈ lw_all := lw_g (lw_at lw_m6 24 rfl) rfl
theorem q1337 : (Jvm.Cond.code ({ cls := "BlueBag$Reader", name := "cells", desc := "(LBlueBag$Coast;)V" } : Jvm.MethodName) prog_10_method_19_code (2 : Nat) (Option.none : Option Jvm.ClassFile.FieldType)) ∈ lw_all := lw_g (lw_at lw_m6 25 rfl) rfl
theorem q1338 : (Jvm.Cond.methodLink "BlueBag$Reader" (222 : Nat) ({ cls := "BlueBag$Reader", name := "blue", desc := "(LBlueBag$Coast;)V" } : Jvm.MethodName)) ∈ lw_all := lw_g (lw_at lw_m6 26 rfl) rfl
theorem q1339 : (Jvm.Cond.privateMethod ({ cls := "BlueBag$Reader", name := "blue", desc := "(LBlueBag$Coast;)V" } : Jvm.MethodName)) ∈ lw_tbl := lw_at lw_m6 27 rfl
theorem q1340 : (Jvm.Cond.instanceMethod ({ cls := "BlueBag$Reader", name := "blue", desc := "(LBlueBag$Coast;)V" } : Jvm.MethodName)) ∈ lw_all := lw_g (lw_at lw_m6 28 rfl) rfl
theorem q1341 : (Jvm.Cond.code ({ cls := "BlueBag$Reader", name := "blue", desc := "(LBlueBag$Coast;)V" } : Jvm.MethodName) prog_10_method_14_code (3 : Nat) (Option.none : Option Jvm.ClassFile.FieldType)) ∈ lw_all := lw_g (lw_at lw_m6 29 rfl) rfl
theorem q1342 : (Jvm.Cond.methodLink "BlueBag$Reader" (135 : Nat) ({ cls := "BlueBag$Reader", name := "cell", desc := "(LBlueBag$Coast;)I" } : Jvm.MethodName)) ∈ lw_all := lw_g (lw_at lw_m6 30 rfl) rfl
theorem q1343 : (Jvm.Cond.privateMethod ({ cls := "BlueBag$Reader", name := "cell", desc := "(LBlueBag$Coast;)I" } : Jvm.MethodName)) ∈ lw_tbl := lw_at lw_m6 31 rfl
theorem q1344 : (Jvm.Cond.instanceMethod ({ cls := "BlueBag$Reader", name := "cell", desc := "(LBlueBag$Coast;)I" } : Jvm.MethodName)) ∈ lw_all := lw_g (lw_at lw_m6 32 rfl) rfl
theorem q1345 : (Jvm.Cond.code ({ cls := "BlueBag$Reader", name := "cell", desc := "(LBlueBag$Coast;)I" } : Jvm.MethodName) prog_10_method_13_code (2 : Nat) (Option.some Jvm.ClassFile.FieldType.int)) ∈ lw_all := lw_g (lw_at lw_m6 33 rfl) rfl
theorem q1346 : (Jvm.Cond.methodLink "BlueBag$Reader" (127 : Nat) ({ cls := "BlueBag$Coast", name := "cells", desc := "()I" } : Jvm.MethodName)) ∈ lw_all := lw_g (lw_at lw_m6 34 rfl) rfl
theorem q1347 : (Jvm.Cond.stringRef "BlueBag$Reader" (224 : Nat) "peg") ∈ lw_tbl := lw_at lw_m6 35 rfl
theorem q1348 : (Jvm.Cond.methodLink "BlueBag$Reader" (226 : Nat) ({ cls := "BlueBag$Reader", name := "pegs", desc := "(LBlueBag$Coast;)V" } : Jvm.MethodName)) ∈ lw_all := lw_g (lw_at lw_m6 36 rfl) rfl
theorem q1349 : (Jvm.Cond.privateMethod ({ cls := "BlueBag$Reader", name := "pegs", desc := "(LBlueBag$Coast;)V" } : Jvm.MethodName)) ∈ lw_tbl := lw_at lw_m6 37 rfl
theorem q1350 : (Jvm.Cond.instanceMethod ({ cls := "BlueBag$Reader", name := "pegs", desc := "(LBlueBag$Coast;)V" } : Jvm.MethodName)) ∈ lw_all := lw_g (lw_at lw_m6 38 rfl) rfl
theorem q1351 : (Jvm.Cond.code ({ cls := "BlueBag$Reader", name := "pegs", desc := "(LBlueBag$Coast;)V" } : Jvm.MethodName) prog_10_method_15_code (3 : Nat) (Option.none : Option Jvm.ClassFile.FieldType)) ∈ lw_all := lw_g (lw_at lw_m6 39 rfl) rfl
theorem q1352 : (Jvm.Cond.stringRef "BlueBag$Reader" (228 : Nat) "girl") ∈ lw_tbl := lw_at lw_m6 40 rfl
theorem q1353 : (Jvm.Cond.stringRef "BlueBag$Reader" (153 : Nat) "old") ∈ lw_tbl := lw_at lw_m6 41 rfl
theorem q1354 : (Jvm.Cond.methodLink "BlueBag$Reader" (234 : Nat) ({ cls := "java/util/ArrayList", name := "size", desc := "()I" } : Jvm.MethodName)) ∈ lw_all := lw_g (lw_at lw_m6 42 rfl) rfl
theorem q1355 : (Jvm.Cond.methodLink "BlueBag$Reader" (238 : Nat) ({ cls := "BlueBag$Reader", name := "girl", desc := "(LBlueBag$Coast;)LBlueBag$Girl;" } : Jvm.MethodName)) ∈ lw_all := lw_g (lw_at lw_m6 43 rfl) rfl
theorem q1356 : (Jvm.Cond.privateMethod ({ cls := "BlueBag$Reader", name := "girl", desc := "(LBlueBag$Coast;)LBlueBag$Girl;" } : Jvm.MethodName)) ∈ lw_tbl := lw_at lw_m6 44 rfl
theorem q1357 : (Jvm.Cond.instanceMethod ({ cls := "BlueBag$Reader", name := "girl", desc := "(LBlueBag$Coast;)LBlueBag$Girl;" } : Jvm.MethodName)) ∈ lw_all := lw_g (lw_at lw_m6 45 rfl) rfl
theorem q1358 : (Jvm.Cond.code ({ cls := "BlueBag$Reader", name := "girl", desc := "(LBlueBag$Coast;)LBlueBag$Girl;" } : Jvm.MethodName) prog_10_method_16_code (5 : Nat) (Option.some (Jvm.ClassFile.FieldType.object "BlueBag$Girl"))) ∈ lw_all := lw_g (lw_at lw_m6 46 rfl) rfl
theorem q1359 : (Jvm.Cond.classLink "BlueBag$Reader" (155 : Nat) "BlueBag$Old") ∈ lw_all := lw_g (lw_at lw_m6 47 rfl) rfl
theorem q1361 : (Jvm.Cond.methodLink "BlueBag$Reader" (157 : Nat) ({ cls := "BlueBag$Old", name := "<init>", desc := "(II)V" } : Jvm.MethodName)) ∈ lw_all := lw_g (lw_at lw_m6 49 rfl) rfl
theorem q1378 : (Jvm.Cond.classLink "BlueBag$Reader" (158 : Nat) "BlueBag$Girl") ∈ lw_all := lw_g (lw_at lw_m6 66 rfl) rfl
theorem q1380 : (Jvm.Cond.methodLink "BlueBag$Reader" (160 : Nat) ({ cls := "BlueBag$Girl", name := "<init>", desc := "(II)V" } : Jvm.MethodName)) ∈ lw_all := lw_g (lw_at lw_m6 68 rfl) rfl
theorem q1384 : (Jvm.Cond.methodLink "BlueBag$Reader" (241 : Nat) ({ cls := "java/util/ArrayList", name := "add", desc := "(Ljava/lang/Object;)Z" } : Jvm.MethodName)) ∈ lw_all := lw_g (lw_at lw_m6 72 rfl) rfl
theorem q1385 : (Jvm.Cond.stringRef "BlueBag$Reader" (215 : Nat) ";") ∈ lw_tbl := lw_at lw_m6 73 rfl
theorem q2363 : (Jvm.Cond.castable "BlueBag$Reader" "java/lang/Object") ∈ lw_tbl := lw_at lw_m10 91 rfl
theorem in_X8 : ∀ w ∈ wsX80, w ∈ lw_all := lw_in wsX80 [1121, 1123, 1125, 1127, 1129, 1131, 1133, 1135, 1137, 1139, 1141, 1143] (by decide +kernel) (by decide +kernel)
/-! BlueBag$Fault -/
set_option maxRecDepth 100000
def RX9 : String := "BlueBag$Fault"
def TX9 : u_T := fun k => match k with
  | 0 => ("java/lang/Throwable", "cause", "Ljava/lang/Throwable;", false)
  | 1 => ("java/lang/Throwable", "stackTrace", "[Ljava/lang/StackTraceElement;", false)
  | 2 => ("java/lang/Throwable", "suppressedExceptions", "Ljava/util/List;", false)
  | 3 => ("java/lang/Throwable", "detailMessage", "Ljava/lang/String;", false)
  | 4 => ("java/lang/Throwable", "backtrace", "Ljava/lang/Object;", false)
  | 5 => ("java/lang/Throwable", "depth", "I", false)
  | 6 => ("BlueBag$Fault", "kind", "I", true)
  | _ => ("BlueBag$Fault", "place", "I", true)
def tyX9 : Nat → FieldType := fun k => match k with
  | 0 => .object "java/lang/Throwable"
  | 1 => .array (.object "java/lang/StackTraceElement")
  | 2 => .object "java/util/List"
  | 3 => .object "java/lang/String"
  | 4 => .object "java/lang/Object"
  | 5 => .int
  | 6 => .int
  | _ => .int
abbrev wsX90 : List Cond := u_ws RX9 TX9 8
theorem nmX9 : ∀ a, a < 8 → ∀ b, b < 8 → a ≠ b → (TX9 a).2.1 ≠ (TX9 b).2.1 := by decide +kernel
theorem tyX9_ok : ∀ k, k < 8 → parseFieldDescriptor (TX9 k).2.2.1 = some (tyX9 k) := by decide +kernel
abbrev cX9_init : ByteArray := prog_6_method_1_code
def yX9_init : MethodName := ⟨RX9, "<init>", "(II)V"⟩
def dkwX9_init_0 : List UInt8 := [42, 183, 0, 1, 42, 27, 181, 0, 7, 42, 28, 181, 0, 13, 177]
abbrev dktX9_init_0 : List UInt8 := dkwX9_init_0 ++ []
theorem dksX9_init_0 : cX9_init.data.toList.drop 0 = dktX9_init_0 := by decide +kernel
theorem dX9_init_0 : decode cX9_init 0 = .ok (.aload_n 0, 1) := dk_42 (dk_at dksX9_init_0 0 rfl rfl)
theorem dX9_init_1 : decode cX9_init 1 = .ok (.invokespecial 1, 3) := dk_183 0 1 (dk_at dksX9_init_0 1 rfl rfl)
theorem dX9_init_4 : decode cX9_init 4 = .ok (.aload_n 0, 1) := dk_42 (dk_at dksX9_init_0 4 rfl rfl)
theorem dX9_init_5 : decode cX9_init 5 = .ok (.iload_n 1, 1) := dk_27 (dk_at dksX9_init_0 5 rfl rfl)
theorem dX9_init_6 : decode cX9_init 6 = .ok (.putfield 7, 3) := dk_181 0 7 (dk_at dksX9_init_0 6 rfl rfl)
theorem dX9_init_9 : decode cX9_init 9 = .ok (.aload_n 0, 1) := dk_42 (dk_at dksX9_init_0 9 rfl rfl)
theorem dX9_init_10 : decode cX9_init 10 = .ok (.iload_n 2, 1) := dk_28 (dk_at dksX9_init_0 10 rfl rfl)
theorem dX9_init_11 : decode cX9_init 11 = .ok (.putfield 13, 3) := dk_181 0 13 (dk_at dksX9_init_0 11 rfl rfl)
theorem dX9_init_14 : decode cX9_init 14 = .ok (.return_, 1) := dk_177 (dk_at dksX9_init_0 14 rfl rfl)
theorem q143 : (Jvm.Cond.initialized "BlueBag$Fault") ∈ lw_all := lw_g (lw_at lw_m1 31 rfl) rfl
theorem q215 : (Jvm.Cond.selects "BlueBag$Fault" ({ cls := "java/lang/Throwable", name := "fillInStackTrace", desc := "()Ljava/lang/Throwable;" } : Jvm.MethodName) ({ cls := "java/lang/Throwable", name := "fillInStackTrace", desc := "()Ljava/lang/Throwable;" } : Jvm.MethodName)) ∈ lw_all := lw_g (lw_at lw_m1 103 rfl) rfl
theorem q669 : (Jvm.Cond.selects "BlueBag$Fault" ({ cls := "java/lang/Object", name := "getClass", desc := "()Ljava/lang/Class;" } : Jvm.MethodName) ({ cls := "java/lang/Object", name := "getClass", desc := "()Ljava/lang/Class;" } : Jvm.MethodName)) ∈ lw_all := lw_g (lw_at lw_m3 77 rfl) rfl
theorem q1170 : (Jvm.Cond.instantiable "BlueBag$Fault" (8 : Nat)) ∈ lw_all := lw_g (lw_at lw_m5 98 rfl) rfl
theorem q1171 : (Jvm.Cond.castable "BlueBag$Fault" "BlueBag$Fault") ∈ lw_tbl := lw_at lw_m5 99 rfl
theorem q1172 : (Jvm.Cond.selects "BlueBag$Fault" ({ cls := "java/lang/Throwable", name := "fillInStackTrace", desc := "(I)Ljava/lang/Throwable;" } : Jvm.MethodName) ({ cls := "java/lang/Throwable", name := "fillInStackTrace", desc := "(I)Ljava/lang/Throwable;" } : Jvm.MethodName)) ∈ lw_all := lw_g (lw_at lw_m5 100 rfl) rfl
theorem q1173 : (Jvm.Cond.lays "BlueBag$Fault" "java/lang/Throwable" "cause" "Ljava/lang/Throwable;") ∈ lw_all := lw_g (lw_at lw_m5 101 rfl) rfl
theorem q1174 : (Jvm.Cond.lays "BlueBag$Fault" "java/lang/Throwable" "stackTrace" "[Ljava/lang/StackTraceElement;") ∈ lw_all := lw_g (lw_at lw_m5 102 rfl) rfl
theorem q1175 : (Jvm.Cond.lays "BlueBag$Fault" "java/lang/Throwable" "suppressedExceptions" "Ljava/util/List;") ∈ lw_all := lw_g (lw_at lw_m5 103 rfl) rfl
theorem q1176 : (Jvm.Cond.lays "BlueBag$Fault" "java/lang/Throwable" "detailMessage" "Ljava/lang/String;") ∈ lw_all := lw_g (lw_at lw_m5 104 rfl) rfl
theorem q1177 : (Jvm.Cond.lays "BlueBag$Fault" "java/lang/Throwable" "backtrace" "Ljava/lang/Object;") ∈ lw_all := lw_g (lw_at lw_m5 105 rfl) rfl
theorem q1179 : (Jvm.Cond.instanceMethod ({ cls := "BlueBag$Fault", name := "<init>", desc := "(II)V" } : Jvm.MethodName)) ∈ lw_all := lw_g (lw_at lw_m5 107 rfl) rfl
theorem q1180 : (Jvm.Cond.code ({ cls := "BlueBag$Fault", name := "<init>", desc := "(II)V" } : Jvm.MethodName) prog_6_method_1_code (3 : Nat) (Option.none : Option Jvm.ClassFile.FieldType)) ∈ lw_all := lw_g (lw_at lw_m5 108 rfl) rfl
theorem q1181 : (Jvm.Cond.methodLink "BlueBag$Fault" (1 : Nat) ({ cls := "java/lang/Exception", name := "<init>", desc := "()V" } : Jvm.MethodName)) ∈ lw_all := lw_g (lw_at lw_m5 109 rfl) rfl
theorem q1182 : (Jvm.Cond.fieldLink "BlueBag$Fault" (7 : Nat) "BlueBag$Fault" "kind" "I") ∈ lw_all := lw_g (lw_at lw_m5 110 rfl) rfl
theorem q1184 : (Jvm.Cond.fieldLink "BlueBag$Fault" (13 : Nat) "BlueBag$Fault" "place" "I") ∈ lw_all := lw_g (lw_at lw_m5 112 rfl) rfl
theorem q1186 : (Jvm.Cond.laysFinal "BlueBag$Fault" "BlueBag$Fault" "kind" "I") ∈ lw_all := lw_g (lw_at lw_m5 114 rfl) rfl
theorem q1187 : (Jvm.Cond.soleField "BlueBag$Fault" "kind") ∈ lw_all := lw_g (lw_at lw_m5 115 rfl) rfl
theorem q1188 : (Jvm.Cond.laysFinal "BlueBag$Fault" "BlueBag$Fault" "place" "I") ∈ lw_all := lw_g (lw_at lw_m5 116 rfl) rfl
theorem q1189 : (Jvm.Cond.soleField "BlueBag$Fault" "place") ∈ lw_all := lw_g (lw_at lw_m5 117 rfl) rfl
theorem q1190 : (Jvm.Cond.lays "BlueBag$Fault" "java/lang/Throwable" "depth" "I") ∈ lw_all := lw_g (lw_at lw_m5 118 rfl) rfl
theorem q1191 : (Jvm.Cond.superclass "BlueBag$Fault" "java/lang/Exception") ∈ lw_all := lw_g (lw_at lw_m5 119 rfl) rfl
theorem q2365 : (Jvm.Cond.castable "BlueBag$Fault" "java/lang/Object") ∈ lw_tbl := lw_at lw_m10 93 rfl
theorem in_X9 : ∀ w ∈ wsX90, w ∈ lw_all := lw_in wsX90 [1173, 1174, 1175, 1176, 1177, 1190, 1186, 1188] (by decide +kernel) (by decide +kernel)
/-! BlueBag$Expr -/
set_option maxRecDepth 100000
def RX10 : String := "BlueBag$Expr"
abbrev cX10_init : ByteArray := prog_5_method_1_code
def yX10_init : MethodName := ⟨RX10, "<init>", "()V"⟩
theorem dX10_init_0 : decode cX10_init 0 = .ok (.aload_n 0, 1) := by decide +kernel
theorem dX10_init_1 : decode cX10_init 1 = .ok (.invokespecial 1, 3) := by decide +kernel
theorem dX10_init_4 : decode cX10_init 4 = .ok (.return_, 1) := by decide +kernel
theorem q144 : (Jvm.Cond.initialized "BlueBag$Expr") ∈ lw_all := lw_g (lw_at lw_m1 32 rfl) rfl
theorem q898 : (Jvm.Cond.declares ({ cls := "BlueBag$Expr", name := "by", desc := "(LBlueBag$View;)I" } : Jvm.MethodName)) ∈ lw_tbl := lw_at lw_m4 66 rfl
theorem q899 : (Jvm.Cond.sameMethod "BlueBag$Expr" "BlueBag$Expr" "by" "(LBlueBag$View;)I") ∈ lw_all := lw_g (lw_at lw_m4 67 rfl) rfl
theorem q1245 : (Jvm.Cond.instanceMethod ({ cls := "BlueBag$Expr", name := "<init>", desc := "()V" } : Jvm.MethodName)) ∈ lw_all := lw_g (lw_at lw_m5 173 rfl) rfl
theorem q1246 : (Jvm.Cond.code ({ cls := "BlueBag$Expr", name := "<init>", desc := "()V" } : Jvm.MethodName) prog_5_method_1_code (1 : Nat) (Option.none : Option Jvm.ClassFile.FieldType)) ∈ lw_all := lw_g (lw_at lw_m5 174 rfl) rfl
theorem q1247 : (Jvm.Cond.methodLink "BlueBag$Expr" (1 : Nat) ({ cls := "java/lang/Object", name := "<init>", desc := "()V" } : Jvm.MethodName)) ∈ lw_all := lw_g (lw_at lw_m5 175 rfl) rfl
/-! BlueBag$Told -/
set_option maxRecDepth 100000
def RX11 : String := "BlueBag$Told"
def TX11 : u_T := fun k => match k with
  | _ => ("BlueBag$Told", "n", "I", true)
def tyX11 : Nat → FieldType := fun k => match k with
  | _ => .int
abbrev wsX110 : List Cond := u_ws RX11 TX11 1
theorem nmX11 : ∀ a, a < 1 → ∀ b, b < 1 → a ≠ b → (TX11 a).2.1 ≠ (TX11 b).2.1 := by decide +kernel
theorem tyX11_ok : ∀ k, k < 1 → parseFieldDescriptor (TX11 k).2.2.1 = some (tyX11 k) := by decide +kernel
abbrev cX11_by : ByteArray := prog_14_method_2_code
def yX11_by : MethodName := ⟨RX11, "by", "(LBlueBag$View;)I"⟩
theorem dX11_by_0 : decode cX11_by 0 = .ok (.aload_n 0, 1) := by decide +kernel
theorem dX11_by_1 : decode cX11_by 1 = .ok (.getfield 7, 3) := by decide +kernel
theorem dX11_by_4 : decode cX11_by 4 = .ok (.ireturn, 1) := by decide +kernel
abbrev cX11_init : ByteArray := prog_14_method_1_code
def yX11_init : MethodName := ⟨RX11, "<init>", "(I)V"⟩
def dkwX11_init_0 : List UInt8 := [42, 183, 0, 1, 42, 27, 181, 0, 7, 177]
abbrev dktX11_init_0 : List UInt8 := dkwX11_init_0 ++ []
theorem dksX11_init_0 : cX11_init.data.toList.drop 0 = dktX11_init_0 := by decide +kernel
theorem dX11_init_0 : decode cX11_init 0 = .ok (.aload_n 0, 1) := dk_42 (dk_at dksX11_init_0 0 rfl rfl)
theorem dX11_init_1 : decode cX11_init 1 = .ok (.invokespecial 1, 3) := dk_183 0 1 (dk_at dksX11_init_0 1 rfl rfl)
theorem dX11_init_4 : decode cX11_init 4 = .ok (.aload_n 0, 1) := dk_42 (dk_at dksX11_init_0 4 rfl rfl)
theorem dX11_init_5 : decode cX11_init 5 = .ok (.iload_n 1, 1) := dk_27 (dk_at dksX11_init_0 5 rfl rfl)
theorem dX11_init_6 : decode cX11_init 6 = .ok (.putfield 7, 3) := dk_181 0 7 (dk_at dksX11_init_0 6 rfl rfl)
theorem dX11_init_9 : decode cX11_init 9 = .ok (.return_, 1) := dk_177 (dk_at dksX11_init_0 9 rfl rfl)
theorem q145 : (Jvm.Cond.initialized "BlueBag$Told") ∈ lw_all := lw_g (lw_at lw_m1 33 rfl) rfl
theorem q677 : (Jvm.Cond.selects "BlueBag$Told" ({ cls := "java/lang/Object", name := "getClass", desc := "()Ljava/lang/Class;" } : Jvm.MethodName) ({ cls := "java/lang/Object", name := "getClass", desc := "()Ljava/lang/Class;" } : Jvm.MethodName)) ∈ lw_all := lw_g (lw_at lw_m3 85 rfl) rfl
theorem q910 : (Jvm.Cond.instanceMethod ({ cls := "BlueBag$Told", name := "by", desc := "(LBlueBag$View;)I" } : Jvm.MethodName)) ∈ lw_all := lw_g (lw_at lw_m4 78 rfl) rfl
theorem q911 : (Jvm.Cond.code ({ cls := "BlueBag$Told", name := "by", desc := "(LBlueBag$View;)I" } : Jvm.MethodName) prog_14_method_2_code (2 : Nat) (Option.some Jvm.ClassFile.FieldType.int)) ∈ lw_all := lw_g (lw_at lw_m4 79 rfl) rfl
theorem q914 : (Jvm.Cond.selects "BlueBag$Told" ({ cls := "BlueBag$Expr", name := "by", desc := "(LBlueBag$View;)I" } : Jvm.MethodName) ({ cls := "BlueBag$Told", name := "by", desc := "(LBlueBag$View;)I" } : Jvm.MethodName)) ∈ lw_all := lw_g (lw_at lw_m4 82 rfl) rfl
theorem q1240 : (Jvm.Cond.instantiable "BlueBag$Told" (1 : Nat)) ∈ lw_all := lw_g (lw_at lw_m5 168 rfl) rfl
theorem q1242 : (Jvm.Cond.instanceMethod ({ cls := "BlueBag$Told", name := "<init>", desc := "(I)V" } : Jvm.MethodName)) ∈ lw_all := lw_g (lw_at lw_m5 170 rfl) rfl
theorem q1243 : (Jvm.Cond.code ({ cls := "BlueBag$Told", name := "<init>", desc := "(I)V" } : Jvm.MethodName) prog_14_method_1_code (2 : Nat) (Option.none : Option Jvm.ClassFile.FieldType)) ∈ lw_all := lw_g (lw_at lw_m5 171 rfl) rfl
theorem q1244 : (Jvm.Cond.methodLinkNest "BlueBag$Told" (1 : Nat) ({ cls := "BlueBag$Expr", name := "<init>", desc := "()V" } : Jvm.MethodName) "BlueBag") ∈ lw_tbl := lw_at lw_m5 172 rfl
theorem q1248 : (Jvm.Cond.fieldLink "BlueBag$Told" (7 : Nat) "BlueBag$Told" "n" "I") ∈ lw_all := lw_g (lw_at lw_m5 176 rfl) rfl
theorem q1249 : (Jvm.Cond.laysFinal "BlueBag$Told" "BlueBag$Told" "n" "I") ∈ lw_all := lw_g (lw_at lw_m5 177 rfl) rfl
theorem q1250 : (Jvm.Cond.soleField "BlueBag$Told" "n") ∈ lw_all := lw_g (lw_at lw_m5 178 rfl) rfl
theorem q1251 : (Jvm.Cond.superclass "BlueBag$Told" "BlueBag$Expr") ∈ lw_all := lw_g (lw_at lw_m5 179 rfl) rfl
theorem q2366 : (Jvm.Cond.castable "BlueBag$Told" "java/lang/Object") ∈ lw_tbl := lw_at lw_m10 94 rfl
theorem in_X11 : ∀ w ∈ wsX110, w ∈ lw_all := lw_in wsX110 [1249] (by decide +kernel) (by decide +kernel)
/-! BlueBag$Seen -/
set_option maxRecDepth 100000
def RX12 : String := "BlueBag$Seen"
def TX12 : u_T := fun k => match k with
  | _ => ("BlueBag$Seen", "value", "LBlueBag$Value;", true)
def tyX12 : Nat → FieldType := fun k => match k with
  | _ => .object "BlueBag$Value"
abbrev wsX120 : List Cond := u_ws RX12 TX12 1
theorem nmX12 : ∀ a, a < 1 → ∀ b, b < 1 → a ≠ b → (TX12 a).2.1 ≠ (TX12 b).2.1 := by decide +kernel
theorem tyX12_ok : ∀ k, k < 1 → parseFieldDescriptor (TX12 k).2.2.1 = some (tyX12 k) := by decide +kernel
abbrev cX12_by : ByteArray := prog_11_method_2_code
def yX12_by : MethodName := ⟨RX12, "by", "(LBlueBag$View;)I"⟩
def dkwX12_by_0 : List UInt8 := [43, 180, 0, 13, 42, 180, 0, 7, 182, 0, 19, 46, 172]
abbrev dktX12_by_0 : List UInt8 := dkwX12_by_0 ++ []
theorem dksX12_by_0 : cX12_by.data.toList.drop 0 = dktX12_by_0 := by decide +kernel
theorem dX12_by_0 : decode cX12_by 0 = .ok (.aload_n 1, 1) := dk_43 (dk_at dksX12_by_0 0 rfl rfl)
theorem dX12_by_1 : decode cX12_by 1 = .ok (.getfield 13, 3) := dk_180 0 13 (dk_at dksX12_by_0 1 rfl rfl)
theorem dX12_by_4 : decode cX12_by 4 = .ok (.aload_n 0, 1) := dk_42 (dk_at dksX12_by_0 4 rfl rfl)
theorem dX12_by_5 : decode cX12_by 5 = .ok (.getfield 7, 3) := dk_180 0 7 (dk_at dksX12_by_0 5 rfl rfl)
theorem dX12_by_8 : decode cX12_by 8 = .ok (.invokevirtual 19, 3) := dk_182 0 19 (dk_at dksX12_by_0 8 rfl rfl)
theorem dX12_by_11 : decode cX12_by 11 = .ok (.iaload, 1) := dk_46 (dk_at dksX12_by_0 11 rfl rfl)
theorem dX12_by_12 : decode cX12_by 12 = .ok (.ireturn, 1) := dk_172 (dk_at dksX12_by_0 12 rfl rfl)
abbrev cX12_init : ByteArray := prog_11_method_1_code
def yX12_init : MethodName := ⟨RX12, "<init>", "(LBlueBag$Value;)V"⟩
def dkwX12_init_0 : List UInt8 := [42, 183, 0, 1, 42, 43, 181, 0, 7, 177]
abbrev dktX12_init_0 : List UInt8 := dkwX12_init_0 ++ []
theorem dksX12_init_0 : cX12_init.data.toList.drop 0 = dktX12_init_0 := by decide +kernel
theorem dX12_init_0 : decode cX12_init 0 = .ok (.aload_n 0, 1) := dk_42 (dk_at dksX12_init_0 0 rfl rfl)
theorem dX12_init_1 : decode cX12_init 1 = .ok (.invokespecial 1, 3) := dk_183 0 1 (dk_at dksX12_init_0 1 rfl rfl)
theorem dX12_init_4 : decode cX12_init 4 = .ok (.aload_n 0, 1) := dk_42 (dk_at dksX12_init_0 4 rfl rfl)
theorem dX12_init_5 : decode cX12_init 5 = .ok (.aload_n 1, 1) := dk_43 (dk_at dksX12_init_0 5 rfl rfl)
theorem dX12_init_6 : decode cX12_init 6 = .ok (.putfield 7, 3) := dk_181 0 7 (dk_at dksX12_init_0 6 rfl rfl)
theorem dX12_init_9 : decode cX12_init 9 = .ok (.return_, 1) := dk_177 (dk_at dksX12_init_0 9 rfl rfl)
theorem q146 : (Jvm.Cond.initialized "BlueBag$Seen") ∈ lw_all := lw_g (lw_at lw_m1 34 rfl) rfl
theorem q525 : (Jvm.Cond.fieldLinkNest "BlueBag$Seen" (13 : Nat) "BlueBag$View" "of" "[I" "BlueBag") ∈ lw_tbl := lw_at lw_m2 173 rfl
theorem q674 : (Jvm.Cond.selects "BlueBag$Seen" ({ cls := "java/lang/Object", name := "getClass", desc := "()Ljava/lang/Class;" } : Jvm.MethodName) ({ cls := "java/lang/Object", name := "getClass", desc := "()Ljava/lang/Class;" } : Jvm.MethodName)) ∈ lw_all := lw_g (lw_at lw_m3 82 rfl) rfl
theorem q907 : (Jvm.Cond.instanceMethod ({ cls := "BlueBag$Seen", name := "by", desc := "(LBlueBag$View;)I" } : Jvm.MethodName)) ∈ lw_all := lw_g (lw_at lw_m4 75 rfl) rfl
theorem q908 : (Jvm.Cond.code ({ cls := "BlueBag$Seen", name := "by", desc := "(LBlueBag$View;)I" } : Jvm.MethodName) prog_11_method_2_code (2 : Nat) (Option.some Jvm.ClassFile.FieldType.int)) ∈ lw_all := lw_g (lw_at lw_m4 76 rfl) rfl
theorem q909 : (Jvm.Cond.methodLink "BlueBag$Seen" (19 : Nat) ({ cls := "BlueBag$Value", name := "ordinal", desc := "()I" } : Jvm.MethodName)) ∈ lw_all := lw_g (lw_at lw_m4 77 rfl) rfl
theorem q913 : (Jvm.Cond.selects "BlueBag$Seen" ({ cls := "BlueBag$Expr", name := "by", desc := "(LBlueBag$View;)I" } : Jvm.MethodName) ({ cls := "BlueBag$Seen", name := "by", desc := "(LBlueBag$View;)I" } : Jvm.MethodName)) ∈ lw_all := lw_g (lw_at lw_m4 81 rfl) rfl
theorem q1275 : (Jvm.Cond.instantiable "BlueBag$Seen" (1 : Nat)) ∈ lw_all := lw_g (lw_at lw_m5 203 rfl) rfl
theorem q1277 : (Jvm.Cond.instanceMethod ({ cls := "BlueBag$Seen", name := "<init>", desc := "(LBlueBag$Value;)V" } : Jvm.MethodName)) ∈ lw_all := lw_g (lw_at lw_m5 205 rfl) rfl
theorem q1278 : (Jvm.Cond.code ({ cls := "BlueBag$Seen", name := "<init>", desc := "(LBlueBag$Value;)V" } : Jvm.MethodName) prog_11_method_1_code (2 : Nat) (Option.none : Option Jvm.ClassFile.FieldType)) ∈ lw_all := lw_g (lw_at lw_m5 206 rfl) rfl
theorem q1279 : (Jvm.Cond.methodLinkNest "BlueBag$Seen" (1 : Nat) ({ cls := "BlueBag$Expr", name := "<init>", desc := "()V" } : Jvm.MethodName) "BlueBag") ∈ lw_tbl := lw_at lw_m5 207 rfl
theorem q1280 : (Jvm.Cond.fieldLink "BlueBag$Seen" (7 : Nat) "BlueBag$Seen" "value" "LBlueBag$Value;") ∈ lw_all := lw_g (lw_at lw_m5 208 rfl) rfl
theorem q1281 : (Jvm.Cond.laysFinal "BlueBag$Seen" "BlueBag$Seen" "value" "LBlueBag$Value;") ∈ lw_all := lw_g (lw_at lw_m5 209 rfl) rfl
theorem q1282 : (Jvm.Cond.soleField "BlueBag$Seen" "value") ∈ lw_all := lw_g (lw_at lw_m5 210 rfl) rfl
theorem q1283 : (Jvm.Cond.superclass "BlueBag$Seen" "BlueBag$Expr") ∈ lw_all := lw_g (lw_at lw_m5 211 rfl) rfl
theorem q2367 : (Jvm.Cond.castable "BlueBag$Seen" "java/lang/Object") ∈ lw_tbl := lw_at lw_m10 95 rfl
theorem in_X12 : ∀ w ∈ wsX120, w ∈ lw_all := lw_in wsX120 [1281] (by decide +kernel) (by decide +kernel)
/-! BlueBag$Both -/
set_option maxRecDepth 100000
def RX13 : String := "BlueBag$Both"
def TX13 : u_T := fun k => match k with
  | 0 => ("BlueBag$Both", "act", "C", true)
  | 1 => ("BlueBag$Both", "left", "LBlueBag$Expr;", true)
  | _ => ("BlueBag$Both", "right", "LBlueBag$Expr;", true)
def tyX13 : Nat → FieldType := fun k => match k with
  | 0 => .char
  | 1 => .object "BlueBag$Expr"
  | _ => .object "BlueBag$Expr"
abbrev wsX130 : List Cond := u_ws RX13 TX13 3
theorem nmX13 : ∀ a, a < 3 → ∀ b, b < 3 → a ≠ b → (TX13 a).2.1 ≠ (TX13 b).2.1 := by decide +kernel
theorem tyX13_ok : ∀ k, k < 3 → parseFieldDescriptor (TX13 k).2.2.1 = some (tyX13 k) := by decide +kernel
abbrev cX13_by : ByteArray := prog_3_method_2_code
def yX13_by : MethodName := ⟨RX13, "by", "(LBlueBag$View;)I"⟩
def dkwX13_by_5 : List UInt8 := [167, 0, 4, 3, 172]
abbrev dktX13_by_5 : List UInt8 := dkwX13_by_5 ++ []
def dkwX13_by_4 : List UInt8 := [153, 0, 11, 29, 153, 0, 7, 4, 167, 0, 4, 3, 172, 28, 154, 0, 7, 29, 153, 0, 7, 4]
abbrev dktX13_by_4 : List UInt8 := dkwX13_by_4 ++ dktX13_by_5
def dkwX13_by_3 : List UInt8 := [28, 29, 162, 0, 7, 4, 167, 0, 4, 3, 172, 28, 29, 160, 0, 7, 4, 167, 0, 4, 3, 172, 28]
abbrev dktX13_by_3 : List UInt8 := dkwX13_by_3 ++ dktX13_by_4
def dkwX13_by_2 : List UInt8 := [28, 29, 96, 172, 28, 29, 100, 172, 28, 29, 104, 172, 29, 154, 0, 7, 3, 167, 0, 6, 28, 29, 108, 172]
abbrev dktX13_by_2 : List UInt8 := dkwX13_by_2 ++ dktX13_by_3
def dkwX13_by_1 : List UInt8 := [170, 0, 0, 0, 0, 170, 0, 0, 0, 38, 0, 0, 0, 61, 0, 0, 0, 156, 0, 0, 0, 170, 0, 0, 0, 170, 0, 0, 0, 170, 0, 0, 0, 118, 0, 0, 0, 110, 0, 0, 0, 170, 0, 0, 0, 114, 0, 0, 0, 170, 0, 0, 0, 122, 0, 0, 0, 170, 0, 0, 0, 170, 0, 0, 0, 170, 0, 0, 0, 170, 0, 0, 0, 170, 0, 0, 0, 170, 0, 0, 0, 170, 0, 0, 0, 170, 0, 0, 0, 170, 0, 0, 0, 170, 0, 0, 0, 170, 0, 0, 0, 170, 0, 0, 0, 134, 0, 0, 0, 145]
abbrev dktX13_by_1 : List UInt8 := dkwX13_by_1 ++ dktX13_by_2
def dkwX13_by_0 : List UInt8 := [42, 180, 0, 13, 43, 182, 0, 20, 61, 42, 180, 0, 17, 43, 182, 0, 20, 62, 42, 180, 0, 7]
abbrev dktX13_by_0 : List UInt8 := dkwX13_by_0 ++ dktX13_by_1
theorem dksX13_by_0 : cX13_by.data.toList.drop 0 = dktX13_by_0 := by decide +kernel
theorem dksX13_by_1 : cX13_by.data.toList.drop 22 = dktX13_by_1 := dk_seg dksX13_by_0 22 rfl rfl
theorem dksX13_by_2 : cX13_by.data.toList.drop 132 = dktX13_by_2 := dk_seg dksX13_by_1 110 rfl rfl
theorem dksX13_by_3 : cX13_by.data.toList.drop 156 = dktX13_by_3 := dk_seg dksX13_by_2 24 rfl rfl
theorem dksX13_by_4 : cX13_by.data.toList.drop 179 = dktX13_by_4 := dk_seg dksX13_by_3 23 rfl rfl
theorem dksX13_by_5 : cX13_by.data.toList.drop 201 = dktX13_by_5 := dk_seg dksX13_by_4 22 rfl rfl
theorem dX13_by_0 : decode cX13_by 0 = .ok (.aload_n 0, 1) := dk_42 (dk_at dksX13_by_0 0 rfl rfl)
theorem dX13_by_1 : decode cX13_by 1 = .ok (.getfield 13, 3) := dk_180 0 13 (dk_at dksX13_by_0 1 rfl rfl)
theorem dX13_by_4 : decode cX13_by 4 = .ok (.aload_n 1, 1) := dk_43 (dk_at dksX13_by_0 4 rfl rfl)
theorem dX13_by_5 : decode cX13_by 5 = .ok (.invokevirtual 20, 3) := dk_182 0 20 (dk_at dksX13_by_0 5 rfl rfl)
theorem dX13_by_8 : decode cX13_by 8 = .ok (.istore_n 2, 1) := dk_61 (dk_at dksX13_by_0 8 rfl rfl)
theorem dX13_by_9 : decode cX13_by 9 = .ok (.aload_n 0, 1) := dk_42 (dk_at dksX13_by_0 9 rfl rfl)
theorem dX13_by_10 : decode cX13_by 10 = .ok (.getfield 17, 3) := dk_180 0 17 (dk_at dksX13_by_0 10 rfl rfl)
theorem dX13_by_13 : decode cX13_by 13 = .ok (.aload_n 1, 1) := dk_43 (dk_at dksX13_by_0 13 rfl rfl)
theorem dX13_by_14 : decode cX13_by 14 = .ok (.invokevirtual 20, 3) := dk_182 0 20 (dk_at dksX13_by_0 14 rfl rfl)
theorem dX13_by_17 : decode cX13_by 17 = .ok (.istore_n 3, 1) := dk_62 (dk_at dksX13_by_0 17 rfl rfl)
theorem dX13_by_18 : decode cX13_by 18 = .ok (.aload_n 0, 1) := dk_42 (dk_at dksX13_by_0 18 rfl rfl)
theorem dX13_by_19 : decode cX13_by 19 = .ok (.getfield 7, 3) := dk_180 0 7 (dk_at dksX13_by_0 19 rfl rfl)
theorem dX13_by_22 : decode cX13_by 22 = .ok (.tableswitch 170 38 61 #[156, 170, 170, 170, 118, 110, 170, 114, 170, 122, 170, 170, 170, 170, 170, 170, 170, 170, 170, 170, 170, 170, 134, 145], 110) := by decide +kernel
theorem dX13_by_132 : decode cX13_by 132 = .ok (.iload_n 2, 1) := dk_28 (dk_at dksX13_by_2 0 rfl rfl)
theorem dX13_by_133 : decode cX13_by 133 = .ok (.iload_n 3, 1) := dk_29 (dk_at dksX13_by_2 1 rfl rfl)
theorem dX13_by_134 : decode cX13_by 134 = .ok (.iadd, 1) := dk_96 (dk_at dksX13_by_2 2 rfl rfl)
theorem dX13_by_135 : decode cX13_by 135 = .ok (.ireturn, 1) := dk_172 (dk_at dksX13_by_2 3 rfl rfl)
theorem dX13_by_136 : decode cX13_by 136 = .ok (.iload_n 2, 1) := dk_28 (dk_at dksX13_by_2 4 rfl rfl)
theorem dX13_by_137 : decode cX13_by 137 = .ok (.iload_n 3, 1) := dk_29 (dk_at dksX13_by_2 5 rfl rfl)
theorem dX13_by_138 : decode cX13_by 138 = .ok (.isub, 1) := dk_100 (dk_at dksX13_by_2 6 rfl rfl)
theorem dX13_by_139 : decode cX13_by 139 = .ok (.ireturn, 1) := dk_172 (dk_at dksX13_by_2 7 rfl rfl)
theorem dX13_by_140 : decode cX13_by 140 = .ok (.iload_n 2, 1) := dk_28 (dk_at dksX13_by_2 8 rfl rfl)
theorem dX13_by_141 : decode cX13_by 141 = .ok (.iload_n 3, 1) := dk_29 (dk_at dksX13_by_2 9 rfl rfl)
theorem dX13_by_142 : decode cX13_by 142 = .ok (.imul, 1) := dk_104 (dk_at dksX13_by_2 10 rfl rfl)
theorem dX13_by_143 : decode cX13_by 143 = .ok (.ireturn, 1) := dk_172 (dk_at dksX13_by_2 11 rfl rfl)
theorem dX13_by_144 : decode cX13_by 144 = .ok (.iload_n 3, 1) := dk_29 (dk_at dksX13_by_2 12 rfl rfl)
theorem dX13_by_145 : decode cX13_by 145 = .ok (.ifCond .ne 7, 3) := dk_154 0 7 (dk_at dksX13_by_2 13 rfl rfl)
theorem dX13_by_148 : decode cX13_by 148 = .ok (.iconst 0, 1) := dk_3 (dk_at dksX13_by_2 16 rfl rfl)
theorem dX13_by_149 : decode cX13_by 149 = .ok (.goto 6, 3) := dk_167 0 6 (dk_at dksX13_by_2 17 rfl rfl)
theorem dX13_by_152 : decode cX13_by 152 = .ok (.iload_n 2, 1) := dk_28 (dk_at dksX13_by_2 20 rfl rfl)
theorem dX13_by_153 : decode cX13_by 153 = .ok (.iload_n 3, 1) := dk_29 (dk_at dksX13_by_2 21 rfl rfl)
theorem dX13_by_154 : decode cX13_by 154 = .ok (.idiv, 1) := dk_108 (dk_at dksX13_by_2 22 rfl rfl)
theorem dX13_by_155 : decode cX13_by 155 = .ok (.ireturn, 1) := dk_172 (dk_at dksX13_by_2 23 rfl rfl)
theorem dX13_by_156 : decode cX13_by 156 = .ok (.iload_n 2, 1) := dk_28 (dk_at dksX13_by_3 0 rfl rfl)
theorem dX13_by_157 : decode cX13_by 157 = .ok (.iload_n 3, 1) := dk_29 (dk_at dksX13_by_3 1 rfl rfl)
theorem dX13_by_158 : decode cX13_by 158 = .ok (.if_icmp .ge 7, 3) := dk_162 0 7 (dk_at dksX13_by_3 2 rfl rfl)
theorem dX13_by_161 : decode cX13_by 161 = .ok (.iconst 1, 1) := dk_4 (dk_at dksX13_by_3 5 rfl rfl)
theorem dX13_by_162 : decode cX13_by 162 = .ok (.goto 4, 3) := dk_167 0 4 (dk_at dksX13_by_3 6 rfl rfl)
theorem dX13_by_165 : decode cX13_by 165 = .ok (.iconst 0, 1) := dk_3 (dk_at dksX13_by_3 9 rfl rfl)
theorem dX13_by_166 : decode cX13_by 166 = .ok (.ireturn, 1) := dk_172 (dk_at dksX13_by_3 10 rfl rfl)
theorem dX13_by_167 : decode cX13_by 167 = .ok (.iload_n 2, 1) := dk_28 (dk_at dksX13_by_3 11 rfl rfl)
theorem dX13_by_168 : decode cX13_by 168 = .ok (.iload_n 3, 1) := dk_29 (dk_at dksX13_by_3 12 rfl rfl)
theorem dX13_by_169 : decode cX13_by 169 = .ok (.if_icmp .ne 7, 3) := dk_160 0 7 (dk_at dksX13_by_3 13 rfl rfl)
theorem dX13_by_172 : decode cX13_by 172 = .ok (.iconst 1, 1) := dk_4 (dk_at dksX13_by_3 16 rfl rfl)
theorem dX13_by_173 : decode cX13_by 173 = .ok (.goto 4, 3) := dk_167 0 4 (dk_at dksX13_by_3 17 rfl rfl)
theorem dX13_by_176 : decode cX13_by 176 = .ok (.iconst 0, 1) := dk_3 (dk_at dksX13_by_3 20 rfl rfl)
theorem dX13_by_177 : decode cX13_by 177 = .ok (.ireturn, 1) := dk_172 (dk_at dksX13_by_3 21 rfl rfl)
theorem dX13_by_178 : decode cX13_by 178 = .ok (.iload_n 2, 1) := dk_28 (dk_at dksX13_by_3 22 rfl rfl)
theorem dX13_by_179 : decode cX13_by 179 = .ok (.ifCond .eq 11, 3) := dk_153 0 11 (dk_at dksX13_by_4 0 rfl rfl)
theorem dX13_by_182 : decode cX13_by 182 = .ok (.iload_n 3, 1) := dk_29 (dk_at dksX13_by_4 3 rfl rfl)
theorem dX13_by_183 : decode cX13_by 183 = .ok (.ifCond .eq 7, 3) := dk_153 0 7 (dk_at dksX13_by_4 4 rfl rfl)
theorem dX13_by_186 : decode cX13_by 186 = .ok (.iconst 1, 1) := dk_4 (dk_at dksX13_by_4 7 rfl rfl)
theorem dX13_by_187 : decode cX13_by 187 = .ok (.goto 4, 3) := dk_167 0 4 (dk_at dksX13_by_4 8 rfl rfl)
theorem dX13_by_190 : decode cX13_by 190 = .ok (.iconst 0, 1) := dk_3 (dk_at dksX13_by_4 11 rfl rfl)
theorem dX13_by_191 : decode cX13_by 191 = .ok (.ireturn, 1) := dk_172 (dk_at dksX13_by_4 12 rfl rfl)
theorem dX13_by_192 : decode cX13_by 192 = .ok (.iload_n 2, 1) := dk_28 (dk_at dksX13_by_4 13 rfl rfl)
theorem dX13_by_193 : decode cX13_by 193 = .ok (.ifCond .ne 7, 3) := dk_154 0 7 (dk_at dksX13_by_4 14 rfl rfl)
theorem dX13_by_196 : decode cX13_by 196 = .ok (.iload_n 3, 1) := dk_29 (dk_at dksX13_by_4 17 rfl rfl)
theorem dX13_by_197 : decode cX13_by 197 = .ok (.ifCond .eq 7, 3) := dk_153 0 7 (dk_at dksX13_by_4 18 rfl rfl)
theorem dX13_by_200 : decode cX13_by 200 = .ok (.iconst 1, 1) := dk_4 (dk_at dksX13_by_4 21 rfl rfl)
theorem dX13_by_201 : decode cX13_by 201 = .ok (.goto 4, 3) := dk_167 0 4 (dk_at dksX13_by_5 0 rfl rfl)
theorem dX13_by_204 : decode cX13_by 204 = .ok (.iconst 0, 1) := dk_3 (dk_at dksX13_by_5 3 rfl rfl)
theorem dX13_by_205 : decode cX13_by 205 = .ok (.ireturn, 1) := dk_172 (dk_at dksX13_by_5 4 rfl rfl)
abbrev cX13_init : ByteArray := prog_3_method_1_code
def yX13_init : MethodName := ⟨RX13, "<init>", "(CLBlueBag$Expr;LBlueBag$Expr;)V"⟩
def dkwX13_init_0 : List UInt8 := [42, 183, 0, 1, 42, 27, 181, 0, 7, 42, 44, 181, 0, 13, 42, 45, 181, 0, 17, 177]
abbrev dktX13_init_0 : List UInt8 := dkwX13_init_0 ++ []
theorem dksX13_init_0 : cX13_init.data.toList.drop 0 = dktX13_init_0 := by decide +kernel
theorem dX13_init_0 : decode cX13_init 0 = .ok (.aload_n 0, 1) := dk_42 (dk_at dksX13_init_0 0 rfl rfl)
theorem dX13_init_1 : decode cX13_init 1 = .ok (.invokespecial 1, 3) := dk_183 0 1 (dk_at dksX13_init_0 1 rfl rfl)
theorem dX13_init_4 : decode cX13_init 4 = .ok (.aload_n 0, 1) := dk_42 (dk_at dksX13_init_0 4 rfl rfl)
theorem dX13_init_5 : decode cX13_init 5 = .ok (.iload_n 1, 1) := dk_27 (dk_at dksX13_init_0 5 rfl rfl)
theorem dX13_init_6 : decode cX13_init 6 = .ok (.putfield 7, 3) := dk_181 0 7 (dk_at dksX13_init_0 6 rfl rfl)
theorem dX13_init_9 : decode cX13_init 9 = .ok (.aload_n 0, 1) := dk_42 (dk_at dksX13_init_0 9 rfl rfl)
theorem dX13_init_10 : decode cX13_init 10 = .ok (.aload_n 2, 1) := dk_44 (dk_at dksX13_init_0 10 rfl rfl)
theorem dX13_init_11 : decode cX13_init 11 = .ok (.putfield 13, 3) := dk_181 0 13 (dk_at dksX13_init_0 11 rfl rfl)
theorem dX13_init_14 : decode cX13_init 14 = .ok (.aload_n 0, 1) := dk_42 (dk_at dksX13_init_0 14 rfl rfl)
theorem dX13_init_15 : decode cX13_init 15 = .ok (.aload_n 3, 1) := dk_45 (dk_at dksX13_init_0 15 rfl rfl)
theorem dX13_init_16 : decode cX13_init 16 = .ok (.putfield 17, 3) := dk_181 0 17 (dk_at dksX13_init_0 16 rfl rfl)
theorem dX13_init_19 : decode cX13_init 19 = .ok (.return_, 1) := dk_177 (dk_at dksX13_init_0 19 rfl rfl)
theorem q147 : (Jvm.Cond.initialized "BlueBag$Both") ∈ lw_all := lw_g (lw_at lw_m1 35 rfl) rfl
theorem q667 : (Jvm.Cond.selects "BlueBag$Both" ({ cls := "java/lang/Object", name := "getClass", desc := "()Ljava/lang/Class;" } : Jvm.MethodName) ({ cls := "java/lang/Object", name := "getClass", desc := "()Ljava/lang/Class;" } : Jvm.MethodName)) ∈ lw_all := lw_g (lw_at lw_m3 75 rfl) rfl
theorem q900 : (Jvm.Cond.selects "BlueBag$Both" ({ cls := "BlueBag$Expr", name := "by", desc := "(LBlueBag$View;)I" } : Jvm.MethodName) ({ cls := "BlueBag$Both", name := "by", desc := "(LBlueBag$View;)I" } : Jvm.MethodName)) ∈ lw_all := lw_g (lw_at lw_m4 68 rfl) rfl
theorem q901 : (Jvm.Cond.instanceMethod ({ cls := "BlueBag$Both", name := "by", desc := "(LBlueBag$View;)I" } : Jvm.MethodName)) ∈ lw_all := lw_g (lw_at lw_m4 69 rfl) rfl
theorem q902 : (Jvm.Cond.code ({ cls := "BlueBag$Both", name := "by", desc := "(LBlueBag$View;)I" } : Jvm.MethodName) prog_3_method_2_code (4 : Nat) (Option.some Jvm.ClassFile.FieldType.int)) ∈ lw_all := lw_g (lw_at lw_m4 70 rfl) rfl
theorem q903 : (Jvm.Cond.methodLink "BlueBag$Both" (20 : Nat) ({ cls := "BlueBag$Expr", name := "by", desc := "(LBlueBag$View;)I" } : Jvm.MethodName)) ∈ lw_all := lw_g (lw_at lw_m4 71 rfl) rfl
theorem q1302 : (Jvm.Cond.instantiable "BlueBag$Both" (3 : Nat)) ∈ lw_all := lw_g (lw_at lw_m5 230 rfl) rfl
theorem q1304 : (Jvm.Cond.instanceMethod ({ cls := "BlueBag$Both", name := "<init>", desc := "(CLBlueBag$Expr;LBlueBag$Expr;)V" } : Jvm.MethodName)) ∈ lw_all := lw_g (lw_at lw_m5 232 rfl) rfl
theorem q1305 : (Jvm.Cond.code ({ cls := "BlueBag$Both", name := "<init>", desc := "(CLBlueBag$Expr;LBlueBag$Expr;)V" } : Jvm.MethodName) prog_3_method_1_code (4 : Nat) (Option.none : Option Jvm.ClassFile.FieldType)) ∈ lw_all := lw_g (lw_at lw_m5 233 rfl) rfl
theorem q1306 : (Jvm.Cond.methodLinkNest "BlueBag$Both" (1 : Nat) ({ cls := "BlueBag$Expr", name := "<init>", desc := "()V" } : Jvm.MethodName) "BlueBag") ∈ lw_tbl := lw_at lw_m5 234 rfl
theorem q1307 : (Jvm.Cond.fieldLink "BlueBag$Both" (7 : Nat) "BlueBag$Both" "act" "C") ∈ lw_all := lw_g (lw_at lw_m5 235 rfl) rfl
theorem q1308 : (Jvm.Cond.fieldLink "BlueBag$Both" (13 : Nat) "BlueBag$Both" "left" "LBlueBag$Expr;") ∈ lw_all := lw_g (lw_at lw_m5 236 rfl) rfl
theorem q1309 : (Jvm.Cond.fieldLink "BlueBag$Both" (17 : Nat) "BlueBag$Both" "right" "LBlueBag$Expr;") ∈ lw_all := lw_g (lw_at lw_m5 237 rfl) rfl
theorem q1310 : (Jvm.Cond.laysFinal "BlueBag$Both" "BlueBag$Both" "act" "C") ∈ lw_all := lw_g (lw_at lw_m5 238 rfl) rfl
theorem q1311 : (Jvm.Cond.soleField "BlueBag$Both" "act") ∈ lw_all := lw_g (lw_at lw_m5 239 rfl) rfl
theorem q1312 : (Jvm.Cond.laysFinal "BlueBag$Both" "BlueBag$Both" "left" "LBlueBag$Expr;") ∈ lw_all := lw_g (lw_at lw_m6 0 rfl) rfl
theorem q1313 : (Jvm.Cond.soleField "BlueBag$Both" "left") ∈ lw_all := lw_g (lw_at lw_m6 1 rfl) rfl
theorem q1314 : (Jvm.Cond.laysFinal "BlueBag$Both" "BlueBag$Both" "right" "LBlueBag$Expr;") ∈ lw_all := lw_g (lw_at lw_m6 2 rfl) rfl
theorem q1315 : (Jvm.Cond.soleField "BlueBag$Both" "right") ∈ lw_all := lw_g (lw_at lw_m6 3 rfl) rfl
theorem q1316 : (Jvm.Cond.superclass "BlueBag$Both" "BlueBag$Expr") ∈ lw_all := lw_g (lw_at lw_m6 4 rfl) rfl
theorem q2368 : (Jvm.Cond.castable "BlueBag$Both" "java/lang/Object") ∈ lw_tbl := lw_at lw_m10 96 rfl
theorem in_X13 : ∀ w ∈ wsX130, w ∈ lw_all := lw_in wsX130 [1310, 1312, 1314] (by decide +kernel) (by decide +kernel)
/-! BlueBag$Not -/
set_option maxRecDepth 100000
def RX14 : String := "BlueBag$Not"
def TX14 : u_T := fun k => match k with
  | _ => ("BlueBag$Not", "part", "LBlueBag$Expr;", true)
def tyX14 : Nat → FieldType := fun k => match k with
  | _ => .object "BlueBag$Expr"
abbrev wsX140 : List Cond := u_ws RX14 TX14 1
theorem nmX14 : ∀ a, a < 1 → ∀ b, b < 1 → a ≠ b → (TX14 a).2.1 ≠ (TX14 b).2.1 := by decide +kernel
theorem tyX14_ok : ∀ k, k < 1 → parseFieldDescriptor (TX14 k).2.2.1 = some (tyX14 k) := by decide +kernel
abbrev cX14_by : ByteArray := prog_8_method_2_code
def yX14_by : MethodName := ⟨RX14, "by", "(LBlueBag$View;)I"⟩
def dkwX14_by_0 : List UInt8 := [42, 180, 0, 7, 43, 182, 0, 13, 154, 0, 7, 4, 167, 0, 4, 3, 172]
abbrev dktX14_by_0 : List UInt8 := dkwX14_by_0 ++ []
theorem dksX14_by_0 : cX14_by.data.toList.drop 0 = dktX14_by_0 := by decide +kernel
theorem dX14_by_0 : decode cX14_by 0 = .ok (.aload_n 0, 1) := dk_42 (dk_at dksX14_by_0 0 rfl rfl)
theorem dX14_by_1 : decode cX14_by 1 = .ok (.getfield 7, 3) := dk_180 0 7 (dk_at dksX14_by_0 1 rfl rfl)
theorem dX14_by_4 : decode cX14_by 4 = .ok (.aload_n 1, 1) := dk_43 (dk_at dksX14_by_0 4 rfl rfl)
theorem dX14_by_5 : decode cX14_by 5 = .ok (.invokevirtual 13, 3) := dk_182 0 13 (dk_at dksX14_by_0 5 rfl rfl)
theorem dX14_by_8 : decode cX14_by 8 = .ok (.ifCond .ne 7, 3) := dk_154 0 7 (dk_at dksX14_by_0 8 rfl rfl)
theorem dX14_by_11 : decode cX14_by 11 = .ok (.iconst 1, 1) := dk_4 (dk_at dksX14_by_0 11 rfl rfl)
theorem dX14_by_12 : decode cX14_by 12 = .ok (.goto 4, 3) := dk_167 0 4 (dk_at dksX14_by_0 12 rfl rfl)
theorem dX14_by_15 : decode cX14_by 15 = .ok (.iconst 0, 1) := dk_3 (dk_at dksX14_by_0 15 rfl rfl)
theorem dX14_by_16 : decode cX14_by 16 = .ok (.ireturn, 1) := dk_172 (dk_at dksX14_by_0 16 rfl rfl)
abbrev cX14_init : ByteArray := prog_8_method_1_code
def yX14_init : MethodName := ⟨RX14, "<init>", "(LBlueBag$Expr;)V"⟩
def dkwX14_init_0 : List UInt8 := [42, 183, 0, 1, 42, 43, 181, 0, 7, 177]
abbrev dktX14_init_0 : List UInt8 := dkwX14_init_0 ++ []
theorem dksX14_init_0 : cX14_init.data.toList.drop 0 = dktX14_init_0 := by decide +kernel
theorem dX14_init_0 : decode cX14_init 0 = .ok (.aload_n 0, 1) := dk_42 (dk_at dksX14_init_0 0 rfl rfl)
theorem dX14_init_1 : decode cX14_init 1 = .ok (.invokespecial 1, 3) := dk_183 0 1 (dk_at dksX14_init_0 1 rfl rfl)
theorem dX14_init_4 : decode cX14_init 4 = .ok (.aload_n 0, 1) := dk_42 (dk_at dksX14_init_0 4 rfl rfl)
theorem dX14_init_5 : decode cX14_init 5 = .ok (.aload_n 1, 1) := dk_43 (dk_at dksX14_init_0 5 rfl rfl)
theorem dX14_init_6 : decode cX14_init 6 = .ok (.putfield 7, 3) := dk_181 0 7 (dk_at dksX14_init_0 6 rfl rfl)
theorem dX14_init_9 : decode cX14_init 9 = .ok (.return_, 1) := dk_177 (dk_at dksX14_init_0 9 rfl rfl)
theorem q148 : (Jvm.Cond.initialized "BlueBag$Not") ∈ lw_all := lw_g (lw_at lw_m1 36 rfl) rfl
theorem q671 : (Jvm.Cond.selects "BlueBag$Not" ({ cls := "java/lang/Object", name := "getClass", desc := "()Ljava/lang/Class;" } : Jvm.MethodName) ({ cls := "java/lang/Object", name := "getClass", desc := "()Ljava/lang/Class;" } : Jvm.MethodName)) ∈ lw_all := lw_g (lw_at lw_m3 79 rfl) rfl
theorem q904 : (Jvm.Cond.instanceMethod ({ cls := "BlueBag$Not", name := "by", desc := "(LBlueBag$View;)I" } : Jvm.MethodName)) ∈ lw_all := lw_g (lw_at lw_m4 72 rfl) rfl
theorem q905 : (Jvm.Cond.code ({ cls := "BlueBag$Not", name := "by", desc := "(LBlueBag$View;)I" } : Jvm.MethodName) prog_8_method_2_code (2 : Nat) (Option.some Jvm.ClassFile.FieldType.int)) ∈ lw_all := lw_g (lw_at lw_m4 73 rfl) rfl
theorem q906 : (Jvm.Cond.methodLink "BlueBag$Not" (13 : Nat) ({ cls := "BlueBag$Expr", name := "by", desc := "(LBlueBag$View;)I" } : Jvm.MethodName)) ∈ lw_all := lw_g (lw_at lw_m4 74 rfl) rfl
theorem q912 : (Jvm.Cond.selects "BlueBag$Not" ({ cls := "BlueBag$Expr", name := "by", desc := "(LBlueBag$View;)I" } : Jvm.MethodName) ({ cls := "BlueBag$Not", name := "by", desc := "(LBlueBag$View;)I" } : Jvm.MethodName)) ∈ lw_all := lw_g (lw_at lw_m4 80 rfl) rfl
theorem q1322 : (Jvm.Cond.instantiable "BlueBag$Not" (1 : Nat)) ∈ lw_all := lw_g (lw_at lw_m6 10 rfl) rfl
theorem q1324 : (Jvm.Cond.instanceMethod ({ cls := "BlueBag$Not", name := "<init>", desc := "(LBlueBag$Expr;)V" } : Jvm.MethodName)) ∈ lw_all := lw_g (lw_at lw_m6 12 rfl) rfl
theorem q1325 : (Jvm.Cond.code ({ cls := "BlueBag$Not", name := "<init>", desc := "(LBlueBag$Expr;)V" } : Jvm.MethodName) prog_8_method_1_code (2 : Nat) (Option.none : Option Jvm.ClassFile.FieldType)) ∈ lw_all := lw_g (lw_at lw_m6 13 rfl) rfl
theorem q1326 : (Jvm.Cond.methodLinkNest "BlueBag$Not" (1 : Nat) ({ cls := "BlueBag$Expr", name := "<init>", desc := "()V" } : Jvm.MethodName) "BlueBag") ∈ lw_tbl := lw_at lw_m6 14 rfl
theorem q1327 : (Jvm.Cond.fieldLink "BlueBag$Not" (7 : Nat) "BlueBag$Not" "part" "LBlueBag$Expr;") ∈ lw_all := lw_g (lw_at lw_m6 15 rfl) rfl
theorem q1328 : (Jvm.Cond.laysFinal "BlueBag$Not" "BlueBag$Not" "part" "LBlueBag$Expr;") ∈ lw_all := lw_g (lw_at lw_m6 16 rfl) rfl
theorem q1329 : (Jvm.Cond.soleField "BlueBag$Not" "part") ∈ lw_all := lw_g (lw_at lw_m6 17 rfl) rfl
theorem q1330 : (Jvm.Cond.superclass "BlueBag$Not" "BlueBag$Expr") ∈ lw_all := lw_g (lw_at lw_m6 18 rfl) rfl
theorem q2369 : (Jvm.Cond.castable "BlueBag$Not" "java/lang/Object") ∈ lw_tbl := lw_at lw_m10 97 rfl
theorem in_X14 : ∀ w ∈ wsX140, w ∈ lw_all := lw_in wsX140 [1328] (by decide +kernel) (by decide +kernel)
/-! BlueBag$Girl -/
set_option maxRecDepth 100000
def RX15 : String := "BlueBag$Girl"
def TX15 : u_T := fun k => match k with
  | 0 => ("BlueBag$Girl", "skill", "I", true)
  | _ => ("BlueBag$Girl", "cell", "I", true)
def tyX15 : Nat → FieldType := fun k => match k with
  | 0 => .int
  | _ => .int
abbrev wsX150 : List Cond := u_ws RX15 TX15 2
theorem nmX15 : ∀ a, a < 2 → ∀ b, b < 2 → a ≠ b → (TX15 a).2.1 ≠ (TX15 b).2.1 := by decide +kernel
theorem tyX15_ok : ∀ k, k < 2 → parseFieldDescriptor (TX15 k).2.2.1 = some (tyX15 k) := by decide +kernel
abbrev cX15_spreads : ByteArray := prog_7_method_2_code
def yX15_spreads : MethodName := ⟨RX15, "spreads", "(LBlueBag$Coast;LBlueBag$State;II)V"⟩
def dkwX15_spreads_1 : List UInt8 := [21, 5, 21, 4, 5, 108, 182, 0, 26, 132, 5, 1, 167, 255, 223, 177]
abbrev dktX15_spreads_1 : List UInt8 := dkwX15_spreads_1 ++ []
def dkwX15_spreads_0 : List UInt8 := [3, 54, 5, 21, 5, 43, 182, 0, 16, 162, 0, 30, 43, 29, 21, 5, 182, 0, 22, 4, 160, 0, 13, 44]
abbrev dktX15_spreads_0 : List UInt8 := dkwX15_spreads_0 ++ dktX15_spreads_1
theorem dksX15_spreads_0 : cX15_spreads.data.toList.drop 0 = dktX15_spreads_0 := by decide +kernel
theorem dksX15_spreads_1 : cX15_spreads.data.toList.drop 24 = dktX15_spreads_1 := dk_seg dksX15_spreads_0 24 rfl rfl
theorem dX15_spreads_0 : decode cX15_spreads 0 = .ok (.iconst 0, 1) := dk_3 (dk_at dksX15_spreads_0 0 rfl rfl)
theorem dX15_spreads_1 : decode cX15_spreads 1 = .ok (.istore 5, 2) := dk_54 5 (dk_at dksX15_spreads_0 1 rfl rfl)
theorem dX15_spreads_3 : decode cX15_spreads 3 = .ok (.iload 5, 2) := dk_21 5 (dk_at dksX15_spreads_0 3 rfl rfl)
theorem dX15_spreads_5 : decode cX15_spreads 5 = .ok (.aload_n 1, 1) := dk_43 (dk_at dksX15_spreads_0 5 rfl rfl)
theorem dX15_spreads_6 : decode cX15_spreads 6 = .ok (.invokevirtual 16, 3) := dk_182 0 16 (dk_at dksX15_spreads_0 6 rfl rfl)
theorem dX15_spreads_9 : decode cX15_spreads 9 = .ok (.if_icmp .ge 30, 3) := dk_162 0 30 (dk_at dksX15_spreads_0 9 rfl rfl)
theorem dX15_spreads_12 : decode cX15_spreads 12 = .ok (.aload_n 1, 1) := dk_43 (dk_at dksX15_spreads_0 12 rfl rfl)
theorem dX15_spreads_13 : decode cX15_spreads 13 = .ok (.iload_n 3, 1) := dk_29 (dk_at dksX15_spreads_0 13 rfl rfl)
theorem dX15_spreads_14 : decode cX15_spreads 14 = .ok (.iload 5, 2) := dk_21 5 (dk_at dksX15_spreads_0 14 rfl rfl)
theorem dX15_spreads_16 : decode cX15_spreads 16 = .ok (.invokevirtual 22, 3) := dk_182 0 22 (dk_at dksX15_spreads_0 16 rfl rfl)
theorem dX15_spreads_19 : decode cX15_spreads 19 = .ok (.iconst 1, 1) := dk_4 (dk_at dksX15_spreads_0 19 rfl rfl)
theorem dX15_spreads_20 : decode cX15_spreads 20 = .ok (.if_icmp .ne 13, 3) := dk_160 0 13 (dk_at dksX15_spreads_0 20 rfl rfl)
theorem dX15_spreads_23 : decode cX15_spreads 23 = .ok (.aload_n 2, 1) := dk_44 (dk_at dksX15_spreads_0 23 rfl rfl)
theorem dX15_spreads_24 : decode cX15_spreads 24 = .ok (.iload 5, 2) := dk_21 5 (dk_at dksX15_spreads_1 0 rfl rfl)
theorem dX15_spreads_26 : decode cX15_spreads 26 = .ok (.iload 4, 2) := dk_21 4 (dk_at dksX15_spreads_1 2 rfl rfl)
theorem dX15_spreads_28 : decode cX15_spreads 28 = .ok (.iconst 2, 1) := dk_5 (dk_at dksX15_spreads_1 4 rfl rfl)
theorem dX15_spreads_29 : decode cX15_spreads 29 = .ok (.idiv, 1) := dk_108 (dk_at dksX15_spreads_1 5 rfl rfl)
theorem dX15_spreads_30 : decode cX15_spreads 30 = .ok (.invokevirtual 26, 3) := dk_182 0 26 (dk_at dksX15_spreads_1 6 rfl rfl)
theorem dX15_spreads_33 : decode cX15_spreads 33 = .ok (.iinc 5 1, 3) := dk_132 5 1 (dk_at dksX15_spreads_1 9 rfl rfl)
theorem dX15_spreads_36 : decode cX15_spreads 36 = .ok (.goto (-33), 3) := dk_167 255 223 (dk_at dksX15_spreads_1 12 rfl rfl)
theorem dX15_spreads_39 : decode cX15_spreads 39 = .ok (.return_, 1) := dk_177 (dk_at dksX15_spreads_1 15 rfl rfl)
abbrev cX15_init : ByteArray := prog_7_method_1_code
def yX15_init : MethodName := ⟨RX15, "<init>", "(II)V"⟩
def dkwX15_init_0 : List UInt8 := [42, 183, 0, 1, 42, 27, 181, 0, 7, 42, 28, 181, 0, 13, 177]
abbrev dktX15_init_0 : List UInt8 := dkwX15_init_0 ++ []
theorem dksX15_init_0 : cX15_init.data.toList.drop 0 = dktX15_init_0 := by decide +kernel
theorem dX15_init_0 : decode cX15_init 0 = .ok (.aload_n 0, 1) := dk_42 (dk_at dksX15_init_0 0 rfl rfl)
theorem dX15_init_1 : decode cX15_init 1 = .ok (.invokespecial 1, 3) := dk_183 0 1 (dk_at dksX15_init_0 1 rfl rfl)
theorem dX15_init_4 : decode cX15_init 4 = .ok (.aload_n 0, 1) := dk_42 (dk_at dksX15_init_0 4 rfl rfl)
theorem dX15_init_5 : decode cX15_init 5 = .ok (.iload_n 1, 1) := dk_27 (dk_at dksX15_init_0 5 rfl rfl)
theorem dX15_init_6 : decode cX15_init 6 = .ok (.putfield 7, 3) := dk_181 0 7 (dk_at dksX15_init_0 6 rfl rfl)
theorem dX15_init_9 : decode cX15_init 9 = .ok (.aload_n 0, 1) := dk_42 (dk_at dksX15_init_0 9 rfl rfl)
theorem dX15_init_10 : decode cX15_init 10 = .ok (.iload_n 2, 1) := dk_28 (dk_at dksX15_init_0 10 rfl rfl)
theorem dX15_init_11 : decode cX15_init 11 = .ok (.putfield 13, 3) := dk_181 0 13 (dk_at dksX15_init_0 11 rfl rfl)
theorem dX15_init_14 : decode cX15_init 14 = .ok (.return_, 1) := dk_177 (dk_at dksX15_init_0 14 rfl rfl)
abbrev cX15_isOld : ByteArray := prog_7_method_3_code
def yX15_isOld : MethodName := ⟨RX15, "isOld", "()Z"⟩
theorem dX15_isOld_0 : decode cX15_isOld 0 = .ok (.iconst 0, 1) := by decide +kernel
theorem dX15_isOld_1 : decode cX15_isOld 1 = .ok (.ireturn, 1) := by decide +kernel
theorem q149 : (Jvm.Cond.initialized "BlueBag$Girl") ∈ lw_all := lw_g (lw_at lw_m1 37 rfl) rfl
theorem q670 : (Jvm.Cond.selects "BlueBag$Girl" ({ cls := "java/lang/Object", name := "getClass", desc := "()Ljava/lang/Class;" } : Jvm.MethodName) ({ cls := "java/lang/Object", name := "getClass", desc := "()Ljava/lang/Class;" } : Jvm.MethodName)) ∈ lw_all := lw_g (lw_at lw_m3 78 rfl) rfl
theorem q922 : (Jvm.Cond.instanceMethod ({ cls := "BlueBag$Girl", name := "spreads", desc := "(LBlueBag$Coast;LBlueBag$State;II)V" } : Jvm.MethodName)) ∈ lw_all := lw_g (lw_at lw_m4 90 rfl) rfl
theorem q923 : (Jvm.Cond.selects "BlueBag$Girl" ({ cls := "BlueBag$Girl", name := "spreads", desc := "(LBlueBag$Coast;LBlueBag$State;II)V" } : Jvm.MethodName) ({ cls := "BlueBag$Girl", name := "spreads", desc := "(LBlueBag$Coast;LBlueBag$State;II)V" } : Jvm.MethodName)) ∈ lw_all := lw_g (lw_at lw_m4 91 rfl) rfl
theorem q924 : (Jvm.Cond.sameMethod "BlueBag$Girl" "BlueBag$Girl" "spreads" "(LBlueBag$Coast;LBlueBag$State;II)V") ∈ lw_all := lw_g (lw_at lw_m4 92 rfl) rfl
theorem q930 : (Jvm.Cond.code ({ cls := "BlueBag$Girl", name := "spreads", desc := "(LBlueBag$Coast;LBlueBag$State;II)V" } : Jvm.MethodName) prog_7_method_2_code (6 : Nat) (Option.none : Option Jvm.ClassFile.FieldType)) ∈ lw_all := lw_g (lw_at lw_m4 98 rfl) rfl
theorem q931 : (Jvm.Cond.methodLink "BlueBag$Girl" (16 : Nat) ({ cls := "BlueBag$Coast", name := "cells", desc := "()I" } : Jvm.MethodName)) ∈ lw_all := lw_g (lw_at lw_m4 99 rfl) rfl
theorem q932 : (Jvm.Cond.methodLink "BlueBag$Girl" (22 : Nat) ({ cls := "BlueBag$Coast", name := "steps", desc := "(II)I" } : Jvm.MethodName)) ∈ lw_all := lw_g (lw_at lw_m4 100 rfl) rfl
theorem q933 : (Jvm.Cond.methodLink "BlueBag$Girl" (26 : Nat) ({ cls := "BlueBag$State", name := "takes", desc := "(II)V" } : Jvm.MethodName)) ∈ lw_all := lw_g (lw_at lw_m4 101 rfl) rfl
theorem q1365 : (Jvm.Cond.instanceMethod ({ cls := "BlueBag$Girl", name := "<init>", desc := "(II)V" } : Jvm.MethodName)) ∈ lw_all := lw_g (lw_at lw_m6 53 rfl) rfl
theorem q1366 : (Jvm.Cond.code ({ cls := "BlueBag$Girl", name := "<init>", desc := "(II)V" } : Jvm.MethodName) prog_7_method_1_code (3 : Nat) (Option.none : Option Jvm.ClassFile.FieldType)) ∈ lw_all := lw_g (lw_at lw_m6 54 rfl) rfl
theorem q1367 : (Jvm.Cond.methodLink "BlueBag$Girl" (1 : Nat) ({ cls := "java/lang/Object", name := "<init>", desc := "()V" } : Jvm.MethodName)) ∈ lw_all := lw_g (lw_at lw_m6 55 rfl) rfl
theorem q1368 : (Jvm.Cond.fieldLink "BlueBag$Girl" (7 : Nat) "BlueBag$Girl" "skill" "I") ∈ lw_all := lw_g (lw_at lw_m6 56 rfl) rfl
theorem q1371 : (Jvm.Cond.fieldLink "BlueBag$Girl" (13 : Nat) "BlueBag$Girl" "cell" "I") ∈ lw_all := lw_g (lw_at lw_m6 59 rfl) rfl
theorem q1374 : (Jvm.Cond.soleField "BlueBag$Girl" "skill") ∈ lw_all := lw_g (lw_at lw_m6 62 rfl) rfl
theorem q1376 : (Jvm.Cond.soleField "BlueBag$Girl" "cell") ∈ lw_all := lw_g (lw_at lw_m6 64 rfl) rfl
theorem q1379 : (Jvm.Cond.instantiable "BlueBag$Girl" (2 : Nat)) ∈ lw_all := lw_g (lw_at lw_m6 67 rfl) rfl
theorem q1381 : (Jvm.Cond.laysFinal "BlueBag$Girl" "BlueBag$Girl" "skill" "I") ∈ lw_all := lw_g (lw_at lw_m6 69 rfl) rfl
theorem q1382 : (Jvm.Cond.laysFinal "BlueBag$Girl" "BlueBag$Girl" "cell" "I") ∈ lw_all := lw_g (lw_at lw_m6 70 rfl) rfl
theorem q1383 : (Jvm.Cond.superclass "BlueBag$Girl" "java/lang/Object") ∈ lw_all := lw_g (lw_at lw_m6 71 rfl) rfl
theorem q1452 : (Jvm.Cond.instanceMethod ({ cls := "BlueBag$Girl", name := "isOld", desc := "()Z" } : Jvm.MethodName)) ∈ lw_all := lw_g (lw_at lw_m6 140 rfl) rfl
theorem q1453 : (Jvm.Cond.selects "BlueBag$Girl" ({ cls := "BlueBag$Girl", name := "isOld", desc := "()Z" } : Jvm.MethodName) ({ cls := "BlueBag$Girl", name := "isOld", desc := "()Z" } : Jvm.MethodName)) ∈ lw_all := lw_g (lw_at lw_m6 141 rfl) rfl
theorem q1454 : (Jvm.Cond.sameMethod "BlueBag$Girl" "BlueBag$Girl" "isOld" "()Z") ∈ lw_all := lw_g (lw_at lw_m6 142 rfl) rfl
theorem q1459 : (Jvm.Cond.code ({ cls := "BlueBag$Girl", name := "isOld", desc := "()Z" } : Jvm.MethodName) prog_7_method_3_code (1 : Nat) (Option.some Jvm.ClassFile.FieldType.boolean)) ∈ lw_all := lw_g (lw_at lw_m6 147 rfl) rfl
theorem q2371 : (Jvm.Cond.castable "BlueBag$Girl" "java/lang/Object") ∈ lw_tbl := lw_at lw_m10 99 rfl
theorem in_X15 : ∀ w ∈ wsX150, w ∈ lw_all := lw_in wsX150 [1381, 1382] (by decide +kernel) (by decide +kernel)
/-! BlueBag$Old -/
set_option maxRecDepth 100000
def RX16 : String := "BlueBag$Old"
def TX16 : u_T := fun k => match k with
  | 0 => ("BlueBag$Girl", "skill", "I", true)
  | _ => ("BlueBag$Girl", "cell", "I", true)
def tyX16 : Nat → FieldType := fun k => match k with
  | 0 => .int
  | _ => .int
abbrev wsX160 : List Cond := u_ws RX16 TX16 2
theorem nmX16 : ∀ a, a < 2 → ∀ b, b < 2 → a ≠ b → (TX16 a).2.1 ≠ (TX16 b).2.1 := by decide +kernel
theorem tyX16_ok : ∀ k, k < 2 → parseFieldDescriptor (TX16 k).2.2.1 = some (tyX16 k) := by decide +kernel
abbrev cX16_spreads : ByteArray := prog_9_method_2_code
def yX16_spreads : MethodName := ⟨RX16, "spreads", "(LBlueBag$Coast;LBlueBag$State;II)V"⟩
def dkwX16_spreads_1 : List UInt8 := [108, 54, 5, 44, 21, 6, 21, 5, 182, 0, 17, 21, 6, 43, 180, 0, 7, 96, 54, 6, 167, 255, 224, 177]
abbrev dktX16_spreads_1 : List UInt8 := dkwX16_spreads_1 ++ []
def dkwX16_spreads_0 : List UInt8 := [21, 4, 54, 5, 29, 43, 180, 0, 7, 96, 54, 6, 21, 6, 43, 182, 0, 13, 162, 0, 29, 21, 5, 5]
abbrev dktX16_spreads_0 : List UInt8 := dkwX16_spreads_0 ++ dktX16_spreads_1
theorem dksX16_spreads_0 : cX16_spreads.data.toList.drop 0 = dktX16_spreads_0 := by decide +kernel
theorem dksX16_spreads_1 : cX16_spreads.data.toList.drop 24 = dktX16_spreads_1 := dk_seg dksX16_spreads_0 24 rfl rfl
theorem dX16_spreads_0 : decode cX16_spreads 0 = .ok (.iload 4, 2) := dk_21 4 (dk_at dksX16_spreads_0 0 rfl rfl)
theorem dX16_spreads_2 : decode cX16_spreads 2 = .ok (.istore 5, 2) := dk_54 5 (dk_at dksX16_spreads_0 2 rfl rfl)
theorem dX16_spreads_4 : decode cX16_spreads 4 = .ok (.iload_n 3, 1) := dk_29 (dk_at dksX16_spreads_0 4 rfl rfl)
theorem dX16_spreads_5 : decode cX16_spreads 5 = .ok (.aload_n 1, 1) := dk_43 (dk_at dksX16_spreads_0 5 rfl rfl)
theorem dX16_spreads_6 : decode cX16_spreads 6 = .ok (.getfield 7, 3) := dk_180 0 7 (dk_at dksX16_spreads_0 6 rfl rfl)
theorem dX16_spreads_9 : decode cX16_spreads 9 = .ok (.iadd, 1) := dk_96 (dk_at dksX16_spreads_0 9 rfl rfl)
theorem dX16_spreads_10 : decode cX16_spreads 10 = .ok (.istore 6, 2) := dk_54 6 (dk_at dksX16_spreads_0 10 rfl rfl)
theorem dX16_spreads_12 : decode cX16_spreads 12 = .ok (.iload 6, 2) := dk_21 6 (dk_at dksX16_spreads_0 12 rfl rfl)
theorem dX16_spreads_14 : decode cX16_spreads 14 = .ok (.aload_n 1, 1) := dk_43 (dk_at dksX16_spreads_0 14 rfl rfl)
theorem dX16_spreads_15 : decode cX16_spreads 15 = .ok (.invokevirtual 13, 3) := dk_182 0 13 (dk_at dksX16_spreads_0 15 rfl rfl)
theorem dX16_spreads_18 : decode cX16_spreads 18 = .ok (.if_icmp .ge 29, 3) := dk_162 0 29 (dk_at dksX16_spreads_0 18 rfl rfl)
theorem dX16_spreads_21 : decode cX16_spreads 21 = .ok (.iload 5, 2) := dk_21 5 (dk_at dksX16_spreads_0 21 rfl rfl)
theorem dX16_spreads_23 : decode cX16_spreads 23 = .ok (.iconst 2, 1) := dk_5 (dk_at dksX16_spreads_0 23 rfl rfl)
theorem dX16_spreads_24 : decode cX16_spreads 24 = .ok (.idiv, 1) := dk_108 (dk_at dksX16_spreads_1 0 rfl rfl)
theorem dX16_spreads_25 : decode cX16_spreads 25 = .ok (.istore 5, 2) := dk_54 5 (dk_at dksX16_spreads_1 1 rfl rfl)
theorem dX16_spreads_27 : decode cX16_spreads 27 = .ok (.aload_n 2, 1) := dk_44 (dk_at dksX16_spreads_1 3 rfl rfl)
theorem dX16_spreads_28 : decode cX16_spreads 28 = .ok (.iload 6, 2) := dk_21 6 (dk_at dksX16_spreads_1 4 rfl rfl)
theorem dX16_spreads_30 : decode cX16_spreads 30 = .ok (.iload 5, 2) := dk_21 5 (dk_at dksX16_spreads_1 6 rfl rfl)
theorem dX16_spreads_32 : decode cX16_spreads 32 = .ok (.invokevirtual 17, 3) := dk_182 0 17 (dk_at dksX16_spreads_1 8 rfl rfl)
theorem dX16_spreads_35 : decode cX16_spreads 35 = .ok (.iload 6, 2) := dk_21 6 (dk_at dksX16_spreads_1 11 rfl rfl)
theorem dX16_spreads_37 : decode cX16_spreads 37 = .ok (.aload_n 1, 1) := dk_43 (dk_at dksX16_spreads_1 13 rfl rfl)
theorem dX16_spreads_38 : decode cX16_spreads 38 = .ok (.getfield 7, 3) := dk_180 0 7 (dk_at dksX16_spreads_1 14 rfl rfl)
theorem dX16_spreads_41 : decode cX16_spreads 41 = .ok (.iadd, 1) := dk_96 (dk_at dksX16_spreads_1 17 rfl rfl)
theorem dX16_spreads_42 : decode cX16_spreads 42 = .ok (.istore 6, 2) := dk_54 6 (dk_at dksX16_spreads_1 18 rfl rfl)
theorem dX16_spreads_44 : decode cX16_spreads 44 = .ok (.goto (-32), 3) := dk_167 255 224 (dk_at dksX16_spreads_1 20 rfl rfl)
theorem dX16_spreads_47 : decode cX16_spreads 47 = .ok (.return_, 1) := dk_177 (dk_at dksX16_spreads_1 23 rfl rfl)
abbrev cX16_init : ByteArray := prog_9_method_1_code
def yX16_init : MethodName := ⟨RX16, "<init>", "(II)V"⟩
def dkwX16_init_0 : List UInt8 := [42, 27, 28, 183, 0, 1, 177]
abbrev dktX16_init_0 : List UInt8 := dkwX16_init_0 ++ []
theorem dksX16_init_0 : cX16_init.data.toList.drop 0 = dktX16_init_0 := by decide +kernel
theorem dX16_init_0 : decode cX16_init 0 = .ok (.aload_n 0, 1) := dk_42 (dk_at dksX16_init_0 0 rfl rfl)
theorem dX16_init_1 : decode cX16_init 1 = .ok (.iload_n 1, 1) := dk_27 (dk_at dksX16_init_0 1 rfl rfl)
theorem dX16_init_2 : decode cX16_init 2 = .ok (.iload_n 2, 1) := dk_28 (dk_at dksX16_init_0 2 rfl rfl)
theorem dX16_init_3 : decode cX16_init 3 = .ok (.invokespecial 1, 3) := dk_183 0 1 (dk_at dksX16_init_0 3 rfl rfl)
theorem dX16_init_6 : decode cX16_init 6 = .ok (.return_, 1) := dk_177 (dk_at dksX16_init_0 6 rfl rfl)
abbrev cX16_isOld : ByteArray := prog_9_method_3_code
def yX16_isOld : MethodName := ⟨RX16, "isOld", "()Z"⟩
def dkwX16_isOld_0 : List UInt8 := [42, 183, 0, 22, 154, 0, 7, 4, 167, 0, 4, 3, 172]
abbrev dktX16_isOld_0 : List UInt8 := dkwX16_isOld_0 ++ []
theorem dksX16_isOld_0 : cX16_isOld.data.toList.drop 0 = dktX16_isOld_0 := by decide +kernel
theorem dX16_isOld_0 : decode cX16_isOld 0 = .ok (.aload_n 0, 1) := dk_42 (dk_at dksX16_isOld_0 0 rfl rfl)
theorem dX16_isOld_1 : decode cX16_isOld 1 = .ok (.invokespecial 22, 3) := dk_183 0 22 (dk_at dksX16_isOld_0 1 rfl rfl)
theorem dX16_isOld_4 : decode cX16_isOld 4 = .ok (.ifCond .ne 7, 3) := dk_154 0 7 (dk_at dksX16_isOld_0 4 rfl rfl)
theorem dX16_isOld_7 : decode cX16_isOld 7 = .ok (.iconst 1, 1) := dk_4 (dk_at dksX16_isOld_0 7 rfl rfl)
theorem dX16_isOld_8 : decode cX16_isOld 8 = .ok (.goto 4, 3) := dk_167 0 4 (dk_at dksX16_isOld_0 8 rfl rfl)
theorem dX16_isOld_11 : decode cX16_isOld 11 = .ok (.iconst 0, 1) := dk_3 (dk_at dksX16_isOld_0 11 rfl rfl)
theorem dX16_isOld_12 : decode cX16_isOld 12 = .ok (.ireturn, 1) := dk_172 (dk_at dksX16_isOld_0 12 rfl rfl)
theorem q150 : (Jvm.Cond.initialized "BlueBag$Old") ∈ lw_all := lw_g (lw_at lw_m1 38 rfl) rfl
theorem q530 : (Jvm.Cond.fieldLinkNest "BlueBag$Old" (7 : Nat) "BlueBag$Coast" "wide" "I" "BlueBag") ∈ lw_tbl := lw_at lw_m2 178 rfl
theorem q672 : (Jvm.Cond.selects "BlueBag$Old" ({ cls := "java/lang/Object", name := "getClass", desc := "()Ljava/lang/Class;" } : Jvm.MethodName) ({ cls := "java/lang/Object", name := "getClass", desc := "()Ljava/lang/Class;" } : Jvm.MethodName)) ∈ lw_all := lw_g (lw_at lw_m3 80 rfl) rfl
theorem q925 : (Jvm.Cond.selects "BlueBag$Old" ({ cls := "BlueBag$Girl", name := "spreads", desc := "(LBlueBag$Coast;LBlueBag$State;II)V" } : Jvm.MethodName) ({ cls := "BlueBag$Old", name := "spreads", desc := "(LBlueBag$Coast;LBlueBag$State;II)V" } : Jvm.MethodName)) ∈ lw_all := lw_g (lw_at lw_m4 93 rfl) rfl
theorem q926 : (Jvm.Cond.instanceMethod ({ cls := "BlueBag$Old", name := "spreads", desc := "(LBlueBag$Coast;LBlueBag$State;II)V" } : Jvm.MethodName)) ∈ lw_all := lw_g (lw_at lw_m4 94 rfl) rfl
theorem q927 : (Jvm.Cond.code ({ cls := "BlueBag$Old", name := "spreads", desc := "(LBlueBag$Coast;LBlueBag$State;II)V" } : Jvm.MethodName) prog_9_method_2_code (7 : Nat) (Option.none : Option Jvm.ClassFile.FieldType)) ∈ lw_all := lw_g (lw_at lw_m4 95 rfl) rfl
theorem q928 : (Jvm.Cond.methodLink "BlueBag$Old" (13 : Nat) ({ cls := "BlueBag$Coast", name := "cells", desc := "()I" } : Jvm.MethodName)) ∈ lw_all := lw_g (lw_at lw_m4 96 rfl) rfl
theorem q929 : (Jvm.Cond.methodLink "BlueBag$Old" (17 : Nat) ({ cls := "BlueBag$State", name := "takes", desc := "(II)V" } : Jvm.MethodName)) ∈ lw_all := lw_g (lw_at lw_m4 97 rfl) rfl
theorem q1360 : (Jvm.Cond.instantiable "BlueBag$Old" (2 : Nat)) ∈ lw_all := lw_g (lw_at lw_m6 48 rfl) rfl
theorem q1362 : (Jvm.Cond.instanceMethod ({ cls := "BlueBag$Old", name := "<init>", desc := "(II)V" } : Jvm.MethodName)) ∈ lw_all := lw_g (lw_at lw_m6 50 rfl) rfl
theorem q1363 : (Jvm.Cond.code ({ cls := "BlueBag$Old", name := "<init>", desc := "(II)V" } : Jvm.MethodName) prog_9_method_1_code (3 : Nat) (Option.none : Option Jvm.ClassFile.FieldType)) ∈ lw_all := lw_g (lw_at lw_m6 51 rfl) rfl
theorem q1364 : (Jvm.Cond.methodLink "BlueBag$Old" (1 : Nat) ({ cls := "BlueBag$Girl", name := "<init>", desc := "(II)V" } : Jvm.MethodName)) ∈ lw_all := lw_g (lw_at lw_m6 52 rfl) rfl
theorem q1373 : (Jvm.Cond.laysFinal "BlueBag$Old" "BlueBag$Girl" "skill" "I") ∈ lw_all := lw_g (lw_at lw_m6 61 rfl) rfl
theorem q1375 : (Jvm.Cond.laysFinal "BlueBag$Old" "BlueBag$Girl" "cell" "I") ∈ lw_all := lw_g (lw_at lw_m6 63 rfl) rfl
theorem q1377 : (Jvm.Cond.superclass "BlueBag$Old" "BlueBag$Girl") ∈ lw_all := lw_g (lw_at lw_m6 65 rfl) rfl
theorem q1455 : (Jvm.Cond.selects "BlueBag$Old" ({ cls := "BlueBag$Girl", name := "isOld", desc := "()Z" } : Jvm.MethodName) ({ cls := "BlueBag$Old", name := "isOld", desc := "()Z" } : Jvm.MethodName)) ∈ lw_all := lw_g (lw_at lw_m6 143 rfl) rfl
theorem q1456 : (Jvm.Cond.instanceMethod ({ cls := "BlueBag$Old", name := "isOld", desc := "()Z" } : Jvm.MethodName)) ∈ lw_all := lw_g (lw_at lw_m6 144 rfl) rfl
theorem q1457 : (Jvm.Cond.code ({ cls := "BlueBag$Old", name := "isOld", desc := "()Z" } : Jvm.MethodName) prog_9_method_3_code (1 : Nat) (Option.some Jvm.ClassFile.FieldType.boolean)) ∈ lw_all := lw_g (lw_at lw_m6 145 rfl) rfl
theorem q1458 : (Jvm.Cond.methodLink "BlueBag$Old" (22 : Nat) ({ cls := "BlueBag$Girl", name := "isOld", desc := "()Z" } : Jvm.MethodName)) ∈ lw_all := lw_g (lw_at lw_m6 146 rfl) rfl
theorem q2351 : (Jvm.Cond.castable "BlueBag$Old" "BlueBag$Girl") ∈ lw_tbl := lw_at lw_m10 79 rfl
theorem q2370 : (Jvm.Cond.castable "BlueBag$Old" "java/lang/Object") ∈ lw_tbl := lw_at lw_m10 98 rfl
theorem in_X16 : ∀ w ∈ wsX160, w ∈ lw_all := lw_in wsX160 [1373, 1375] (by decide +kernel) (by decide +kernel)
