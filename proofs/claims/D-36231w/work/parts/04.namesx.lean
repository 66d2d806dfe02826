/-! HomewatcherLaw -/
set_option maxRecDepth 100000
def RX0 : String := "HomewatcherLaw"
abbrev cX0_classroom : ByteArray := method_3_code
def yX0_classroom : MethodName := ⟨RX0, "classroom", "(LHomewatcher;I[J)I"⟩
def dkwX0_classroom_0 : List UInt8 := [44, 3, 42, 27, 182, 0, 7, 133, 80, 167, 0, 9, 78, 4, 172, 78, 5, 172, 3, 172]
abbrev dktX0_classroom_0 : List UInt8 := dkwX0_classroom_0 ++ []
theorem dksX0_classroom_0 : cX0_classroom.data.toList.drop 0 = dktX0_classroom_0 := by decide +kernel
theorem dX0_classroom_0 : decode cX0_classroom 0 = .ok (.aload_n 2, 1) := dk_44 (dk_at dksX0_classroom_0 0 rfl rfl)
theorem dX0_classroom_1 : decode cX0_classroom 1 = .ok (.iconst 0, 1) := dk_3 (dk_at dksX0_classroom_0 1 rfl rfl)
theorem dX0_classroom_2 : decode cX0_classroom 2 = .ok (.aload_n 0, 1) := dk_42 (dk_at dksX0_classroom_0 2 rfl rfl)
theorem dX0_classroom_3 : decode cX0_classroom 3 = .ok (.iload_n 1, 1) := dk_27 (dk_at dksX0_classroom_0 3 rfl rfl)
theorem dX0_classroom_4 : decode cX0_classroom 4 = .ok (.invokevirtual 7, 3) := dk_182 0 7 (dk_at dksX0_classroom_0 4 rfl rfl)
theorem dX0_classroom_7 : decode cX0_classroom 7 = .ok (.i2l, 1) := dk_133 (dk_at dksX0_classroom_0 7 rfl rfl)
theorem dX0_classroom_8 : decode cX0_classroom 8 = .ok (.lastore, 1) := dk_80 (dk_at dksX0_classroom_0 8 rfl rfl)
theorem dX0_classroom_9 : decode cX0_classroom 9 = .ok (.goto 9, 3) := dk_167 0 9 (dk_at dksX0_classroom_0 9 rfl rfl)
theorem dX0_classroom_12 : decode cX0_classroom 12 = .ok (.astore_n 3, 1) := dk_78 (dk_at dksX0_classroom_0 12 rfl rfl)
theorem dX0_classroom_13 : decode cX0_classroom 13 = .ok (.iconst 1, 1) := dk_4 (dk_at dksX0_classroom_0 13 rfl rfl)
theorem dX0_classroom_14 : decode cX0_classroom 14 = .ok (.ireturn, 1) := dk_172 (dk_at dksX0_classroom_0 14 rfl rfl)
theorem dX0_classroom_15 : decode cX0_classroom 15 = .ok (.astore_n 3, 1) := dk_78 (dk_at dksX0_classroom_0 15 rfl rfl)
theorem dX0_classroom_16 : decode cX0_classroom 16 = .ok (.iconst 2, 1) := dk_5 (dk_at dksX0_classroom_0 16 rfl rfl)
theorem dX0_classroom_17 : decode cX0_classroom 17 = .ok (.ireturn, 1) := dk_172 (dk_at dksX0_classroom_0 17 rfl rfl)
theorem dX0_classroom_18 : decode cX0_classroom 18 = .ok (.iconst 0, 1) := dk_3 (dk_at dksX0_classroom_0 18 rfl rfl)
theorem dX0_classroom_19 : decode cX0_classroom 19 = .ok (.ireturn, 1) := dk_172 (dk_at dksX0_classroom_0 19 rfl rfl)
abbrev cX0_pupil : ByteArray := method_4_code
def yX0_pupil : MethodName := ⟨RX0, "pupil", "(LHomewatcher;I[J)I"⟩
def dkwX0_pupil_0 : List UInt8 := [44, 3, 42, 27, 182, 0, 17, 133, 80, 167, 0, 9, 78, 4, 172, 78, 5, 172, 3, 172]
abbrev dktX0_pupil_0 : List UInt8 := dkwX0_pupil_0 ++ []
theorem dksX0_pupil_0 : cX0_pupil.data.toList.drop 0 = dktX0_pupil_0 := by decide +kernel
theorem dX0_pupil_0 : decode cX0_pupil 0 = .ok (.aload_n 2, 1) := dk_44 (dk_at dksX0_pupil_0 0 rfl rfl)
theorem dX0_pupil_1 : decode cX0_pupil 1 = .ok (.iconst 0, 1) := dk_3 (dk_at dksX0_pupil_0 1 rfl rfl)
theorem dX0_pupil_2 : decode cX0_pupil 2 = .ok (.aload_n 0, 1) := dk_42 (dk_at dksX0_pupil_0 2 rfl rfl)
theorem dX0_pupil_3 : decode cX0_pupil 3 = .ok (.iload_n 1, 1) := dk_27 (dk_at dksX0_pupil_0 3 rfl rfl)
theorem dX0_pupil_4 : decode cX0_pupil 4 = .ok (.invokevirtual 17, 3) := dk_182 0 17 (dk_at dksX0_pupil_0 4 rfl rfl)
theorem dX0_pupil_7 : decode cX0_pupil 7 = .ok (.i2l, 1) := dk_133 (dk_at dksX0_pupil_0 7 rfl rfl)
theorem dX0_pupil_8 : decode cX0_pupil 8 = .ok (.lastore, 1) := dk_80 (dk_at dksX0_pupil_0 8 rfl rfl)
theorem dX0_pupil_9 : decode cX0_pupil 9 = .ok (.goto 9, 3) := dk_167 0 9 (dk_at dksX0_pupil_0 9 rfl rfl)
theorem dX0_pupil_12 : decode cX0_pupil 12 = .ok (.astore_n 3, 1) := dk_78 (dk_at dksX0_pupil_0 12 rfl rfl)
theorem dX0_pupil_13 : decode cX0_pupil 13 = .ok (.iconst 1, 1) := dk_4 (dk_at dksX0_pupil_0 13 rfl rfl)
theorem dX0_pupil_14 : decode cX0_pupil 14 = .ok (.ireturn, 1) := dk_172 (dk_at dksX0_pupil_0 14 rfl rfl)
theorem dX0_pupil_15 : decode cX0_pupil 15 = .ok (.astore_n 3, 1) := dk_78 (dk_at dksX0_pupil_0 15 rfl rfl)
theorem dX0_pupil_16 : decode cX0_pupil 16 = .ok (.iconst 2, 1) := dk_5 (dk_at dksX0_pupil_0 16 rfl rfl)
theorem dX0_pupil_17 : decode cX0_pupil 17 = .ok (.ireturn, 1) := dk_172 (dk_at dksX0_pupil_0 17 rfl rfl)
theorem dX0_pupil_18 : decode cX0_pupil 18 = .ok (.iconst 0, 1) := dk_3 (dk_at dksX0_pupil_0 18 rfl rfl)
theorem dX0_pupil_19 : decode cX0_pupil 19 = .ok (.ireturn, 1) := dk_172 (dk_at dksX0_pupil_0 19 rfl rfl)
abbrev cX0_task : ByteArray := method_5_code
def yX0_task : MethodName := ⟨RX0, "task", "(LHomewatcher;IIICI[J)I"⟩
def dkwX0_task_1 : List UInt8 := [58, 7, 5, 172, 58, 7, 6, 172, 3, 172]
abbrev dktX0_task_1 : List UInt8 := dkwX0_task_1 ++ []
def dkwX0_task_0 : List UInt8 := [25, 6, 3, 42, 27, 28, 29, 21, 4, 21, 5, 182, 0, 22, 133, 80, 167, 0, 15, 58, 7, 4, 172]
abbrev dktX0_task_0 : List UInt8 := dkwX0_task_0 ++ dktX0_task_1
theorem dksX0_task_0 : cX0_task.data.toList.drop 0 = dktX0_task_0 := by decide +kernel
theorem dksX0_task_1 : cX0_task.data.toList.drop 23 = dktX0_task_1 := dk_seg dksX0_task_0 23 rfl rfl
theorem dX0_task_0 : decode cX0_task 0 = .ok (.aload 6, 2) := dk_25 6 (dk_at dksX0_task_0 0 rfl rfl)
theorem dX0_task_2 : decode cX0_task 2 = .ok (.iconst 0, 1) := dk_3 (dk_at dksX0_task_0 2 rfl rfl)
theorem dX0_task_3 : decode cX0_task 3 = .ok (.aload_n 0, 1) := dk_42 (dk_at dksX0_task_0 3 rfl rfl)
theorem dX0_task_4 : decode cX0_task 4 = .ok (.iload_n 1, 1) := dk_27 (dk_at dksX0_task_0 4 rfl rfl)
theorem dX0_task_5 : decode cX0_task 5 = .ok (.iload_n 2, 1) := dk_28 (dk_at dksX0_task_0 5 rfl rfl)
theorem dX0_task_6 : decode cX0_task 6 = .ok (.iload_n 3, 1) := dk_29 (dk_at dksX0_task_0 6 rfl rfl)
theorem dX0_task_7 : decode cX0_task 7 = .ok (.iload 4, 2) := dk_21 4 (dk_at dksX0_task_0 7 rfl rfl)
theorem dX0_task_9 : decode cX0_task 9 = .ok (.iload 5, 2) := dk_21 5 (dk_at dksX0_task_0 9 rfl rfl)
theorem dX0_task_11 : decode cX0_task 11 = .ok (.invokevirtual 22, 3) := dk_182 0 22 (dk_at dksX0_task_0 11 rfl rfl)
theorem dX0_task_14 : decode cX0_task 14 = .ok (.i2l, 1) := dk_133 (dk_at dksX0_task_0 14 rfl rfl)
theorem dX0_task_15 : decode cX0_task 15 = .ok (.lastore, 1) := dk_80 (dk_at dksX0_task_0 15 rfl rfl)
theorem dX0_task_16 : decode cX0_task 16 = .ok (.goto 15, 3) := dk_167 0 15 (dk_at dksX0_task_0 16 rfl rfl)
theorem dX0_task_19 : decode cX0_task 19 = .ok (.astore 7, 2) := dk_58 7 (dk_at dksX0_task_0 19 rfl rfl)
theorem dX0_task_21 : decode cX0_task 21 = .ok (.iconst 1, 1) := dk_4 (dk_at dksX0_task_0 21 rfl rfl)
theorem dX0_task_22 : decode cX0_task 22 = .ok (.ireturn, 1) := dk_172 (dk_at dksX0_task_0 22 rfl rfl)
theorem dX0_task_23 : decode cX0_task 23 = .ok (.astore 7, 2) := dk_58 7 (dk_at dksX0_task_1 0 rfl rfl)
theorem dX0_task_25 : decode cX0_task 25 = .ok (.iconst 2, 1) := dk_5 (dk_at dksX0_task_1 2 rfl rfl)
theorem dX0_task_26 : decode cX0_task 26 = .ok (.ireturn, 1) := dk_172 (dk_at dksX0_task_1 3 rfl rfl)
theorem dX0_task_27 : decode cX0_task 27 = .ok (.astore 7, 2) := dk_58 7 (dk_at dksX0_task_1 4 rfl rfl)
theorem dX0_task_29 : decode cX0_task 29 = .ok (.iconst 3, 1) := dk_6 (dk_at dksX0_task_1 6 rfl rfl)
theorem dX0_task_30 : decode cX0_task 30 = .ok (.ireturn, 1) := dk_172 (dk_at dksX0_task_1 7 rfl rfl)
theorem dX0_task_31 : decode cX0_task 31 = .ok (.iconst 0, 1) := dk_3 (dk_at dksX0_task_1 8 rfl rfl)
theorem dX0_task_32 : decode cX0_task 32 = .ok (.ireturn, 1) := dk_172 (dk_at dksX0_task_1 9 rfl rfl)
abbrev cX0_pass : ByteArray := method_6_code
def yX0_pass : MethodName := ⟨RX0, "pass", "(LHomewatcher;I[J)I"⟩
def dkwX0_pass_0 : List UInt8 := [44, 3, 42, 27, 182, 0, 26, 133, 80, 167, 0, 9, 78, 4, 172, 78, 5, 172, 3, 172]
abbrev dktX0_pass_0 : List UInt8 := dkwX0_pass_0 ++ []
theorem dksX0_pass_0 : cX0_pass.data.toList.drop 0 = dktX0_pass_0 := by decide +kernel
theorem dX0_pass_0 : decode cX0_pass 0 = .ok (.aload_n 2, 1) := dk_44 (dk_at dksX0_pass_0 0 rfl rfl)
theorem dX0_pass_1 : decode cX0_pass 1 = .ok (.iconst 0, 1) := dk_3 (dk_at dksX0_pass_0 1 rfl rfl)
theorem dX0_pass_2 : decode cX0_pass 2 = .ok (.aload_n 0, 1) := dk_42 (dk_at dksX0_pass_0 2 rfl rfl)
theorem dX0_pass_3 : decode cX0_pass 3 = .ok (.iload_n 1, 1) := dk_27 (dk_at dksX0_pass_0 3 rfl rfl)
theorem dX0_pass_4 : decode cX0_pass 4 = .ok (.invokevirtual 26, 3) := dk_182 0 26 (dk_at dksX0_pass_0 4 rfl rfl)
theorem dX0_pass_7 : decode cX0_pass 7 = .ok (.i2l, 1) := dk_133 (dk_at dksX0_pass_0 7 rfl rfl)
theorem dX0_pass_8 : decode cX0_pass 8 = .ok (.lastore, 1) := dk_80 (dk_at dksX0_pass_0 8 rfl rfl)
theorem dX0_pass_9 : decode cX0_pass 9 = .ok (.goto 9, 3) := dk_167 0 9 (dk_at dksX0_pass_0 9 rfl rfl)
theorem dX0_pass_12 : decode cX0_pass 12 = .ok (.astore_n 3, 1) := dk_78 (dk_at dksX0_pass_0 12 rfl rfl)
theorem dX0_pass_13 : decode cX0_pass 13 = .ok (.iconst 1, 1) := dk_4 (dk_at dksX0_pass_0 13 rfl rfl)
theorem dX0_pass_14 : decode cX0_pass 14 = .ok (.ireturn, 1) := dk_172 (dk_at dksX0_pass_0 14 rfl rfl)
theorem dX0_pass_15 : decode cX0_pass 15 = .ok (.astore_n 3, 1) := dk_78 (dk_at dksX0_pass_0 15 rfl rfl)
theorem dX0_pass_16 : decode cX0_pass 16 = .ok (.iconst 2, 1) := dk_5 (dk_at dksX0_pass_0 16 rfl rfl)
theorem dX0_pass_17 : decode cX0_pass 17 = .ok (.ireturn, 1) := dk_172 (dk_at dksX0_pass_0 17 rfl rfl)
theorem dX0_pass_18 : decode cX0_pass 18 = .ok (.iconst 0, 1) := dk_3 (dk_at dksX0_pass_0 18 rfl rfl)
theorem dX0_pass_19 : decode cX0_pass 19 = .ok (.ireturn, 1) := dk_172 (dk_at dksX0_pass_0 19 rfl rfl)
abbrev cX0_clock : ByteArray := method_7_code
def yX0_clock : MethodName := ⟨RX0, "clock", "(LHomewatcher;I[J)I"⟩
def dkwX0_clock_0 : List UInt8 := [44, 3, 42, 27, 182, 0, 29, 133, 80, 167, 0, 6, 78, 4, 172, 3, 172]
abbrev dktX0_clock_0 : List UInt8 := dkwX0_clock_0 ++ []
theorem dksX0_clock_0 : cX0_clock.data.toList.drop 0 = dktX0_clock_0 := by decide +kernel
theorem dX0_clock_0 : decode cX0_clock 0 = .ok (.aload_n 2, 1) := dk_44 (dk_at dksX0_clock_0 0 rfl rfl)
theorem dX0_clock_1 : decode cX0_clock 1 = .ok (.iconst 0, 1) := dk_3 (dk_at dksX0_clock_0 1 rfl rfl)
theorem dX0_clock_2 : decode cX0_clock 2 = .ok (.aload_n 0, 1) := dk_42 (dk_at dksX0_clock_0 2 rfl rfl)
theorem dX0_clock_3 : decode cX0_clock 3 = .ok (.iload_n 1, 1) := dk_27 (dk_at dksX0_clock_0 3 rfl rfl)
theorem dX0_clock_4 : decode cX0_clock 4 = .ok (.invokevirtual 29, 3) := dk_182 0 29 (dk_at dksX0_clock_0 4 rfl rfl)
theorem dX0_clock_7 : decode cX0_clock 7 = .ok (.i2l, 1) := dk_133 (dk_at dksX0_clock_0 7 rfl rfl)
theorem dX0_clock_8 : decode cX0_clock 8 = .ok (.lastore, 1) := dk_80 (dk_at dksX0_clock_0 8 rfl rfl)
theorem dX0_clock_9 : decode cX0_clock 9 = .ok (.goto 6, 3) := dk_167 0 6 (dk_at dksX0_clock_0 9 rfl rfl)
theorem dX0_clock_12 : decode cX0_clock 12 = .ok (.astore_n 3, 1) := dk_78 (dk_at dksX0_clock_0 12 rfl rfl)
theorem dX0_clock_13 : decode cX0_clock 13 = .ok (.iconst 1, 1) := dk_4 (dk_at dksX0_clock_0 13 rfl rfl)
theorem dX0_clock_14 : decode cX0_clock 14 = .ok (.ireturn, 1) := dk_172 (dk_at dksX0_clock_0 14 rfl rfl)
theorem dX0_clock_15 : decode cX0_clock 15 = .ok (.iconst 0, 1) := dk_3 (dk_at dksX0_clock_0 15 rfl rfl)
theorem dX0_clock_16 : decode cX0_clock 16 = .ok (.ireturn, 1) := dk_172 (dk_at dksX0_clock_0 16 rfl rfl)
abbrev cX0_type : ByteArray := method_8_code
def yX0_type : MethodName := ⟨RX0, "type", "(LHomewatcher;I[J)I"⟩
def dkwX0_type_0 : List UInt8 := [44, 3, 42, 27, 182, 0, 32, 133, 80, 167, 0, 9, 78, 4, 172, 78, 5, 172, 3, 172]
abbrev dktX0_type_0 : List UInt8 := dkwX0_type_0 ++ []
theorem dksX0_type_0 : cX0_type.data.toList.drop 0 = dktX0_type_0 := by decide +kernel
theorem dX0_type_0 : decode cX0_type 0 = .ok (.aload_n 2, 1) := dk_44 (dk_at dksX0_type_0 0 rfl rfl)
theorem dX0_type_1 : decode cX0_type 1 = .ok (.iconst 0, 1) := dk_3 (dk_at dksX0_type_0 1 rfl rfl)
theorem dX0_type_2 : decode cX0_type 2 = .ok (.aload_n 0, 1) := dk_42 (dk_at dksX0_type_0 2 rfl rfl)
theorem dX0_type_3 : decode cX0_type 3 = .ok (.iload_n 1, 1) := dk_27 (dk_at dksX0_type_0 3 rfl rfl)
theorem dX0_type_4 : decode cX0_type 4 = .ok (.invokevirtual 32, 3) := dk_182 0 32 (dk_at dksX0_type_0 4 rfl rfl)
theorem dX0_type_7 : decode cX0_type 7 = .ok (.i2l, 1) := dk_133 (dk_at dksX0_type_0 7 rfl rfl)
theorem dX0_type_8 : decode cX0_type 8 = .ok (.lastore, 1) := dk_80 (dk_at dksX0_type_0 8 rfl rfl)
theorem dX0_type_9 : decode cX0_type 9 = .ok (.goto 9, 3) := dk_167 0 9 (dk_at dksX0_type_0 9 rfl rfl)
theorem dX0_type_12 : decode cX0_type 12 = .ok (.astore_n 3, 1) := dk_78 (dk_at dksX0_type_0 12 rfl rfl)
theorem dX0_type_13 : decode cX0_type 13 = .ok (.iconst 1, 1) := dk_4 (dk_at dksX0_type_0 13 rfl rfl)
theorem dX0_type_14 : decode cX0_type 14 = .ok (.ireturn, 1) := dk_172 (dk_at dksX0_type_0 14 rfl rfl)
theorem dX0_type_15 : decode cX0_type 15 = .ok (.astore_n 3, 1) := dk_78 (dk_at dksX0_type_0 15 rfl rfl)
theorem dX0_type_16 : decode cX0_type 16 = .ok (.iconst 2, 1) := dk_5 (dk_at dksX0_type_0 16 rfl rfl)
theorem dX0_type_17 : decode cX0_type 17 = .ok (.ireturn, 1) := dk_172 (dk_at dksX0_type_0 17 rfl rfl)
theorem dX0_type_18 : decode cX0_type 18 = .ok (.iconst 0, 1) := dk_3 (dk_at dksX0_type_0 18 rfl rfl)
theorem dX0_type_19 : decode cX0_type 19 = .ok (.ireturn, 1) := dk_172 (dk_at dksX0_type_0 19 rfl rfl)
abbrev cX0_insert : ByteArray := method_9_code
def yX0_insert : MethodName := ⟨RX0, "insert", "(LHomewatcher;II[J)I"⟩
def dkwX0_insert_1 : List UInt8 := [172, 3, 172]
abbrev dktX0_insert_1 : List UInt8 := dkwX0_insert_1 ++ []
def dkwX0_insert_0 : List UInt8 := [45, 3, 42, 27, 28, 182, 0, 35, 133, 80, 167, 0, 15, 58, 4, 4, 172, 58, 4, 5, 172, 58, 4, 6]
abbrev dktX0_insert_0 : List UInt8 := dkwX0_insert_0 ++ dktX0_insert_1
theorem dksX0_insert_0 : cX0_insert.data.toList.drop 0 = dktX0_insert_0 := by decide +kernel
theorem dksX0_insert_1 : cX0_insert.data.toList.drop 24 = dktX0_insert_1 := dk_seg dksX0_insert_0 24 rfl rfl
theorem dX0_insert_0 : decode cX0_insert 0 = .ok (.aload_n 3, 1) := dk_45 (dk_at dksX0_insert_0 0 rfl rfl)
theorem dX0_insert_1 : decode cX0_insert 1 = .ok (.iconst 0, 1) := dk_3 (dk_at dksX0_insert_0 1 rfl rfl)
theorem dX0_insert_2 : decode cX0_insert 2 = .ok (.aload_n 0, 1) := dk_42 (dk_at dksX0_insert_0 2 rfl rfl)
theorem dX0_insert_3 : decode cX0_insert 3 = .ok (.iload_n 1, 1) := dk_27 (dk_at dksX0_insert_0 3 rfl rfl)
theorem dX0_insert_4 : decode cX0_insert 4 = .ok (.iload_n 2, 1) := dk_28 (dk_at dksX0_insert_0 4 rfl rfl)
theorem dX0_insert_5 : decode cX0_insert 5 = .ok (.invokevirtual 35, 3) := dk_182 0 35 (dk_at dksX0_insert_0 5 rfl rfl)
theorem dX0_insert_8 : decode cX0_insert 8 = .ok (.i2l, 1) := dk_133 (dk_at dksX0_insert_0 8 rfl rfl)
theorem dX0_insert_9 : decode cX0_insert 9 = .ok (.lastore, 1) := dk_80 (dk_at dksX0_insert_0 9 rfl rfl)
theorem dX0_insert_10 : decode cX0_insert 10 = .ok (.goto 15, 3) := dk_167 0 15 (dk_at dksX0_insert_0 10 rfl rfl)
theorem dX0_insert_13 : decode cX0_insert 13 = .ok (.astore 4, 2) := dk_58 4 (dk_at dksX0_insert_0 13 rfl rfl)
theorem dX0_insert_15 : decode cX0_insert 15 = .ok (.iconst 1, 1) := dk_4 (dk_at dksX0_insert_0 15 rfl rfl)
theorem dX0_insert_16 : decode cX0_insert 16 = .ok (.ireturn, 1) := dk_172 (dk_at dksX0_insert_0 16 rfl rfl)
theorem dX0_insert_17 : decode cX0_insert 17 = .ok (.astore 4, 2) := dk_58 4 (dk_at dksX0_insert_0 17 rfl rfl)
theorem dX0_insert_19 : decode cX0_insert 19 = .ok (.iconst 2, 1) := dk_5 (dk_at dksX0_insert_0 19 rfl rfl)
theorem dX0_insert_20 : decode cX0_insert 20 = .ok (.ireturn, 1) := dk_172 (dk_at dksX0_insert_0 20 rfl rfl)
theorem dX0_insert_21 : decode cX0_insert 21 = .ok (.astore 4, 2) := dk_58 4 (dk_at dksX0_insert_0 21 rfl rfl)
theorem dX0_insert_23 : decode cX0_insert 23 = .ok (.iconst 3, 1) := dk_6 (dk_at dksX0_insert_0 23 rfl rfl)
theorem dX0_insert_24 : decode cX0_insert 24 = .ok (.ireturn, 1) := dk_172 (dk_at dksX0_insert_1 0 rfl rfl)
theorem dX0_insert_25 : decode cX0_insert 25 = .ok (.iconst 0, 1) := dk_3 (dk_at dksX0_insert_1 1 rfl rfl)
theorem dX0_insert_26 : decode cX0_insert 26 = .ok (.ireturn, 1) := dk_172 (dk_at dksX0_insert_1 2 rfl rfl)
abbrev cX0_charAt : ByteArray := method_10_code
def yX0_charAt : MethodName := ⟨RX0, "charAt", "(LHomewatcher;I[J)I"⟩
def dkwX0_charAt_0 : List UInt8 := [44, 3, 42, 27, 182, 0, 39, 133, 80, 167, 0, 6, 78, 4, 172, 3, 172]
abbrev dktX0_charAt_0 : List UInt8 := dkwX0_charAt_0 ++ []
theorem dksX0_charAt_0 : cX0_charAt.data.toList.drop 0 = dktX0_charAt_0 := by decide +kernel
theorem dX0_charAt_0 : decode cX0_charAt 0 = .ok (.aload_n 2, 1) := dk_44 (dk_at dksX0_charAt_0 0 rfl rfl)
theorem dX0_charAt_1 : decode cX0_charAt 1 = .ok (.iconst 0, 1) := dk_3 (dk_at dksX0_charAt_0 1 rfl rfl)
theorem dX0_charAt_2 : decode cX0_charAt 2 = .ok (.aload_n 0, 1) := dk_42 (dk_at dksX0_charAt_0 2 rfl rfl)
theorem dX0_charAt_3 : decode cX0_charAt 3 = .ok (.iload_n 1, 1) := dk_27 (dk_at dksX0_charAt_0 3 rfl rfl)
theorem dX0_charAt_4 : decode cX0_charAt 4 = .ok (.invokevirtual 39, 3) := dk_182 0 39 (dk_at dksX0_charAt_0 4 rfl rfl)
theorem dX0_charAt_7 : decode cX0_charAt 7 = .ok (.i2l, 1) := dk_133 (dk_at dksX0_charAt_0 7 rfl rfl)
theorem dX0_charAt_8 : decode cX0_charAt 8 = .ok (.lastore, 1) := dk_80 (dk_at dksX0_charAt_0 8 rfl rfl)
theorem dX0_charAt_9 : decode cX0_charAt 9 = .ok (.goto 6, 3) := dk_167 0 6 (dk_at dksX0_charAt_0 9 rfl rfl)
theorem dX0_charAt_12 : decode cX0_charAt 12 = .ok (.astore_n 3, 1) := dk_78 (dk_at dksX0_charAt_0 12 rfl rfl)
theorem dX0_charAt_13 : decode cX0_charAt 13 = .ok (.iconst 1, 1) := dk_4 (dk_at dksX0_charAt_0 13 rfl rfl)
theorem dX0_charAt_14 : decode cX0_charAt 14 = .ok (.ireturn, 1) := dk_172 (dk_at dksX0_charAt_0 14 rfl rfl)
theorem dX0_charAt_15 : decode cX0_charAt 15 = .ok (.iconst 0, 1) := dk_3 (dk_at dksX0_charAt_0 15 rfl rfl)
theorem dX0_charAt_16 : decode cX0_charAt 16 = .ok (.ireturn, 1) := dk_172 (dk_at dksX0_charAt_0 16 rfl rfl)
abbrev cX0_save : ByteArray := method_11_code
def yX0_save : MethodName := ⟨RX0, "save", "(LHomewatcher;IIII[J)I"⟩
def dkwX0_save_1 : List UInt8 := [172, 58, 6, 6, 172, 58, 6, 7, 172, 3, 172]
abbrev dktX0_save_1 : List UInt8 := dkwX0_save_1 ++ []
def dkwX0_save_0 : List UInt8 := [25, 5, 3, 42, 27, 28, 29, 21, 4, 182, 0, 45, 133, 80, 167, 0, 19, 58, 6, 4, 172, 58, 6, 5]
abbrev dktX0_save_0 : List UInt8 := dkwX0_save_0 ++ dktX0_save_1
theorem dksX0_save_0 : cX0_save.data.toList.drop 0 = dktX0_save_0 := by decide +kernel
theorem dksX0_save_1 : cX0_save.data.toList.drop 24 = dktX0_save_1 := dk_seg dksX0_save_0 24 rfl rfl
theorem dX0_save_0 : decode cX0_save 0 = .ok (.aload 5, 2) := dk_25 5 (dk_at dksX0_save_0 0 rfl rfl)
theorem dX0_save_2 : decode cX0_save 2 = .ok (.iconst 0, 1) := dk_3 (dk_at dksX0_save_0 2 rfl rfl)
theorem dX0_save_3 : decode cX0_save 3 = .ok (.aload_n 0, 1) := dk_42 (dk_at dksX0_save_0 3 rfl rfl)
theorem dX0_save_4 : decode cX0_save 4 = .ok (.iload_n 1, 1) := dk_27 (dk_at dksX0_save_0 4 rfl rfl)
theorem dX0_save_5 : decode cX0_save 5 = .ok (.iload_n 2, 1) := dk_28 (dk_at dksX0_save_0 5 rfl rfl)
theorem dX0_save_6 : decode cX0_save 6 = .ok (.iload_n 3, 1) := dk_29 (dk_at dksX0_save_0 6 rfl rfl)
theorem dX0_save_7 : decode cX0_save 7 = .ok (.iload 4, 2) := dk_21 4 (dk_at dksX0_save_0 7 rfl rfl)
theorem dX0_save_9 : decode cX0_save 9 = .ok (.invokevirtual 45, 3) := dk_182 0 45 (dk_at dksX0_save_0 9 rfl rfl)
theorem dX0_save_12 : decode cX0_save 12 = .ok (.i2l, 1) := dk_133 (dk_at dksX0_save_0 12 rfl rfl)
theorem dX0_save_13 : decode cX0_save 13 = .ok (.lastore, 1) := dk_80 (dk_at dksX0_save_0 13 rfl rfl)
theorem dX0_save_14 : decode cX0_save 14 = .ok (.goto 19, 3) := dk_167 0 19 (dk_at dksX0_save_0 14 rfl rfl)
theorem dX0_save_17 : decode cX0_save 17 = .ok (.astore 6, 2) := dk_58 6 (dk_at dksX0_save_0 17 rfl rfl)
theorem dX0_save_19 : decode cX0_save 19 = .ok (.iconst 1, 1) := dk_4 (dk_at dksX0_save_0 19 rfl rfl)
theorem dX0_save_20 : decode cX0_save 20 = .ok (.ireturn, 1) := dk_172 (dk_at dksX0_save_0 20 rfl rfl)
theorem dX0_save_21 : decode cX0_save 21 = .ok (.astore 6, 2) := dk_58 6 (dk_at dksX0_save_0 21 rfl rfl)
theorem dX0_save_23 : decode cX0_save 23 = .ok (.iconst 2, 1) := dk_5 (dk_at dksX0_save_0 23 rfl rfl)
theorem dX0_save_24 : decode cX0_save 24 = .ok (.ireturn, 1) := dk_172 (dk_at dksX0_save_1 0 rfl rfl)
theorem dX0_save_25 : decode cX0_save 25 = .ok (.astore 6, 2) := dk_58 6 (dk_at dksX0_save_1 1 rfl rfl)
theorem dX0_save_27 : decode cX0_save 27 = .ok (.iconst 3, 1) := dk_6 (dk_at dksX0_save_1 3 rfl rfl)
theorem dX0_save_28 : decode cX0_save 28 = .ok (.ireturn, 1) := dk_172 (dk_at dksX0_save_1 4 rfl rfl)
theorem dX0_save_29 : decode cX0_save 29 = .ok (.astore 6, 2) := dk_58 6 (dk_at dksX0_save_1 5 rfl rfl)
theorem dX0_save_31 : decode cX0_save 31 = .ok (.iconst 4, 1) := dk_7 (dk_at dksX0_save_1 7 rfl rfl)
theorem dX0_save_32 : decode cX0_save 32 = .ok (.ireturn, 1) := dk_172 (dk_at dksX0_save_1 8 rfl rfl)
theorem dX0_save_33 : decode cX0_save 33 = .ok (.iconst 0, 1) := dk_3 (dk_at dksX0_save_1 9 rfl rfl)
theorem dX0_save_34 : decode cX0_save 34 = .ok (.ireturn, 1) := dk_172 (dk_at dksX0_save_1 10 rfl rfl)
abbrev cX0_of : ByteArray := method_12_code
def yX0_of : MethodName := ⟨RX0, "of", "(LHomewatcher;IC[J)I"⟩
def dkwX0_of_0 : List UInt8 := [45, 3, 42, 27, 28, 182, 0, 51, 133, 80, 167, 0, 11, 58, 4, 4, 172, 58, 4, 5, 172, 3, 172]
abbrev dktX0_of_0 : List UInt8 := dkwX0_of_0 ++ []
theorem dksX0_of_0 : cX0_of.data.toList.drop 0 = dktX0_of_0 := by decide +kernel
theorem dX0_of_0 : decode cX0_of 0 = .ok (.aload_n 3, 1) := dk_45 (dk_at dksX0_of_0 0 rfl rfl)
theorem dX0_of_1 : decode cX0_of 1 = .ok (.iconst 0, 1) := dk_3 (dk_at dksX0_of_0 1 rfl rfl)
theorem dX0_of_2 : decode cX0_of 2 = .ok (.aload_n 0, 1) := dk_42 (dk_at dksX0_of_0 2 rfl rfl)
theorem dX0_of_3 : decode cX0_of 3 = .ok (.iload_n 1, 1) := dk_27 (dk_at dksX0_of_0 3 rfl rfl)
theorem dX0_of_4 : decode cX0_of 4 = .ok (.iload_n 2, 1) := dk_28 (dk_at dksX0_of_0 4 rfl rfl)
theorem dX0_of_5 : decode cX0_of 5 = .ok (.invokevirtual 51, 3) := dk_182 0 51 (dk_at dksX0_of_0 5 rfl rfl)
theorem dX0_of_8 : decode cX0_of 8 = .ok (.i2l, 1) := dk_133 (dk_at dksX0_of_0 8 rfl rfl)
theorem dX0_of_9 : decode cX0_of 9 = .ok (.lastore, 1) := dk_80 (dk_at dksX0_of_0 9 rfl rfl)
theorem dX0_of_10 : decode cX0_of 10 = .ok (.goto 11, 3) := dk_167 0 11 (dk_at dksX0_of_0 10 rfl rfl)
theorem dX0_of_13 : decode cX0_of 13 = .ok (.astore 4, 2) := dk_58 4 (dk_at dksX0_of_0 13 rfl rfl)
theorem dX0_of_15 : decode cX0_of 15 = .ok (.iconst 1, 1) := dk_4 (dk_at dksX0_of_0 15 rfl rfl)
theorem dX0_of_16 : decode cX0_of 16 = .ok (.ireturn, 1) := dk_172 (dk_at dksX0_of_0 16 rfl rfl)
theorem dX0_of_17 : decode cX0_of 17 = .ok (.astore 4, 2) := dk_58 4 (dk_at dksX0_of_0 17 rfl rfl)
theorem dX0_of_19 : decode cX0_of 19 = .ok (.iconst 2, 1) := dk_5 (dk_at dksX0_of_0 19 rfl rfl)
theorem dX0_of_20 : decode cX0_of 20 = .ok (.ireturn, 1) := dk_172 (dk_at dksX0_of_0 20 rfl rfl)
theorem dX0_of_21 : decode cX0_of 21 = .ok (.iconst 0, 1) := dk_3 (dk_at dksX0_of_0 21 rfl rfl)
theorem dX0_of_22 : decode cX0_of 22 = .ok (.ireturn, 1) := dk_172 (dk_at dksX0_of_0 22 rfl rfl)
abbrev cX0_forks : ByteArray := method_13_code
def yX0_forks : MethodName := ⟨RX0, "forks", "(LHomewatcher;I[J)I"⟩
def dkwX0_forks_0 : List UInt8 := [44, 3, 42, 27, 182, 0, 55, 133, 80, 167, 0, 6, 78, 4, 172, 3, 172]
abbrev dktX0_forks_0 : List UInt8 := dkwX0_forks_0 ++ []
theorem dksX0_forks_0 : cX0_forks.data.toList.drop 0 = dktX0_forks_0 := by decide +kernel
theorem dX0_forks_0 : decode cX0_forks 0 = .ok (.aload_n 2, 1) := dk_44 (dk_at dksX0_forks_0 0 rfl rfl)
theorem dX0_forks_1 : decode cX0_forks 1 = .ok (.iconst 0, 1) := dk_3 (dk_at dksX0_forks_0 1 rfl rfl)
theorem dX0_forks_2 : decode cX0_forks 2 = .ok (.aload_n 0, 1) := dk_42 (dk_at dksX0_forks_0 2 rfl rfl)
theorem dX0_forks_3 : decode cX0_forks 3 = .ok (.iload_n 1, 1) := dk_27 (dk_at dksX0_forks_0 3 rfl rfl)
theorem dX0_forks_4 : decode cX0_forks 4 = .ok (.invokevirtual 55, 3) := dk_182 0 55 (dk_at dksX0_forks_0 4 rfl rfl)
theorem dX0_forks_7 : decode cX0_forks 7 = .ok (.i2l, 1) := dk_133 (dk_at dksX0_forks_0 7 rfl rfl)
theorem dX0_forks_8 : decode cX0_forks 8 = .ok (.lastore, 1) := dk_80 (dk_at dksX0_forks_0 8 rfl rfl)
theorem dX0_forks_9 : decode cX0_forks 9 = .ok (.goto 6, 3) := dk_167 0 6 (dk_at dksX0_forks_0 9 rfl rfl)
theorem dX0_forks_12 : decode cX0_forks 12 = .ok (.astore_n 3, 1) := dk_78 (dk_at dksX0_forks_0 12 rfl rfl)
theorem dX0_forks_13 : decode cX0_forks 13 = .ok (.iconst 1, 1) := dk_4 (dk_at dksX0_forks_0 13 rfl rfl)
theorem dX0_forks_14 : decode cX0_forks 14 = .ok (.ireturn, 1) := dk_172 (dk_at dksX0_forks_0 14 rfl rfl)
theorem dX0_forks_15 : decode cX0_forks 15 = .ok (.iconst 0, 1) := dk_3 (dk_at dksX0_forks_0 15 rfl rfl)
theorem dX0_forks_16 : decode cX0_forks 16 = .ok (.ireturn, 1) := dk_172 (dk_at dksX0_forks_0 16 rfl rfl)
abbrev cX0_heads : ByteArray := method_14_code
def yX0_heads : MethodName := ⟨RX0, "heads", "(LHomewatcher;II[J)I"⟩
def dkwX0_heads_0 : List UInt8 := [45, 3, 42, 27, 28, 182, 0, 58, 133, 80, 167, 0, 7, 58, 4, 4, 172, 3, 172]
abbrev dktX0_heads_0 : List UInt8 := dkwX0_heads_0 ++ []
theorem dksX0_heads_0 : cX0_heads.data.toList.drop 0 = dktX0_heads_0 := by decide +kernel
theorem dX0_heads_0 : decode cX0_heads 0 = .ok (.aload_n 3, 1) := dk_45 (dk_at dksX0_heads_0 0 rfl rfl)
theorem dX0_heads_1 : decode cX0_heads 1 = .ok (.iconst 0, 1) := dk_3 (dk_at dksX0_heads_0 1 rfl rfl)
theorem dX0_heads_2 : decode cX0_heads 2 = .ok (.aload_n 0, 1) := dk_42 (dk_at dksX0_heads_0 2 rfl rfl)
theorem dX0_heads_3 : decode cX0_heads 3 = .ok (.iload_n 1, 1) := dk_27 (dk_at dksX0_heads_0 3 rfl rfl)
theorem dX0_heads_4 : decode cX0_heads 4 = .ok (.iload_n 2, 1) := dk_28 (dk_at dksX0_heads_0 4 rfl rfl)
theorem dX0_heads_5 : decode cX0_heads 5 = .ok (.invokevirtual 58, 3) := dk_182 0 58 (dk_at dksX0_heads_0 5 rfl rfl)
theorem dX0_heads_8 : decode cX0_heads 8 = .ok (.i2l, 1) := dk_133 (dk_at dksX0_heads_0 8 rfl rfl)
theorem dX0_heads_9 : decode cX0_heads 9 = .ok (.lastore, 1) := dk_80 (dk_at dksX0_heads_0 9 rfl rfl)
theorem dX0_heads_10 : decode cX0_heads 10 = .ok (.goto 7, 3) := dk_167 0 7 (dk_at dksX0_heads_0 10 rfl rfl)
theorem dX0_heads_13 : decode cX0_heads 13 = .ok (.astore 4, 2) := dk_58 4 (dk_at dksX0_heads_0 13 rfl rfl)
theorem dX0_heads_15 : decode cX0_heads 15 = .ok (.iconst 1, 1) := dk_4 (dk_at dksX0_heads_0 15 rfl rfl)
theorem dX0_heads_16 : decode cX0_heads 16 = .ok (.ireturn, 1) := dk_172 (dk_at dksX0_heads_0 16 rfl rfl)
theorem dX0_heads_17 : decode cX0_heads 17 = .ok (.iconst 0, 1) := dk_3 (dk_at dksX0_heads_0 17 rfl rfl)
theorem dX0_heads_18 : decode cX0_heads 18 = .ok (.ireturn, 1) := dk_172 (dk_at dksX0_heads_0 18 rfl rfl)
abbrev cX0_hand : ByteArray := method_15_code
def yX0_hand : MethodName := ⟨RX0, "hand", "(LHomewatcher;I[J)I"⟩
def dkwX0_hand_0 : List UInt8 := [44, 3, 42, 27, 182, 0, 61, 133, 80, 167, 0, 12, 78, 4, 172, 78, 5, 172, 78, 6, 172, 3, 172]
abbrev dktX0_hand_0 : List UInt8 := dkwX0_hand_0 ++ []
theorem dksX0_hand_0 : cX0_hand.data.toList.drop 0 = dktX0_hand_0 := by decide +kernel
theorem dX0_hand_0 : decode cX0_hand 0 = .ok (.aload_n 2, 1) := dk_44 (dk_at dksX0_hand_0 0 rfl rfl)
theorem dX0_hand_1 : decode cX0_hand 1 = .ok (.iconst 0, 1) := dk_3 (dk_at dksX0_hand_0 1 rfl rfl)
theorem dX0_hand_2 : decode cX0_hand 2 = .ok (.aload_n 0, 1) := dk_42 (dk_at dksX0_hand_0 2 rfl rfl)
theorem dX0_hand_3 : decode cX0_hand 3 = .ok (.iload_n 1, 1) := dk_27 (dk_at dksX0_hand_0 3 rfl rfl)
theorem dX0_hand_4 : decode cX0_hand 4 = .ok (.invokevirtual 61, 3) := dk_182 0 61 (dk_at dksX0_hand_0 4 rfl rfl)
theorem dX0_hand_7 : decode cX0_hand 7 = .ok (.i2l, 1) := dk_133 (dk_at dksX0_hand_0 7 rfl rfl)
theorem dX0_hand_8 : decode cX0_hand 8 = .ok (.lastore, 1) := dk_80 (dk_at dksX0_hand_0 8 rfl rfl)
theorem dX0_hand_9 : decode cX0_hand 9 = .ok (.goto 12, 3) := dk_167 0 12 (dk_at dksX0_hand_0 9 rfl rfl)
theorem dX0_hand_12 : decode cX0_hand 12 = .ok (.astore_n 3, 1) := dk_78 (dk_at dksX0_hand_0 12 rfl rfl)
theorem dX0_hand_13 : decode cX0_hand 13 = .ok (.iconst 1, 1) := dk_4 (dk_at dksX0_hand_0 13 rfl rfl)
theorem dX0_hand_14 : decode cX0_hand 14 = .ok (.ireturn, 1) := dk_172 (dk_at dksX0_hand_0 14 rfl rfl)
theorem dX0_hand_15 : decode cX0_hand 15 = .ok (.astore_n 3, 1) := dk_78 (dk_at dksX0_hand_0 15 rfl rfl)
theorem dX0_hand_16 : decode cX0_hand 16 = .ok (.iconst 2, 1) := dk_5 (dk_at dksX0_hand_0 16 rfl rfl)
theorem dX0_hand_17 : decode cX0_hand 17 = .ok (.ireturn, 1) := dk_172 (dk_at dksX0_hand_0 17 rfl rfl)
theorem dX0_hand_18 : decode cX0_hand 18 = .ok (.astore_n 3, 1) := dk_78 (dk_at dksX0_hand_0 18 rfl rfl)
theorem dX0_hand_19 : decode cX0_hand 19 = .ok (.iconst 3, 1) := dk_6 (dk_at dksX0_hand_0 19 rfl rfl)
theorem dX0_hand_20 : decode cX0_hand 20 = .ok (.ireturn, 1) := dk_172 (dk_at dksX0_hand_0 20 rfl rfl)
theorem dX0_hand_21 : decode cX0_hand 21 = .ok (.iconst 0, 1) := dk_3 (dk_at dksX0_hand_0 21 rfl rfl)
theorem dX0_hand_22 : decode cX0_hand 22 = .ok (.ireturn, 1) := dk_172 (dk_at dksX0_hand_0 22 rfl rfl)
abbrev cX0_withdraw : ByteArray := method_16_code
def yX0_withdraw : MethodName := ⟨RX0, "withdraw", "(LHomewatcher;I[J)I"⟩
def dkwX0_withdraw_1 : List UInt8 := [172, 3, 172]
abbrev dktX0_withdraw_1 : List UInt8 := dkwX0_withdraw_1 ++ []
def dkwX0_withdraw_0 : List UInt8 := [44, 3, 42, 27, 182, 0, 64, 153, 0, 7, 10, 167, 0, 4, 9, 80, 167, 0, 9, 78, 4, 172, 78, 5]
abbrev dktX0_withdraw_0 : List UInt8 := dkwX0_withdraw_0 ++ dktX0_withdraw_1
theorem dksX0_withdraw_0 : cX0_withdraw.data.toList.drop 0 = dktX0_withdraw_0 := by decide +kernel
theorem dksX0_withdraw_1 : cX0_withdraw.data.toList.drop 24 = dktX0_withdraw_1 := dk_seg dksX0_withdraw_0 24 rfl rfl
theorem dX0_withdraw_0 : decode cX0_withdraw 0 = .ok (.aload_n 2, 1) := dk_44 (dk_at dksX0_withdraw_0 0 rfl rfl)
theorem dX0_withdraw_1 : decode cX0_withdraw 1 = .ok (.iconst 0, 1) := dk_3 (dk_at dksX0_withdraw_0 1 rfl rfl)
theorem dX0_withdraw_2 : decode cX0_withdraw 2 = .ok (.aload_n 0, 1) := dk_42 (dk_at dksX0_withdraw_0 2 rfl rfl)
theorem dX0_withdraw_3 : decode cX0_withdraw 3 = .ok (.iload_n 1, 1) := dk_27 (dk_at dksX0_withdraw_0 3 rfl rfl)
theorem dX0_withdraw_4 : decode cX0_withdraw 4 = .ok (.invokevirtual 64, 3) := dk_182 0 64 (dk_at dksX0_withdraw_0 4 rfl rfl)
theorem dX0_withdraw_7 : decode cX0_withdraw 7 = .ok (.ifCond .eq 7, 3) := dk_153 0 7 (dk_at dksX0_withdraw_0 7 rfl rfl)
theorem dX0_withdraw_10 : decode cX0_withdraw 10 = .ok (.lconst 1, 1) := dk_10 (dk_at dksX0_withdraw_0 10 rfl rfl)
theorem dX0_withdraw_11 : decode cX0_withdraw 11 = .ok (.goto 4, 3) := dk_167 0 4 (dk_at dksX0_withdraw_0 11 rfl rfl)
theorem dX0_withdraw_14 : decode cX0_withdraw 14 = .ok (.lconst 0, 1) := dk_9 (dk_at dksX0_withdraw_0 14 rfl rfl)
theorem dX0_withdraw_15 : decode cX0_withdraw 15 = .ok (.lastore, 1) := dk_80 (dk_at dksX0_withdraw_0 15 rfl rfl)
theorem dX0_withdraw_16 : decode cX0_withdraw 16 = .ok (.goto 9, 3) := dk_167 0 9 (dk_at dksX0_withdraw_0 16 rfl rfl)
theorem dX0_withdraw_19 : decode cX0_withdraw 19 = .ok (.astore_n 3, 1) := dk_78 (dk_at dksX0_withdraw_0 19 rfl rfl)
theorem dX0_withdraw_20 : decode cX0_withdraw 20 = .ok (.iconst 1, 1) := dk_4 (dk_at dksX0_withdraw_0 20 rfl rfl)
theorem dX0_withdraw_21 : decode cX0_withdraw 21 = .ok (.ireturn, 1) := dk_172 (dk_at dksX0_withdraw_0 21 rfl rfl)
theorem dX0_withdraw_22 : decode cX0_withdraw 22 = .ok (.astore_n 3, 1) := dk_78 (dk_at dksX0_withdraw_0 22 rfl rfl)
theorem dX0_withdraw_23 : decode cX0_withdraw 23 = .ok (.iconst 2, 1) := dk_5 (dk_at dksX0_withdraw_0 23 rfl rfl)
theorem dX0_withdraw_24 : decode cX0_withdraw 24 = .ok (.ireturn, 1) := dk_172 (dk_at dksX0_withdraw_1 0 rfl rfl)
theorem dX0_withdraw_25 : decode cX0_withdraw 25 = .ok (.iconst 0, 1) := dk_3 (dk_at dksX0_withdraw_1 1 rfl rfl)
theorem dX0_withdraw_26 : decode cX0_withdraw 26 = .ok (.ireturn, 1) := dk_172 (dk_at dksX0_withdraw_1 2 rfl rfl)
abbrev cX0_isIn : ByteArray := method_17_code
def yX0_isIn : MethodName := ⟨RX0, "isIn", "(LHomewatcher;I[J)I"⟩
def dkwX0_isIn_0 : List UInt8 := [44, 3, 42, 27, 182, 0, 68, 153, 0, 7, 10, 167, 0, 4, 9, 80, 167, 0, 6, 78, 4, 172, 3, 172]
abbrev dktX0_isIn_0 : List UInt8 := dkwX0_isIn_0 ++ []
theorem dksX0_isIn_0 : cX0_isIn.data.toList.drop 0 = dktX0_isIn_0 := by decide +kernel
theorem dX0_isIn_0 : decode cX0_isIn 0 = .ok (.aload_n 2, 1) := dk_44 (dk_at dksX0_isIn_0 0 rfl rfl)
theorem dX0_isIn_1 : decode cX0_isIn 1 = .ok (.iconst 0, 1) := dk_3 (dk_at dksX0_isIn_0 1 rfl rfl)
theorem dX0_isIn_2 : decode cX0_isIn 2 = .ok (.aload_n 0, 1) := dk_42 (dk_at dksX0_isIn_0 2 rfl rfl)
theorem dX0_isIn_3 : decode cX0_isIn 3 = .ok (.iload_n 1, 1) := dk_27 (dk_at dksX0_isIn_0 3 rfl rfl)
theorem dX0_isIn_4 : decode cX0_isIn 4 = .ok (.invokevirtual 68, 3) := dk_182 0 68 (dk_at dksX0_isIn_0 4 rfl rfl)
theorem dX0_isIn_7 : decode cX0_isIn 7 = .ok (.ifCond .eq 7, 3) := dk_153 0 7 (dk_at dksX0_isIn_0 7 rfl rfl)
theorem dX0_isIn_10 : decode cX0_isIn 10 = .ok (.lconst 1, 1) := dk_10 (dk_at dksX0_isIn_0 10 rfl rfl)
theorem dX0_isIn_11 : decode cX0_isIn 11 = .ok (.goto 4, 3) := dk_167 0 4 (dk_at dksX0_isIn_0 11 rfl rfl)
theorem dX0_isIn_14 : decode cX0_isIn 14 = .ok (.lconst 0, 1) := dk_9 (dk_at dksX0_isIn_0 14 rfl rfl)
theorem dX0_isIn_15 : decode cX0_isIn 15 = .ok (.lastore, 1) := dk_80 (dk_at dksX0_isIn_0 15 rfl rfl)
theorem dX0_isIn_16 : decode cX0_isIn 16 = .ok (.goto 6, 3) := dk_167 0 6 (dk_at dksX0_isIn_0 16 rfl rfl)
theorem dX0_isIn_19 : decode cX0_isIn 19 = .ok (.astore_n 3, 1) := dk_78 (dk_at dksX0_isIn_0 19 rfl rfl)
theorem dX0_isIn_20 : decode cX0_isIn 20 = .ok (.iconst 1, 1) := dk_4 (dk_at dksX0_isIn_0 20 rfl rfl)
theorem dX0_isIn_21 : decode cX0_isIn 21 = .ok (.ireturn, 1) := dk_172 (dk_at dksX0_isIn_0 21 rfl rfl)
theorem dX0_isIn_22 : decode cX0_isIn 22 = .ok (.iconst 0, 1) := dk_3 (dk_at dksX0_isIn_0 22 rfl rfl)
theorem dX0_isIn_23 : decode cX0_isIn 23 = .ok (.ireturn, 1) := dk_172 (dk_at dksX0_isIn_0 23 rfl rfl)
abbrev cX0_late : ByteArray := method_18_code
def yX0_late : MethodName := ⟨RX0, "late", "(LHomewatcher;I[J)I"⟩
def dkwX0_late_0 : List UInt8 := [44, 3, 42, 27, 182, 0, 71, 133, 80, 167, 0, 9, 78, 4, 172, 78, 5, 172, 3, 172]
abbrev dktX0_late_0 : List UInt8 := dkwX0_late_0 ++ []
theorem dksX0_late_0 : cX0_late.data.toList.drop 0 = dktX0_late_0 := by decide +kernel
theorem dX0_late_0 : decode cX0_late 0 = .ok (.aload_n 2, 1) := dk_44 (dk_at dksX0_late_0 0 rfl rfl)
theorem dX0_late_1 : decode cX0_late 1 = .ok (.iconst 0, 1) := dk_3 (dk_at dksX0_late_0 1 rfl rfl)
theorem dX0_late_2 : decode cX0_late 2 = .ok (.aload_n 0, 1) := dk_42 (dk_at dksX0_late_0 2 rfl rfl)
theorem dX0_late_3 : decode cX0_late 3 = .ok (.iload_n 1, 1) := dk_27 (dk_at dksX0_late_0 3 rfl rfl)
theorem dX0_late_4 : decode cX0_late 4 = .ok (.invokevirtual 71, 3) := dk_182 0 71 (dk_at dksX0_late_0 4 rfl rfl)
theorem dX0_late_7 : decode cX0_late 7 = .ok (.i2l, 1) := dk_133 (dk_at dksX0_late_0 7 rfl rfl)
theorem dX0_late_8 : decode cX0_late 8 = .ok (.lastore, 1) := dk_80 (dk_at dksX0_late_0 8 rfl rfl)
theorem dX0_late_9 : decode cX0_late 9 = .ok (.goto 9, 3) := dk_167 0 9 (dk_at dksX0_late_0 9 rfl rfl)
theorem dX0_late_12 : decode cX0_late 12 = .ok (.astore_n 3, 1) := dk_78 (dk_at dksX0_late_0 12 rfl rfl)
theorem dX0_late_13 : decode cX0_late 13 = .ok (.iconst 1, 1) := dk_4 (dk_at dksX0_late_0 13 rfl rfl)
theorem dX0_late_14 : decode cX0_late 14 = .ok (.ireturn, 1) := dk_172 (dk_at dksX0_late_0 14 rfl rfl)
theorem dX0_late_15 : decode cX0_late 15 = .ok (.astore_n 3, 1) := dk_78 (dk_at dksX0_late_0 15 rfl rfl)
theorem dX0_late_16 : decode cX0_late 16 = .ok (.iconst 2, 1) := dk_5 (dk_at dksX0_late_0 16 rfl rfl)
theorem dX0_late_17 : decode cX0_late 17 = .ok (.ireturn, 1) := dk_172 (dk_at dksX0_late_0 17 rfl rfl)
theorem dX0_late_18 : decode cX0_late 18 = .ok (.iconst 0, 1) := dk_3 (dk_at dksX0_late_0 18 rfl rfl)
theorem dX0_late_19 : decode cX0_late 19 = .ok (.ireturn, 1) := dk_172 (dk_at dksX0_late_0 19 rfl rfl)
abbrev cX0_off : ByteArray := method_19_code
def yX0_off : MethodName := ⟨RX0, "off", "(LHomewatcher;II[J)I"⟩
def dkwX0_off_0 : List UInt8 := [45, 3, 42, 27, 28, 182, 0, 74, 133, 80, 167, 0, 11, 58, 4, 4, 172, 58, 4, 5, 172, 3, 172]
abbrev dktX0_off_0 : List UInt8 := dkwX0_off_0 ++ []
theorem dksX0_off_0 : cX0_off.data.toList.drop 0 = dktX0_off_0 := by decide +kernel
theorem dX0_off_0 : decode cX0_off 0 = .ok (.aload_n 3, 1) := dk_45 (dk_at dksX0_off_0 0 rfl rfl)
theorem dX0_off_1 : decode cX0_off 1 = .ok (.iconst 0, 1) := dk_3 (dk_at dksX0_off_0 1 rfl rfl)
theorem dX0_off_2 : decode cX0_off 2 = .ok (.aload_n 0, 1) := dk_42 (dk_at dksX0_off_0 2 rfl rfl)
theorem dX0_off_3 : decode cX0_off 3 = .ok (.iload_n 1, 1) := dk_27 (dk_at dksX0_off_0 3 rfl rfl)
theorem dX0_off_4 : decode cX0_off 4 = .ok (.iload_n 2, 1) := dk_28 (dk_at dksX0_off_0 4 rfl rfl)
theorem dX0_off_5 : decode cX0_off 5 = .ok (.invokevirtual 74, 3) := dk_182 0 74 (dk_at dksX0_off_0 5 rfl rfl)
theorem dX0_off_8 : decode cX0_off 8 = .ok (.i2l, 1) := dk_133 (dk_at dksX0_off_0 8 rfl rfl)
theorem dX0_off_9 : decode cX0_off 9 = .ok (.lastore, 1) := dk_80 (dk_at dksX0_off_0 9 rfl rfl)
theorem dX0_off_10 : decode cX0_off 10 = .ok (.goto 11, 3) := dk_167 0 11 (dk_at dksX0_off_0 10 rfl rfl)
theorem dX0_off_13 : decode cX0_off 13 = .ok (.astore 4, 2) := dk_58 4 (dk_at dksX0_off_0 13 rfl rfl)
theorem dX0_off_15 : decode cX0_off 15 = .ok (.iconst 1, 1) := dk_4 (dk_at dksX0_off_0 15 rfl rfl)
theorem dX0_off_16 : decode cX0_off 16 = .ok (.ireturn, 1) := dk_172 (dk_at dksX0_off_0 16 rfl rfl)
theorem dX0_off_17 : decode cX0_off 17 = .ok (.astore 4, 2) := dk_58 4 (dk_at dksX0_off_0 17 rfl rfl)
theorem dX0_off_19 : decode cX0_off 19 = .ok (.iconst 2, 1) := dk_5 (dk_at dksX0_off_0 19 rfl rfl)
theorem dX0_off_20 : decode cX0_off 20 = .ok (.ireturn, 1) := dk_172 (dk_at dksX0_off_0 20 rfl rfl)
theorem dX0_off_21 : decode cX0_off 21 = .ok (.iconst 0, 1) := dk_3 (dk_at dksX0_off_0 21 rfl rfl)
theorem dX0_off_22 : decode cX0_off 22 = .ok (.ireturn, 1) := dk_172 (dk_at dksX0_off_0 22 rfl rfl)
abbrev cX0_points : ByteArray := method_20_code
def yX0_points : MethodName := ⟨RX0, "points", "(LHomewatcher;II[J)I"⟩
def dkwX0_points_0 : List UInt8 := [45, 3, 42, 27, 28, 182, 0, 77, 133, 80, 167, 0, 11, 58, 4, 4, 172, 58, 4, 5, 172, 3, 172]
abbrev dktX0_points_0 : List UInt8 := dkwX0_points_0 ++ []
theorem dksX0_points_0 : cX0_points.data.toList.drop 0 = dktX0_points_0 := by decide +kernel
theorem dX0_points_0 : decode cX0_points 0 = .ok (.aload_n 3, 1) := dk_45 (dk_at dksX0_points_0 0 rfl rfl)
theorem dX0_points_1 : decode cX0_points 1 = .ok (.iconst 0, 1) := dk_3 (dk_at dksX0_points_0 1 rfl rfl)
theorem dX0_points_2 : decode cX0_points 2 = .ok (.aload_n 0, 1) := dk_42 (dk_at dksX0_points_0 2 rfl rfl)
theorem dX0_points_3 : decode cX0_points 3 = .ok (.iload_n 1, 1) := dk_27 (dk_at dksX0_points_0 3 rfl rfl)
theorem dX0_points_4 : decode cX0_points 4 = .ok (.iload_n 2, 1) := dk_28 (dk_at dksX0_points_0 4 rfl rfl)
theorem dX0_points_5 : decode cX0_points 5 = .ok (.invokevirtual 77, 3) := dk_182 0 77 (dk_at dksX0_points_0 5 rfl rfl)
theorem dX0_points_8 : decode cX0_points 8 = .ok (.i2l, 1) := dk_133 (dk_at dksX0_points_0 8 rfl rfl)
theorem dX0_points_9 : decode cX0_points 9 = .ok (.lastore, 1) := dk_80 (dk_at dksX0_points_0 9 rfl rfl)
theorem dX0_points_10 : decode cX0_points 10 = .ok (.goto 11, 3) := dk_167 0 11 (dk_at dksX0_points_0 10 rfl rfl)
theorem dX0_points_13 : decode cX0_points 13 = .ok (.astore 4, 2) := dk_58 4 (dk_at dksX0_points_0 13 rfl rfl)
theorem dX0_points_15 : decode cX0_points 15 = .ok (.iconst 1, 1) := dk_4 (dk_at dksX0_points_0 15 rfl rfl)
theorem dX0_points_16 : decode cX0_points 16 = .ok (.ireturn, 1) := dk_172 (dk_at dksX0_points_0 16 rfl rfl)
theorem dX0_points_17 : decode cX0_points 17 = .ok (.astore 4, 2) := dk_58 4 (dk_at dksX0_points_0 17 rfl rfl)
theorem dX0_points_19 : decode cX0_points 19 = .ok (.iconst 2, 1) := dk_5 (dk_at dksX0_points_0 19 rfl rfl)
theorem dX0_points_20 : decode cX0_points 20 = .ok (.ireturn, 1) := dk_172 (dk_at dksX0_points_0 20 rfl rfl)
theorem dX0_points_21 : decode cX0_points 21 = .ok (.iconst 0, 1) := dk_3 (dk_at dksX0_points_0 21 rfl rfl)
theorem dX0_points_22 : decode cX0_points 22 = .ok (.ireturn, 1) := dk_172 (dk_at dksX0_points_0 22 rfl rfl)
abbrev cX0_counting : ByteArray := method_21_code
def yX0_counting : MethodName := ⟨RX0, "counting", "(LHomewatcher;II[J)I"⟩
def dkwX0_counting_0 : List UInt8 := [45, 3, 42, 27, 28, 182, 0, 80, 133, 80, 167, 0, 11, 58, 4, 4, 172, 58, 4, 5, 172, 3, 172]
abbrev dktX0_counting_0 : List UInt8 := dkwX0_counting_0 ++ []
theorem dksX0_counting_0 : cX0_counting.data.toList.drop 0 = dktX0_counting_0 := by decide +kernel
theorem dX0_counting_0 : decode cX0_counting 0 = .ok (.aload_n 3, 1) := dk_45 (dk_at dksX0_counting_0 0 rfl rfl)
theorem dX0_counting_1 : decode cX0_counting 1 = .ok (.iconst 0, 1) := dk_3 (dk_at dksX0_counting_0 1 rfl rfl)
theorem dX0_counting_2 : decode cX0_counting 2 = .ok (.aload_n 0, 1) := dk_42 (dk_at dksX0_counting_0 2 rfl rfl)
theorem dX0_counting_3 : decode cX0_counting 3 = .ok (.iload_n 1, 1) := dk_27 (dk_at dksX0_counting_0 3 rfl rfl)
theorem dX0_counting_4 : decode cX0_counting 4 = .ok (.iload_n 2, 1) := dk_28 (dk_at dksX0_counting_0 4 rfl rfl)
theorem dX0_counting_5 : decode cX0_counting 5 = .ok (.invokevirtual 80, 3) := dk_182 0 80 (dk_at dksX0_counting_0 5 rfl rfl)
theorem dX0_counting_8 : decode cX0_counting 8 = .ok (.i2l, 1) := dk_133 (dk_at dksX0_counting_0 8 rfl rfl)
theorem dX0_counting_9 : decode cX0_counting 9 = .ok (.lastore, 1) := dk_80 (dk_at dksX0_counting_0 9 rfl rfl)
theorem dX0_counting_10 : decode cX0_counting 10 = .ok (.goto 11, 3) := dk_167 0 11 (dk_at dksX0_counting_0 10 rfl rfl)
theorem dX0_counting_13 : decode cX0_counting 13 = .ok (.astore 4, 2) := dk_58 4 (dk_at dksX0_counting_0 13 rfl rfl)
theorem dX0_counting_15 : decode cX0_counting 15 = .ok (.iconst 1, 1) := dk_4 (dk_at dksX0_counting_0 15 rfl rfl)
theorem dX0_counting_16 : decode cX0_counting 16 = .ok (.ireturn, 1) := dk_172 (dk_at dksX0_counting_0 16 rfl rfl)
theorem dX0_counting_17 : decode cX0_counting 17 = .ok (.astore 4, 2) := dk_58 4 (dk_at dksX0_counting_0 17 rfl rfl)
theorem dX0_counting_19 : decode cX0_counting 19 = .ok (.iconst 2, 1) := dk_5 (dk_at dksX0_counting_0 19 rfl rfl)
theorem dX0_counting_20 : decode cX0_counting 20 = .ok (.ireturn, 1) := dk_172 (dk_at dksX0_counting_0 20 rfl rfl)
theorem dX0_counting_21 : decode cX0_counting 21 = .ok (.iconst 0, 1) := dk_3 (dk_at dksX0_counting_0 21 rfl rfl)
theorem dX0_counting_22 : decode cX0_counting 22 = .ok (.ireturn, 1) := dk_172 (dk_at dksX0_counting_0 22 rfl rfl)
abbrev cX0_mark : ByteArray := method_22_code
def yX0_mark : MethodName := ⟨RX0, "mark", "(LHomewatcher;II[J)I"⟩
def dkwX0_mark_0 : List UInt8 := [45, 3, 42, 27, 28, 182, 0, 83, 133, 80, 167, 0, 11, 58, 4, 4, 172, 58, 4, 5, 172, 3, 172]
abbrev dktX0_mark_0 : List UInt8 := dkwX0_mark_0 ++ []
theorem dksX0_mark_0 : cX0_mark.data.toList.drop 0 = dktX0_mark_0 := by decide +kernel
theorem dX0_mark_0 : decode cX0_mark 0 = .ok (.aload_n 3, 1) := dk_45 (dk_at dksX0_mark_0 0 rfl rfl)
theorem dX0_mark_1 : decode cX0_mark 1 = .ok (.iconst 0, 1) := dk_3 (dk_at dksX0_mark_0 1 rfl rfl)
theorem dX0_mark_2 : decode cX0_mark 2 = .ok (.aload_n 0, 1) := dk_42 (dk_at dksX0_mark_0 2 rfl rfl)
theorem dX0_mark_3 : decode cX0_mark 3 = .ok (.iload_n 1, 1) := dk_27 (dk_at dksX0_mark_0 3 rfl rfl)
theorem dX0_mark_4 : decode cX0_mark 4 = .ok (.iload_n 2, 1) := dk_28 (dk_at dksX0_mark_0 4 rfl rfl)
theorem dX0_mark_5 : decode cX0_mark 5 = .ok (.invokevirtual 83, 3) := dk_182 0 83 (dk_at dksX0_mark_0 5 rfl rfl)
theorem dX0_mark_8 : decode cX0_mark 8 = .ok (.i2l, 1) := dk_133 (dk_at dksX0_mark_0 8 rfl rfl)
theorem dX0_mark_9 : decode cX0_mark 9 = .ok (.lastore, 1) := dk_80 (dk_at dksX0_mark_0 9 rfl rfl)
theorem dX0_mark_10 : decode cX0_mark 10 = .ok (.goto 11, 3) := dk_167 0 11 (dk_at dksX0_mark_0 10 rfl rfl)
theorem dX0_mark_13 : decode cX0_mark 13 = .ok (.astore 4, 2) := dk_58 4 (dk_at dksX0_mark_0 13 rfl rfl)
theorem dX0_mark_15 : decode cX0_mark 15 = .ok (.iconst 1, 1) := dk_4 (dk_at dksX0_mark_0 15 rfl rfl)
theorem dX0_mark_16 : decode cX0_mark 16 = .ok (.ireturn, 1) := dk_172 (dk_at dksX0_mark_0 16 rfl rfl)
theorem dX0_mark_17 : decode cX0_mark 17 = .ok (.astore 4, 2) := dk_58 4 (dk_at dksX0_mark_0 17 rfl rfl)
theorem dX0_mark_19 : decode cX0_mark 19 = .ok (.iconst 2, 1) := dk_5 (dk_at dksX0_mark_0 19 rfl rfl)
theorem dX0_mark_20 : decode cX0_mark 20 = .ok (.ireturn, 1) := dk_172 (dk_at dksX0_mark_0 20 rfl rfl)
theorem dX0_mark_21 : decode cX0_mark 21 = .ok (.iconst 0, 1) := dk_3 (dk_at dksX0_mark_0 21 rfl rfl)
theorem dX0_mark_22 : decode cX0_mark 22 = .ok (.ireturn, 1) := dk_172 (dk_at dksX0_mark_0 22 rfl rfl)
abbrev cX0_isFrozen : ByteArray := method_23_code
def yX0_isFrozen : MethodName := ⟨RX0, "isFrozen", "(LHomewatcher;II[J)I"⟩
def dkwX0_isFrozen_1 : List UInt8 := [3, 172]
abbrev dktX0_isFrozen_1 : List UInt8 := dkwX0_isFrozen_1 ++ []
def dkwX0_isFrozen_0 : List UInt8 := [45, 3, 42, 27, 28, 182, 0, 86, 153, 0, 7, 10, 167, 0, 4, 9, 80, 167, 0, 7, 58, 4, 4, 172]
abbrev dktX0_isFrozen_0 : List UInt8 := dkwX0_isFrozen_0 ++ dktX0_isFrozen_1
theorem dksX0_isFrozen_0 : cX0_isFrozen.data.toList.drop 0 = dktX0_isFrozen_0 := by decide +kernel
theorem dksX0_isFrozen_1 : cX0_isFrozen.data.toList.drop 24 = dktX0_isFrozen_1 := dk_seg dksX0_isFrozen_0 24 rfl rfl
theorem dX0_isFrozen_0 : decode cX0_isFrozen 0 = .ok (.aload_n 3, 1) := dk_45 (dk_at dksX0_isFrozen_0 0 rfl rfl)
theorem dX0_isFrozen_1 : decode cX0_isFrozen 1 = .ok (.iconst 0, 1) := dk_3 (dk_at dksX0_isFrozen_0 1 rfl rfl)
theorem dX0_isFrozen_2 : decode cX0_isFrozen 2 = .ok (.aload_n 0, 1) := dk_42 (dk_at dksX0_isFrozen_0 2 rfl rfl)
theorem dX0_isFrozen_3 : decode cX0_isFrozen 3 = .ok (.iload_n 1, 1) := dk_27 (dk_at dksX0_isFrozen_0 3 rfl rfl)
theorem dX0_isFrozen_4 : decode cX0_isFrozen 4 = .ok (.iload_n 2, 1) := dk_28 (dk_at dksX0_isFrozen_0 4 rfl rfl)
theorem dX0_isFrozen_5 : decode cX0_isFrozen 5 = .ok (.invokevirtual 86, 3) := dk_182 0 86 (dk_at dksX0_isFrozen_0 5 rfl rfl)
theorem dX0_isFrozen_8 : decode cX0_isFrozen 8 = .ok (.ifCond .eq 7, 3) := dk_153 0 7 (dk_at dksX0_isFrozen_0 8 rfl rfl)
theorem dX0_isFrozen_11 : decode cX0_isFrozen 11 = .ok (.lconst 1, 1) := dk_10 (dk_at dksX0_isFrozen_0 11 rfl rfl)
theorem dX0_isFrozen_12 : decode cX0_isFrozen 12 = .ok (.goto 4, 3) := dk_167 0 4 (dk_at dksX0_isFrozen_0 12 rfl rfl)
theorem dX0_isFrozen_15 : decode cX0_isFrozen 15 = .ok (.lconst 0, 1) := dk_9 (dk_at dksX0_isFrozen_0 15 rfl rfl)
theorem dX0_isFrozen_16 : decode cX0_isFrozen 16 = .ok (.lastore, 1) := dk_80 (dk_at dksX0_isFrozen_0 16 rfl rfl)
theorem dX0_isFrozen_17 : decode cX0_isFrozen 17 = .ok (.goto 7, 3) := dk_167 0 7 (dk_at dksX0_isFrozen_0 17 rfl rfl)
theorem dX0_isFrozen_20 : decode cX0_isFrozen 20 = .ok (.astore 4, 2) := dk_58 4 (dk_at dksX0_isFrozen_0 20 rfl rfl)
theorem dX0_isFrozen_22 : decode cX0_isFrozen 22 = .ok (.iconst 1, 1) := dk_4 (dk_at dksX0_isFrozen_0 22 rfl rfl)
theorem dX0_isFrozen_23 : decode cX0_isFrozen 23 = .ok (.ireturn, 1) := dk_172 (dk_at dksX0_isFrozen_0 23 rfl rfl)
theorem dX0_isFrozen_24 : decode cX0_isFrozen 24 = .ok (.iconst 0, 1) := dk_3 (dk_at dksX0_isFrozen_1 0 rfl rfl)
theorem dX0_isFrozen_25 : decode cX0_isFrozen 25 = .ok (.ireturn, 1) := dk_172 (dk_at dksX0_isFrozen_1 1 rfl rfl)
abbrev cX0_shared : ByteArray := method_24_code
def yX0_shared : MethodName := ⟨RX0, "shared", "(LHomewatcher;II[J)I"⟩
def dkwX0_shared_0 : List UInt8 := [45, 3, 42, 27, 28, 182, 0, 90, 133, 80, 167, 0, 7, 58, 4, 4, 172, 3, 172]
abbrev dktX0_shared_0 : List UInt8 := dkwX0_shared_0 ++ []
theorem dksX0_shared_0 : cX0_shared.data.toList.drop 0 = dktX0_shared_0 := by decide +kernel
theorem dX0_shared_0 : decode cX0_shared 0 = .ok (.aload_n 3, 1) := dk_45 (dk_at dksX0_shared_0 0 rfl rfl)
theorem dX0_shared_1 : decode cX0_shared 1 = .ok (.iconst 0, 1) := dk_3 (dk_at dksX0_shared_0 1 rfl rfl)
theorem dX0_shared_2 : decode cX0_shared 2 = .ok (.aload_n 0, 1) := dk_42 (dk_at dksX0_shared_0 2 rfl rfl)
theorem dX0_shared_3 : decode cX0_shared 3 = .ok (.iload_n 1, 1) := dk_27 (dk_at dksX0_shared_0 3 rfl rfl)
theorem dX0_shared_4 : decode cX0_shared 4 = .ok (.iload_n 2, 1) := dk_28 (dk_at dksX0_shared_0 4 rfl rfl)
theorem dX0_shared_5 : decode cX0_shared 5 = .ok (.invokevirtual 90, 3) := dk_182 0 90 (dk_at dksX0_shared_0 5 rfl rfl)
theorem dX0_shared_8 : decode cX0_shared 8 = .ok (.i2l, 1) := dk_133 (dk_at dksX0_shared_0 8 rfl rfl)
theorem dX0_shared_9 : decode cX0_shared 9 = .ok (.lastore, 1) := dk_80 (dk_at dksX0_shared_0 9 rfl rfl)
theorem dX0_shared_10 : decode cX0_shared 10 = .ok (.goto 7, 3) := dk_167 0 7 (dk_at dksX0_shared_0 10 rfl rfl)
theorem dX0_shared_13 : decode cX0_shared 13 = .ok (.astore 4, 2) := dk_58 4 (dk_at dksX0_shared_0 13 rfl rfl)
theorem dX0_shared_15 : decode cX0_shared 15 = .ok (.iconst 1, 1) := dk_4 (dk_at dksX0_shared_0 15 rfl rfl)
theorem dX0_shared_16 : decode cX0_shared 16 = .ok (.ireturn, 1) := dk_172 (dk_at dksX0_shared_0 16 rfl rfl)
theorem dX0_shared_17 : decode cX0_shared 17 = .ok (.iconst 0, 1) := dk_3 (dk_at dksX0_shared_0 17 rfl rfl)
theorem dX0_shared_18 : decode cX0_shared 18 = .ok (.ireturn, 1) := dk_172 (dk_at dksX0_shared_0 18 rfl rfl)
abbrev cX0_shingle : ByteArray := method_25_code
def yX0_shingle : MethodName := ⟨RX0, "shingle", "(LHomewatcher;II[J)I"⟩
def dkwX0_shingle_0 : List UInt8 := [45, 3, 42, 27, 28, 182, 0, 93, 133, 80, 167, 0, 11, 58, 4, 4, 172, 58, 4, 5, 172, 3, 172]
abbrev dktX0_shingle_0 : List UInt8 := dkwX0_shingle_0 ++ []
theorem dksX0_shingle_0 : cX0_shingle.data.toList.drop 0 = dktX0_shingle_0 := by decide +kernel
theorem dX0_shingle_0 : decode cX0_shingle 0 = .ok (.aload_n 3, 1) := dk_45 (dk_at dksX0_shingle_0 0 rfl rfl)
theorem dX0_shingle_1 : decode cX0_shingle 1 = .ok (.iconst 0, 1) := dk_3 (dk_at dksX0_shingle_0 1 rfl rfl)
theorem dX0_shingle_2 : decode cX0_shingle 2 = .ok (.aload_n 0, 1) := dk_42 (dk_at dksX0_shingle_0 2 rfl rfl)
theorem dX0_shingle_3 : decode cX0_shingle 3 = .ok (.iload_n 1, 1) := dk_27 (dk_at dksX0_shingle_0 3 rfl rfl)
theorem dX0_shingle_4 : decode cX0_shingle 4 = .ok (.iload_n 2, 1) := dk_28 (dk_at dksX0_shingle_0 4 rfl rfl)
theorem dX0_shingle_5 : decode cX0_shingle 5 = .ok (.invokevirtual 93, 3) := dk_182 0 93 (dk_at dksX0_shingle_0 5 rfl rfl)
theorem dX0_shingle_8 : decode cX0_shingle 8 = .ok (.i2l, 1) := dk_133 (dk_at dksX0_shingle_0 8 rfl rfl)
theorem dX0_shingle_9 : decode cX0_shingle 9 = .ok (.lastore, 1) := dk_80 (dk_at dksX0_shingle_0 9 rfl rfl)
theorem dX0_shingle_10 : decode cX0_shingle 10 = .ok (.goto 11, 3) := dk_167 0 11 (dk_at dksX0_shingle_0 10 rfl rfl)
theorem dX0_shingle_13 : decode cX0_shingle 13 = .ok (.astore 4, 2) := dk_58 4 (dk_at dksX0_shingle_0 13 rfl rfl)
theorem dX0_shingle_15 : decode cX0_shingle 15 = .ok (.iconst 1, 1) := dk_4 (dk_at dksX0_shingle_0 15 rfl rfl)
theorem dX0_shingle_16 : decode cX0_shingle 16 = .ok (.ireturn, 1) := dk_172 (dk_at dksX0_shingle_0 16 rfl rfl)
theorem dX0_shingle_17 : decode cX0_shingle 17 = .ok (.astore 4, 2) := dk_58 4 (dk_at dksX0_shingle_0 17 rfl rfl)
theorem dX0_shingle_19 : decode cX0_shingle 19 = .ok (.iconst 2, 1) := dk_5 (dk_at dksX0_shingle_0 19 rfl rfl)
theorem dX0_shingle_20 : decode cX0_shingle 20 = .ok (.ireturn, 1) := dk_172 (dk_at dksX0_shingle_0 20 rfl rfl)
theorem dX0_shingle_21 : decode cX0_shingle 21 = .ok (.iconst 0, 1) := dk_3 (dk_at dksX0_shingle_0 21 rfl rfl)
theorem dX0_shingle_22 : decode cX0_shingle 22 = .ok (.ireturn, 1) := dk_172 (dk_at dksX0_shingle_0 22 rfl rfl)
abbrev cX0_threshold : ByteArray := method_26_code
def yX0_threshold : MethodName := ⟨RX0, "threshold", "(LHomewatcher;I[J)I"⟩
def dkwX0_threshold_0 : List UInt8 := [44, 3, 42, 27, 182, 0, 96, 133, 80, 167, 0, 6, 78, 4, 172, 3, 172]
abbrev dktX0_threshold_0 : List UInt8 := dkwX0_threshold_0 ++ []
theorem dksX0_threshold_0 : cX0_threshold.data.toList.drop 0 = dktX0_threshold_0 := by decide +kernel
theorem dX0_threshold_0 : decode cX0_threshold 0 = .ok (.aload_n 2, 1) := dk_44 (dk_at dksX0_threshold_0 0 rfl rfl)
theorem dX0_threshold_1 : decode cX0_threshold 1 = .ok (.iconst 0, 1) := dk_3 (dk_at dksX0_threshold_0 1 rfl rfl)
theorem dX0_threshold_2 : decode cX0_threshold 2 = .ok (.aload_n 0, 1) := dk_42 (dk_at dksX0_threshold_0 2 rfl rfl)
theorem dX0_threshold_3 : decode cX0_threshold 3 = .ok (.iload_n 1, 1) := dk_27 (dk_at dksX0_threshold_0 3 rfl rfl)
theorem dX0_threshold_4 : decode cX0_threshold 4 = .ok (.invokevirtual 96, 3) := dk_182 0 96 (dk_at dksX0_threshold_0 4 rfl rfl)
theorem dX0_threshold_7 : decode cX0_threshold 7 = .ok (.i2l, 1) := dk_133 (dk_at dksX0_threshold_0 7 rfl rfl)
theorem dX0_threshold_8 : decode cX0_threshold 8 = .ok (.lastore, 1) := dk_80 (dk_at dksX0_threshold_0 8 rfl rfl)
theorem dX0_threshold_9 : decode cX0_threshold 9 = .ok (.goto 6, 3) := dk_167 0 6 (dk_at dksX0_threshold_0 9 rfl rfl)
theorem dX0_threshold_12 : decode cX0_threshold 12 = .ok (.astore_n 3, 1) := dk_78 (dk_at dksX0_threshold_0 12 rfl rfl)
theorem dX0_threshold_13 : decode cX0_threshold 13 = .ok (.iconst 1, 1) := dk_4 (dk_at dksX0_threshold_0 13 rfl rfl)
theorem dX0_threshold_14 : decode cX0_threshold 14 = .ok (.ireturn, 1) := dk_172 (dk_at dksX0_threshold_0 14 rfl rfl)
theorem dX0_threshold_15 : decode cX0_threshold 15 = .ok (.iconst 0, 1) := dk_3 (dk_at dksX0_threshold_0 15 rfl rfl)
theorem dX0_threshold_16 : decode cX0_threshold 16 = .ok (.ireturn, 1) := dk_172 (dk_at dksX0_threshold_0 16 rfl rfl)
abbrev cX0_hit : ByteArray := method_27_code
def yX0_hit : MethodName := ⟨RX0, "hit", "(LHomewatcher;IC[J)I"⟩
def dkwX0_hit_0 : List UInt8 := [45, 3, 42, 27, 28, 182, 0, 99, 133, 80, 167, 0, 11, 58, 4, 4, 172, 58, 4, 5, 172, 3, 172]
abbrev dktX0_hit_0 : List UInt8 := dkwX0_hit_0 ++ []
theorem dksX0_hit_0 : cX0_hit.data.toList.drop 0 = dktX0_hit_0 := by decide +kernel
theorem dX0_hit_0 : decode cX0_hit 0 = .ok (.aload_n 3, 1) := dk_45 (dk_at dksX0_hit_0 0 rfl rfl)
theorem dX0_hit_1 : decode cX0_hit 1 = .ok (.iconst 0, 1) := dk_3 (dk_at dksX0_hit_0 1 rfl rfl)
theorem dX0_hit_2 : decode cX0_hit 2 = .ok (.aload_n 0, 1) := dk_42 (dk_at dksX0_hit_0 2 rfl rfl)
theorem dX0_hit_3 : decode cX0_hit 3 = .ok (.iload_n 1, 1) := dk_27 (dk_at dksX0_hit_0 3 rfl rfl)
theorem dX0_hit_4 : decode cX0_hit 4 = .ok (.iload_n 2, 1) := dk_28 (dk_at dksX0_hit_0 4 rfl rfl)
theorem dX0_hit_5 : decode cX0_hit 5 = .ok (.invokevirtual 99, 3) := dk_182 0 99 (dk_at dksX0_hit_0 5 rfl rfl)
theorem dX0_hit_8 : decode cX0_hit 8 = .ok (.i2l, 1) := dk_133 (dk_at dksX0_hit_0 8 rfl rfl)
theorem dX0_hit_9 : decode cX0_hit 9 = .ok (.lastore, 1) := dk_80 (dk_at dksX0_hit_0 9 rfl rfl)
theorem dX0_hit_10 : decode cX0_hit 10 = .ok (.goto 11, 3) := dk_167 0 11 (dk_at dksX0_hit_0 10 rfl rfl)
theorem dX0_hit_13 : decode cX0_hit 13 = .ok (.astore 4, 2) := dk_58 4 (dk_at dksX0_hit_0 13 rfl rfl)
theorem dX0_hit_15 : decode cX0_hit 15 = .ok (.iconst 1, 1) := dk_4 (dk_at dksX0_hit_0 15 rfl rfl)
theorem dX0_hit_16 : decode cX0_hit 16 = .ok (.ireturn, 1) := dk_172 (dk_at dksX0_hit_0 16 rfl rfl)
theorem dX0_hit_17 : decode cX0_hit 17 = .ok (.astore 4, 2) := dk_58 4 (dk_at dksX0_hit_0 17 rfl rfl)
theorem dX0_hit_19 : decode cX0_hit 19 = .ok (.iconst 2, 1) := dk_5 (dk_at dksX0_hit_0 19 rfl rfl)
theorem dX0_hit_20 : decode cX0_hit 20 = .ok (.ireturn, 1) := dk_172 (dk_at dksX0_hit_0 20 rfl rfl)
theorem dX0_hit_21 : decode cX0_hit 21 = .ok (.iconst 0, 1) := dk_3 (dk_at dksX0_hit_0 21 rfl rfl)
theorem dX0_hit_22 : decode cX0_hit 22 = .ok (.ireturn, 1) := dk_172 (dk_at dksX0_hit_0 22 rfl rfl)
abbrev cX0_hear : ByteArray := method_28_code
def yX0_hear : MethodName := ⟨RX0, "hear", "(LHomewatcher;II[J)I"⟩
def dkwX0_hear_1 : List UInt8 := [172, 3, 172]
abbrev dktX0_hear_1 : List UInt8 := dkwX0_hear_1 ++ []
def dkwX0_hear_0 : List UInt8 := [45, 3, 42, 27, 28, 182, 0, 102, 133, 80, 167, 0, 15, 58, 4, 4, 172, 58, 4, 5, 172, 58, 4, 6]
abbrev dktX0_hear_0 : List UInt8 := dkwX0_hear_0 ++ dktX0_hear_1
theorem dksX0_hear_0 : cX0_hear.data.toList.drop 0 = dktX0_hear_0 := by decide +kernel
theorem dksX0_hear_1 : cX0_hear.data.toList.drop 24 = dktX0_hear_1 := dk_seg dksX0_hear_0 24 rfl rfl
theorem dX0_hear_0 : decode cX0_hear 0 = .ok (.aload_n 3, 1) := dk_45 (dk_at dksX0_hear_0 0 rfl rfl)
theorem dX0_hear_1 : decode cX0_hear 1 = .ok (.iconst 0, 1) := dk_3 (dk_at dksX0_hear_0 1 rfl rfl)
theorem dX0_hear_2 : decode cX0_hear 2 = .ok (.aload_n 0, 1) := dk_42 (dk_at dksX0_hear_0 2 rfl rfl)
theorem dX0_hear_3 : decode cX0_hear 3 = .ok (.iload_n 1, 1) := dk_27 (dk_at dksX0_hear_0 3 rfl rfl)
theorem dX0_hear_4 : decode cX0_hear 4 = .ok (.iload_n 2, 1) := dk_28 (dk_at dksX0_hear_0 4 rfl rfl)
theorem dX0_hear_5 : decode cX0_hear 5 = .ok (.invokevirtual 102, 3) := dk_182 0 102 (dk_at dksX0_hear_0 5 rfl rfl)
theorem dX0_hear_8 : decode cX0_hear 8 = .ok (.i2l, 1) := dk_133 (dk_at dksX0_hear_0 8 rfl rfl)
theorem dX0_hear_9 : decode cX0_hear 9 = .ok (.lastore, 1) := dk_80 (dk_at dksX0_hear_0 9 rfl rfl)
theorem dX0_hear_10 : decode cX0_hear 10 = .ok (.goto 15, 3) := dk_167 0 15 (dk_at dksX0_hear_0 10 rfl rfl)
theorem dX0_hear_13 : decode cX0_hear 13 = .ok (.astore 4, 2) := dk_58 4 (dk_at dksX0_hear_0 13 rfl rfl)
theorem dX0_hear_15 : decode cX0_hear 15 = .ok (.iconst 1, 1) := dk_4 (dk_at dksX0_hear_0 15 rfl rfl)
theorem dX0_hear_16 : decode cX0_hear 16 = .ok (.ireturn, 1) := dk_172 (dk_at dksX0_hear_0 16 rfl rfl)
theorem dX0_hear_17 : decode cX0_hear 17 = .ok (.astore 4, 2) := dk_58 4 (dk_at dksX0_hear_0 17 rfl rfl)
theorem dX0_hear_19 : decode cX0_hear 19 = .ok (.iconst 2, 1) := dk_5 (dk_at dksX0_hear_0 19 rfl rfl)
theorem dX0_hear_20 : decode cX0_hear 20 = .ok (.ireturn, 1) := dk_172 (dk_at dksX0_hear_0 20 rfl rfl)
theorem dX0_hear_21 : decode cX0_hear 21 = .ok (.astore 4, 2) := dk_58 4 (dk_at dksX0_hear_0 21 rfl rfl)
theorem dX0_hear_23 : decode cX0_hear 23 = .ok (.iconst 3, 1) := dk_6 (dk_at dksX0_hear_0 23 rfl rfl)
theorem dX0_hear_24 : decode cX0_hear 24 = .ok (.ireturn, 1) := dk_172 (dk_at dksX0_hear_1 0 rfl rfl)
theorem dX0_hear_25 : decode cX0_hear 25 = .ok (.iconst 0, 1) := dk_3 (dk_at dksX0_hear_1 1 rfl rfl)
theorem dX0_hear_26 : decode cX0_hear 26 = .ok (.ireturn, 1) := dk_172 (dk_at dksX0_hear_1 2 rfl rfl)
abbrev cX0_next : ByteArray := method_29_code
def yX0_next : MethodName := ⟨RX0, "next", "(LHomewatcher;[J)I"⟩
def dkwX0_next_0 : List UInt8 := [43, 3, 42, 182, 0, 105, 133, 80, 167, 0, 6, 77, 4, 172, 3, 172]
abbrev dktX0_next_0 : List UInt8 := dkwX0_next_0 ++ []
theorem dksX0_next_0 : cX0_next.data.toList.drop 0 = dktX0_next_0 := by decide +kernel
theorem dX0_next_0 : decode cX0_next 0 = .ok (.aload_n 1, 1) := dk_43 (dk_at dksX0_next_0 0 rfl rfl)
theorem dX0_next_1 : decode cX0_next 1 = .ok (.iconst 0, 1) := dk_3 (dk_at dksX0_next_0 1 rfl rfl)
theorem dX0_next_2 : decode cX0_next 2 = .ok (.aload_n 0, 1) := dk_42 (dk_at dksX0_next_0 2 rfl rfl)
theorem dX0_next_3 : decode cX0_next 3 = .ok (.invokevirtual 105, 3) := dk_182 0 105 (dk_at dksX0_next_0 3 rfl rfl)
theorem dX0_next_6 : decode cX0_next 6 = .ok (.i2l, 1) := dk_133 (dk_at dksX0_next_0 6 rfl rfl)
theorem dX0_next_7 : decode cX0_next 7 = .ok (.lastore, 1) := dk_80 (dk_at dksX0_next_0 7 rfl rfl)
theorem dX0_next_8 : decode cX0_next 8 = .ok (.goto 6, 3) := dk_167 0 6 (dk_at dksX0_next_0 8 rfl rfl)
theorem dX0_next_11 : decode cX0_next 11 = .ok (.astore_n 2, 1) := dk_77 (dk_at dksX0_next_0 11 rfl rfl)
theorem dX0_next_12 : decode cX0_next 12 = .ok (.iconst 1, 1) := dk_4 (dk_at dksX0_next_0 12 rfl rfl)
theorem dX0_next_13 : decode cX0_next 13 = .ok (.ireturn, 1) := dk_172 (dk_at dksX0_next_0 13 rfl rfl)
theorem dX0_next_14 : decode cX0_next 14 = .ok (.iconst 0, 1) := dk_3 (dk_at dksX0_next_0 14 rfl rfl)
theorem dX0_next_15 : decode cX0_next 15 = .ok (.ireturn, 1) := dk_172 (dk_at dksX0_next_0 15 rfl rfl)
abbrev cX0_byteSum : ByteArray := method_30_code
def yX0_byteSum : MethodName := ⟨RX0, "byteSum", "(LHomewatcher;I[J)I"⟩
def dkwX0_byteSum_0 : List UInt8 := [44, 3, 42, 27, 182, 0, 109, 133, 80, 167, 0, 6, 78, 4, 172, 3, 172]
abbrev dktX0_byteSum_0 : List UInt8 := dkwX0_byteSum_0 ++ []
theorem dksX0_byteSum_0 : cX0_byteSum.data.toList.drop 0 = dktX0_byteSum_0 := by decide +kernel
theorem dX0_byteSum_0 : decode cX0_byteSum 0 = .ok (.aload_n 2, 1) := dk_44 (dk_at dksX0_byteSum_0 0 rfl rfl)
theorem dX0_byteSum_1 : decode cX0_byteSum 1 = .ok (.iconst 0, 1) := dk_3 (dk_at dksX0_byteSum_0 1 rfl rfl)
theorem dX0_byteSum_2 : decode cX0_byteSum 2 = .ok (.aload_n 0, 1) := dk_42 (dk_at dksX0_byteSum_0 2 rfl rfl)
theorem dX0_byteSum_3 : decode cX0_byteSum 3 = .ok (.iload_n 1, 1) := dk_27 (dk_at dksX0_byteSum_0 3 rfl rfl)
theorem dX0_byteSum_4 : decode cX0_byteSum 4 = .ok (.invokevirtual 109, 3) := dk_182 0 109 (dk_at dksX0_byteSum_0 4 rfl rfl)
theorem dX0_byteSum_7 : decode cX0_byteSum 7 = .ok (.i2l, 1) := dk_133 (dk_at dksX0_byteSum_0 7 rfl rfl)
theorem dX0_byteSum_8 : decode cX0_byteSum 8 = .ok (.lastore, 1) := dk_80 (dk_at dksX0_byteSum_0 8 rfl rfl)
theorem dX0_byteSum_9 : decode cX0_byteSum 9 = .ok (.goto 6, 3) := dk_167 0 6 (dk_at dksX0_byteSum_0 9 rfl rfl)
theorem dX0_byteSum_12 : decode cX0_byteSum 12 = .ok (.astore_n 3, 1) := dk_78 (dk_at dksX0_byteSum_0 12 rfl rfl)
theorem dX0_byteSum_13 : decode cX0_byteSum 13 = .ok (.iconst 1, 1) := dk_4 (dk_at dksX0_byteSum_0 13 rfl rfl)
theorem dX0_byteSum_14 : decode cX0_byteSum 14 = .ok (.ireturn, 1) := dk_172 (dk_at dksX0_byteSum_0 14 rfl rfl)
theorem dX0_byteSum_15 : decode cX0_byteSum 15 = .ok (.iconst 0, 1) := dk_3 (dk_at dksX0_byteSum_0 15 rfl rfl)
theorem dX0_byteSum_16 : decode cX0_byteSum 16 = .ok (.ireturn, 1) := dk_172 (dk_at dksX0_byteSum_0 16 rfl rfl)
abbrev cX0_shortSum : ByteArray := method_31_code
def yX0_shortSum : MethodName := ⟨RX0, "shortSum", "(LHomewatcher;I[J)I"⟩
def dkwX0_shortSum_0 : List UInt8 := [44, 3, 42, 27, 182, 0, 113, 133, 80, 167, 0, 6, 78, 4, 172, 3, 172]
abbrev dktX0_shortSum_0 : List UInt8 := dkwX0_shortSum_0 ++ []
theorem dksX0_shortSum_0 : cX0_shortSum.data.toList.drop 0 = dktX0_shortSum_0 := by decide +kernel
theorem dX0_shortSum_0 : decode cX0_shortSum 0 = .ok (.aload_n 2, 1) := dk_44 (dk_at dksX0_shortSum_0 0 rfl rfl)
theorem dX0_shortSum_1 : decode cX0_shortSum 1 = .ok (.iconst 0, 1) := dk_3 (dk_at dksX0_shortSum_0 1 rfl rfl)
theorem dX0_shortSum_2 : decode cX0_shortSum 2 = .ok (.aload_n 0, 1) := dk_42 (dk_at dksX0_shortSum_0 2 rfl rfl)
theorem dX0_shortSum_3 : decode cX0_shortSum 3 = .ok (.iload_n 1, 1) := dk_27 (dk_at dksX0_shortSum_0 3 rfl rfl)
theorem dX0_shortSum_4 : decode cX0_shortSum 4 = .ok (.invokevirtual 113, 3) := dk_182 0 113 (dk_at dksX0_shortSum_0 4 rfl rfl)
theorem dX0_shortSum_7 : decode cX0_shortSum 7 = .ok (.i2l, 1) := dk_133 (dk_at dksX0_shortSum_0 7 rfl rfl)
theorem dX0_shortSum_8 : decode cX0_shortSum 8 = .ok (.lastore, 1) := dk_80 (dk_at dksX0_shortSum_0 8 rfl rfl)
theorem dX0_shortSum_9 : decode cX0_shortSum 9 = .ok (.goto 6, 3) := dk_167 0 6 (dk_at dksX0_shortSum_0 9 rfl rfl)
theorem dX0_shortSum_12 : decode cX0_shortSum 12 = .ok (.astore_n 3, 1) := dk_78 (dk_at dksX0_shortSum_0 12 rfl rfl)
theorem dX0_shortSum_13 : decode cX0_shortSum 13 = .ok (.iconst 1, 1) := dk_4 (dk_at dksX0_shortSum_0 13 rfl rfl)
theorem dX0_shortSum_14 : decode cX0_shortSum 14 = .ok (.ireturn, 1) := dk_172 (dk_at dksX0_shortSum_0 14 rfl rfl)
theorem dX0_shortSum_15 : decode cX0_shortSum 15 = .ok (.iconst 0, 1) := dk_3 (dk_at dksX0_shortSum_0 15 rfl rfl)
theorem dX0_shortSum_16 : decode cX0_shortSum 16 = .ok (.ireturn, 1) := dk_172 (dk_at dksX0_shortSum_0 16 rfl rfl)
abbrev cX0_packed : ByteArray := method_32_code
def yX0_packed : MethodName := ⟨RX0, "packed", "(LHomewatcher;I[J)I"⟩
def dkwX0_packed_0 : List UInt8 := [44, 3, 42, 27, 182, 0, 117, 80, 167, 0, 6, 78, 4, 172, 3, 172]
abbrev dktX0_packed_0 : List UInt8 := dkwX0_packed_0 ++ []
theorem dksX0_packed_0 : cX0_packed.data.toList.drop 0 = dktX0_packed_0 := by decide +kernel
theorem dX0_packed_0 : decode cX0_packed 0 = .ok (.aload_n 2, 1) := dk_44 (dk_at dksX0_packed_0 0 rfl rfl)
theorem dX0_packed_1 : decode cX0_packed 1 = .ok (.iconst 0, 1) := dk_3 (dk_at dksX0_packed_0 1 rfl rfl)
theorem dX0_packed_2 : decode cX0_packed 2 = .ok (.aload_n 0, 1) := dk_42 (dk_at dksX0_packed_0 2 rfl rfl)
theorem dX0_packed_3 : decode cX0_packed 3 = .ok (.iload_n 1, 1) := dk_27 (dk_at dksX0_packed_0 3 rfl rfl)
theorem dX0_packed_4 : decode cX0_packed 4 = .ok (.invokevirtual 117, 3) := dk_182 0 117 (dk_at dksX0_packed_0 4 rfl rfl)
theorem dX0_packed_7 : decode cX0_packed 7 = .ok (.lastore, 1) := dk_80 (dk_at dksX0_packed_0 7 rfl rfl)
theorem dX0_packed_8 : decode cX0_packed 8 = .ok (.goto 6, 3) := dk_167 0 6 (dk_at dksX0_packed_0 8 rfl rfl)
theorem dX0_packed_11 : decode cX0_packed 11 = .ok (.astore_n 3, 1) := dk_78 (dk_at dksX0_packed_0 11 rfl rfl)
theorem dX0_packed_12 : decode cX0_packed 12 = .ok (.iconst 1, 1) := dk_4 (dk_at dksX0_packed_0 12 rfl rfl)
theorem dX0_packed_13 : decode cX0_packed 13 = .ok (.ireturn, 1) := dk_172 (dk_at dksX0_packed_0 13 rfl rfl)
theorem dX0_packed_14 : decode cX0_packed 14 = .ok (.iconst 0, 1) := dk_3 (dk_at dksX0_packed_0 14 rfl rfl)
theorem dX0_packed_15 : decode cX0_packed 15 = .ok (.ireturn, 1) := dk_172 (dk_at dksX0_packed_0 15 rfl rfl)
abbrev cX0_inShare : ByteArray := method_33_code
def yX0_inShare : MethodName := ⟨RX0, "inShare", "(LHomewatcher;[D)I"⟩
def dkwX0_inShare_0 : List UInt8 := [43, 3, 42, 182, 0, 121, 141, 82, 167, 0, 6, 77, 4, 172, 3, 172]
abbrev dktX0_inShare_0 : List UInt8 := dkwX0_inShare_0 ++ []
theorem dksX0_inShare_0 : cX0_inShare.data.toList.drop 0 = dktX0_inShare_0 := by decide +kernel
theorem dX0_inShare_0 : decode cX0_inShare 0 = .ok (.aload_n 1, 1) := dk_43 (dk_at dksX0_inShare_0 0 rfl rfl)
theorem dX0_inShare_1 : decode cX0_inShare 1 = .ok (.iconst 0, 1) := dk_3 (dk_at dksX0_inShare_0 1 rfl rfl)
theorem dX0_inShare_2 : decode cX0_inShare 2 = .ok (.aload_n 0, 1) := dk_42 (dk_at dksX0_inShare_0 2 rfl rfl)
theorem dX0_inShare_3 : decode cX0_inShare 3 = .ok (.invokevirtual 121, 3) := dk_182 0 121 (dk_at dksX0_inShare_0 3 rfl rfl)
theorem dX0_inShare_6 : decode cX0_inShare 6 = .ok (.f2d, 1) := dk_141 (dk_at dksX0_inShare_0 6 rfl rfl)
theorem dX0_inShare_7 : decode cX0_inShare 7 = .ok (.dastore, 1) := dk_82 (dk_at dksX0_inShare_0 7 rfl rfl)
theorem dX0_inShare_8 : decode cX0_inShare 8 = .ok (.goto 6, 3) := dk_167 0 6 (dk_at dksX0_inShare_0 8 rfl rfl)
theorem dX0_inShare_11 : decode cX0_inShare 11 = .ok (.astore_n 2, 1) := dk_77 (dk_at dksX0_inShare_0 11 rfl rfl)
theorem dX0_inShare_12 : decode cX0_inShare 12 = .ok (.iconst 1, 1) := dk_4 (dk_at dksX0_inShare_0 12 rfl rfl)
theorem dX0_inShare_13 : decode cX0_inShare 13 = .ok (.ireturn, 1) := dk_172 (dk_at dksX0_inShare_0 13 rfl rfl)
theorem dX0_inShare_14 : decode cX0_inShare 14 = .ok (.iconst 0, 1) := dk_3 (dk_at dksX0_inShare_0 14 rfl rfl)
theorem dX0_inShare_15 : decode cX0_inShare 15 = .ok (.ireturn, 1) := dk_172 (dk_at dksX0_inShare_0 15 rfl rfl)
abbrev cX0_meanMark : ByteArray := method_34_code
def yX0_meanMark : MethodName := ⟨RX0, "meanMark", "(LHomewatcher;[D)I"⟩
def dkwX0_meanMark_0 : List UInt8 := [43, 3, 42, 182, 0, 127, 82, 167, 0, 6, 77, 4, 172, 3, 172]
abbrev dktX0_meanMark_0 : List UInt8 := dkwX0_meanMark_0 ++ []
theorem dksX0_meanMark_0 : cX0_meanMark.data.toList.drop 0 = dktX0_meanMark_0 := by decide +kernel
theorem dX0_meanMark_0 : decode cX0_meanMark 0 = .ok (.aload_n 1, 1) := dk_43 (dk_at dksX0_meanMark_0 0 rfl rfl)
theorem dX0_meanMark_1 : decode cX0_meanMark 1 = .ok (.iconst 0, 1) := dk_3 (dk_at dksX0_meanMark_0 1 rfl rfl)
theorem dX0_meanMark_2 : decode cX0_meanMark 2 = .ok (.aload_n 0, 1) := dk_42 (dk_at dksX0_meanMark_0 2 rfl rfl)
theorem dX0_meanMark_3 : decode cX0_meanMark 3 = .ok (.invokevirtual 127, 3) := dk_182 0 127 (dk_at dksX0_meanMark_0 3 rfl rfl)
theorem dX0_meanMark_6 : decode cX0_meanMark 6 = .ok (.dastore, 1) := dk_82 (dk_at dksX0_meanMark_0 6 rfl rfl)
theorem dX0_meanMark_7 : decode cX0_meanMark 7 = .ok (.goto 6, 3) := dk_167 0 6 (dk_at dksX0_meanMark_0 7 rfl rfl)
theorem dX0_meanMark_10 : decode cX0_meanMark 10 = .ok (.astore_n 2, 1) := dk_77 (dk_at dksX0_meanMark_0 10 rfl rfl)
theorem dX0_meanMark_11 : decode cX0_meanMark 11 = .ok (.iconst 1, 1) := dk_4 (dk_at dksX0_meanMark_0 11 rfl rfl)
theorem dX0_meanMark_12 : decode cX0_meanMark 12 = .ok (.ireturn, 1) := dk_172 (dk_at dksX0_meanMark_0 12 rfl rfl)
theorem dX0_meanMark_13 : decode cX0_meanMark 13 = .ok (.iconst 0, 1) := dk_3 (dk_at dksX0_meanMark_0 13 rfl rfl)
theorem dX0_meanMark_14 : decode cX0_meanMark 14 = .ok (.ireturn, 1) := dk_172 (dk_at dksX0_meanMark_0 14 rfl rfl)
theorem q53 : (Jvm.Cond.initialized "HomewatcherLaw") ∈ lw_all := lw_g (lw_at lw_m1 0 rfl) rfl
theorem q102 : (Jvm.Cond.classLink "HomewatcherLaw" (8 : Nat) "Homewatcher") ∈ lw_all := lw_g (lw_at lw_m1 49 rfl) rfl
theorem q104 : (Jvm.Cond.methodLink "HomewatcherLaw" (131 : Nat) ({ cls := "Homewatcher", name := "<init>", desc := "()V" } : Jvm.MethodName)) ∈ lw_all := lw_g (lw_at lw_m1 51 rfl) rfl
theorem q532 : (Jvm.Cond.methodLink "HomewatcherLaw" (164 : Nat) ({ cls := "Homewatcher", name := "reverse", desc := "()I" } : Jvm.MethodName)) ∈ lw_all := lw_g (lw_at lw_m2 239 rfl) rfl
theorem q589 : (Jvm.Cond.methodLink "HomewatcherLaw" (168 : Nat) ({ cls := "Homewatcher", name := "wipe", desc := "()I" } : Jvm.MethodName)) ∈ lw_all := lw_g (lw_at lw_m3 56 rfl) rfl
theorem q665 : (Jvm.Cond.methodLink "HomewatcherLaw" (222 : Nat) ({ cls := "Homewatcher", name := "indexed", desc := "()I" } : Jvm.MethodName)) ∈ lw_all := lw_g (lw_at lw_m3 132 rfl) rfl
theorem q673 : (Jvm.Cond.methodLink "HomewatcherLaw" (226 : Nat) ({ cls := "Homewatcher", name := "holders", desc := "(I)I" } : Jvm.MethodName)) ∈ lw_all := lw_g (lw_at lw_m3 140 rfl) rfl
theorem q923 : (Jvm.Cond.methodLink "HomewatcherLaw" (233 : Nat) ({ cls := "Homewatcher", name := "hits", desc := "()I" } : Jvm.MethodName)) ∈ lw_all := lw_g (lw_at lw_m4 150 rfl) rfl
theorem q931 : (Jvm.Cond.methodLink "HomewatcherLaw" (263 : Nat) ({ cls := "Homewatcher", name := "isTrue", desc := "()Z" } : Jvm.MethodName)) ∈ lw_all := lw_g (lw_at lw_m4 158 rfl) rfl
theorem q1309 : (Jvm.Cond.methodLink "HomewatcherLaw" (135 : Nat) ({ cls := "HomewatcherLaw", name := "classroom", desc := "(LHomewatcher;I[J)I" } : Jvm.MethodName)) ∈ lw_all := lw_g (lw_at lw_m6 56 rfl) rfl
theorem q1310 : (Jvm.Cond.static ({ cls := "HomewatcherLaw", name := "classroom", desc := "(LHomewatcher;I[J)I" } : Jvm.MethodName)) ∈ lw_all := lw_g (lw_at lw_m6 57 rfl) rfl
theorem q1311 : (Jvm.Cond.codeWith ({ cls := "HomewatcherLaw", name := "classroom", desc := "(LHomewatcher;I[J)I" } : Jvm.MethodName) method_3_code (4 : Nat) (Option.some Jvm.ClassFile.FieldType.int) [((0 : Nat), (9 : Nat), (12 : Nat), (13 : Nat)), ((0 : Nat), (9 : Nat), (15 : Nat), (15 : Nat))]) ∈ lw_all := lw_g (lw_at lw_m6 58 rfl) rfl
theorem q1312 : (Jvm.Cond.classLink "HomewatcherLaw" (13 : Nat) "java/lang/IllegalArgumentException") ∈ lw_all := lw_g (lw_at lw_m6 59 rfl) rfl
theorem q1313 : (Jvm.Cond.classLink "HomewatcherLaw" (15 : Nat) "java/lang/IllegalStateException") ∈ lw_all := lw_g (lw_at lw_m6 60 rfl) rfl
theorem q1314 : (Jvm.Cond.methodLink "HomewatcherLaw" (7 : Nat) ({ cls := "Homewatcher", name := "classroom", desc := "(I)I" } : Jvm.MethodName)) ∈ lw_all := lw_g (lw_at lw_m6 61 rfl) rfl
theorem q1404 : (Jvm.Cond.methodLink "HomewatcherLaw" (144 : Nat) ({ cls := "HomewatcherLaw", name := "pupil", desc := "(LHomewatcher;I[J)I" } : Jvm.MethodName)) ∈ lw_all := lw_g (lw_at lw_m6 151 rfl) rfl
theorem q1405 : (Jvm.Cond.static ({ cls := "HomewatcherLaw", name := "pupil", desc := "(LHomewatcher;I[J)I" } : Jvm.MethodName)) ∈ lw_all := lw_g (lw_at lw_m6 152 rfl) rfl
theorem q1406 : (Jvm.Cond.codeWith ({ cls := "HomewatcherLaw", name := "pupil", desc := "(LHomewatcher;I[J)I" } : Jvm.MethodName) method_4_code (4 : Nat) (Option.some Jvm.ClassFile.FieldType.int) [((0 : Nat), (9 : Nat), (12 : Nat), (20 : Nat)), ((0 : Nat), (9 : Nat), (15 : Nat), (15 : Nat))]) ∈ lw_all := lw_g (lw_at lw_m6 153 rfl) rfl
theorem q1407 : (Jvm.Cond.classLink "HomewatcherLaw" (20 : Nat) "java/lang/IndexOutOfBoundsException") ∈ lw_all := lw_g (lw_at lw_m6 154 rfl) rfl
theorem q1410 : (Jvm.Cond.methodLink "HomewatcherLaw" (17 : Nat) ({ cls := "Homewatcher", name := "pupil", desc := "(I)I" } : Jvm.MethodName)) ∈ lw_all := lw_g (lw_at lw_m6 157 rfl) rfl
theorem q1432 : (Jvm.Cond.methodLink "HomewatcherLaw" (147 : Nat) ({ cls := "HomewatcherLaw", name := "task", desc := "(LHomewatcher;IIICI[J)I" } : Jvm.MethodName)) ∈ lw_all := lw_g (lw_at lw_m6 179 rfl) rfl
theorem q1433 : (Jvm.Cond.static ({ cls := "HomewatcherLaw", name := "task", desc := "(LHomewatcher;IIICI[J)I" } : Jvm.MethodName)) ∈ lw_all := lw_g (lw_at lw_m6 180 rfl) rfl
theorem q1434 : (Jvm.Cond.codeWith ({ cls := "HomewatcherLaw", name := "task", desc := "(LHomewatcher;IIICI[J)I" } : Jvm.MethodName) method_5_code (8 : Nat) (Option.some Jvm.ClassFile.FieldType.int) [((0 : Nat), (16 : Nat), (19 : Nat), (20 : Nat)), ((0 : Nat), (16 : Nat), (23 : Nat), (13 : Nat)), ((0 : Nat), (16 : Nat), (27 : Nat), (15 : Nat))]) ∈ lw_all := lw_g (lw_at lw_m6 181 rfl) rfl
theorem q1435 : (Jvm.Cond.methodLink "HomewatcherLaw" (22 : Nat) ({ cls := "Homewatcher", name := "task", desc := "(IIICI)I" } : Jvm.MethodName)) ∈ lw_all := lw_g (lw_at lw_m6 182 rfl) rfl
theorem q1477 : (Jvm.Cond.methodLink "HomewatcherLaw" (151 : Nat) ({ cls := "HomewatcherLaw", name := "pass", desc := "(LHomewatcher;I[J)I" } : Jvm.MethodName)) ∈ lw_all := lw_g (lw_at lw_m6 224 rfl) rfl
theorem q1478 : (Jvm.Cond.static ({ cls := "HomewatcherLaw", name := "pass", desc := "(LHomewatcher;I[J)I" } : Jvm.MethodName)) ∈ lw_all := lw_g (lw_at lw_m6 225 rfl) rfl
theorem q1479 : (Jvm.Cond.codeWith ({ cls := "HomewatcherLaw", name := "pass", desc := "(LHomewatcher;I[J)I" } : Jvm.MethodName) method_6_code (4 : Nat) (Option.some Jvm.ClassFile.FieldType.int) [((0 : Nat), (9 : Nat), (12 : Nat), (13 : Nat)), ((0 : Nat), (9 : Nat), (15 : Nat), (15 : Nat))]) ∈ lw_all := lw_g (lw_at lw_m6 226 rfl) rfl
theorem q1480 : (Jvm.Cond.methodLink "HomewatcherLaw" (26 : Nat) ({ cls := "Homewatcher", name := "pass", desc := "(I)I" } : Jvm.MethodName)) ∈ lw_all := lw_g (lw_at lw_m6 227 rfl) rfl
theorem q1485 : (Jvm.Cond.methodLink "HomewatcherLaw" (154 : Nat) ({ cls := "HomewatcherLaw", name := "clock", desc := "(LHomewatcher;I[J)I" } : Jvm.MethodName)) ∈ lw_all := lw_g (lw_at lw_m6 232 rfl) rfl
theorem q1486 : (Jvm.Cond.static ({ cls := "HomewatcherLaw", name := "clock", desc := "(LHomewatcher;I[J)I" } : Jvm.MethodName)) ∈ lw_all := lw_g (lw_at lw_m6 233 rfl) rfl
theorem q1487 : (Jvm.Cond.codeWith ({ cls := "HomewatcherLaw", name := "clock", desc := "(LHomewatcher;I[J)I" } : Jvm.MethodName) method_7_code (4 : Nat) (Option.some Jvm.ClassFile.FieldType.int) [((0 : Nat), (9 : Nat), (12 : Nat), (20 : Nat))]) ∈ lw_all := lw_g (lw_at lw_m6 234 rfl) rfl
theorem q1488 : (Jvm.Cond.methodLink "HomewatcherLaw" (29 : Nat) ({ cls := "Homewatcher", name := "clock", desc := "(I)I" } : Jvm.MethodName)) ∈ lw_all := lw_g (lw_at lw_m6 235 rfl) rfl
theorem q1492 : (Jvm.Cond.methodLink "HomewatcherLaw" (157 : Nat) ({ cls := "HomewatcherLaw", name := "type", desc := "(LHomewatcher;I[J)I" } : Jvm.MethodName)) ∈ lw_all := lw_g (lw_at lw_m6 239 rfl) rfl
theorem q1493 : (Jvm.Cond.static ({ cls := "HomewatcherLaw", name := "type", desc := "(LHomewatcher;I[J)I" } : Jvm.MethodName)) ∈ lw_all := lw_g (lw_at lw_m7 0 rfl) rfl
theorem q1494 : (Jvm.Cond.codeWith ({ cls := "HomewatcherLaw", name := "type", desc := "(LHomewatcher;I[J)I" } : Jvm.MethodName) method_8_code (4 : Nat) (Option.some Jvm.ClassFile.FieldType.int) [((0 : Nat), (9 : Nat), (12 : Nat), (13 : Nat)), ((0 : Nat), (9 : Nat), (15 : Nat), (15 : Nat))]) ∈ lw_all := lw_g (lw_at lw_m7 1 rfl) rfl
theorem q1495 : (Jvm.Cond.methodLink "HomewatcherLaw" (32 : Nat) ({ cls := "Homewatcher", name := "type", desc := "(I)I" } : Jvm.MethodName)) ∈ lw_all := lw_g (lw_at lw_m7 2 rfl) rfl
theorem q1531 : (Jvm.Cond.methodLink "HomewatcherLaw" (160 : Nat) ({ cls := "HomewatcherLaw", name := "insert", desc := "(LHomewatcher;II[J)I" } : Jvm.MethodName)) ∈ lw_all := lw_g (lw_at lw_m7 38 rfl) rfl
theorem q1532 : (Jvm.Cond.static ({ cls := "HomewatcherLaw", name := "insert", desc := "(LHomewatcher;II[J)I" } : Jvm.MethodName)) ∈ lw_all := lw_g (lw_at lw_m7 39 rfl) rfl
theorem q1533 : (Jvm.Cond.codeWith ({ cls := "HomewatcherLaw", name := "insert", desc := "(LHomewatcher;II[J)I" } : Jvm.MethodName) method_9_code (5 : Nat) (Option.some Jvm.ClassFile.FieldType.int) [((0 : Nat), (10 : Nat), (13 : Nat), (20 : Nat)), ((0 : Nat), (10 : Nat), (17 : Nat), (13 : Nat)), ((0 : Nat), (10 : Nat), (21 : Nat), (15 : Nat))]) ∈ lw_all := lw_g (lw_at lw_m7 40 rfl) rfl
theorem q1534 : (Jvm.Cond.methodLink "HomewatcherLaw" (35 : Nat) ({ cls := "Homewatcher", name := "insert", desc := "(II)I" } : Jvm.MethodName)) ∈ lw_all := lw_g (lw_at lw_m7 41 rfl) rfl
theorem q1538 : (Jvm.Cond.methodLink "HomewatcherLaw" (172 : Nat) ({ cls := "HomewatcherLaw", name := "charAt", desc := "(LHomewatcher;I[J)I" } : Jvm.MethodName)) ∈ lw_all := lw_g (lw_at lw_m7 45 rfl) rfl
theorem q1539 : (Jvm.Cond.static ({ cls := "HomewatcherLaw", name := "charAt", desc := "(LHomewatcher;I[J)I" } : Jvm.MethodName)) ∈ lw_all := lw_g (lw_at lw_m7 46 rfl) rfl
theorem q1540 : (Jvm.Cond.codeWith ({ cls := "HomewatcherLaw", name := "charAt", desc := "(LHomewatcher;I[J)I" } : Jvm.MethodName) method_10_code (4 : Nat) (Option.some Jvm.ClassFile.FieldType.int) [((0 : Nat), (9 : Nat), (12 : Nat), (43 : Nat))]) ∈ lw_all := lw_g (lw_at lw_m7 47 rfl) rfl
theorem q1541 : (Jvm.Cond.classLink "HomewatcherLaw" (43 : Nat) "java/util/NoSuchElementException") ∈ lw_all := lw_g (lw_at lw_m7 48 rfl) rfl
theorem q1542 : (Jvm.Cond.methodLink "HomewatcherLaw" (39 : Nat) ({ cls := "Homewatcher", name := "charAt", desc := "(I)C" } : Jvm.MethodName)) ∈ lw_all := lw_g (lw_at lw_m7 49 rfl) rfl
theorem q1551 : (Jvm.Cond.methodLink "HomewatcherLaw" (175 : Nat) ({ cls := "HomewatcherLaw", name := "save", desc := "(LHomewatcher;IIII[J)I" } : Jvm.MethodName)) ∈ lw_all := lw_g (lw_at lw_m7 58 rfl) rfl
theorem q1552 : (Jvm.Cond.static ({ cls := "HomewatcherLaw", name := "save", desc := "(LHomewatcher;IIII[J)I" } : Jvm.MethodName)) ∈ lw_all := lw_g (lw_at lw_m7 59 rfl) rfl
theorem q1553 : (Jvm.Cond.codeWith ({ cls := "HomewatcherLaw", name := "save", desc := "(LHomewatcher;IIII[J)I" } : Jvm.MethodName) method_11_code (7 : Nat) (Option.some Jvm.ClassFile.FieldType.int) [((0 : Nat), (14 : Nat), (17 : Nat), (20 : Nat)), ((0 : Nat), (14 : Nat), (21 : Nat), (13 : Nat)), ((0 : Nat), (14 : Nat), (25 : Nat), (49 : Nat)), ((0 : Nat), (14 : Nat), (29 : Nat), (15 : Nat))]) ∈ lw_all := lw_g (lw_at lw_m7 60 rfl) rfl
theorem q1554 : (Jvm.Cond.classLink "HomewatcherLaw" (49 : Nat) "java/lang/UnsupportedOperationException") ∈ lw_all := lw_g (lw_at lw_m7 61 rfl) rfl
theorem q1555 : (Jvm.Cond.methodLink "HomewatcherLaw" (45 : Nat) ({ cls := "Homewatcher", name := "save", desc := "(IIII)I" } : Jvm.MethodName)) ∈ lw_all := lw_g (lw_at lw_m7 62 rfl) rfl
theorem q1673 : (Jvm.Cond.methodLink "HomewatcherLaw" (179 : Nat) ({ cls := "HomewatcherLaw", name := "of", desc := "(LHomewatcher;IC[J)I" } : Jvm.MethodName)) ∈ lw_all := lw_g (lw_at lw_m7 180 rfl) rfl
theorem q1674 : (Jvm.Cond.static ({ cls := "HomewatcherLaw", name := "of", desc := "(LHomewatcher;IC[J)I" } : Jvm.MethodName)) ∈ lw_all := lw_g (lw_at lw_m7 181 rfl) rfl
theorem q1675 : (Jvm.Cond.codeWith ({ cls := "HomewatcherLaw", name := "of", desc := "(LHomewatcher;IC[J)I" } : Jvm.MethodName) method_12_code (5 : Nat) (Option.some Jvm.ClassFile.FieldType.int) [((0 : Nat), (10 : Nat), (13 : Nat), (20 : Nat)), ((0 : Nat), (10 : Nat), (17 : Nat), (13 : Nat))]) ∈ lw_all := lw_g (lw_at lw_m7 182 rfl) rfl
theorem q1676 : (Jvm.Cond.methodLink "HomewatcherLaw" (51 : Nat) ({ cls := "Homewatcher", name := "of", desc := "(IC)I" } : Jvm.MethodName)) ∈ lw_all := lw_g (lw_at lw_m7 183 rfl) rfl
theorem q1681 : (Jvm.Cond.methodLink "HomewatcherLaw" (183 : Nat) ({ cls := "HomewatcherLaw", name := "forks", desc := "(LHomewatcher;I[J)I" } : Jvm.MethodName)) ∈ lw_all := lw_g (lw_at lw_m7 188 rfl) rfl
theorem q1682 : (Jvm.Cond.static ({ cls := "HomewatcherLaw", name := "forks", desc := "(LHomewatcher;I[J)I" } : Jvm.MethodName)) ∈ lw_all := lw_g (lw_at lw_m7 189 rfl) rfl
theorem q1683 : (Jvm.Cond.codeWith ({ cls := "HomewatcherLaw", name := "forks", desc := "(LHomewatcher;I[J)I" } : Jvm.MethodName) method_13_code (4 : Nat) (Option.some Jvm.ClassFile.FieldType.int) [((0 : Nat), (9 : Nat), (12 : Nat), (20 : Nat))]) ∈ lw_all := lw_g (lw_at lw_m7 190 rfl) rfl
theorem q1684 : (Jvm.Cond.methodLink "HomewatcherLaw" (55 : Nat) ({ cls := "Homewatcher", name := "forks", desc := "(I)I" } : Jvm.MethodName)) ∈ lw_all := lw_g (lw_at lw_m7 191 rfl) rfl
theorem q1688 : (Jvm.Cond.methodLink "HomewatcherLaw" (186 : Nat) ({ cls := "HomewatcherLaw", name := "heads", desc := "(LHomewatcher;II[J)I" } : Jvm.MethodName)) ∈ lw_all := lw_g (lw_at lw_m7 195 rfl) rfl
theorem q1689 : (Jvm.Cond.static ({ cls := "HomewatcherLaw", name := "heads", desc := "(LHomewatcher;II[J)I" } : Jvm.MethodName)) ∈ lw_all := lw_g (lw_at lw_m7 196 rfl) rfl
theorem q1690 : (Jvm.Cond.codeWith ({ cls := "HomewatcherLaw", name := "heads", desc := "(LHomewatcher;II[J)I" } : Jvm.MethodName) method_14_code (5 : Nat) (Option.some Jvm.ClassFile.FieldType.int) [((0 : Nat), (10 : Nat), (13 : Nat), (20 : Nat))]) ∈ lw_all := lw_g (lw_at lw_m7 197 rfl) rfl
theorem q1691 : (Jvm.Cond.methodLink "HomewatcherLaw" (58 : Nat) ({ cls := "Homewatcher", name := "heads", desc := "(II)I" } : Jvm.MethodName)) ∈ lw_all := lw_g (lw_at lw_m7 198 rfl) rfl
theorem q1699 : (Jvm.Cond.methodLink "HomewatcherLaw" (189 : Nat) ({ cls := "HomewatcherLaw", name := "hand", desc := "(LHomewatcher;I[J)I" } : Jvm.MethodName)) ∈ lw_all := lw_g (lw_at lw_m7 206 rfl) rfl
theorem q1700 : (Jvm.Cond.static ({ cls := "HomewatcherLaw", name := "hand", desc := "(LHomewatcher;I[J)I" } : Jvm.MethodName)) ∈ lw_all := lw_g (lw_at lw_m7 207 rfl) rfl
theorem q1701 : (Jvm.Cond.codeWith ({ cls := "HomewatcherLaw", name := "hand", desc := "(LHomewatcher;I[J)I" } : Jvm.MethodName) method_15_code (4 : Nat) (Option.some Jvm.ClassFile.FieldType.int) [((0 : Nat), (9 : Nat), (12 : Nat), (20 : Nat)), ((0 : Nat), (9 : Nat), (15 : Nat), (49 : Nat)), ((0 : Nat), (9 : Nat), (18 : Nat), (15 : Nat))]) ∈ lw_all := lw_g (lw_at lw_m7 208 rfl) rfl
theorem q1702 : (Jvm.Cond.methodLink "HomewatcherLaw" (61 : Nat) ({ cls := "Homewatcher", name := "hand", desc := "(I)I" } : Jvm.MethodName)) ∈ lw_all := lw_g (lw_at lw_m7 209 rfl) rfl
theorem q1754 : (Jvm.Cond.methodLink "HomewatcherLaw" (192 : Nat) ({ cls := "HomewatcherLaw", name := "withdraw", desc := "(LHomewatcher;I[J)I" } : Jvm.MethodName)) ∈ lw_all := lw_g (lw_at lw_m8 21 rfl) rfl
theorem q1755 : (Jvm.Cond.static ({ cls := "HomewatcherLaw", name := "withdraw", desc := "(LHomewatcher;I[J)I" } : Jvm.MethodName)) ∈ lw_all := lw_g (lw_at lw_m8 22 rfl) rfl
theorem q1756 : (Jvm.Cond.codeWith ({ cls := "HomewatcherLaw", name := "withdraw", desc := "(LHomewatcher;I[J)I" } : Jvm.MethodName) method_16_code (4 : Nat) (Option.some Jvm.ClassFile.FieldType.int) [((0 : Nat), (16 : Nat), (19 : Nat), (20 : Nat)), ((0 : Nat), (16 : Nat), (22 : Nat), (49 : Nat))]) ∈ lw_all := lw_g (lw_at lw_m8 23 rfl) rfl
theorem q1757 : (Jvm.Cond.methodLink "HomewatcherLaw" (64 : Nat) ({ cls := "Homewatcher", name := "withdraw", desc := "(I)Z" } : Jvm.MethodName)) ∈ lw_all := lw_g (lw_at lw_m8 24 rfl) rfl
theorem q1761 : (Jvm.Cond.methodLink "HomewatcherLaw" (195 : Nat) ({ cls := "HomewatcherLaw", name := "isIn", desc := "(LHomewatcher;I[J)I" } : Jvm.MethodName)) ∈ lw_all := lw_g (lw_at lw_m8 28 rfl) rfl
theorem q1762 : (Jvm.Cond.static ({ cls := "HomewatcherLaw", name := "isIn", desc := "(LHomewatcher;I[J)I" } : Jvm.MethodName)) ∈ lw_all := lw_g (lw_at lw_m8 29 rfl) rfl
theorem q1763 : (Jvm.Cond.codeWith ({ cls := "HomewatcherLaw", name := "isIn", desc := "(LHomewatcher;I[J)I" } : Jvm.MethodName) method_17_code (4 : Nat) (Option.some Jvm.ClassFile.FieldType.int) [((0 : Nat), (16 : Nat), (19 : Nat), (20 : Nat))]) ∈ lw_all := lw_g (lw_at lw_m8 30 rfl) rfl
theorem q1764 : (Jvm.Cond.methodLink "HomewatcherLaw" (68 : Nat) ({ cls := "Homewatcher", name := "isIn", desc := "(I)Z" } : Jvm.MethodName)) ∈ lw_all := lw_g (lw_at lw_m8 31 rfl) rfl
theorem q1768 : (Jvm.Cond.methodLink "HomewatcherLaw" (198 : Nat) ({ cls := "HomewatcherLaw", name := "late", desc := "(LHomewatcher;I[J)I" } : Jvm.MethodName)) ∈ lw_all := lw_g (lw_at lw_m8 35 rfl) rfl
theorem q1769 : (Jvm.Cond.static ({ cls := "HomewatcherLaw", name := "late", desc := "(LHomewatcher;I[J)I" } : Jvm.MethodName)) ∈ lw_all := lw_g (lw_at lw_m8 36 rfl) rfl
theorem q1770 : (Jvm.Cond.codeWith ({ cls := "HomewatcherLaw", name := "late", desc := "(LHomewatcher;I[J)I" } : Jvm.MethodName) method_18_code (4 : Nat) (Option.some Jvm.ClassFile.FieldType.int) [((0 : Nat), (9 : Nat), (12 : Nat), (20 : Nat)), ((0 : Nat), (9 : Nat), (15 : Nat), (49 : Nat))]) ∈ lw_all := lw_g (lw_at lw_m8 37 rfl) rfl
theorem q1771 : (Jvm.Cond.methodLink "HomewatcherLaw" (71 : Nat) ({ cls := "Homewatcher", name := "late", desc := "(I)I" } : Jvm.MethodName)) ∈ lw_all := lw_g (lw_at lw_m8 38 rfl) rfl
theorem q1775 : (Jvm.Cond.methodLink "HomewatcherLaw" (201 : Nat) ({ cls := "HomewatcherLaw", name := "off", desc := "(LHomewatcher;II[J)I" } : Jvm.MethodName)) ∈ lw_all := lw_g (lw_at lw_m8 42 rfl) rfl
theorem q1776 : (Jvm.Cond.static ({ cls := "HomewatcherLaw", name := "off", desc := "(LHomewatcher;II[J)I" } : Jvm.MethodName)) ∈ lw_all := lw_g (lw_at lw_m8 43 rfl) rfl
theorem q1777 : (Jvm.Cond.codeWith ({ cls := "HomewatcherLaw", name := "off", desc := "(LHomewatcher;II[J)I" } : Jvm.MethodName) method_19_code (5 : Nat) (Option.some Jvm.ClassFile.FieldType.int) [((0 : Nat), (10 : Nat), (13 : Nat), (20 : Nat)), ((0 : Nat), (10 : Nat), (17 : Nat), (13 : Nat))]) ∈ lw_all := lw_g (lw_at lw_m8 44 rfl) rfl
theorem q1778 : (Jvm.Cond.methodLink "HomewatcherLaw" (74 : Nat) ({ cls := "Homewatcher", name := "off", desc := "(II)I" } : Jvm.MethodName)) ∈ lw_all := lw_g (lw_at lw_m8 45 rfl) rfl
theorem q1782 : (Jvm.Cond.methodLink "HomewatcherLaw" (204 : Nat) ({ cls := "HomewatcherLaw", name := "points", desc := "(LHomewatcher;II[J)I" } : Jvm.MethodName)) ∈ lw_all := lw_g (lw_at lw_m8 49 rfl) rfl
theorem q1783 : (Jvm.Cond.static ({ cls := "HomewatcherLaw", name := "points", desc := "(LHomewatcher;II[J)I" } : Jvm.MethodName)) ∈ lw_all := lw_g (lw_at lw_m8 50 rfl) rfl
theorem q1784 : (Jvm.Cond.codeWith ({ cls := "HomewatcherLaw", name := "points", desc := "(LHomewatcher;II[J)I" } : Jvm.MethodName) method_20_code (5 : Nat) (Option.some Jvm.ClassFile.FieldType.int) [((0 : Nat), (10 : Nat), (13 : Nat), (20 : Nat)), ((0 : Nat), (10 : Nat), (17 : Nat), (13 : Nat))]) ∈ lw_all := lw_g (lw_at lw_m8 51 rfl) rfl
theorem q1785 : (Jvm.Cond.methodLink "HomewatcherLaw" (77 : Nat) ({ cls := "Homewatcher", name := "points", desc := "(II)I" } : Jvm.MethodName)) ∈ lw_all := lw_g (lw_at lw_m8 52 rfl) rfl
theorem q1789 : (Jvm.Cond.methodLink "HomewatcherLaw" (207 : Nat) ({ cls := "HomewatcherLaw", name := "counting", desc := "(LHomewatcher;II[J)I" } : Jvm.MethodName)) ∈ lw_all := lw_g (lw_at lw_m8 56 rfl) rfl
theorem q1790 : (Jvm.Cond.static ({ cls := "HomewatcherLaw", name := "counting", desc := "(LHomewatcher;II[J)I" } : Jvm.MethodName)) ∈ lw_all := lw_g (lw_at lw_m8 57 rfl) rfl
theorem q1791 : (Jvm.Cond.codeWith ({ cls := "HomewatcherLaw", name := "counting", desc := "(LHomewatcher;II[J)I" } : Jvm.MethodName) method_21_code (5 : Nat) (Option.some Jvm.ClassFile.FieldType.int) [((0 : Nat), (10 : Nat), (13 : Nat), (20 : Nat)), ((0 : Nat), (10 : Nat), (17 : Nat), (43 : Nat))]) ∈ lw_all := lw_g (lw_at lw_m8 58 rfl) rfl
theorem q1792 : (Jvm.Cond.methodLink "HomewatcherLaw" (80 : Nat) ({ cls := "Homewatcher", name := "counting", desc := "(II)I" } : Jvm.MethodName)) ∈ lw_all := lw_g (lw_at lw_m8 59 rfl) rfl
theorem q1796 : (Jvm.Cond.methodLink "HomewatcherLaw" (210 : Nat) ({ cls := "HomewatcherLaw", name := "mark", desc := "(LHomewatcher;II[J)I" } : Jvm.MethodName)) ∈ lw_all := lw_g (lw_at lw_m8 63 rfl) rfl
theorem q1797 : (Jvm.Cond.static ({ cls := "HomewatcherLaw", name := "mark", desc := "(LHomewatcher;II[J)I" } : Jvm.MethodName)) ∈ lw_all := lw_g (lw_at lw_m8 64 rfl) rfl
theorem q1798 : (Jvm.Cond.codeWith ({ cls := "HomewatcherLaw", name := "mark", desc := "(LHomewatcher;II[J)I" } : Jvm.MethodName) method_22_code (5 : Nat) (Option.some Jvm.ClassFile.FieldType.int) [((0 : Nat), (10 : Nat), (13 : Nat), (20 : Nat)), ((0 : Nat), (10 : Nat), (17 : Nat), (49 : Nat))]) ∈ lw_all := lw_g (lw_at lw_m8 65 rfl) rfl
theorem q1799 : (Jvm.Cond.methodLink "HomewatcherLaw" (83 : Nat) ({ cls := "Homewatcher", name := "mark", desc := "(II)I" } : Jvm.MethodName)) ∈ lw_all := lw_g (lw_at lw_m8 66 rfl) rfl
theorem q1812 : (Jvm.Cond.methodLink "HomewatcherLaw" (213 : Nat) ({ cls := "HomewatcherLaw", name := "isFrozen", desc := "(LHomewatcher;II[J)I" } : Jvm.MethodName)) ∈ lw_all := lw_g (lw_at lw_m8 79 rfl) rfl
theorem q1813 : (Jvm.Cond.static ({ cls := "HomewatcherLaw", name := "isFrozen", desc := "(LHomewatcher;II[J)I" } : Jvm.MethodName)) ∈ lw_all := lw_g (lw_at lw_m8 80 rfl) rfl
theorem q1814 : (Jvm.Cond.codeWith ({ cls := "HomewatcherLaw", name := "isFrozen", desc := "(LHomewatcher;II[J)I" } : Jvm.MethodName) method_23_code (5 : Nat) (Option.some Jvm.ClassFile.FieldType.int) [((0 : Nat), (17 : Nat), (20 : Nat), (20 : Nat))]) ∈ lw_all := lw_g (lw_at lw_m8 81 rfl) rfl
theorem q1815 : (Jvm.Cond.methodLink "HomewatcherLaw" (86 : Nat) ({ cls := "Homewatcher", name := "isFrozen", desc := "(II)Z" } : Jvm.MethodName)) ∈ lw_all := lw_g (lw_at lw_m8 82 rfl) rfl
theorem q1819 : (Jvm.Cond.methodLink "HomewatcherLaw" (216 : Nat) ({ cls := "HomewatcherLaw", name := "shared", desc := "(LHomewatcher;II[J)I" } : Jvm.MethodName)) ∈ lw_all := lw_g (lw_at lw_m8 86 rfl) rfl
theorem q1820 : (Jvm.Cond.static ({ cls := "HomewatcherLaw", name := "shared", desc := "(LHomewatcher;II[J)I" } : Jvm.MethodName)) ∈ lw_all := lw_g (lw_at lw_m8 87 rfl) rfl
theorem q1821 : (Jvm.Cond.codeWith ({ cls := "HomewatcherLaw", name := "shared", desc := "(LHomewatcher;II[J)I" } : Jvm.MethodName) method_24_code (5 : Nat) (Option.some Jvm.ClassFile.FieldType.int) [((0 : Nat), (10 : Nat), (13 : Nat), (20 : Nat))]) ∈ lw_all := lw_g (lw_at lw_m8 88 rfl) rfl
theorem q1822 : (Jvm.Cond.methodLink "HomewatcherLaw" (90 : Nat) ({ cls := "Homewatcher", name := "shared", desc := "(II)I" } : Jvm.MethodName)) ∈ lw_all := lw_g (lw_at lw_m8 89 rfl) rfl
theorem q1826 : (Jvm.Cond.methodLink "HomewatcherLaw" (219 : Nat) ({ cls := "HomewatcherLaw", name := "shingle", desc := "(LHomewatcher;II[J)I" } : Jvm.MethodName)) ∈ lw_all := lw_g (lw_at lw_m8 93 rfl) rfl
theorem q1827 : (Jvm.Cond.static ({ cls := "HomewatcherLaw", name := "shingle", desc := "(LHomewatcher;II[J)I" } : Jvm.MethodName)) ∈ lw_all := lw_g (lw_at lw_m8 94 rfl) rfl
theorem q1828 : (Jvm.Cond.codeWith ({ cls := "HomewatcherLaw", name := "shingle", desc := "(LHomewatcher;II[J)I" } : Jvm.MethodName) method_25_code (5 : Nat) (Option.some Jvm.ClassFile.FieldType.int) [((0 : Nat), (10 : Nat), (13 : Nat), (20 : Nat)), ((0 : Nat), (10 : Nat), (17 : Nat), (43 : Nat))]) ∈ lw_all := lw_g (lw_at lw_m8 95 rfl) rfl
theorem q1829 : (Jvm.Cond.methodLink "HomewatcherLaw" (93 : Nat) ({ cls := "Homewatcher", name := "shingle", desc := "(II)I" } : Jvm.MethodName)) ∈ lw_all := lw_g (lw_at lw_m8 96 rfl) rfl
theorem q1833 : (Jvm.Cond.methodLink "HomewatcherLaw" (230 : Nat) ({ cls := "HomewatcherLaw", name := "threshold", desc := "(LHomewatcher;I[J)I" } : Jvm.MethodName)) ∈ lw_all := lw_g (lw_at lw_m8 100 rfl) rfl
theorem q1834 : (Jvm.Cond.static ({ cls := "HomewatcherLaw", name := "threshold", desc := "(LHomewatcher;I[J)I" } : Jvm.MethodName)) ∈ lw_all := lw_g (lw_at lw_m8 101 rfl) rfl
theorem q1835 : (Jvm.Cond.codeWith ({ cls := "HomewatcherLaw", name := "threshold", desc := "(LHomewatcher;I[J)I" } : Jvm.MethodName) method_26_code (4 : Nat) (Option.some Jvm.ClassFile.FieldType.int) [((0 : Nat), (9 : Nat), (12 : Nat), (13 : Nat))]) ∈ lw_all := lw_g (lw_at lw_m8 102 rfl) rfl
theorem q1836 : (Jvm.Cond.methodLink "HomewatcherLaw" (96 : Nat) ({ cls := "Homewatcher", name := "threshold", desc := "(I)I" } : Jvm.MethodName)) ∈ lw_all := lw_g (lw_at lw_m8 103 rfl) rfl
theorem q1840 : (Jvm.Cond.methodLink "HomewatcherLaw" (237 : Nat) ({ cls := "HomewatcherLaw", name := "hit", desc := "(LHomewatcher;IC[J)I" } : Jvm.MethodName)) ∈ lw_all := lw_g (lw_at lw_m8 107 rfl) rfl
theorem q1841 : (Jvm.Cond.static ({ cls := "HomewatcherLaw", name := "hit", desc := "(LHomewatcher;IC[J)I" } : Jvm.MethodName)) ∈ lw_all := lw_g (lw_at lw_m8 108 rfl) rfl
theorem q1842 : (Jvm.Cond.codeWith ({ cls := "HomewatcherLaw", name := "hit", desc := "(LHomewatcher;IC[J)I" } : Jvm.MethodName) method_27_code (5 : Nat) (Option.some Jvm.ClassFile.FieldType.int) [((0 : Nat), (10 : Nat), (13 : Nat), (20 : Nat)), ((0 : Nat), (10 : Nat), (17 : Nat), (13 : Nat))]) ∈ lw_all := lw_g (lw_at lw_m8 109 rfl) rfl
theorem q1843 : (Jvm.Cond.methodLink "HomewatcherLaw" (99 : Nat) ({ cls := "Homewatcher", name := "hit", desc := "(IC)I" } : Jvm.MethodName)) ∈ lw_all := lw_g (lw_at lw_m8 110 rfl) rfl
theorem q1851 : (Jvm.Cond.methodLink "HomewatcherLaw" (240 : Nat) ({ cls := "HomewatcherLaw", name := "hear", desc := "(LHomewatcher;II[J)I" } : Jvm.MethodName)) ∈ lw_all := lw_g (lw_at lw_m8 118 rfl) rfl
theorem q1852 : (Jvm.Cond.static ({ cls := "HomewatcherLaw", name := "hear", desc := "(LHomewatcher;II[J)I" } : Jvm.MethodName)) ∈ lw_all := lw_g (lw_at lw_m8 119 rfl) rfl
theorem q1853 : (Jvm.Cond.codeWith ({ cls := "HomewatcherLaw", name := "hear", desc := "(LHomewatcher;II[J)I" } : Jvm.MethodName) method_28_code (5 : Nat) (Option.some Jvm.ClassFile.FieldType.int) [((0 : Nat), (10 : Nat), (13 : Nat), (20 : Nat)), ((0 : Nat), (10 : Nat), (17 : Nat), (13 : Nat)), ((0 : Nat), (10 : Nat), (21 : Nat), (49 : Nat))]) ∈ lw_all := lw_g (lw_at lw_m8 120 rfl) rfl
theorem q1854 : (Jvm.Cond.methodLink "HomewatcherLaw" (102 : Nat) ({ cls := "Homewatcher", name := "hear", desc := "(II)I" } : Jvm.MethodName)) ∈ lw_all := lw_g (lw_at lw_m8 121 rfl) rfl
theorem q1923 : (Jvm.Cond.methodLink "HomewatcherLaw" (243 : Nat) ({ cls := "HomewatcherLaw", name := "next", desc := "(LHomewatcher;[J)I" } : Jvm.MethodName)) ∈ lw_all := lw_g (lw_at lw_m8 190 rfl) rfl
theorem q1924 : (Jvm.Cond.static ({ cls := "HomewatcherLaw", name := "next", desc := "(LHomewatcher;[J)I" } : Jvm.MethodName)) ∈ lw_all := lw_g (lw_at lw_m8 191 rfl) rfl
theorem q1925 : (Jvm.Cond.codeWith ({ cls := "HomewatcherLaw", name := "next", desc := "(LHomewatcher;[J)I" } : Jvm.MethodName) method_29_code (3 : Nat) (Option.some Jvm.ClassFile.FieldType.int) [((0 : Nat), (8 : Nat), (11 : Nat), (43 : Nat))]) ∈ lw_all := lw_g (lw_at lw_m8 192 rfl) rfl
theorem q1926 : (Jvm.Cond.methodLink "HomewatcherLaw" (105 : Nat) ({ cls := "Homewatcher", name := "next", desc := "()I" } : Jvm.MethodName)) ∈ lw_all := lw_g (lw_at lw_m8 193 rfl) rfl
theorem q1956 : (Jvm.Cond.methodLink "HomewatcherLaw" (247 : Nat) ({ cls := "HomewatcherLaw", name := "byteSum", desc := "(LHomewatcher;I[J)I" } : Jvm.MethodName)) ∈ lw_all := lw_g (lw_at lw_m8 223 rfl) rfl
theorem q1957 : (Jvm.Cond.static ({ cls := "HomewatcherLaw", name := "byteSum", desc := "(LHomewatcher;I[J)I" } : Jvm.MethodName)) ∈ lw_all := lw_g (lw_at lw_m8 224 rfl) rfl
theorem q1958 : (Jvm.Cond.codeWith ({ cls := "HomewatcherLaw", name := "byteSum", desc := "(LHomewatcher;I[J)I" } : Jvm.MethodName) method_30_code (4 : Nat) (Option.some Jvm.ClassFile.FieldType.int) [((0 : Nat), (9 : Nat), (12 : Nat), (20 : Nat))]) ∈ lw_all := lw_g (lw_at lw_m8 225 rfl) rfl
theorem q1959 : (Jvm.Cond.methodLink "HomewatcherLaw" (109 : Nat) ({ cls := "Homewatcher", name := "byteSum", desc := "(I)B" } : Jvm.MethodName)) ∈ lw_all := lw_g (lw_at lw_m8 226 rfl) rfl
theorem q1967 : (Jvm.Cond.methodLink "HomewatcherLaw" (250 : Nat) ({ cls := "HomewatcherLaw", name := "shortSum", desc := "(LHomewatcher;I[J)I" } : Jvm.MethodName)) ∈ lw_all := lw_g (lw_at lw_m8 234 rfl) rfl
theorem q1968 : (Jvm.Cond.static ({ cls := "HomewatcherLaw", name := "shortSum", desc := "(LHomewatcher;I[J)I" } : Jvm.MethodName)) ∈ lw_all := lw_g (lw_at lw_m8 235 rfl) rfl
theorem q1969 : (Jvm.Cond.codeWith ({ cls := "HomewatcherLaw", name := "shortSum", desc := "(LHomewatcher;I[J)I" } : Jvm.MethodName) method_31_code (4 : Nat) (Option.some Jvm.ClassFile.FieldType.int) [((0 : Nat), (9 : Nat), (12 : Nat), (20 : Nat))]) ∈ lw_all := lw_g (lw_at lw_m8 236 rfl) rfl
theorem q1970 : (Jvm.Cond.methodLink "HomewatcherLaw" (113 : Nat) ({ cls := "Homewatcher", name := "shortSum", desc := "(I)S" } : Jvm.MethodName)) ∈ lw_all := lw_g (lw_at lw_m8 237 rfl) rfl
theorem q1978 : (Jvm.Cond.methodLink "HomewatcherLaw" (253 : Nat) ({ cls := "HomewatcherLaw", name := "packed", desc := "(LHomewatcher;I[J)I" } : Jvm.MethodName)) ∈ lw_all := lw_g (lw_at lw_m9 5 rfl) rfl
theorem q1979 : (Jvm.Cond.static ({ cls := "HomewatcherLaw", name := "packed", desc := "(LHomewatcher;I[J)I" } : Jvm.MethodName)) ∈ lw_all := lw_g (lw_at lw_m9 6 rfl) rfl
theorem q1980 : (Jvm.Cond.codeWith ({ cls := "HomewatcherLaw", name := "packed", desc := "(LHomewatcher;I[J)I" } : Jvm.MethodName) method_32_code (4 : Nat) (Option.some Jvm.ClassFile.FieldType.int) [((0 : Nat), (8 : Nat), (11 : Nat), (20 : Nat))]) ∈ lw_all := lw_g (lw_at lw_m9 7 rfl) rfl
theorem q1981 : (Jvm.Cond.methodLink "HomewatcherLaw" (117 : Nat) ({ cls := "Homewatcher", name := "packed", desc := "(I)J" } : Jvm.MethodName)) ∈ lw_all := lw_g (lw_at lw_m9 8 rfl) rfl
theorem q1986 : (Jvm.Cond.methodLink "HomewatcherLaw" (256 : Nat) ({ cls := "HomewatcherLaw", name := "inShare", desc := "(LHomewatcher;[D)I" } : Jvm.MethodName)) ∈ lw_all := lw_g (lw_at lw_m9 13 rfl) rfl
theorem q1987 : (Jvm.Cond.static ({ cls := "HomewatcherLaw", name := "inShare", desc := "(LHomewatcher;[D)I" } : Jvm.MethodName)) ∈ lw_all := lw_g (lw_at lw_m9 14 rfl) rfl
theorem q1988 : (Jvm.Cond.codeWith ({ cls := "HomewatcherLaw", name := "inShare", desc := "(LHomewatcher;[D)I" } : Jvm.MethodName) method_33_code (3 : Nat) (Option.some Jvm.ClassFile.FieldType.int) [((0 : Nat), (8 : Nat), (11 : Nat), (125 : Nat))]) ∈ lw_all := lw_g (lw_at lw_m9 15 rfl) rfl
theorem q1989 : (Jvm.Cond.classLink "HomewatcherLaw" (125 : Nat) "java/lang/ArithmeticException") ∈ lw_all := lw_g (lw_at lw_m9 16 rfl) rfl
theorem q2003 : (Jvm.Cond.methodLink "HomewatcherLaw" (121 : Nat) ({ cls := "Homewatcher", name := "inShare", desc := "()F" } : Jvm.MethodName)) ∈ lw_all := lw_g (lw_at lw_m9 30 rfl) rfl
theorem q2019 : (Jvm.Cond.methodLink "HomewatcherLaw" (260 : Nat) ({ cls := "HomewatcherLaw", name := "meanMark", desc := "(LHomewatcher;[D)I" } : Jvm.MethodName)) ∈ lw_all := lw_g (lw_at lw_m9 46 rfl) rfl
theorem q2020 : (Jvm.Cond.static ({ cls := "HomewatcherLaw", name := "meanMark", desc := "(LHomewatcher;[D)I" } : Jvm.MethodName)) ∈ lw_all := lw_g (lw_at lw_m9 47 rfl) rfl
theorem q2021 : (Jvm.Cond.codeWith ({ cls := "HomewatcherLaw", name := "meanMark", desc := "(LHomewatcher;[D)I" } : Jvm.MethodName) method_34_code (3 : Nat) (Option.some Jvm.ClassFile.FieldType.int) [((0 : Nat), (7 : Nat), (10 : Nat), (125 : Nat))]) ∈ lw_all := lw_g (lw_at lw_m9 48 rfl) rfl
theorem q2022 : (Jvm.Cond.methodLink "HomewatcherLaw" (127 : Nat) ({ cls := "Homewatcher", name := "meanMark", desc := "()D" } : Jvm.MethodName)) ∈ lw_all := lw_g (lw_at lw_m9 49 rfl) rfl
theorem q2026 : (Jvm.Cond.classLink "HomewatcherLaw" (132 : Nat) "HomewatcherModel") ∈ lw_all := lw_g (lw_at lw_m9 53 rfl) rfl
theorem q2028 : (Jvm.Cond.methodLink "HomewatcherLaw" (134 : Nat) ({ cls := "HomewatcherModel", name := "<init>", desc := "()V" } : Jvm.MethodName)) ∈ lw_all := lw_g (lw_at lw_m9 55 rfl) rfl
theorem q2138 : (Jvm.Cond.methodLink "HomewatcherLaw" (141 : Nat) ({ cls := "HomewatcherModel", name := "thrown", desc := "()I" } : Jvm.MethodName)) ∈ lw_all := lw_g (lw_at lw_m9 165 rfl) rfl
theorem q2142 : (Jvm.Cond.methodLink "HomewatcherLaw" (140 : Nat) ({ cls := "HomewatcherModel", name := "classroom", desc := "(I)I" } : Jvm.MethodName)) ∈ lw_all := lw_g (lw_at lw_m9 169 rfl) rfl
theorem q2157 : (Jvm.Cond.methodLink "HomewatcherLaw" (146 : Nat) ({ cls := "HomewatcherModel", name := "pupil", desc := "(I)I" } : Jvm.MethodName)) ∈ lw_all := lw_g (lw_at lw_m9 184 rfl) rfl
theorem q2165 : (Jvm.Cond.methodLink "HomewatcherLaw" (150 : Nat) ({ cls := "HomewatcherModel", name := "task", desc := "(IIICI)I" } : Jvm.MethodName)) ∈ lw_all := lw_g (lw_at lw_m9 192 rfl) rfl
theorem q2170 : (Jvm.Cond.methodLink "HomewatcherLaw" (153 : Nat) ({ cls := "HomewatcherModel", name := "pass", desc := "(I)I" } : Jvm.MethodName)) ∈ lw_all := lw_g (lw_at lw_m9 197 rfl) rfl
theorem q2175 : (Jvm.Cond.methodLink "HomewatcherLaw" (156 : Nat) ({ cls := "HomewatcherModel", name := "clock", desc := "(I)I" } : Jvm.MethodName)) ∈ lw_all := lw_g (lw_at lw_m9 202 rfl) rfl
theorem q2179 : (Jvm.Cond.methodLink "HomewatcherLaw" (159 : Nat) ({ cls := "HomewatcherModel", name := "type", desc := "(I)I" } : Jvm.MethodName)) ∈ lw_all := lw_g (lw_at lw_m9 206 rfl) rfl
theorem q2188 : (Jvm.Cond.methodLink "HomewatcherLaw" (163 : Nat) ({ cls := "HomewatcherModel", name := "insert", desc := "(II)I" } : Jvm.MethodName)) ∈ lw_all := lw_g (lw_at lw_m9 215 rfl) rfl
theorem q2200 : (Jvm.Cond.methodLink "HomewatcherLaw" (167 : Nat) ({ cls := "HomewatcherModel", name := "reverse", desc := "()I" } : Jvm.MethodName)) ∈ lw_all := lw_g (lw_at lw_m9 227 rfl) rfl
theorem q2204 : (Jvm.Cond.methodLink "HomewatcherLaw" (171 : Nat) ({ cls := "HomewatcherModel", name := "wipe", desc := "()I" } : Jvm.MethodName)) ∈ lw_all := lw_g (lw_at lw_m9 231 rfl) rfl
theorem q2208 : (Jvm.Cond.methodLink "HomewatcherLaw" (174 : Nat) ({ cls := "HomewatcherModel", name := "charAt", desc := "(I)C" } : Jvm.MethodName)) ∈ lw_all := lw_g (lw_at lw_m9 235 rfl) rfl
theorem q2218 : (Jvm.Cond.methodLink "HomewatcherLaw" (178 : Nat) ({ cls := "HomewatcherModel", name := "save", desc := "(IIII)I" } : Jvm.MethodName)) ∈ lw_all := lw_g (lw_at lw_m10 5 rfl) rfl
theorem q2242 : (Jvm.Cond.methodLink "HomewatcherLaw" (182 : Nat) ({ cls := "HomewatcherModel", name := "of", desc := "(IC)I" } : Jvm.MethodName)) ∈ lw_all := lw_g (lw_at lw_m10 29 rfl) rfl
theorem q2250 : (Jvm.Cond.methodLink "HomewatcherLaw" (185 : Nat) ({ cls := "HomewatcherModel", name := "forks", desc := "(I)I" } : Jvm.MethodName)) ∈ lw_all := lw_g (lw_at lw_m10 37 rfl) rfl
theorem q2254 : (Jvm.Cond.methodLink "HomewatcherLaw" (188 : Nat) ({ cls := "HomewatcherModel", name := "heads", desc := "(II)I" } : Jvm.MethodName)) ∈ lw_all := lw_g (lw_at lw_m10 41 rfl) rfl
theorem q2258 : (Jvm.Cond.methodLink "HomewatcherLaw" (191 : Nat) ({ cls := "HomewatcherModel", name := "hand", desc := "(I)I" } : Jvm.MethodName)) ∈ lw_all := lw_g (lw_at lw_m10 45 rfl) rfl
theorem q2270 : (Jvm.Cond.methodLink "HomewatcherLaw" (194 : Nat) ({ cls := "HomewatcherModel", name := "withdraw", desc := "(I)Z" } : Jvm.MethodName)) ∈ lw_all := lw_g (lw_at lw_m10 57 rfl) rfl
theorem q2282 : (Jvm.Cond.methodLink "HomewatcherLaw" (197 : Nat) ({ cls := "HomewatcherModel", name := "isIn", desc := "(I)Z" } : Jvm.MethodName)) ∈ lw_all := lw_g (lw_at lw_m10 69 rfl) rfl
theorem q2286 : (Jvm.Cond.methodLink "HomewatcherLaw" (200 : Nat) ({ cls := "HomewatcherModel", name := "late", desc := "(I)I" } : Jvm.MethodName)) ∈ lw_all := lw_g (lw_at lw_m10 73 rfl) rfl
theorem q2304 : (Jvm.Cond.methodLink "HomewatcherLaw" (203 : Nat) ({ cls := "HomewatcherModel", name := "off", desc := "(II)I" } : Jvm.MethodName)) ∈ lw_all := lw_g (lw_at lw_m10 91 rfl) rfl
theorem q2312 : (Jvm.Cond.methodLink "HomewatcherLaw" (206 : Nat) ({ cls := "HomewatcherModel", name := "points", desc := "(II)I" } : Jvm.MethodName)) ∈ lw_all := lw_g (lw_at lw_m10 99 rfl) rfl
theorem q2316 : (Jvm.Cond.methodLink "HomewatcherLaw" (209 : Nat) ({ cls := "HomewatcherModel", name := "counting", desc := "(II)I" } : Jvm.MethodName)) ∈ lw_all := lw_g (lw_at lw_m10 103 rfl) rfl
theorem q2320 : (Jvm.Cond.methodLink "HomewatcherLaw" (212 : Nat) ({ cls := "HomewatcherModel", name := "mark", desc := "(II)I" } : Jvm.MethodName)) ∈ lw_all := lw_g (lw_at lw_m10 107 rfl) rfl
theorem q2332 : (Jvm.Cond.methodLink "HomewatcherLaw" (215 : Nat) ({ cls := "HomewatcherModel", name := "isFrozen", desc := "(II)Z" } : Jvm.MethodName)) ∈ lw_all := lw_g (lw_at lw_m10 119 rfl) rfl
theorem q2336 : (Jvm.Cond.methodLink "HomewatcherLaw" (218 : Nat) ({ cls := "HomewatcherModel", name := "shared", desc := "(II)I" } : Jvm.MethodName)) ∈ lw_all := lw_g (lw_at lw_m10 123 rfl) rfl
theorem q2340 : (Jvm.Cond.methodLink "HomewatcherLaw" (221 : Nat) ({ cls := "HomewatcherModel", name := "shingle", desc := "(II)I" } : Jvm.MethodName)) ∈ lw_all := lw_g (lw_at lw_m10 127 rfl) rfl
theorem q2344 : (Jvm.Cond.methodLink "HomewatcherLaw" (225 : Nat) ({ cls := "HomewatcherModel", name := "indexed", desc := "()I" } : Jvm.MethodName)) ∈ lw_all := lw_g (lw_at lw_m10 131 rfl) rfl
theorem q2352 : (Jvm.Cond.methodLink "HomewatcherLaw" (229 : Nat) ({ cls := "HomewatcherModel", name := "holders", desc := "(I)I" } : Jvm.MethodName)) ∈ lw_all := lw_g (lw_at lw_m10 139 rfl) rfl
theorem q2356 : (Jvm.Cond.methodLink "HomewatcherLaw" (232 : Nat) ({ cls := "HomewatcherModel", name := "threshold", desc := "(I)I" } : Jvm.MethodName)) ∈ lw_all := lw_g (lw_at lw_m10 143 rfl) rfl
theorem q2360 : (Jvm.Cond.methodLink "HomewatcherLaw" (236 : Nat) ({ cls := "HomewatcherModel", name := "hits", desc := "()I" } : Jvm.MethodName)) ∈ lw_all := lw_g (lw_at lw_m10 147 rfl) rfl
theorem q2364 : (Jvm.Cond.methodLink "HomewatcherLaw" (239 : Nat) ({ cls := "HomewatcherModel", name := "hit", desc := "(IC)I" } : Jvm.MethodName)) ∈ lw_all := lw_g (lw_at lw_m10 151 rfl) rfl
theorem q2368 : (Jvm.Cond.methodLink "HomewatcherLaw" (242 : Nat) ({ cls := "HomewatcherModel", name := "hear", desc := "(II)I" } : Jvm.MethodName)) ∈ lw_all := lw_g (lw_at lw_m10 155 rfl) rfl
theorem q2376 : (Jvm.Cond.methodLink "HomewatcherLaw" (246 : Nat) ({ cls := "HomewatcherModel", name := "next", desc := "()I" } : Jvm.MethodName)) ∈ lw_all := lw_g (lw_at lw_m10 163 rfl) rfl
theorem q2380 : (Jvm.Cond.methodLink "HomewatcherLaw" (249 : Nat) ({ cls := "HomewatcherModel", name := "byteSum", desc := "(I)B" } : Jvm.MethodName)) ∈ lw_all := lw_g (lw_at lw_m10 167 rfl) rfl
theorem q2388 : (Jvm.Cond.methodLink "HomewatcherLaw" (252 : Nat) ({ cls := "HomewatcherModel", name := "shortSum", desc := "(I)S" } : Jvm.MethodName)) ∈ lw_all := lw_g (lw_at lw_m10 175 rfl) rfl
theorem q2392 : (Jvm.Cond.methodLink "HomewatcherLaw" (255 : Nat) ({ cls := "HomewatcherModel", name := "packed", desc := "(I)J" } : Jvm.MethodName)) ∈ lw_all := lw_g (lw_at lw_m10 179 rfl) rfl
theorem q2396 : (Jvm.Cond.methodLink "HomewatcherLaw" (259 : Nat) ({ cls := "HomewatcherModel", name := "inShare", desc := "()F" } : Jvm.MethodName)) ∈ lw_all := lw_g (lw_at lw_m10 183 rfl) rfl
theorem q2400 : (Jvm.Cond.methodLink "HomewatcherLaw" (262 : Nat) ({ cls := "HomewatcherModel", name := "meanMark", desc := "()D" } : Jvm.MethodName)) ∈ lw_all := lw_g (lw_at lw_m10 187 rfl) rfl
theorem q2404 : (Jvm.Cond.methodLink "HomewatcherLaw" (267 : Nat) ({ cls := "HomewatcherModel", name := "isTrue", desc := "()Z" } : Jvm.MethodName)) ∈ lw_all := lw_g (lw_at lw_m10 191 rfl) rfl
/-! Homewatcher -/
set_option maxRecDepth 100000
def RX1 : String := "Homewatcher"
def TX1 : u_T := fun k => match k with
  | 0 => ("Homewatcher", "offsets", "Ljava/util/ArrayList;", true)
  | 1 => ("Homewatcher", "classOf", "Ljava/util/ArrayList;", true)
  | 2 => ("Homewatcher", "tasks", "Ljava/util/ArrayList;", true)
  | 3 => ("Homewatcher", "versions", "Ljava/util/ArrayList;", true)
  | 4 => ("Homewatcher", "handings", "Ljava/util/ArrayList;", true)
  | 5 => ("Homewatcher", "hits", "Ljava/util/ArrayList;", true)
  | 6 => ("Homewatcher", "index", "Ljava/util/TreeMap;", true)
  | 7 => ("Homewatcher", "isLost", "[[Z", true)
  | 8 => ("Homewatcher", "text", "Ljava/lang/StringBuilder;", true)
  | 9 => ("Homewatcher", "now", "I", false)
  | _ => ("Homewatcher", "threshold", "I", false)
def tyX1 : Nat → FieldType := fun k => match k with
  | 0 => .object "java/util/ArrayList"
  | 1 => .object "java/util/ArrayList"
  | 2 => .object "java/util/ArrayList"
  | 3 => .object "java/util/ArrayList"
  | 4 => .object "java/util/ArrayList"
  | 5 => .object "java/util/ArrayList"
  | 6 => .object "java/util/TreeMap"
  | 7 => .array (.array .boolean)
  | 8 => .object "java/lang/StringBuilder"
  | 9 => .int
  | _ => .int
abbrev wsX10 : List Cond := u_ws RX1 TX1 11
theorem nmX1 : ∀ a, a < 11 → ∀ b, b < 11 → a ≠ b → (TX1 a).2.1 ≠ (TX1 b).2.1 := by decide +kernel
theorem tyX1_ok : ∀ k, k < 11 → parseFieldDescriptor (TX1 k).2.2.1 = some (tyX1 k) := by decide +kernel
abbrev cX1_init : ByteArray := prog_1_method_1_code
def yX1_init : MethodName := ⟨RX1, "<init>", "()V"⟩
def dkwX1_init_5 : List UInt8 := [181, 0, 52, 177]
abbrev dktX1_init_5 : List UInt8 := dkwX1_init_5 ++ []
def dkwX1_init_4 : List UInt8 := [16, 12, 16, 10, 197, 0, 40, 2, 181, 0, 42, 42, 187, 0, 45, 89, 183, 0, 47, 181, 0, 48, 42, 6]
abbrev dktX1_init_4 : List UInt8 := dkwX1_init_4 ++ dktX1_init_5
def dkwX1_init_3 : List UInt8 := [187, 0, 7, 89, 16, 40, 183, 0, 11, 181, 0, 30, 42, 187, 0, 33, 89, 183, 0, 35, 181, 0, 36, 42]
abbrev dktX1_init_3 : List UInt8 := dkwX1_init_3 ++ dktX1_init_4
def dkwX1_init_2 : List UInt8 := [16, 60, 183, 0, 11, 181, 0, 24, 42, 187, 0, 7, 89, 16, 60, 183, 0, 11, 181, 0, 27, 42]
abbrev dktX1_init_2 : List UInt8 := dkwX1_init_2 ++ dktX1_init_3
def dkwX1_init_1 : List UInt8 := [183, 0, 11, 181, 0, 18, 42, 187, 0, 7, 89, 16, 10, 183, 0, 11, 181, 0, 21, 42, 187, 0, 7, 89]
abbrev dktX1_init_1 : List UInt8 := dkwX1_init_1 ++ dktX1_init_2
def dkwX1_init_0 : List UInt8 := [42, 183, 0, 1, 42, 187, 0, 7, 89, 7, 183, 0, 11, 181, 0, 14, 42, 187, 0, 7, 89, 16, 12]
abbrev dktX1_init_0 : List UInt8 := dkwX1_init_0 ++ dktX1_init_1
theorem dksX1_init_0 : cX1_init.data.toList.drop 0 = dktX1_init_0 := by decide +kernel
theorem dksX1_init_1 : cX1_init.data.toList.drop 23 = dktX1_init_1 := dk_seg dksX1_init_0 23 rfl rfl
theorem dksX1_init_2 : cX1_init.data.toList.drop 47 = dktX1_init_2 := dk_seg dksX1_init_1 24 rfl rfl
theorem dksX1_init_3 : cX1_init.data.toList.drop 69 = dktX1_init_3 := dk_seg dksX1_init_2 22 rfl rfl
theorem dksX1_init_4 : cX1_init.data.toList.drop 93 = dktX1_init_4 := dk_seg dksX1_init_3 24 rfl rfl
theorem dksX1_init_5 : cX1_init.data.toList.drop 117 = dktX1_init_5 := dk_seg dksX1_init_4 24 rfl rfl
theorem dX1_init_0 : decode cX1_init 0 = .ok (.aload_n 0, 1) := dk_42 (dk_at dksX1_init_0 0 rfl rfl)
theorem dX1_init_1 : decode cX1_init 1 = .ok (.invokespecial 1, 3) := dk_183 0 1 (dk_at dksX1_init_0 1 rfl rfl)
theorem dX1_init_4 : decode cX1_init 4 = .ok (.aload_n 0, 1) := dk_42 (dk_at dksX1_init_0 4 rfl rfl)
theorem dX1_init_5 : decode cX1_init 5 = .ok (.new 7, 3) := dk_187 0 7 (dk_at dksX1_init_0 5 rfl rfl)
theorem dX1_init_8 : decode cX1_init 8 = .ok (.dup, 1) := dk_89 (dk_at dksX1_init_0 8 rfl rfl)
theorem dX1_init_9 : decode cX1_init 9 = .ok (.iconst 4, 1) := dk_7 (dk_at dksX1_init_0 9 rfl rfl)
theorem dX1_init_10 : decode cX1_init 10 = .ok (.invokespecial 11, 3) := dk_183 0 11 (dk_at dksX1_init_0 10 rfl rfl)
theorem dX1_init_13 : decode cX1_init 13 = .ok (.putfield 14, 3) := dk_181 0 14 (dk_at dksX1_init_0 13 rfl rfl)
theorem dX1_init_16 : decode cX1_init 16 = .ok (.aload_n 0, 1) := dk_42 (dk_at dksX1_init_0 16 rfl rfl)
theorem dX1_init_17 : decode cX1_init 17 = .ok (.new 7, 3) := dk_187 0 7 (dk_at dksX1_init_0 17 rfl rfl)
theorem dX1_init_20 : decode cX1_init 20 = .ok (.dup, 1) := dk_89 (dk_at dksX1_init_0 20 rfl rfl)
theorem dX1_init_21 : decode cX1_init 21 = .ok (.bipush 12, 2) := dk_16 12 (dk_at dksX1_init_0 21 rfl rfl)
theorem dX1_init_23 : decode cX1_init 23 = .ok (.invokespecial 11, 3) := dk_183 0 11 (dk_at dksX1_init_1 0 rfl rfl)
theorem dX1_init_26 : decode cX1_init 26 = .ok (.putfield 18, 3) := dk_181 0 18 (dk_at dksX1_init_1 3 rfl rfl)
theorem dX1_init_29 : decode cX1_init 29 = .ok (.aload_n 0, 1) := dk_42 (dk_at dksX1_init_1 6 rfl rfl)
theorem dX1_init_30 : decode cX1_init 30 = .ok (.new 7, 3) := dk_187 0 7 (dk_at dksX1_init_1 7 rfl rfl)
theorem dX1_init_33 : decode cX1_init 33 = .ok (.dup, 1) := dk_89 (dk_at dksX1_init_1 10 rfl rfl)
theorem dX1_init_34 : decode cX1_init 34 = .ok (.bipush 10, 2) := dk_16 10 (dk_at dksX1_init_1 11 rfl rfl)
theorem dX1_init_36 : decode cX1_init 36 = .ok (.invokespecial 11, 3) := dk_183 0 11 (dk_at dksX1_init_1 13 rfl rfl)
theorem dX1_init_39 : decode cX1_init 39 = .ok (.putfield 21, 3) := dk_181 0 21 (dk_at dksX1_init_1 16 rfl rfl)
theorem dX1_init_42 : decode cX1_init 42 = .ok (.aload_n 0, 1) := dk_42 (dk_at dksX1_init_1 19 rfl rfl)
theorem dX1_init_43 : decode cX1_init 43 = .ok (.new 7, 3) := dk_187 0 7 (dk_at dksX1_init_1 20 rfl rfl)
theorem dX1_init_46 : decode cX1_init 46 = .ok (.dup, 1) := dk_89 (dk_at dksX1_init_1 23 rfl rfl)
theorem dX1_init_47 : decode cX1_init 47 = .ok (.bipush 60, 2) := dk_16 60 (dk_at dksX1_init_2 0 rfl rfl)
theorem dX1_init_49 : decode cX1_init 49 = .ok (.invokespecial 11, 3) := dk_183 0 11 (dk_at dksX1_init_2 2 rfl rfl)
theorem dX1_init_52 : decode cX1_init 52 = .ok (.putfield 24, 3) := dk_181 0 24 (dk_at dksX1_init_2 5 rfl rfl)
theorem dX1_init_55 : decode cX1_init 55 = .ok (.aload_n 0, 1) := dk_42 (dk_at dksX1_init_2 8 rfl rfl)
theorem dX1_init_56 : decode cX1_init 56 = .ok (.new 7, 3) := dk_187 0 7 (dk_at dksX1_init_2 9 rfl rfl)
theorem dX1_init_59 : decode cX1_init 59 = .ok (.dup, 1) := dk_89 (dk_at dksX1_init_2 12 rfl rfl)
theorem dX1_init_60 : decode cX1_init 60 = .ok (.bipush 60, 2) := dk_16 60 (dk_at dksX1_init_2 13 rfl rfl)
theorem dX1_init_62 : decode cX1_init 62 = .ok (.invokespecial 11, 3) := dk_183 0 11 (dk_at dksX1_init_2 15 rfl rfl)
theorem dX1_init_65 : decode cX1_init 65 = .ok (.putfield 27, 3) := dk_181 0 27 (dk_at dksX1_init_2 18 rfl rfl)
theorem dX1_init_68 : decode cX1_init 68 = .ok (.aload_n 0, 1) := dk_42 (dk_at dksX1_init_2 21 rfl rfl)
theorem dX1_init_69 : decode cX1_init 69 = .ok (.new 7, 3) := dk_187 0 7 (dk_at dksX1_init_3 0 rfl rfl)
theorem dX1_init_72 : decode cX1_init 72 = .ok (.dup, 1) := dk_89 (dk_at dksX1_init_3 3 rfl rfl)
theorem dX1_init_73 : decode cX1_init 73 = .ok (.bipush 40, 2) := dk_16 40 (dk_at dksX1_init_3 4 rfl rfl)
theorem dX1_init_75 : decode cX1_init 75 = .ok (.invokespecial 11, 3) := dk_183 0 11 (dk_at dksX1_init_3 6 rfl rfl)
theorem dX1_init_78 : decode cX1_init 78 = .ok (.putfield 30, 3) := dk_181 0 30 (dk_at dksX1_init_3 9 rfl rfl)
theorem dX1_init_81 : decode cX1_init 81 = .ok (.aload_n 0, 1) := dk_42 (dk_at dksX1_init_3 12 rfl rfl)
theorem dX1_init_82 : decode cX1_init 82 = .ok (.new 33, 3) := dk_187 0 33 (dk_at dksX1_init_3 13 rfl rfl)
theorem dX1_init_85 : decode cX1_init 85 = .ok (.dup, 1) := dk_89 (dk_at dksX1_init_3 16 rfl rfl)
theorem dX1_init_86 : decode cX1_init 86 = .ok (.invokespecial 35, 3) := dk_183 0 35 (dk_at dksX1_init_3 17 rfl rfl)
theorem dX1_init_89 : decode cX1_init 89 = .ok (.putfield 36, 3) := dk_181 0 36 (dk_at dksX1_init_3 20 rfl rfl)
theorem dX1_init_92 : decode cX1_init 92 = .ok (.aload_n 0, 1) := dk_42 (dk_at dksX1_init_3 23 rfl rfl)
theorem dX1_init_93 : decode cX1_init 93 = .ok (.bipush 12, 2) := dk_16 12 (dk_at dksX1_init_4 0 rfl rfl)
theorem dX1_init_95 : decode cX1_init 95 = .ok (.bipush 10, 2) := dk_16 10 (dk_at dksX1_init_4 2 rfl rfl)
theorem dX1_init_97 : decode cX1_init 97 = .ok (.multianewarray 40 2, 4) := by decide +kernel
theorem dX1_init_101 : decode cX1_init 101 = .ok (.putfield 42, 3) := dk_181 0 42 (dk_at dksX1_init_4 8 rfl rfl)
theorem dX1_init_104 : decode cX1_init 104 = .ok (.aload_n 0, 1) := dk_42 (dk_at dksX1_init_4 11 rfl rfl)
theorem dX1_init_105 : decode cX1_init 105 = .ok (.new 45, 3) := dk_187 0 45 (dk_at dksX1_init_4 12 rfl rfl)
theorem dX1_init_108 : decode cX1_init 108 = .ok (.dup, 1) := dk_89 (dk_at dksX1_init_4 15 rfl rfl)
theorem dX1_init_109 : decode cX1_init 109 = .ok (.invokespecial 47, 3) := dk_183 0 47 (dk_at dksX1_init_4 16 rfl rfl)
theorem dX1_init_112 : decode cX1_init 112 = .ok (.putfield 48, 3) := dk_181 0 48 (dk_at dksX1_init_4 19 rfl rfl)
theorem dX1_init_115 : decode cX1_init 115 = .ok (.aload_n 0, 1) := dk_42 (dk_at dksX1_init_4 22 rfl rfl)
theorem dX1_init_116 : decode cX1_init 116 = .ok (.iconst 3, 1) := dk_6 (dk_at dksX1_init_4 23 rfl rfl)
theorem dX1_init_117 : decode cX1_init 117 = .ok (.putfield 52, 3) := dk_181 0 52 (dk_at dksX1_init_5 0 rfl rfl)
theorem dX1_init_120 : decode cX1_init 120 = .ok (.return_, 1) := dk_177 (dk_at dksX1_init_5 3 rfl rfl)
abbrev cX1_reverse : ByteArray := prog_1_method_27_code
def yX1_reverse : MethodName := ⟨RX1, "reverse", "()I"⟩
def dkwX1_reverse_2 : List UInt8 := [180, 0, 48, 4, 182, 0, 240, 17, 3, 255, 126, 128, 96, 167, 0, 4, 27, 172]
abbrev dktX1_reverse_2 : List UInt8 := dkwX1_reverse_2 ++ []
def dkwX1_reverse_1 : List UInt8 := [3, 182, 0, 240, 60, 27, 184, 0, 244, 153, 0, 30, 18, 248, 27, 17, 3, 255, 126, 16, 10, 120, 42]
abbrev dktX1_reverse_1 : List UInt8 := dkwX1_reverse_1 ++ dktX1_reverse_2
def dkwX1_reverse_0 : List UInt8 := [42, 180, 0, 48, 182, 1, 7, 87, 42, 180, 0, 48, 182, 0, 237, 154, 0, 5, 3, 172, 42, 180, 0, 48]
abbrev dktX1_reverse_0 : List UInt8 := dkwX1_reverse_0 ++ dktX1_reverse_1
theorem dksX1_reverse_0 : cX1_reverse.data.toList.drop 0 = dktX1_reverse_0 := by decide +kernel
theorem dksX1_reverse_1 : cX1_reverse.data.toList.drop 24 = dktX1_reverse_1 := dk_seg dksX1_reverse_0 24 rfl rfl
theorem dksX1_reverse_2 : cX1_reverse.data.toList.drop 47 = dktX1_reverse_2 := dk_seg dksX1_reverse_1 23 rfl rfl
theorem dX1_reverse_0 : decode cX1_reverse 0 = .ok (.aload_n 0, 1) := dk_42 (dk_at dksX1_reverse_0 0 rfl rfl)
theorem dX1_reverse_1 : decode cX1_reverse 1 = .ok (.getfield 48, 3) := dk_180 0 48 (dk_at dksX1_reverse_0 1 rfl rfl)
theorem dX1_reverse_4 : decode cX1_reverse 4 = .ok (.invokevirtual 263, 3) := dk_182 1 7 (dk_at dksX1_reverse_0 4 rfl rfl)
theorem dX1_reverse_7 : decode cX1_reverse 7 = .ok (.pop, 1) := dk_87 (dk_at dksX1_reverse_0 7 rfl rfl)
theorem dX1_reverse_8 : decode cX1_reverse 8 = .ok (.aload_n 0, 1) := dk_42 (dk_at dksX1_reverse_0 8 rfl rfl)
theorem dX1_reverse_9 : decode cX1_reverse 9 = .ok (.getfield 48, 3) := dk_180 0 48 (dk_at dksX1_reverse_0 9 rfl rfl)
theorem dX1_reverse_12 : decode cX1_reverse 12 = .ok (.invokevirtual 237, 3) := dk_182 0 237 (dk_at dksX1_reverse_0 12 rfl rfl)
theorem dX1_reverse_15 : decode cX1_reverse 15 = .ok (.ifCond .ne 5, 3) := dk_154 0 5 (dk_at dksX1_reverse_0 15 rfl rfl)
theorem dX1_reverse_18 : decode cX1_reverse 18 = .ok (.iconst 0, 1) := dk_3 (dk_at dksX1_reverse_0 18 rfl rfl)
theorem dX1_reverse_19 : decode cX1_reverse 19 = .ok (.ireturn, 1) := dk_172 (dk_at dksX1_reverse_0 19 rfl rfl)
theorem dX1_reverse_20 : decode cX1_reverse 20 = .ok (.aload_n 0, 1) := dk_42 (dk_at dksX1_reverse_0 20 rfl rfl)
theorem dX1_reverse_21 : decode cX1_reverse 21 = .ok (.getfield 48, 3) := dk_180 0 48 (dk_at dksX1_reverse_0 21 rfl rfl)
theorem dX1_reverse_24 : decode cX1_reverse 24 = .ok (.iconst 0, 1) := dk_3 (dk_at dksX1_reverse_1 0 rfl rfl)
theorem dX1_reverse_25 : decode cX1_reverse 25 = .ok (.invokevirtual 240, 3) := dk_182 0 240 (dk_at dksX1_reverse_1 1 rfl rfl)
theorem dX1_reverse_28 : decode cX1_reverse 28 = .ok (.istore_n 1, 1) := dk_60 (dk_at dksX1_reverse_1 4 rfl rfl)
theorem dX1_reverse_29 : decode cX1_reverse 29 = .ok (.iload_n 1, 1) := dk_27 (dk_at dksX1_reverse_1 5 rfl rfl)
theorem dX1_reverse_30 : decode cX1_reverse 30 = .ok (.invokestatic 244, 3) := dk_184 0 244 (dk_at dksX1_reverse_1 6 rfl rfl)
theorem dX1_reverse_33 : decode cX1_reverse 33 = .ok (.ifCond .eq 30, 3) := dk_153 0 30 (dk_at dksX1_reverse_1 9 rfl rfl)
theorem dX1_reverse_36 : decode cX1_reverse 36 = .ok (.ldc 248, 2) := dk_18 248 (dk_at dksX1_reverse_1 12 rfl rfl)
theorem dX1_reverse_38 : decode cX1_reverse 38 = .ok (.iload_n 1, 1) := dk_27 (dk_at dksX1_reverse_1 14 rfl rfl)
theorem dX1_reverse_39 : decode cX1_reverse 39 = .ok (.sipush 1023, 3) := dk_17 3 255 (dk_at dksX1_reverse_1 15 rfl rfl)
theorem dX1_reverse_42 : decode cX1_reverse 42 = .ok (.iand, 1) := dk_126 (dk_at dksX1_reverse_1 18 rfl rfl)
theorem dX1_reverse_43 : decode cX1_reverse 43 = .ok (.bipush 10, 2) := dk_16 10 (dk_at dksX1_reverse_1 19 rfl rfl)
theorem dX1_reverse_45 : decode cX1_reverse 45 = .ok (.ishl, 1) := dk_120 (dk_at dksX1_reverse_1 21 rfl rfl)
theorem dX1_reverse_46 : decode cX1_reverse 46 = .ok (.aload_n 0, 1) := dk_42 (dk_at dksX1_reverse_1 22 rfl rfl)
theorem dX1_reverse_47 : decode cX1_reverse 47 = .ok (.getfield 48, 3) := dk_180 0 48 (dk_at dksX1_reverse_2 0 rfl rfl)
theorem dX1_reverse_50 : decode cX1_reverse 50 = .ok (.iconst 1, 1) := dk_4 (dk_at dksX1_reverse_2 3 rfl rfl)
theorem dX1_reverse_51 : decode cX1_reverse 51 = .ok (.invokevirtual 240, 3) := dk_182 0 240 (dk_at dksX1_reverse_2 4 rfl rfl)
theorem dX1_reverse_54 : decode cX1_reverse 54 = .ok (.sipush 1023, 3) := dk_17 3 255 (dk_at dksX1_reverse_2 7 rfl rfl)
theorem dX1_reverse_57 : decode cX1_reverse 57 = .ok (.iand, 1) := dk_126 (dk_at dksX1_reverse_2 10 rfl rfl)
theorem dX1_reverse_58 : decode cX1_reverse 58 = .ok (.ior, 1) := dk_128 (dk_at dksX1_reverse_2 11 rfl rfl)
theorem dX1_reverse_59 : decode cX1_reverse 59 = .ok (.iadd, 1) := dk_96 (dk_at dksX1_reverse_2 12 rfl rfl)
theorem dX1_reverse_60 : decode cX1_reverse 60 = .ok (.goto 4, 3) := dk_167 0 4 (dk_at dksX1_reverse_2 13 rfl rfl)
theorem dX1_reverse_63 : decode cX1_reverse 63 = .ok (.iload_n 1, 1) := dk_27 (dk_at dksX1_reverse_2 16 rfl rfl)
theorem dX1_reverse_64 : decode cX1_reverse 64 = .ok (.ireturn, 1) := dk_172 (dk_at dksX1_reverse_2 17 rfl rfl)
abbrev cX1_isHigh : ByteArray := prog_1_method_10_code
def yX1_isHigh : MethodName := ⟨RX1, "isHigh", "(C)Z"⟩
def dkwX1_isHigh_0 : List UInt8 := [26, 18, 85, 161, 0, 13, 26, 18, 86, 162, 0, 7, 4, 167, 0, 4, 3, 172]
abbrev dktX1_isHigh_0 : List UInt8 := dkwX1_isHigh_0 ++ []
theorem dksX1_isHigh_0 : cX1_isHigh.data.toList.drop 0 = dktX1_isHigh_0 := by decide +kernel
theorem dX1_isHigh_0 : decode cX1_isHigh 0 = .ok (.iload_n 0, 1) := dk_26 (dk_at dksX1_isHigh_0 0 rfl rfl)
theorem dX1_isHigh_1 : decode cX1_isHigh 1 = .ok (.ldc 85, 2) := dk_18 85 (dk_at dksX1_isHigh_0 1 rfl rfl)
theorem dX1_isHigh_3 : decode cX1_isHigh 3 = .ok (.if_icmp .lt 13, 3) := dk_161 0 13 (dk_at dksX1_isHigh_0 3 rfl rfl)
theorem dX1_isHigh_6 : decode cX1_isHigh 6 = .ok (.iload_n 0, 1) := dk_26 (dk_at dksX1_isHigh_0 6 rfl rfl)
theorem dX1_isHigh_7 : decode cX1_isHigh 7 = .ok (.ldc 86, 2) := dk_18 86 (dk_at dksX1_isHigh_0 7 rfl rfl)
theorem dX1_isHigh_9 : decode cX1_isHigh 9 = .ok (.if_icmp .ge 7, 3) := dk_162 0 7 (dk_at dksX1_isHigh_0 9 rfl rfl)
theorem dX1_isHigh_12 : decode cX1_isHigh 12 = .ok (.iconst 1, 1) := dk_4 (dk_at dksX1_isHigh_0 12 rfl rfl)
theorem dX1_isHigh_13 : decode cX1_isHigh 13 = .ok (.goto 4, 3) := dk_167 0 4 (dk_at dksX1_isHigh_0 13 rfl rfl)
theorem dX1_isHigh_16 : decode cX1_isHigh 16 = .ok (.iconst 0, 1) := dk_3 (dk_at dksX1_isHigh_0 16 rfl rfl)
theorem dX1_isHigh_17 : decode cX1_isHigh 17 = .ok (.ireturn, 1) := dk_172 (dk_at dksX1_isHigh_0 17 rfl rfl)
abbrev cX1_wipe : ByteArray := prog_1_method_28_code
def yX1_wipe : MethodName := ⟨RX1, "wipe", "()I"⟩
def dkwX1_wipe_0 : List UInt8 := [42, 182, 1, 1, 60, 42, 180, 0, 48, 3, 182, 1, 11, 27, 172]
abbrev dktX1_wipe_0 : List UInt8 := dkwX1_wipe_0 ++ []
theorem dksX1_wipe_0 : cX1_wipe.data.toList.drop 0 = dktX1_wipe_0 := by decide +kernel
theorem dX1_wipe_0 : decode cX1_wipe 0 = .ok (.aload_n 0, 1) := dk_42 (dk_at dksX1_wipe_0 0 rfl rfl)
theorem dX1_wipe_1 : decode cX1_wipe 1 = .ok (.invokevirtual 257, 3) := dk_182 1 1 (dk_at dksX1_wipe_0 1 rfl rfl)
theorem dX1_wipe_4 : decode cX1_wipe 4 = .ok (.istore_n 1, 1) := dk_60 (dk_at dksX1_wipe_0 4 rfl rfl)
theorem dX1_wipe_5 : decode cX1_wipe 5 = .ok (.aload_n 0, 1) := dk_42 (dk_at dksX1_wipe_0 5 rfl rfl)
theorem dX1_wipe_6 : decode cX1_wipe 6 = .ok (.getfield 48, 3) := dk_180 0 48 (dk_at dksX1_wipe_0 6 rfl rfl)
theorem dX1_wipe_9 : decode cX1_wipe 9 = .ok (.iconst 0, 1) := dk_3 (dk_at dksX1_wipe_0 9 rfl rfl)
theorem dX1_wipe_10 : decode cX1_wipe 10 = .ok (.invokevirtual 267, 3) := dk_182 1 11 (dk_at dksX1_wipe_0 10 rfl rfl)
theorem dX1_wipe_13 : decode cX1_wipe 13 = .ok (.iload_n 1, 1) := dk_27 (dk_at dksX1_wipe_0 13 rfl rfl)
theorem dX1_wipe_14 : decode cX1_wipe 14 = .ok (.ireturn, 1) := dk_172 (dk_at dksX1_wipe_0 14 rfl rfl)
abbrev cX1_signCount : ByteArray := prog_1_method_23_code
def yX1_signCount : MethodName := ⟨RX1, "signCount", "()I"⟩
def dkwX1_signCount_1 : List UInt8 := [184, 0, 244, 153, 0, 7, 3, 167, 0, 4, 4, 96, 60, 132, 2, 1, 167, 255, 220, 27, 172]
abbrev dktX1_signCount_1 : List UInt8 := dkwX1_signCount_1 ++ []
def dkwX1_signCount_0 : List UInt8 := [3, 60, 3, 61, 28, 42, 180, 0, 48, 182, 0, 237, 162, 0, 31, 27, 42, 180, 0, 48, 28, 182, 0, 240]
abbrev dktX1_signCount_0 : List UInt8 := dkwX1_signCount_0 ++ dktX1_signCount_1
theorem dksX1_signCount_0 : cX1_signCount.data.toList.drop 0 = dktX1_signCount_0 := by decide +kernel
theorem dksX1_signCount_1 : cX1_signCount.data.toList.drop 24 = dktX1_signCount_1 := dk_seg dksX1_signCount_0 24 rfl rfl
theorem dX1_signCount_0 : decode cX1_signCount 0 = .ok (.iconst 0, 1) := dk_3 (dk_at dksX1_signCount_0 0 rfl rfl)
theorem dX1_signCount_1 : decode cX1_signCount 1 = .ok (.istore_n 1, 1) := dk_60 (dk_at dksX1_signCount_0 1 rfl rfl)
theorem dX1_signCount_2 : decode cX1_signCount 2 = .ok (.iconst 0, 1) := dk_3 (dk_at dksX1_signCount_0 2 rfl rfl)
theorem dX1_signCount_3 : decode cX1_signCount 3 = .ok (.istore_n 2, 1) := dk_61 (dk_at dksX1_signCount_0 3 rfl rfl)
theorem dX1_signCount_4 : decode cX1_signCount 4 = .ok (.iload_n 2, 1) := dk_28 (dk_at dksX1_signCount_0 4 rfl rfl)
theorem dX1_signCount_5 : decode cX1_signCount 5 = .ok (.aload_n 0, 1) := dk_42 (dk_at dksX1_signCount_0 5 rfl rfl)
theorem dX1_signCount_6 : decode cX1_signCount 6 = .ok (.getfield 48, 3) := dk_180 0 48 (dk_at dksX1_signCount_0 6 rfl rfl)
theorem dX1_signCount_9 : decode cX1_signCount 9 = .ok (.invokevirtual 237, 3) := dk_182 0 237 (dk_at dksX1_signCount_0 9 rfl rfl)
theorem dX1_signCount_12 : decode cX1_signCount 12 = .ok (.if_icmp .ge 31, 3) := dk_162 0 31 (dk_at dksX1_signCount_0 12 rfl rfl)
theorem dX1_signCount_15 : decode cX1_signCount 15 = .ok (.iload_n 1, 1) := dk_27 (dk_at dksX1_signCount_0 15 rfl rfl)
theorem dX1_signCount_16 : decode cX1_signCount 16 = .ok (.aload_n 0, 1) := dk_42 (dk_at dksX1_signCount_0 16 rfl rfl)
theorem dX1_signCount_17 : decode cX1_signCount 17 = .ok (.getfield 48, 3) := dk_180 0 48 (dk_at dksX1_signCount_0 17 rfl rfl)
theorem dX1_signCount_20 : decode cX1_signCount 20 = .ok (.iload_n 2, 1) := dk_28 (dk_at dksX1_signCount_0 20 rfl rfl)
theorem dX1_signCount_21 : decode cX1_signCount 21 = .ok (.invokevirtual 240, 3) := dk_182 0 240 (dk_at dksX1_signCount_0 21 rfl rfl)
theorem dX1_signCount_24 : decode cX1_signCount 24 = .ok (.invokestatic 244, 3) := dk_184 0 244 (dk_at dksX1_signCount_1 0 rfl rfl)
theorem dX1_signCount_27 : decode cX1_signCount 27 = .ok (.ifCond .eq 7, 3) := dk_153 0 7 (dk_at dksX1_signCount_1 3 rfl rfl)
theorem dX1_signCount_30 : decode cX1_signCount 30 = .ok (.iconst 0, 1) := dk_3 (dk_at dksX1_signCount_1 6 rfl rfl)
theorem dX1_signCount_31 : decode cX1_signCount 31 = .ok (.goto 4, 3) := dk_167 0 4 (dk_at dksX1_signCount_1 7 rfl rfl)
theorem dX1_signCount_34 : decode cX1_signCount 34 = .ok (.iconst 1, 1) := dk_4 (dk_at dksX1_signCount_1 10 rfl rfl)
theorem dX1_signCount_35 : decode cX1_signCount 35 = .ok (.iadd, 1) := dk_96 (dk_at dksX1_signCount_1 11 rfl rfl)
theorem dX1_signCount_36 : decode cX1_signCount 36 = .ok (.istore_n 1, 1) := dk_60 (dk_at dksX1_signCount_1 12 rfl rfl)
theorem dX1_signCount_37 : decode cX1_signCount 37 = .ok (.iinc 2 1, 3) := dk_132 2 1 (dk_at dksX1_signCount_1 13 rfl rfl)
theorem dX1_signCount_40 : decode cX1_signCount 40 = .ok (.goto (-36), 3) := dk_167 255 220 (dk_at dksX1_signCount_1 16 rfl rfl)
theorem dX1_signCount_43 : decode cX1_signCount 43 = .ok (.iload_n 1, 1) := dk_27 (dk_at dksX1_signCount_1 19 rfl rfl)
theorem dX1_signCount_44 : decode cX1_signCount 44 = .ok (.ireturn, 1) := dk_172 (dk_at dksX1_signCount_1 20 rfl rfl)
abbrev cX1_indexed : ByteArray := prog_1_method_50_code
def yX1_indexed : MethodName := ⟨RX1, "indexed", "()I"⟩
def dkwX1_indexed_0 : List UInt8 := [42, 180, 0, 36, 182, 1, 75, 172]
abbrev dktX1_indexed_0 : List UInt8 := dkwX1_indexed_0 ++ []
theorem dksX1_indexed_0 : cX1_indexed.data.toList.drop 0 = dktX1_indexed_0 := by decide +kernel
theorem dX1_indexed_0 : decode cX1_indexed 0 = .ok (.aload_n 0, 1) := dk_42 (dk_at dksX1_indexed_0 0 rfl rfl)
theorem dX1_indexed_1 : decode cX1_indexed 1 = .ok (.getfield 36, 3) := dk_180 0 36 (dk_at dksX1_indexed_0 1 rfl rfl)
theorem dX1_indexed_4 : decode cX1_indexed 4 = .ok (.invokevirtual 331, 3) := dk_182 1 75 (dk_at dksX1_indexed_0 4 rfl rfl)
theorem dX1_indexed_7 : decode cX1_indexed 7 = .ok (.ireturn, 1) := dk_172 (dk_at dksX1_indexed_0 7 rfl rfl)
abbrev cX1_holders : ByteArray := prog_1_method_51_code
def yX1_holders : MethodName := ⟨RX1, "holders", "(I)I"⟩
def dkwX1_holders_1 : List UInt8 := [182, 0, 107, 172]
abbrev dktX1_holders_1 : List UInt8 := dkwX1_holders_1 ++ []
def dkwX1_holders_0 : List UInt8 := [42, 180, 0, 36, 27, 184, 0, 211, 182, 1, 49, 192, 0, 105, 77, 44, 199, 0, 7, 3, 167, 0, 7, 44]
abbrev dktX1_holders_0 : List UInt8 := dkwX1_holders_0 ++ dktX1_holders_1
theorem dksX1_holders_0 : cX1_holders.data.toList.drop 0 = dktX1_holders_0 := by decide +kernel
theorem dksX1_holders_1 : cX1_holders.data.toList.drop 24 = dktX1_holders_1 := dk_seg dksX1_holders_0 24 rfl rfl
theorem dX1_holders_0 : decode cX1_holders 0 = .ok (.aload_n 0, 1) := dk_42 (dk_at dksX1_holders_0 0 rfl rfl)
theorem dX1_holders_1 : decode cX1_holders 1 = .ok (.getfield 36, 3) := dk_180 0 36 (dk_at dksX1_holders_0 1 rfl rfl)
theorem dX1_holders_4 : decode cX1_holders 4 = .ok (.iload_n 1, 1) := dk_27 (dk_at dksX1_holders_0 4 rfl rfl)
theorem dX1_holders_5 : decode cX1_holders 5 = .ok (.invokestatic 211, 3) := dk_184 0 211 (dk_at dksX1_holders_0 5 rfl rfl)
theorem dX1_holders_8 : decode cX1_holders 8 = .ok (.invokevirtual 305, 3) := dk_182 1 49 (dk_at dksX1_holders_0 8 rfl rfl)
theorem dX1_holders_11 : decode cX1_holders 11 = .ok (.checkcast 105, 3) := dk_192 0 105 (dk_at dksX1_holders_0 11 rfl rfl)
theorem dX1_holders_14 : decode cX1_holders 14 = .ok (.astore_n 2, 1) := dk_77 (dk_at dksX1_holders_0 14 rfl rfl)
theorem dX1_holders_15 : decode cX1_holders 15 = .ok (.aload_n 2, 1) := dk_44 (dk_at dksX1_holders_0 15 rfl rfl)
theorem dX1_holders_16 : decode cX1_holders 16 = .ok (.ifnonnull 7, 3) := dk_199 0 7 (dk_at dksX1_holders_0 16 rfl rfl)
theorem dX1_holders_19 : decode cX1_holders 19 = .ok (.iconst 0, 1) := dk_3 (dk_at dksX1_holders_0 19 rfl rfl)
theorem dX1_holders_20 : decode cX1_holders 20 = .ok (.goto 7, 3) := dk_167 0 7 (dk_at dksX1_holders_0 20 rfl rfl)
theorem dX1_holders_23 : decode cX1_holders 23 = .ok (.aload_n 2, 1) := dk_44 (dk_at dksX1_holders_0 23 rfl rfl)
theorem dX1_holders_24 : decode cX1_holders 24 = .ok (.invokevirtual 107, 3) := dk_182 0 107 (dk_at dksX1_holders_1 0 rfl rfl)
theorem dX1_holders_27 : decode cX1_holders 27 = .ok (.ireturn, 1) := dk_172 (dk_at dksX1_holders_1 3 rfl rfl)
abbrev cX1_hits : ByteArray := prog_1_method_53_code
def yX1_hits : MethodName := ⟨RX1, "hits", "()I"⟩
def dkwX1_hits_0 : List UInt8 := [42, 180, 0, 30, 182, 0, 207, 172]
abbrev dktX1_hits_0 : List UInt8 := dkwX1_hits_0 ++ []
theorem dksX1_hits_0 : cX1_hits.data.toList.drop 0 = dktX1_hits_0 := by decide +kernel
theorem dX1_hits_0 : decode cX1_hits 0 = .ok (.aload_n 0, 1) := dk_42 (dk_at dksX1_hits_0 0 rfl rfl)
theorem dX1_hits_1 : decode cX1_hits 1 = .ok (.getfield 30, 3) := dk_180 0 30 (dk_at dksX1_hits_0 1 rfl rfl)
theorem dX1_hits_4 : decode cX1_hits 4 = .ok (.invokevirtual 207, 3) := dk_182 0 207 (dk_at dksX1_hits_0 4 rfl rfl)
theorem dX1_hits_7 : decode cX1_hits 7 = .ok (.ireturn, 1) := dk_172 (dk_at dksX1_hits_0 7 rfl rfl)
abbrev cX1_isTrue : ByteArray := prog_1_method_65_code
def yX1_isTrue : MethodName := ⟨RX1, "isTrue", "()Z"⟩
def dkwX1_isTrue_15 : List UInt8 := [132, 3, 1, 167, 255, 161, 27, 172]
abbrev dktX1_isTrue_15 : List UInt8 := dkwX1_isTrue_15 ++ []
def dkwX1_isTrue_14 : List UInt8 := [182, 1, 71, 42, 29, 25, 5, 182, 1, 129, 160, 0, 7, 4, 167, 0, 4, 3, 126, 60, 167, 255, 187]
abbrev dktX1_isTrue_14 : List UInt8 := dkwX1_isTrue_14 ++ dktX1_isTrue_15
def dkwX1_isTrue_13 : List UInt8 := [182, 0, 178, 58, 6, 27, 25, 6, 198, 0, 11, 25, 6, 180, 0, 128, 153, 0, 24, 42, 29, 25, 5]
abbrev dktX1_isTrue_13 : List UInt8 := dkwX1_isTrue_13 ++ dktX1_isTrue_14
def dkwX1_isTrue_12 : List UInt8 := [185, 0, 151, 1, 0, 153, 0, 65, 25, 4, 185, 0, 157, 1, 0, 192, 0, 97, 58, 5, 42, 29, 25, 5]
abbrev dktX1_isTrue_12 : List UInt8 := dkwX1_isTrue_12 ++ dktX1_isTrue_13
def dkwX1_isTrue_11 : List UInt8 := [180, 0, 18, 182, 0, 207, 162, 0, 90, 42, 180, 0, 21, 182, 0, 147, 58, 4, 25, 4]
abbrev dktX1_isTrue_11 : List UInt8 := dkwX1_isTrue_11 ++ dktX1_isTrue_12
def dkwX1_isTrue_10 : List UInt8 := [192, 0, 105, 182, 0, 107, 160, 0, 7, 4, 167, 0, 4, 3, 126, 60, 167, 255, 180, 3, 62, 29, 42]
abbrev dktX1_isTrue_10 : List UInt8 := dkwX1_isTrue_10 ++ dktX1_isTrue_11
def dkwX1_isTrue_9 : List UInt8 := [25, 5, 198, 0, 33, 25, 5, 182, 0, 107, 42, 180, 0, 36, 21, 4, 184, 0, 211, 182, 1, 49]
abbrev dktX1_isTrue_9 : List UInt8 := dkwX1_isTrue_9 ++ dktX1_isTrue_10
def dkwX1_isTrue_8 : List UInt8 := [192, 0, 105, 182, 0, 107, 54, 4, 44, 21, 4, 184, 0, 211, 182, 1, 49, 192, 0, 105, 58, 5, 27]
abbrev dktX1_isTrue_8 : List UInt8 := dkwX1_isTrue_8 ++ dktX1_isTrue_9
def dkwX1_isTrue_7 : List UInt8 := [182, 1, 122, 185, 1, 126, 1, 0, 78, 45, 185, 0, 151, 1, 0, 153, 0, 73, 45, 185, 0, 157, 1, 0]
abbrev dktX1_isTrue_7 : List UInt8 := dkwX1_isTrue_7 ++ dktX1_isTrue_8
def dkwX1_isTrue_6 : List UInt8 := [182, 1, 75, 42, 180, 0, 36, 182, 1, 75, 160, 0, 7, 4, 167, 0, 4, 3, 126, 60, 42, 180, 0, 36]
abbrev dktX1_isTrue_6 : List UInt8 := dkwX1_isTrue_6 ++ dktX1_isTrue_7
def dkwX1_isTrue_5 : List UInt8 := [184, 0, 211, 182, 1, 55, 192, 0, 105, 167, 0, 4, 1, 58, 8, 167, 255, 172, 167, 255, 139, 27, 44]
abbrev dktX1_isTrue_5 : List UInt8 := dkwX1_isTrue_5 ++ dktX1_isTrue_6
def dkwX1_isTrue_4 : List UInt8 := [44, 21, 6, 184, 0, 211, 25, 7, 199, 0, 7, 4, 167, 0, 10, 25, 7, 182, 0, 107, 4, 96]
abbrev dktX1_isTrue_4 : List UInt8 := dkwX1_isTrue_4 ++ dktX1_isTrue_5
def dkwX1_isTrue_3 : List UInt8 := [54, 6, 44, 21, 6, 184, 0, 211, 182, 1, 49, 192, 0, 105, 58, 7, 25, 4, 180, 0, 128, 153, 0, 37]
abbrev dktX1_isTrue_3 : List UInt8 := dkwX1_isTrue_3 ++ dktX1_isTrue_4
def dkwX1_isTrue_2 : List UInt8 := [25, 5, 185, 0, 151, 1, 0, 153, 0, 80, 25, 5, 185, 0, 157, 1, 0, 192, 0, 105, 182, 0, 107]
abbrev dktX1_isTrue_2 : List UInt8 := dkwX1_isTrue_2 ++ dktX1_isTrue_3
def dkwX1_isTrue_1 : List UInt8 := [153, 0, 114, 45, 185, 0, 157, 1, 0, 192, 0, 88, 58, 4, 25, 4, 180, 0, 135, 182, 1, 48, 58, 5]
abbrev dktX1_isTrue_1 : List UInt8 := dkwX1_isTrue_1 ++ dktX1_isTrue_2
def dkwX1_isTrue_0 : List UInt8 := [4, 60, 187, 0, 33, 89, 183, 0, 35, 77, 42, 180, 0, 24, 182, 0, 147, 78, 45, 185, 0, 151, 1, 0]
abbrev dktX1_isTrue_0 : List UInt8 := dkwX1_isTrue_0 ++ dktX1_isTrue_1
theorem dksX1_isTrue_0 : cX1_isTrue.data.toList.drop 0 = dktX1_isTrue_0 := by decide +kernel
theorem dksX1_isTrue_1 : cX1_isTrue.data.toList.drop 24 = dktX1_isTrue_1 := dk_seg dksX1_isTrue_0 24 rfl rfl
theorem dksX1_isTrue_2 : cX1_isTrue.data.toList.drop 48 = dktX1_isTrue_2 := dk_seg dksX1_isTrue_1 24 rfl rfl
theorem dksX1_isTrue_3 : cX1_isTrue.data.toList.drop 71 = dktX1_isTrue_3 := dk_seg dksX1_isTrue_2 23 rfl rfl
theorem dksX1_isTrue_4 : cX1_isTrue.data.toList.drop 95 = dktX1_isTrue_4 := dk_seg dksX1_isTrue_3 24 rfl rfl
theorem dksX1_isTrue_5 : cX1_isTrue.data.toList.drop 117 = dktX1_isTrue_5 := dk_seg dksX1_isTrue_4 22 rfl rfl
theorem dksX1_isTrue_6 : cX1_isTrue.data.toList.drop 140 = dktX1_isTrue_6 := dk_seg dksX1_isTrue_5 23 rfl rfl
theorem dksX1_isTrue_7 : cX1_isTrue.data.toList.drop 164 = dktX1_isTrue_7 := dk_seg dksX1_isTrue_6 24 rfl rfl
theorem dksX1_isTrue_8 : cX1_isTrue.data.toList.drop 188 = dktX1_isTrue_8 := dk_seg dksX1_isTrue_7 24 rfl rfl
theorem dksX1_isTrue_9 : cX1_isTrue.data.toList.drop 211 = dktX1_isTrue_9 := dk_seg dksX1_isTrue_8 23 rfl rfl
theorem dksX1_isTrue_10 : cX1_isTrue.data.toList.drop 233 = dktX1_isTrue_10 := dk_seg dksX1_isTrue_9 22 rfl rfl
theorem dksX1_isTrue_11 : cX1_isTrue.data.toList.drop 256 = dktX1_isTrue_11 := dk_seg dksX1_isTrue_10 23 rfl rfl
theorem dksX1_isTrue_12 : cX1_isTrue.data.toList.drop 276 = dktX1_isTrue_12 := dk_seg dksX1_isTrue_11 20 rfl rfl
theorem dksX1_isTrue_13 : cX1_isTrue.data.toList.drop 300 = dktX1_isTrue_13 := dk_seg dksX1_isTrue_12 24 rfl rfl
theorem dksX1_isTrue_14 : cX1_isTrue.data.toList.drop 323 = dktX1_isTrue_14 := dk_seg dksX1_isTrue_13 23 rfl rfl
theorem dksX1_isTrue_15 : cX1_isTrue.data.toList.drop 346 = dktX1_isTrue_15 := dk_seg dksX1_isTrue_14 23 rfl rfl
theorem dX1_isTrue_0 : decode cX1_isTrue 0 = .ok (.iconst 1, 1) := dk_4 (dk_at dksX1_isTrue_0 0 rfl rfl)
theorem dX1_isTrue_1 : decode cX1_isTrue 1 = .ok (.istore_n 1, 1) := dk_60 (dk_at dksX1_isTrue_0 1 rfl rfl)
theorem dX1_isTrue_2 : decode cX1_isTrue 2 = .ok (.new 33, 3) := dk_187 0 33 (dk_at dksX1_isTrue_0 2 rfl rfl)
theorem dX1_isTrue_5 : decode cX1_isTrue 5 = .ok (.dup, 1) := dk_89 (dk_at dksX1_isTrue_0 5 rfl rfl)
theorem dX1_isTrue_6 : decode cX1_isTrue 6 = .ok (.invokespecial 35, 3) := dk_183 0 35 (dk_at dksX1_isTrue_0 6 rfl rfl)
theorem dX1_isTrue_9 : decode cX1_isTrue 9 = .ok (.astore_n 2, 1) := dk_77 (dk_at dksX1_isTrue_0 9 rfl rfl)
theorem dX1_isTrue_10 : decode cX1_isTrue 10 = .ok (.aload_n 0, 1) := dk_42 (dk_at dksX1_isTrue_0 10 rfl rfl)
theorem dX1_isTrue_11 : decode cX1_isTrue 11 = .ok (.getfield 24, 3) := dk_180 0 24 (dk_at dksX1_isTrue_0 11 rfl rfl)
theorem dX1_isTrue_14 : decode cX1_isTrue 14 = .ok (.invokevirtual 147, 3) := dk_182 0 147 (dk_at dksX1_isTrue_0 14 rfl rfl)
theorem dX1_isTrue_17 : decode cX1_isTrue 17 = .ok (.astore_n 3, 1) := dk_78 (dk_at dksX1_isTrue_0 17 rfl rfl)
theorem dX1_isTrue_18 : decode cX1_isTrue 18 = .ok (.aload_n 3, 1) := dk_45 (dk_at dksX1_isTrue_0 18 rfl rfl)
theorem dX1_isTrue_19 : decode cX1_isTrue 19 = .ok (.invokeinterface 151 1, 5) := by decide +kernel
theorem dX1_isTrue_24 : decode cX1_isTrue 24 = .ok (.ifCond .eq 114, 3) := dk_153 0 114 (dk_at dksX1_isTrue_1 0 rfl rfl)
theorem dX1_isTrue_27 : decode cX1_isTrue 27 = .ok (.aload_n 3, 1) := dk_45 (dk_at dksX1_isTrue_1 3 rfl rfl)
theorem dX1_isTrue_28 : decode cX1_isTrue 28 = .ok (.invokeinterface 157 1, 5) := by decide +kernel
theorem dX1_isTrue_33 : decode cX1_isTrue 33 = .ok (.checkcast 88, 3) := dk_192 0 88 (dk_at dksX1_isTrue_1 9 rfl rfl)
theorem dX1_isTrue_36 : decode cX1_isTrue 36 = .ok (.astore 4, 2) := dk_58 4 (dk_at dksX1_isTrue_1 12 rfl rfl)
theorem dX1_isTrue_38 : decode cX1_isTrue 38 = .ok (.aload 4, 2) := dk_25 4 (dk_at dksX1_isTrue_1 14 rfl rfl)
theorem dX1_isTrue_40 : decode cX1_isTrue 40 = .ok (.getfield 135, 3) := dk_180 0 135 (dk_at dksX1_isTrue_1 16 rfl rfl)
theorem dX1_isTrue_43 : decode cX1_isTrue 43 = .ok (.invokevirtual 304, 3) := dk_182 1 48 (dk_at dksX1_isTrue_1 19 rfl rfl)
theorem dX1_isTrue_46 : decode cX1_isTrue 46 = .ok (.astore 5, 2) := dk_58 5 (dk_at dksX1_isTrue_1 22 rfl rfl)
theorem dX1_isTrue_48 : decode cX1_isTrue 48 = .ok (.aload 5, 2) := dk_25 5 (dk_at dksX1_isTrue_2 0 rfl rfl)
theorem dX1_isTrue_50 : decode cX1_isTrue 50 = .ok (.invokeinterface 151 1, 5) := by decide +kernel
theorem dX1_isTrue_55 : decode cX1_isTrue 55 = .ok (.ifCond .eq 80, 3) := dk_153 0 80 (dk_at dksX1_isTrue_2 7 rfl rfl)
theorem dX1_isTrue_58 : decode cX1_isTrue 58 = .ok (.aload 5, 2) := dk_25 5 (dk_at dksX1_isTrue_2 10 rfl rfl)
theorem dX1_isTrue_60 : decode cX1_isTrue 60 = .ok (.invokeinterface 157 1, 5) := by decide +kernel
theorem dX1_isTrue_65 : decode cX1_isTrue 65 = .ok (.checkcast 105, 3) := dk_192 0 105 (dk_at dksX1_isTrue_2 17 rfl rfl)
theorem dX1_isTrue_68 : decode cX1_isTrue 68 = .ok (.invokevirtual 107, 3) := dk_182 0 107 (dk_at dksX1_isTrue_2 20 rfl rfl)
theorem dX1_isTrue_71 : decode cX1_isTrue 71 = .ok (.istore 6, 2) := dk_54 6 (dk_at dksX1_isTrue_3 0 rfl rfl)
theorem dX1_isTrue_73 : decode cX1_isTrue 73 = .ok (.aload_n 2, 1) := dk_44 (dk_at dksX1_isTrue_3 2 rfl rfl)
theorem dX1_isTrue_74 : decode cX1_isTrue 74 = .ok (.iload 6, 2) := dk_21 6 (dk_at dksX1_isTrue_3 3 rfl rfl)
theorem dX1_isTrue_76 : decode cX1_isTrue 76 = .ok (.invokestatic 211, 3) := dk_184 0 211 (dk_at dksX1_isTrue_3 5 rfl rfl)
theorem dX1_isTrue_79 : decode cX1_isTrue 79 = .ok (.invokevirtual 305, 3) := dk_182 1 49 (dk_at dksX1_isTrue_3 8 rfl rfl)
theorem dX1_isTrue_82 : decode cX1_isTrue 82 = .ok (.checkcast 105, 3) := dk_192 0 105 (dk_at dksX1_isTrue_3 11 rfl rfl)
theorem dX1_isTrue_85 : decode cX1_isTrue 85 = .ok (.astore 7, 2) := dk_58 7 (dk_at dksX1_isTrue_3 14 rfl rfl)
theorem dX1_isTrue_87 : decode cX1_isTrue 87 = .ok (.aload 4, 2) := dk_25 4 (dk_at dksX1_isTrue_3 16 rfl rfl)
theorem dX1_isTrue_89 : decode cX1_isTrue 89 = .ok (.getfield 128, 3) := dk_180 0 128 (dk_at dksX1_isTrue_3 18 rfl rfl)
theorem dX1_isTrue_92 : decode cX1_isTrue 92 = .ok (.ifCond .eq 37, 3) := dk_153 0 37 (dk_at dksX1_isTrue_3 21 rfl rfl)
theorem dX1_isTrue_95 : decode cX1_isTrue 95 = .ok (.aload_n 2, 1) := dk_44 (dk_at dksX1_isTrue_4 0 rfl rfl)
theorem dX1_isTrue_96 : decode cX1_isTrue 96 = .ok (.iload 6, 2) := dk_21 6 (dk_at dksX1_isTrue_4 1 rfl rfl)
theorem dX1_isTrue_98 : decode cX1_isTrue 98 = .ok (.invokestatic 211, 3) := dk_184 0 211 (dk_at dksX1_isTrue_4 3 rfl rfl)
theorem dX1_isTrue_101 : decode cX1_isTrue 101 = .ok (.aload 7, 2) := dk_25 7 (dk_at dksX1_isTrue_4 6 rfl rfl)
theorem dX1_isTrue_103 : decode cX1_isTrue 103 = .ok (.ifnonnull 7, 3) := dk_199 0 7 (dk_at dksX1_isTrue_4 8 rfl rfl)
theorem dX1_isTrue_106 : decode cX1_isTrue 106 = .ok (.iconst 1, 1) := dk_4 (dk_at dksX1_isTrue_4 11 rfl rfl)
theorem dX1_isTrue_107 : decode cX1_isTrue 107 = .ok (.goto 10, 3) := dk_167 0 10 (dk_at dksX1_isTrue_4 12 rfl rfl)
theorem dX1_isTrue_110 : decode cX1_isTrue 110 = .ok (.aload 7, 2) := dk_25 7 (dk_at dksX1_isTrue_4 15 rfl rfl)
theorem dX1_isTrue_112 : decode cX1_isTrue 112 = .ok (.invokevirtual 107, 3) := dk_182 0 107 (dk_at dksX1_isTrue_4 17 rfl rfl)
theorem dX1_isTrue_115 : decode cX1_isTrue 115 = .ok (.iconst 1, 1) := dk_4 (dk_at dksX1_isTrue_4 20 rfl rfl)
theorem dX1_isTrue_116 : decode cX1_isTrue 116 = .ok (.iadd, 1) := dk_96 (dk_at dksX1_isTrue_4 21 rfl rfl)
theorem dX1_isTrue_117 : decode cX1_isTrue 117 = .ok (.invokestatic 211, 3) := dk_184 0 211 (dk_at dksX1_isTrue_5 0 rfl rfl)
theorem dX1_isTrue_120 : decode cX1_isTrue 120 = .ok (.invokevirtual 311, 3) := dk_182 1 55 (dk_at dksX1_isTrue_5 3 rfl rfl)
theorem dX1_isTrue_123 : decode cX1_isTrue 123 = .ok (.checkcast 105, 3) := dk_192 0 105 (dk_at dksX1_isTrue_5 6 rfl rfl)
theorem dX1_isTrue_126 : decode cX1_isTrue 126 = .ok (.goto 4, 3) := dk_167 0 4 (dk_at dksX1_isTrue_5 9 rfl rfl)
theorem dX1_isTrue_129 : decode cX1_isTrue 129 = .ok (.aconst_null, 1) := dk_1 (dk_at dksX1_isTrue_5 12 rfl rfl)
theorem dX1_isTrue_130 : decode cX1_isTrue 130 = .ok (.astore 8, 2) := dk_58 8 (dk_at dksX1_isTrue_5 13 rfl rfl)
theorem dX1_isTrue_132 : decode cX1_isTrue 132 = .ok (.goto (-84), 3) := dk_167 255 172 (dk_at dksX1_isTrue_5 15 rfl rfl)
theorem dX1_isTrue_135 : decode cX1_isTrue 135 = .ok (.goto (-117), 3) := dk_167 255 139 (dk_at dksX1_isTrue_5 18 rfl rfl)
theorem dX1_isTrue_138 : decode cX1_isTrue 138 = .ok (.iload_n 1, 1) := dk_27 (dk_at dksX1_isTrue_5 21 rfl rfl)
theorem dX1_isTrue_139 : decode cX1_isTrue 139 = .ok (.aload_n 2, 1) := dk_44 (dk_at dksX1_isTrue_5 22 rfl rfl)
theorem dX1_isTrue_140 : decode cX1_isTrue 140 = .ok (.invokevirtual 331, 3) := dk_182 1 75 (dk_at dksX1_isTrue_6 0 rfl rfl)
theorem dX1_isTrue_143 : decode cX1_isTrue 143 = .ok (.aload_n 0, 1) := dk_42 (dk_at dksX1_isTrue_6 3 rfl rfl)
theorem dX1_isTrue_144 : decode cX1_isTrue 144 = .ok (.getfield 36, 3) := dk_180 0 36 (dk_at dksX1_isTrue_6 4 rfl rfl)
theorem dX1_isTrue_147 : decode cX1_isTrue 147 = .ok (.invokevirtual 331, 3) := dk_182 1 75 (dk_at dksX1_isTrue_6 7 rfl rfl)
theorem dX1_isTrue_150 : decode cX1_isTrue 150 = .ok (.if_icmp .ne 7, 3) := dk_160 0 7 (dk_at dksX1_isTrue_6 10 rfl rfl)
theorem dX1_isTrue_153 : decode cX1_isTrue 153 = .ok (.iconst 1, 1) := dk_4 (dk_at dksX1_isTrue_6 13 rfl rfl)
theorem dX1_isTrue_154 : decode cX1_isTrue 154 = .ok (.goto 4, 3) := dk_167 0 4 (dk_at dksX1_isTrue_6 14 rfl rfl)
theorem dX1_isTrue_157 : decode cX1_isTrue 157 = .ok (.iconst 0, 1) := dk_3 (dk_at dksX1_isTrue_6 17 rfl rfl)
theorem dX1_isTrue_158 : decode cX1_isTrue 158 = .ok (.iand, 1) := dk_126 (dk_at dksX1_isTrue_6 18 rfl rfl)
theorem dX1_isTrue_159 : decode cX1_isTrue 159 = .ok (.istore_n 1, 1) := dk_60 (dk_at dksX1_isTrue_6 19 rfl rfl)
theorem dX1_isTrue_160 : decode cX1_isTrue 160 = .ok (.aload_n 0, 1) := dk_42 (dk_at dksX1_isTrue_6 20 rfl rfl)
theorem dX1_isTrue_161 : decode cX1_isTrue 161 = .ok (.getfield 36, 3) := dk_180 0 36 (dk_at dksX1_isTrue_6 21 rfl rfl)
theorem dX1_isTrue_164 : decode cX1_isTrue 164 = .ok (.invokevirtual 378, 3) := dk_182 1 122 (dk_at dksX1_isTrue_7 0 rfl rfl)
theorem dX1_isTrue_167 : decode cX1_isTrue 167 = .ok (.invokeinterface 382 1, 5) := by decide +kernel
theorem dX1_isTrue_172 : decode cX1_isTrue 172 = .ok (.astore_n 3, 1) := dk_78 (dk_at dksX1_isTrue_7 8 rfl rfl)
theorem dX1_isTrue_173 : decode cX1_isTrue 173 = .ok (.aload_n 3, 1) := dk_45 (dk_at dksX1_isTrue_7 9 rfl rfl)
theorem dX1_isTrue_174 : decode cX1_isTrue 174 = .ok (.invokeinterface 151 1, 5) := by decide +kernel
theorem dX1_isTrue_179 : decode cX1_isTrue 179 = .ok (.ifCond .eq 73, 3) := dk_153 0 73 (dk_at dksX1_isTrue_7 15 rfl rfl)
theorem dX1_isTrue_182 : decode cX1_isTrue 182 = .ok (.aload_n 3, 1) := dk_45 (dk_at dksX1_isTrue_7 18 rfl rfl)
theorem dX1_isTrue_183 : decode cX1_isTrue 183 = .ok (.invokeinterface 157 1, 5) := by decide +kernel
theorem dX1_isTrue_188 : decode cX1_isTrue 188 = .ok (.checkcast 105, 3) := dk_192 0 105 (dk_at dksX1_isTrue_8 0 rfl rfl)
theorem dX1_isTrue_191 : decode cX1_isTrue 191 = .ok (.invokevirtual 107, 3) := dk_182 0 107 (dk_at dksX1_isTrue_8 3 rfl rfl)
theorem dX1_isTrue_194 : decode cX1_isTrue 194 = .ok (.istore 4, 2) := dk_54 4 (dk_at dksX1_isTrue_8 6 rfl rfl)
theorem dX1_isTrue_196 : decode cX1_isTrue 196 = .ok (.aload_n 2, 1) := dk_44 (dk_at dksX1_isTrue_8 8 rfl rfl)
theorem dX1_isTrue_197 : decode cX1_isTrue 197 = .ok (.iload 4, 2) := dk_21 4 (dk_at dksX1_isTrue_8 9 rfl rfl)
theorem dX1_isTrue_199 : decode cX1_isTrue 199 = .ok (.invokestatic 211, 3) := dk_184 0 211 (dk_at dksX1_isTrue_8 11 rfl rfl)
theorem dX1_isTrue_202 : decode cX1_isTrue 202 = .ok (.invokevirtual 305, 3) := dk_182 1 49 (dk_at dksX1_isTrue_8 14 rfl rfl)
theorem dX1_isTrue_205 : decode cX1_isTrue 205 = .ok (.checkcast 105, 3) := dk_192 0 105 (dk_at dksX1_isTrue_8 17 rfl rfl)
theorem dX1_isTrue_208 : decode cX1_isTrue 208 = .ok (.astore 5, 2) := dk_58 5 (dk_at dksX1_isTrue_8 20 rfl rfl)
theorem dX1_isTrue_210 : decode cX1_isTrue 210 = .ok (.iload_n 1, 1) := dk_27 (dk_at dksX1_isTrue_8 22 rfl rfl)
theorem dX1_isTrue_211 : decode cX1_isTrue 211 = .ok (.aload 5, 2) := dk_25 5 (dk_at dksX1_isTrue_9 0 rfl rfl)
theorem dX1_isTrue_213 : decode cX1_isTrue 213 = .ok (.ifnull 33, 3) := dk_198 0 33 (dk_at dksX1_isTrue_9 2 rfl rfl)
theorem dX1_isTrue_216 : decode cX1_isTrue 216 = .ok (.aload 5, 2) := dk_25 5 (dk_at dksX1_isTrue_9 5 rfl rfl)
theorem dX1_isTrue_218 : decode cX1_isTrue 218 = .ok (.invokevirtual 107, 3) := dk_182 0 107 (dk_at dksX1_isTrue_9 7 rfl rfl)
theorem dX1_isTrue_221 : decode cX1_isTrue 221 = .ok (.aload_n 0, 1) := dk_42 (dk_at dksX1_isTrue_9 10 rfl rfl)
theorem dX1_isTrue_222 : decode cX1_isTrue 222 = .ok (.getfield 36, 3) := dk_180 0 36 (dk_at dksX1_isTrue_9 11 rfl rfl)
theorem dX1_isTrue_225 : decode cX1_isTrue 225 = .ok (.iload 4, 2) := dk_21 4 (dk_at dksX1_isTrue_9 14 rfl rfl)
theorem dX1_isTrue_227 : decode cX1_isTrue 227 = .ok (.invokestatic 211, 3) := dk_184 0 211 (dk_at dksX1_isTrue_9 16 rfl rfl)
theorem dX1_isTrue_230 : decode cX1_isTrue 230 = .ok (.invokevirtual 305, 3) := dk_182 1 49 (dk_at dksX1_isTrue_9 19 rfl rfl)
theorem dX1_isTrue_233 : decode cX1_isTrue 233 = .ok (.checkcast 105, 3) := dk_192 0 105 (dk_at dksX1_isTrue_10 0 rfl rfl)
theorem dX1_isTrue_236 : decode cX1_isTrue 236 = .ok (.invokevirtual 107, 3) := dk_182 0 107 (dk_at dksX1_isTrue_10 3 rfl rfl)
theorem dX1_isTrue_239 : decode cX1_isTrue 239 = .ok (.if_icmp .ne 7, 3) := dk_160 0 7 (dk_at dksX1_isTrue_10 6 rfl rfl)
theorem dX1_isTrue_242 : decode cX1_isTrue 242 = .ok (.iconst 1, 1) := dk_4 (dk_at dksX1_isTrue_10 9 rfl rfl)
theorem dX1_isTrue_243 : decode cX1_isTrue 243 = .ok (.goto 4, 3) := dk_167 0 4 (dk_at dksX1_isTrue_10 10 rfl rfl)
theorem dX1_isTrue_246 : decode cX1_isTrue 246 = .ok (.iconst 0, 1) := dk_3 (dk_at dksX1_isTrue_10 13 rfl rfl)
theorem dX1_isTrue_247 : decode cX1_isTrue 247 = .ok (.iand, 1) := dk_126 (dk_at dksX1_isTrue_10 14 rfl rfl)
theorem dX1_isTrue_248 : decode cX1_isTrue 248 = .ok (.istore_n 1, 1) := dk_60 (dk_at dksX1_isTrue_10 15 rfl rfl)
theorem dX1_isTrue_249 : decode cX1_isTrue 249 = .ok (.goto (-76), 3) := dk_167 255 180 (dk_at dksX1_isTrue_10 16 rfl rfl)
theorem dX1_isTrue_252 : decode cX1_isTrue 252 = .ok (.iconst 0, 1) := dk_3 (dk_at dksX1_isTrue_10 19 rfl rfl)
theorem dX1_isTrue_253 : decode cX1_isTrue 253 = .ok (.istore_n 3, 1) := dk_62 (dk_at dksX1_isTrue_10 20 rfl rfl)
theorem dX1_isTrue_254 : decode cX1_isTrue 254 = .ok (.iload_n 3, 1) := dk_29 (dk_at dksX1_isTrue_10 21 rfl rfl)
theorem dX1_isTrue_255 : decode cX1_isTrue 255 = .ok (.aload_n 0, 1) := dk_42 (dk_at dksX1_isTrue_10 22 rfl rfl)
theorem dX1_isTrue_256 : decode cX1_isTrue 256 = .ok (.getfield 18, 3) := dk_180 0 18 (dk_at dksX1_isTrue_11 0 rfl rfl)
theorem dX1_isTrue_259 : decode cX1_isTrue 259 = .ok (.invokevirtual 207, 3) := dk_182 0 207 (dk_at dksX1_isTrue_11 3 rfl rfl)
theorem dX1_isTrue_262 : decode cX1_isTrue 262 = .ok (.if_icmp .ge 90, 3) := dk_162 0 90 (dk_at dksX1_isTrue_11 6 rfl rfl)
theorem dX1_isTrue_265 : decode cX1_isTrue 265 = .ok (.aload_n 0, 1) := dk_42 (dk_at dksX1_isTrue_11 9 rfl rfl)
theorem dX1_isTrue_266 : decode cX1_isTrue 266 = .ok (.getfield 21, 3) := dk_180 0 21 (dk_at dksX1_isTrue_11 10 rfl rfl)
theorem dX1_isTrue_269 : decode cX1_isTrue 269 = .ok (.invokevirtual 147, 3) := dk_182 0 147 (dk_at dksX1_isTrue_11 13 rfl rfl)
theorem dX1_isTrue_272 : decode cX1_isTrue 272 = .ok (.astore 4, 2) := dk_58 4 (dk_at dksX1_isTrue_11 16 rfl rfl)
theorem dX1_isTrue_274 : decode cX1_isTrue 274 = .ok (.aload 4, 2) := dk_25 4 (dk_at dksX1_isTrue_11 18 rfl rfl)
theorem dX1_isTrue_276 : decode cX1_isTrue 276 = .ok (.invokeinterface 151 1, 5) := by decide +kernel
theorem dX1_isTrue_281 : decode cX1_isTrue 281 = .ok (.ifCond .eq 65, 3) := dk_153 0 65 (dk_at dksX1_isTrue_12 5 rfl rfl)
theorem dX1_isTrue_284 : decode cX1_isTrue 284 = .ok (.aload 4, 2) := dk_25 4 (dk_at dksX1_isTrue_12 8 rfl rfl)
theorem dX1_isTrue_286 : decode cX1_isTrue 286 = .ok (.invokeinterface 157 1, 5) := by decide +kernel
theorem dX1_isTrue_291 : decode cX1_isTrue 291 = .ok (.checkcast 97, 3) := dk_192 0 97 (dk_at dksX1_isTrue_12 15 rfl rfl)
theorem dX1_isTrue_294 : decode cX1_isTrue 294 = .ok (.astore 5, 2) := dk_58 5 (dk_at dksX1_isTrue_12 18 rfl rfl)
theorem dX1_isTrue_296 : decode cX1_isTrue 296 = .ok (.aload_n 0, 1) := dk_42 (dk_at dksX1_isTrue_12 20 rfl rfl)
theorem dX1_isTrue_297 : decode cX1_isTrue 297 = .ok (.iload_n 3, 1) := dk_29 (dk_at dksX1_isTrue_12 21 rfl rfl)
theorem dX1_isTrue_298 : decode cX1_isTrue 298 = .ok (.aload 5, 2) := dk_25 5 (dk_at dksX1_isTrue_12 22 rfl rfl)
theorem dX1_isTrue_300 : decode cX1_isTrue 300 = .ok (.invokevirtual 178, 3) := dk_182 0 178 (dk_at dksX1_isTrue_13 0 rfl rfl)
theorem dX1_isTrue_303 : decode cX1_isTrue 303 = .ok (.astore 6, 2) := dk_58 6 (dk_at dksX1_isTrue_13 3 rfl rfl)
theorem dX1_isTrue_305 : decode cX1_isTrue 305 = .ok (.iload_n 1, 1) := dk_27 (dk_at dksX1_isTrue_13 5 rfl rfl)
theorem dX1_isTrue_306 : decode cX1_isTrue 306 = .ok (.aload 6, 2) := dk_25 6 (dk_at dksX1_isTrue_13 6 rfl rfl)
theorem dX1_isTrue_308 : decode cX1_isTrue 308 = .ok (.ifnull 11, 3) := dk_198 0 11 (dk_at dksX1_isTrue_13 8 rfl rfl)
theorem dX1_isTrue_311 : decode cX1_isTrue 311 = .ok (.aload 6, 2) := dk_25 6 (dk_at dksX1_isTrue_13 11 rfl rfl)
theorem dX1_isTrue_313 : decode cX1_isTrue 313 = .ok (.getfield 128, 3) := dk_180 0 128 (dk_at dksX1_isTrue_13 13 rfl rfl)
theorem dX1_isTrue_316 : decode cX1_isTrue 316 = .ok (.ifCond .eq 24, 3) := dk_153 0 24 (dk_at dksX1_isTrue_13 16 rfl rfl)
theorem dX1_isTrue_319 : decode cX1_isTrue 319 = .ok (.aload_n 0, 1) := dk_42 (dk_at dksX1_isTrue_13 19 rfl rfl)
theorem dX1_isTrue_320 : decode cX1_isTrue 320 = .ok (.iload_n 3, 1) := dk_29 (dk_at dksX1_isTrue_13 20 rfl rfl)
theorem dX1_isTrue_321 : decode cX1_isTrue 321 = .ok (.aload 5, 2) := dk_25 5 (dk_at dksX1_isTrue_13 21 rfl rfl)
theorem dX1_isTrue_323 : decode cX1_isTrue 323 = .ok (.invokevirtual 327, 3) := dk_182 1 71 (dk_at dksX1_isTrue_14 0 rfl rfl)
theorem dX1_isTrue_326 : decode cX1_isTrue 326 = .ok (.aload_n 0, 1) := dk_42 (dk_at dksX1_isTrue_14 3 rfl rfl)
theorem dX1_isTrue_327 : decode cX1_isTrue 327 = .ok (.iload_n 3, 1) := dk_29 (dk_at dksX1_isTrue_14 4 rfl rfl)
theorem dX1_isTrue_328 : decode cX1_isTrue 328 = .ok (.aload 5, 2) := dk_25 5 (dk_at dksX1_isTrue_14 5 rfl rfl)
theorem dX1_isTrue_330 : decode cX1_isTrue 330 = .ok (.invokevirtual 385, 3) := dk_182 1 129 (dk_at dksX1_isTrue_14 7 rfl rfl)
theorem dX1_isTrue_333 : decode cX1_isTrue 333 = .ok (.if_icmp .ne 7, 3) := dk_160 0 7 (dk_at dksX1_isTrue_14 10 rfl rfl)
theorem dX1_isTrue_336 : decode cX1_isTrue 336 = .ok (.iconst 1, 1) := dk_4 (dk_at dksX1_isTrue_14 13 rfl rfl)
theorem dX1_isTrue_337 : decode cX1_isTrue 337 = .ok (.goto 4, 3) := dk_167 0 4 (dk_at dksX1_isTrue_14 14 rfl rfl)
theorem dX1_isTrue_340 : decode cX1_isTrue 340 = .ok (.iconst 0, 1) := dk_3 (dk_at dksX1_isTrue_14 17 rfl rfl)
theorem dX1_isTrue_341 : decode cX1_isTrue 341 = .ok (.iand, 1) := dk_126 (dk_at dksX1_isTrue_14 18 rfl rfl)
theorem dX1_isTrue_342 : decode cX1_isTrue 342 = .ok (.istore_n 1, 1) := dk_60 (dk_at dksX1_isTrue_14 19 rfl rfl)
theorem dX1_isTrue_343 : decode cX1_isTrue 343 = .ok (.goto (-69), 3) := dk_167 255 187 (dk_at dksX1_isTrue_14 20 rfl rfl)
theorem dX1_isTrue_346 : decode cX1_isTrue 346 = .ok (.iinc 3 1, 3) := dk_132 3 1 (dk_at dksX1_isTrue_15 0 rfl rfl)
theorem dX1_isTrue_349 : decode cX1_isTrue 349 = .ok (.goto (-95), 3) := dk_167 255 161 (dk_at dksX1_isTrue_15 3 rfl rfl)
theorem dX1_isTrue_352 : decode cX1_isTrue 352 = .ok (.iload_n 1, 1) := dk_27 (dk_at dksX1_isTrue_15 6 rfl rfl)
theorem dX1_isTrue_353 : decode cX1_isTrue 353 = .ok (.ireturn, 1) := dk_172 (dk_at dksX1_isTrue_15 7 rfl rfl)
abbrev cX1_countingOf : ByteArray := prog_1_method_13_code
def yX1_countingOf : MethodName := ⟨RX1, "countingOf", "(ILHomewatcher$Task;)LHomewatcher$Version;"⟩
def dkwX1_countingOf_3 : List UInt8 := [25, 5, 45, 182, 0, 165, 153, 0, 8, 25, 5, 167, 0, 4, 45, 78, 167, 255, 183, 45, 176]
abbrev dktX1_countingOf_3 : List UInt8 := dkwX1_countingOf_3 ++ []
def dkwX1_countingOf_2 : List UInt8 := [182, 0, 161, 153, 0, 7, 4, 167, 0, 4, 3, 54, 6, 21, 6, 153, 0, 22, 45, 198, 0, 13, 42]
abbrev dktX1_countingOf_2 : List UInt8 := dkwX1_countingOf_2 ++ dktX1_countingOf_3
def dkwX1_countingOf_1 : List UInt8 := [185, 0, 157, 1, 0, 192, 0, 88, 58, 5, 25, 5, 180, 0, 128, 153, 0, 17, 25, 5, 27, 44]
abbrev dktX1_countingOf_1 : List UInt8 := dkwX1_countingOf_1 ++ dktX1_countingOf_2
def dkwX1_countingOf_0 : List UInt8 := [1, 78, 42, 180, 0, 24, 182, 0, 147, 58, 4, 25, 4, 185, 0, 151, 1, 0, 153, 0, 69, 25, 4]
abbrev dktX1_countingOf_0 : List UInt8 := dkwX1_countingOf_0 ++ dktX1_countingOf_1
theorem dksX1_countingOf_0 : cX1_countingOf.data.toList.drop 0 = dktX1_countingOf_0 := by decide +kernel
theorem dksX1_countingOf_1 : cX1_countingOf.data.toList.drop 23 = dktX1_countingOf_1 := dk_seg dksX1_countingOf_0 23 rfl rfl
theorem dksX1_countingOf_2 : cX1_countingOf.data.toList.drop 45 = dktX1_countingOf_2 := dk_seg dksX1_countingOf_1 22 rfl rfl
theorem dksX1_countingOf_3 : cX1_countingOf.data.toList.drop 68 = dktX1_countingOf_3 := dk_seg dksX1_countingOf_2 23 rfl rfl
theorem dX1_countingOf_0 : decode cX1_countingOf 0 = .ok (.aconst_null, 1) := dk_1 (dk_at dksX1_countingOf_0 0 rfl rfl)
theorem dX1_countingOf_1 : decode cX1_countingOf 1 = .ok (.astore_n 3, 1) := dk_78 (dk_at dksX1_countingOf_0 1 rfl rfl)
theorem dX1_countingOf_2 : decode cX1_countingOf 2 = .ok (.aload_n 0, 1) := dk_42 (dk_at dksX1_countingOf_0 2 rfl rfl)
theorem dX1_countingOf_3 : decode cX1_countingOf 3 = .ok (.getfield 24, 3) := dk_180 0 24 (dk_at dksX1_countingOf_0 3 rfl rfl)
theorem dX1_countingOf_6 : decode cX1_countingOf 6 = .ok (.invokevirtual 147, 3) := dk_182 0 147 (dk_at dksX1_countingOf_0 6 rfl rfl)
theorem dX1_countingOf_9 : decode cX1_countingOf 9 = .ok (.astore 4, 2) := dk_58 4 (dk_at dksX1_countingOf_0 9 rfl rfl)
theorem dX1_countingOf_11 : decode cX1_countingOf 11 = .ok (.aload 4, 2) := dk_25 4 (dk_at dksX1_countingOf_0 11 rfl rfl)
theorem dX1_countingOf_13 : decode cX1_countingOf 13 = .ok (.invokeinterface 151 1, 5) := by decide +kernel
theorem dX1_countingOf_18 : decode cX1_countingOf 18 = .ok (.ifCond .eq 69, 3) := dk_153 0 69 (dk_at dksX1_countingOf_0 18 rfl rfl)
theorem dX1_countingOf_21 : decode cX1_countingOf 21 = .ok (.aload 4, 2) := dk_25 4 (dk_at dksX1_countingOf_0 21 rfl rfl)
theorem dX1_countingOf_23 : decode cX1_countingOf 23 = .ok (.invokeinterface 157 1, 5) := by decide +kernel
theorem dX1_countingOf_28 : decode cX1_countingOf 28 = .ok (.checkcast 88, 3) := dk_192 0 88 (dk_at dksX1_countingOf_1 5 rfl rfl)
theorem dX1_countingOf_31 : decode cX1_countingOf 31 = .ok (.astore 5, 2) := dk_58 5 (dk_at dksX1_countingOf_1 8 rfl rfl)
theorem dX1_countingOf_33 : decode cX1_countingOf 33 = .ok (.aload 5, 2) := dk_25 5 (dk_at dksX1_countingOf_1 10 rfl rfl)
theorem dX1_countingOf_35 : decode cX1_countingOf 35 = .ok (.getfield 128, 3) := dk_180 0 128 (dk_at dksX1_countingOf_1 12 rfl rfl)
theorem dX1_countingOf_38 : decode cX1_countingOf 38 = .ok (.ifCond .eq 17, 3) := dk_153 0 17 (dk_at dksX1_countingOf_1 15 rfl rfl)
theorem dX1_countingOf_41 : decode cX1_countingOf 41 = .ok (.aload 5, 2) := dk_25 5 (dk_at dksX1_countingOf_1 18 rfl rfl)
theorem dX1_countingOf_43 : decode cX1_countingOf 43 = .ok (.iload_n 1, 1) := dk_27 (dk_at dksX1_countingOf_1 20 rfl rfl)
theorem dX1_countingOf_44 : decode cX1_countingOf 44 = .ok (.aload_n 2, 1) := dk_44 (dk_at dksX1_countingOf_1 21 rfl rfl)
theorem dX1_countingOf_45 : decode cX1_countingOf 45 = .ok (.invokevirtual 161, 3) := dk_182 0 161 (dk_at dksX1_countingOf_2 0 rfl rfl)
theorem dX1_countingOf_48 : decode cX1_countingOf 48 = .ok (.ifCond .eq 7, 3) := dk_153 0 7 (dk_at dksX1_countingOf_2 3 rfl rfl)
theorem dX1_countingOf_51 : decode cX1_countingOf 51 = .ok (.iconst 1, 1) := dk_4 (dk_at dksX1_countingOf_2 6 rfl rfl)
theorem dX1_countingOf_52 : decode cX1_countingOf 52 = .ok (.goto 4, 3) := dk_167 0 4 (dk_at dksX1_countingOf_2 7 rfl rfl)
theorem dX1_countingOf_55 : decode cX1_countingOf 55 = .ok (.iconst 0, 1) := dk_3 (dk_at dksX1_countingOf_2 10 rfl rfl)
theorem dX1_countingOf_56 : decode cX1_countingOf 56 = .ok (.istore 6, 2) := dk_54 6 (dk_at dksX1_countingOf_2 11 rfl rfl)
theorem dX1_countingOf_58 : decode cX1_countingOf 58 = .ok (.iload 6, 2) := dk_21 6 (dk_at dksX1_countingOf_2 13 rfl rfl)
theorem dX1_countingOf_60 : decode cX1_countingOf 60 = .ok (.ifCond .eq 22, 3) := dk_153 0 22 (dk_at dksX1_countingOf_2 15 rfl rfl)
theorem dX1_countingOf_63 : decode cX1_countingOf 63 = .ok (.aload_n 3, 1) := dk_45 (dk_at dksX1_countingOf_2 18 rfl rfl)
theorem dX1_countingOf_64 : decode cX1_countingOf 64 = .ok (.ifnull 13, 3) := dk_198 0 13 (dk_at dksX1_countingOf_2 19 rfl rfl)
theorem dX1_countingOf_67 : decode cX1_countingOf 67 = .ok (.aload_n 0, 1) := dk_42 (dk_at dksX1_countingOf_2 22 rfl rfl)
theorem dX1_countingOf_68 : decode cX1_countingOf 68 = .ok (.aload 5, 2) := dk_25 5 (dk_at dksX1_countingOf_3 0 rfl rfl)
theorem dX1_countingOf_70 : decode cX1_countingOf 70 = .ok (.aload_n 3, 1) := dk_45 (dk_at dksX1_countingOf_3 2 rfl rfl)
theorem dX1_countingOf_71 : decode cX1_countingOf 71 = .ok (.invokevirtual 165, 3) := dk_182 0 165 (dk_at dksX1_countingOf_3 3 rfl rfl)
theorem dX1_countingOf_74 : decode cX1_countingOf 74 = .ok (.ifCond .eq 8, 3) := dk_153 0 8 (dk_at dksX1_countingOf_3 6 rfl rfl)
theorem dX1_countingOf_77 : decode cX1_countingOf 77 = .ok (.aload 5, 2) := dk_25 5 (dk_at dksX1_countingOf_3 9 rfl rfl)
theorem dX1_countingOf_79 : decode cX1_countingOf 79 = .ok (.goto 4, 3) := dk_167 0 4 (dk_at dksX1_countingOf_3 11 rfl rfl)
theorem dX1_countingOf_82 : decode cX1_countingOf 82 = .ok (.aload_n 3, 1) := dk_45 (dk_at dksX1_countingOf_3 14 rfl rfl)
theorem dX1_countingOf_83 : decode cX1_countingOf 83 = .ok (.astore_n 3, 1) := dk_78 (dk_at dksX1_countingOf_3 15 rfl rfl)
theorem dX1_countingOf_84 : decode cX1_countingOf 84 = .ok (.goto (-73), 3) := dk_167 255 183 (dk_at dksX1_countingOf_3 16 rfl rfl)
theorem dX1_countingOf_87 : decode cX1_countingOf 87 = .ok (.aload_n 3, 1) := dk_45 (dk_at dksX1_countingOf_3 19 rfl rfl)
theorem dX1_countingOf_88 : decode cX1_countingOf 88 = .ok (.areturn, 1) := dk_176 (dk_at dksX1_countingOf_3 20 rfl rfl)
abbrev cX1_isLater : ByteArray := prog_1_method_14_code
def yX1_isLater : MethodName := ⟨RX1, "isLater", "(LHomewatcher$Version;LHomewatcher$Version;)Z"⟩
def dkwX1_isLater_1 : List UInt8 := [172]
abbrev dktX1_isLater_1 : List UInt8 := dkwX1_isLater_1 ++ []
def dkwX1_isLater_0 : List UInt8 := [42, 180, 0, 27, 43, 182, 0, 169, 42, 180, 0, 27, 44, 182, 0, 169, 164, 0, 7, 4, 167, 0, 4, 3]
abbrev dktX1_isLater_0 : List UInt8 := dkwX1_isLater_0 ++ dktX1_isLater_1
theorem dksX1_isLater_0 : cX1_isLater.data.toList.drop 0 = dktX1_isLater_0 := by decide +kernel
theorem dksX1_isLater_1 : cX1_isLater.data.toList.drop 24 = dktX1_isLater_1 := dk_seg dksX1_isLater_0 24 rfl rfl
theorem dX1_isLater_0 : decode cX1_isLater 0 = .ok (.aload_n 0, 1) := dk_42 (dk_at dksX1_isLater_0 0 rfl rfl)
theorem dX1_isLater_1 : decode cX1_isLater 1 = .ok (.getfield 27, 3) := dk_180 0 27 (dk_at dksX1_isLater_0 1 rfl rfl)
theorem dX1_isLater_4 : decode cX1_isLater 4 = .ok (.aload_n 1, 1) := dk_43 (dk_at dksX1_isLater_0 4 rfl rfl)
theorem dX1_isLater_5 : decode cX1_isLater 5 = .ok (.invokevirtual 169, 3) := dk_182 0 169 (dk_at dksX1_isLater_0 5 rfl rfl)
theorem dX1_isLater_8 : decode cX1_isLater 8 = .ok (.aload_n 0, 1) := dk_42 (dk_at dksX1_isLater_0 8 rfl rfl)
theorem dX1_isLater_9 : decode cX1_isLater 9 = .ok (.getfield 27, 3) := dk_180 0 27 (dk_at dksX1_isLater_0 9 rfl rfl)
theorem dX1_isLater_12 : decode cX1_isLater 12 = .ok (.aload_n 2, 1) := dk_44 (dk_at dksX1_isLater_0 12 rfl rfl)
theorem dX1_isLater_13 : decode cX1_isLater 13 = .ok (.invokevirtual 169, 3) := dk_182 0 169 (dk_at dksX1_isLater_0 13 rfl rfl)
theorem dX1_isLater_16 : decode cX1_isLater 16 = .ok (.if_icmp .le 7, 3) := dk_164 0 7 (dk_at dksX1_isLater_0 16 rfl rfl)
theorem dX1_isLater_19 : decode cX1_isLater 19 = .ok (.iconst 1, 1) := dk_4 (dk_at dksX1_isLater_0 19 rfl rfl)
theorem dX1_isLater_20 : decode cX1_isLater 20 = .ok (.goto 4, 3) := dk_167 0 4 (dk_at dksX1_isLater_0 20 rfl rfl)
theorem dX1_isLater_23 : decode cX1_isLater 23 = .ok (.iconst 0, 1) := dk_3 (dk_at dksX1_isLater_0 23 rfl rfl)
theorem dX1_isLater_24 : decode cX1_isLater 24 = .ok (.ireturn, 1) := dk_172 (dk_at dksX1_isLater_1 0 rfl rfl)
abbrev cX1_markOf : ByteArray := prog_1_method_16_code
def yX1_markOf : MethodName := ⟨RX1, "markOf", "(ILHomewatcher$Task;)I"⟩
def dkwX1_markOf_2 : List UInt8 := [182, 0, 195, 185, 0, 198, 2, 0, 100, 184, 0, 114, 172]
abbrev dktX1_markOf_2 : List UInt8 := dkwX1_markOf_2 ++ []
def dkwX1_markOf_1 : List UInt8 := [153, 0, 5, 3, 172, 3, 44, 180, 0, 185, 45, 180, 0, 188, 104, 16, 100, 108, 44, 180, 0, 191, 42, 45]
abbrev dktX1_markOf_1 : List UInt8 := dkwX1_markOf_1 ++ dktX1_markOf_2
def dkwX1_markOf_0 : List UInt8 := [42, 27, 44, 182, 0, 178, 78, 45, 198, 0, 17, 42, 180, 0, 42, 27, 50, 44, 180, 0, 182, 51]
abbrev dktX1_markOf_0 : List UInt8 := dkwX1_markOf_0 ++ dktX1_markOf_1
theorem dksX1_markOf_0 : cX1_markOf.data.toList.drop 0 = dktX1_markOf_0 := by decide +kernel
theorem dksX1_markOf_1 : cX1_markOf.data.toList.drop 22 = dktX1_markOf_1 := dk_seg dksX1_markOf_0 22 rfl rfl
theorem dksX1_markOf_2 : cX1_markOf.data.toList.drop 46 = dktX1_markOf_2 := dk_seg dksX1_markOf_1 24 rfl rfl
theorem dX1_markOf_0 : decode cX1_markOf 0 = .ok (.aload_n 0, 1) := dk_42 (dk_at dksX1_markOf_0 0 rfl rfl)
theorem dX1_markOf_1 : decode cX1_markOf 1 = .ok (.iload_n 1, 1) := dk_27 (dk_at dksX1_markOf_0 1 rfl rfl)
theorem dX1_markOf_2 : decode cX1_markOf 2 = .ok (.aload_n 2, 1) := dk_44 (dk_at dksX1_markOf_0 2 rfl rfl)
theorem dX1_markOf_3 : decode cX1_markOf 3 = .ok (.invokevirtual 178, 3) := dk_182 0 178 (dk_at dksX1_markOf_0 3 rfl rfl)
theorem dX1_markOf_6 : decode cX1_markOf 6 = .ok (.astore_n 3, 1) := dk_78 (dk_at dksX1_markOf_0 6 rfl rfl)
theorem dX1_markOf_7 : decode cX1_markOf 7 = .ok (.aload_n 3, 1) := dk_45 (dk_at dksX1_markOf_0 7 rfl rfl)
theorem dX1_markOf_8 : decode cX1_markOf 8 = .ok (.ifnull 17, 3) := dk_198 0 17 (dk_at dksX1_markOf_0 8 rfl rfl)
theorem dX1_markOf_11 : decode cX1_markOf 11 = .ok (.aload_n 0, 1) := dk_42 (dk_at dksX1_markOf_0 11 rfl rfl)
theorem dX1_markOf_12 : decode cX1_markOf 12 = .ok (.getfield 42, 3) := dk_180 0 42 (dk_at dksX1_markOf_0 12 rfl rfl)
theorem dX1_markOf_15 : decode cX1_markOf 15 = .ok (.iload_n 1, 1) := dk_27 (dk_at dksX1_markOf_0 15 rfl rfl)
theorem dX1_markOf_16 : decode cX1_markOf 16 = .ok (.aaload, 1) := dk_50 (dk_at dksX1_markOf_0 16 rfl rfl)
theorem dX1_markOf_17 : decode cX1_markOf 17 = .ok (.aload_n 2, 1) := dk_44 (dk_at dksX1_markOf_0 17 rfl rfl)
theorem dX1_markOf_18 : decode cX1_markOf 18 = .ok (.getfield 182, 3) := dk_180 0 182 (dk_at dksX1_markOf_0 18 rfl rfl)
theorem dX1_markOf_21 : decode cX1_markOf 21 = .ok (.baload, 1) := dk_51 (dk_at dksX1_markOf_0 21 rfl rfl)
theorem dX1_markOf_22 : decode cX1_markOf 22 = .ok (.ifCond .eq 5, 3) := dk_153 0 5 (dk_at dksX1_markOf_1 0 rfl rfl)
theorem dX1_markOf_25 : decode cX1_markOf 25 = .ok (.iconst 0, 1) := dk_3 (dk_at dksX1_markOf_1 3 rfl rfl)
theorem dX1_markOf_26 : decode cX1_markOf 26 = .ok (.ireturn, 1) := dk_172 (dk_at dksX1_markOf_1 4 rfl rfl)
theorem dX1_markOf_27 : decode cX1_markOf 27 = .ok (.iconst 0, 1) := dk_3 (dk_at dksX1_markOf_1 5 rfl rfl)
theorem dX1_markOf_28 : decode cX1_markOf 28 = .ok (.aload_n 2, 1) := dk_44 (dk_at dksX1_markOf_1 6 rfl rfl)
theorem dX1_markOf_29 : decode cX1_markOf 29 = .ok (.getfield 185, 3) := dk_180 0 185 (dk_at dksX1_markOf_1 7 rfl rfl)
theorem dX1_markOf_32 : decode cX1_markOf 32 = .ok (.aload_n 3, 1) := dk_45 (dk_at dksX1_markOf_1 10 rfl rfl)
theorem dX1_markOf_33 : decode cX1_markOf 33 = .ok (.getfield 188, 3) := dk_180 0 188 (dk_at dksX1_markOf_1 11 rfl rfl)
theorem dX1_markOf_36 : decode cX1_markOf 36 = .ok (.imul, 1) := dk_104 (dk_at dksX1_markOf_1 14 rfl rfl)
theorem dX1_markOf_37 : decode cX1_markOf 37 = .ok (.bipush 100, 2) := dk_16 100 (dk_at dksX1_markOf_1 15 rfl rfl)
theorem dX1_markOf_39 : decode cX1_markOf 39 = .ok (.idiv, 1) := dk_108 (dk_at dksX1_markOf_1 17 rfl rfl)
theorem dX1_markOf_40 : decode cX1_markOf 40 = .ok (.aload_n 2, 1) := dk_44 (dk_at dksX1_markOf_1 18 rfl rfl)
theorem dX1_markOf_41 : decode cX1_markOf 41 = .ok (.getfield 191, 3) := dk_180 0 191 (dk_at dksX1_markOf_1 19 rfl rfl)
theorem dX1_markOf_44 : decode cX1_markOf 44 = .ok (.aload_n 0, 1) := dk_42 (dk_at dksX1_markOf_1 22 rfl rfl)
theorem dX1_markOf_45 : decode cX1_markOf 45 = .ok (.aload_n 3, 1) := dk_45 (dk_at dksX1_markOf_1 23 rfl rfl)
theorem dX1_markOf_46 : decode cX1_markOf 46 = .ok (.invokevirtual 195, 3) := dk_182 0 195 (dk_at dksX1_markOf_2 0 rfl rfl)
theorem dX1_markOf_49 : decode cX1_markOf 49 = .ok (.invokeinterface 198 2, 5) := by decide +kernel
theorem dX1_markOf_54 : decode cX1_markOf 54 = .ok (.isub, 1) := dk_100 (dk_at dksX1_markOf_2 8 rfl rfl)
theorem dX1_markOf_55 : decode cX1_markOf 55 = .ok (.invokestatic 114, 3) := dk_184 0 114 (dk_at dksX1_markOf_2 9 rfl rfl)
theorem dX1_markOf_58 : decode cX1_markOf 58 = .ok (.ireturn, 1) := dk_172 (dk_at dksX1_markOf_2 12 rfl rfl)
abbrev cX1_lateOf : ByteArray := prog_1_method_12_code
def yX1_lateOf : MethodName := ⟨RX1, "lateOf", "(LHomewatcher$Version;)I"⟩
def dkwX1_lateOf_3 : List UInt8 := [167, 255, 197, 28, 172]
abbrev dktX1_lateOf_3 : List UInt8 := dkwX1_lateOf_3 ++ []
def dkwX1_lateOf_2 : List UInt8 := [153, 0, 15, 28, 42, 45, 182, 0, 120, 184, 0, 144, 167, 0, 4, 28, 61, 45, 180, 0, 124, 78]
abbrev dktX1_lateOf_2 : List UInt8 := dkwX1_lateOf_2 ++ dktX1_lateOf_3
def dkwX1_lateOf_1 : List UInt8 := [182, 0, 132, 43, 180, 0, 135, 182, 0, 139, 5, 108, 161, 0, 7, 4, 167, 0, 4, 3, 54, 4, 21, 4]
abbrev dktX1_lateOf_1 : List UInt8 := dkwX1_lateOf_1 ++ dktX1_lateOf_2
def dkwX1_lateOf_0 : List UInt8 := [42, 43, 182, 0, 120, 61, 43, 180, 0, 124, 78, 45, 198, 0, 61, 45, 180, 0, 128, 153, 0, 24, 43, 45]
abbrev dktX1_lateOf_0 : List UInt8 := dkwX1_lateOf_0 ++ dktX1_lateOf_1
theorem dksX1_lateOf_0 : cX1_lateOf.data.toList.drop 0 = dktX1_lateOf_0 := by decide +kernel
theorem dksX1_lateOf_1 : cX1_lateOf.data.toList.drop 24 = dktX1_lateOf_1 := dk_seg dksX1_lateOf_0 24 rfl rfl
theorem dksX1_lateOf_2 : cX1_lateOf.data.toList.drop 48 = dktX1_lateOf_2 := dk_seg dksX1_lateOf_1 24 rfl rfl
theorem dksX1_lateOf_3 : cX1_lateOf.data.toList.drop 70 = dktX1_lateOf_3 := dk_seg dksX1_lateOf_2 22 rfl rfl
theorem dX1_lateOf_0 : decode cX1_lateOf 0 = .ok (.aload_n 0, 1) := dk_42 (dk_at dksX1_lateOf_0 0 rfl rfl)
theorem dX1_lateOf_1 : decode cX1_lateOf 1 = .ok (.aload_n 1, 1) := dk_43 (dk_at dksX1_lateOf_0 1 rfl rfl)
theorem dX1_lateOf_2 : decode cX1_lateOf 2 = .ok (.invokevirtual 120, 3) := dk_182 0 120 (dk_at dksX1_lateOf_0 2 rfl rfl)
theorem dX1_lateOf_5 : decode cX1_lateOf 5 = .ok (.istore_n 2, 1) := dk_61 (dk_at dksX1_lateOf_0 5 rfl rfl)
theorem dX1_lateOf_6 : decode cX1_lateOf 6 = .ok (.aload_n 1, 1) := dk_43 (dk_at dksX1_lateOf_0 6 rfl rfl)
theorem dX1_lateOf_7 : decode cX1_lateOf 7 = .ok (.getfield 124, 3) := dk_180 0 124 (dk_at dksX1_lateOf_0 7 rfl rfl)
theorem dX1_lateOf_10 : decode cX1_lateOf 10 = .ok (.astore_n 3, 1) := dk_78 (dk_at dksX1_lateOf_0 10 rfl rfl)
theorem dX1_lateOf_11 : decode cX1_lateOf 11 = .ok (.aload_n 3, 1) := dk_45 (dk_at dksX1_lateOf_0 11 rfl rfl)
theorem dX1_lateOf_12 : decode cX1_lateOf 12 = .ok (.ifnull 61, 3) := dk_198 0 61 (dk_at dksX1_lateOf_0 12 rfl rfl)
theorem dX1_lateOf_15 : decode cX1_lateOf 15 = .ok (.aload_n 3, 1) := dk_45 (dk_at dksX1_lateOf_0 15 rfl rfl)
theorem dX1_lateOf_16 : decode cX1_lateOf 16 = .ok (.getfield 128, 3) := dk_180 0 128 (dk_at dksX1_lateOf_0 16 rfl rfl)
theorem dX1_lateOf_19 : decode cX1_lateOf 19 = .ok (.ifCond .eq 24, 3) := dk_153 0 24 (dk_at dksX1_lateOf_0 19 rfl rfl)
theorem dX1_lateOf_22 : decode cX1_lateOf 22 = .ok (.aload_n 1, 1) := dk_43 (dk_at dksX1_lateOf_0 22 rfl rfl)
theorem dX1_lateOf_23 : decode cX1_lateOf 23 = .ok (.aload_n 3, 1) := dk_45 (dk_at dksX1_lateOf_0 23 rfl rfl)
theorem dX1_lateOf_24 : decode cX1_lateOf 24 = .ok (.invokevirtual 132, 3) := dk_182 0 132 (dk_at dksX1_lateOf_1 0 rfl rfl)
theorem dX1_lateOf_27 : decode cX1_lateOf 27 = .ok (.aload_n 1, 1) := dk_43 (dk_at dksX1_lateOf_1 3 rfl rfl)
theorem dX1_lateOf_28 : decode cX1_lateOf 28 = .ok (.getfield 135, 3) := dk_180 0 135 (dk_at dksX1_lateOf_1 4 rfl rfl)
theorem dX1_lateOf_31 : decode cX1_lateOf 31 = .ok (.invokevirtual 139, 3) := dk_182 0 139 (dk_at dksX1_lateOf_1 7 rfl rfl)
theorem dX1_lateOf_34 : decode cX1_lateOf 34 = .ok (.iconst 2, 1) := dk_5 (dk_at dksX1_lateOf_1 10 rfl rfl)
theorem dX1_lateOf_35 : decode cX1_lateOf 35 = .ok (.idiv, 1) := dk_108 (dk_at dksX1_lateOf_1 11 rfl rfl)
theorem dX1_lateOf_36 : decode cX1_lateOf 36 = .ok (.if_icmp .lt 7, 3) := dk_161 0 7 (dk_at dksX1_lateOf_1 12 rfl rfl)
theorem dX1_lateOf_39 : decode cX1_lateOf 39 = .ok (.iconst 1, 1) := dk_4 (dk_at dksX1_lateOf_1 15 rfl rfl)
theorem dX1_lateOf_40 : decode cX1_lateOf 40 = .ok (.goto 4, 3) := dk_167 0 4 (dk_at dksX1_lateOf_1 16 rfl rfl)
theorem dX1_lateOf_43 : decode cX1_lateOf 43 = .ok (.iconst 0, 1) := dk_3 (dk_at dksX1_lateOf_1 19 rfl rfl)
theorem dX1_lateOf_44 : decode cX1_lateOf 44 = .ok (.istore 4, 2) := dk_54 4 (dk_at dksX1_lateOf_1 20 rfl rfl)
theorem dX1_lateOf_46 : decode cX1_lateOf 46 = .ok (.iload 4, 2) := dk_21 4 (dk_at dksX1_lateOf_1 22 rfl rfl)
theorem dX1_lateOf_48 : decode cX1_lateOf 48 = .ok (.ifCond .eq 15, 3) := dk_153 0 15 (dk_at dksX1_lateOf_2 0 rfl rfl)
theorem dX1_lateOf_51 : decode cX1_lateOf 51 = .ok (.iload_n 2, 1) := dk_28 (dk_at dksX1_lateOf_2 3 rfl rfl)
theorem dX1_lateOf_52 : decode cX1_lateOf 52 = .ok (.aload_n 0, 1) := dk_42 (dk_at dksX1_lateOf_2 4 rfl rfl)
theorem dX1_lateOf_53 : decode cX1_lateOf 53 = .ok (.aload_n 3, 1) := dk_45 (dk_at dksX1_lateOf_2 5 rfl rfl)
theorem dX1_lateOf_54 : decode cX1_lateOf 54 = .ok (.invokevirtual 120, 3) := dk_182 0 120 (dk_at dksX1_lateOf_2 6 rfl rfl)
theorem dX1_lateOf_57 : decode cX1_lateOf 57 = .ok (.invokestatic 144, 3) := dk_184 0 144 (dk_at dksX1_lateOf_2 9 rfl rfl)
theorem dX1_lateOf_60 : decode cX1_lateOf 60 = .ok (.goto 4, 3) := dk_167 0 4 (dk_at dksX1_lateOf_2 12 rfl rfl)
theorem dX1_lateOf_63 : decode cX1_lateOf 63 = .ok (.iload_n 2, 1) := dk_28 (dk_at dksX1_lateOf_2 15 rfl rfl)
theorem dX1_lateOf_64 : decode cX1_lateOf 64 = .ok (.istore_n 2, 1) := dk_61 (dk_at dksX1_lateOf_2 16 rfl rfl)
theorem dX1_lateOf_65 : decode cX1_lateOf 65 = .ok (.aload_n 3, 1) := dk_45 (dk_at dksX1_lateOf_2 17 rfl rfl)
theorem dX1_lateOf_66 : decode cX1_lateOf 66 = .ok (.getfield 124, 3) := dk_180 0 124 (dk_at dksX1_lateOf_2 18 rfl rfl)
theorem dX1_lateOf_69 : decode cX1_lateOf 69 = .ok (.astore_n 3, 1) := dk_78 (dk_at dksX1_lateOf_2 21 rfl rfl)
theorem dX1_lateOf_70 : decode cX1_lateOf 70 = .ok (.goto (-59), 3) := dk_167 255 197 (dk_at dksX1_lateOf_3 0 rfl rfl)
theorem dX1_lateOf_73 : decode cX1_lateOf 73 = .ok (.iload_n 2, 1) := dk_28 (dk_at dksX1_lateOf_3 3 rfl rfl)
theorem dX1_lateOf_74 : decode cX1_lateOf 74 = .ok (.ireturn, 1) := dk_172 (dk_at dksX1_lateOf_3 4 rfl rfl)
abbrev cX1_ownLate : ByteArray := prog_1_method_11_code
def yX1_ownLate : MethodName := ⟨RX1, "ownLate", "(LHomewatcher$Version;)I"⟩
def dkwX1_ownLate_1 : List UInt8 := [182, 0, 107, 96, 43, 180, 0, 92, 180, 0, 111, 100, 184, 0, 114, 172]
abbrev dktX1_ownLate_1 : List UInt8 := dkwX1_ownLate_1 ++ []
def dkwX1_ownLate_0 : List UInt8 := [3, 43, 180, 0, 87, 42, 180, 0, 14, 43, 180, 0, 92, 180, 0, 96, 182, 0, 101, 192, 0, 105]
abbrev dktX1_ownLate_0 : List UInt8 := dkwX1_ownLate_0 ++ dktX1_ownLate_1
theorem dksX1_ownLate_0 : cX1_ownLate.data.toList.drop 0 = dktX1_ownLate_0 := by decide +kernel
theorem dksX1_ownLate_1 : cX1_ownLate.data.toList.drop 22 = dktX1_ownLate_1 := dk_seg dksX1_ownLate_0 22 rfl rfl
theorem dX1_ownLate_0 : decode cX1_ownLate 0 = .ok (.iconst 0, 1) := dk_3 (dk_at dksX1_ownLate_0 0 rfl rfl)
theorem dX1_ownLate_1 : decode cX1_ownLate 1 = .ok (.aload_n 1, 1) := dk_43 (dk_at dksX1_ownLate_0 1 rfl rfl)
theorem dX1_ownLate_2 : decode cX1_ownLate 2 = .ok (.getfield 87, 3) := dk_180 0 87 (dk_at dksX1_ownLate_0 2 rfl rfl)
theorem dX1_ownLate_5 : decode cX1_ownLate 5 = .ok (.aload_n 0, 1) := dk_42 (dk_at dksX1_ownLate_0 5 rfl rfl)
theorem dX1_ownLate_6 : decode cX1_ownLate 6 = .ok (.getfield 14, 3) := dk_180 0 14 (dk_at dksX1_ownLate_0 6 rfl rfl)
theorem dX1_ownLate_9 : decode cX1_ownLate 9 = .ok (.aload_n 1, 1) := dk_43 (dk_at dksX1_ownLate_0 9 rfl rfl)
theorem dX1_ownLate_10 : decode cX1_ownLate 10 = .ok (.getfield 92, 3) := dk_180 0 92 (dk_at dksX1_ownLate_0 10 rfl rfl)
theorem dX1_ownLate_13 : decode cX1_ownLate 13 = .ok (.getfield 96, 3) := dk_180 0 96 (dk_at dksX1_ownLate_0 13 rfl rfl)
theorem dX1_ownLate_16 : decode cX1_ownLate 16 = .ok (.invokevirtual 101, 3) := dk_182 0 101 (dk_at dksX1_ownLate_0 16 rfl rfl)
theorem dX1_ownLate_19 : decode cX1_ownLate 19 = .ok (.checkcast 105, 3) := dk_192 0 105 (dk_at dksX1_ownLate_0 19 rfl rfl)
theorem dX1_ownLate_22 : decode cX1_ownLate 22 = .ok (.invokevirtual 107, 3) := dk_182 0 107 (dk_at dksX1_ownLate_1 0 rfl rfl)
theorem dX1_ownLate_25 : decode cX1_ownLate 25 = .ok (.iadd, 1) := dk_96 (dk_at dksX1_ownLate_1 3 rfl rfl)
theorem dX1_ownLate_26 : decode cX1_ownLate 26 = .ok (.aload_n 1, 1) := dk_43 (dk_at dksX1_ownLate_1 4 rfl rfl)
theorem dX1_ownLate_27 : decode cX1_ownLate 27 = .ok (.getfield 92, 3) := dk_180 0 92 (dk_at dksX1_ownLate_1 5 rfl rfl)
theorem dX1_ownLate_30 : decode cX1_ownLate 30 = .ok (.getfield 111, 3) := dk_180 0 111 (dk_at dksX1_ownLate_1 8 rfl rfl)
theorem dX1_ownLate_33 : decode cX1_ownLate 33 = .ok (.isub, 1) := dk_100 (dk_at dksX1_ownLate_1 11 rfl rfl)
theorem dX1_ownLate_34 : decode cX1_ownLate 34 = .ok (.invokestatic 114, 3) := dk_184 0 114 (dk_at dksX1_ownLate_1 12 rfl rfl)
theorem dX1_ownLate_37 : decode cX1_ownLate 37 = .ok (.ireturn, 1) := dk_172 (dk_at dksX1_ownLate_1 15 rfl rfl)
abbrev cX1_markAnew : ByteArray := prog_1_method_64_code
def yX1_markAnew : MethodName := ⟨RX1, "markAnew", "(ILHomewatcher$Task;)I"⟩
def dkwX1_markAnew_4 : List UInt8 := [167, 0, 9, 3, 21, 5, 184, 0, 114, 172, 132, 3, 255, 167, 255, 162, 3, 172]
abbrev dktX1_markAnew_4 : List UInt8 := dkwX1_markAnew_4 ++ []
def dkwX1_markAnew_3 : List UInt8 := [185, 0, 198, 2, 0, 100, 54, 5, 42, 180, 0, 42, 27, 50, 44, 180, 0, 182, 51, 153, 0, 7, 3]
abbrev dktX1_markAnew_3 : List UInt8 := dkwX1_markAnew_3 ++ dktX1_markAnew_4
def dkwX1_markAnew_2 : List UInt8 := [180, 0, 185, 25, 4, 180, 0, 188, 104, 16, 100, 108, 44, 180, 0, 191, 42, 25, 4, 182, 0, 195]
abbrev dktX1_markAnew_2 : List UInt8 := dkwX1_markAnew_2 ++ dktX1_markAnew_3
def dkwX1_markAnew_1 : List UInt8 := [192, 0, 88, 58, 4, 25, 4, 180, 0, 128, 153, 0, 69, 25, 4, 27, 44, 182, 0, 161, 153, 0, 59, 44]
abbrev dktX1_markAnew_1 : List UInt8 := dkwX1_markAnew_1 ++ dktX1_markAnew_2
def dkwX1_markAnew_0 : List UInt8 := [42, 180, 0, 27, 182, 0, 207, 4, 100, 62, 29, 155, 0, 96, 42, 180, 0, 27, 29, 182, 0, 101]
abbrev dktX1_markAnew_0 : List UInt8 := dkwX1_markAnew_0 ++ dktX1_markAnew_1
theorem dksX1_markAnew_0 : cX1_markAnew.data.toList.drop 0 = dktX1_markAnew_0 := by decide +kernel
theorem dksX1_markAnew_1 : cX1_markAnew.data.toList.drop 22 = dktX1_markAnew_1 := dk_seg dksX1_markAnew_0 22 rfl rfl
theorem dksX1_markAnew_2 : cX1_markAnew.data.toList.drop 46 = dktX1_markAnew_2 := dk_seg dksX1_markAnew_1 24 rfl rfl
theorem dksX1_markAnew_3 : cX1_markAnew.data.toList.drop 68 = dktX1_markAnew_3 := dk_seg dksX1_markAnew_2 22 rfl rfl
theorem dksX1_markAnew_4 : cX1_markAnew.data.toList.drop 91 = dktX1_markAnew_4 := dk_seg dksX1_markAnew_3 23 rfl rfl
theorem dX1_markAnew_0 : decode cX1_markAnew 0 = .ok (.aload_n 0, 1) := dk_42 (dk_at dksX1_markAnew_0 0 rfl rfl)
theorem dX1_markAnew_1 : decode cX1_markAnew 1 = .ok (.getfield 27, 3) := dk_180 0 27 (dk_at dksX1_markAnew_0 1 rfl rfl)
theorem dX1_markAnew_4 : decode cX1_markAnew 4 = .ok (.invokevirtual 207, 3) := dk_182 0 207 (dk_at dksX1_markAnew_0 4 rfl rfl)
theorem dX1_markAnew_7 : decode cX1_markAnew 7 = .ok (.iconst 1, 1) := dk_4 (dk_at dksX1_markAnew_0 7 rfl rfl)
theorem dX1_markAnew_8 : decode cX1_markAnew 8 = .ok (.isub, 1) := dk_100 (dk_at dksX1_markAnew_0 8 rfl rfl)
theorem dX1_markAnew_9 : decode cX1_markAnew 9 = .ok (.istore_n 3, 1) := dk_62 (dk_at dksX1_markAnew_0 9 rfl rfl)
theorem dX1_markAnew_10 : decode cX1_markAnew 10 = .ok (.iload_n 3, 1) := dk_29 (dk_at dksX1_markAnew_0 10 rfl rfl)
theorem dX1_markAnew_11 : decode cX1_markAnew 11 = .ok (.ifCond .lt 96, 3) := dk_155 0 96 (dk_at dksX1_markAnew_0 11 rfl rfl)
theorem dX1_markAnew_14 : decode cX1_markAnew 14 = .ok (.aload_n 0, 1) := dk_42 (dk_at dksX1_markAnew_0 14 rfl rfl)
theorem dX1_markAnew_15 : decode cX1_markAnew 15 = .ok (.getfield 27, 3) := dk_180 0 27 (dk_at dksX1_markAnew_0 15 rfl rfl)
theorem dX1_markAnew_18 : decode cX1_markAnew 18 = .ok (.iload_n 3, 1) := dk_29 (dk_at dksX1_markAnew_0 18 rfl rfl)
theorem dX1_markAnew_19 : decode cX1_markAnew 19 = .ok (.invokevirtual 101, 3) := dk_182 0 101 (dk_at dksX1_markAnew_0 19 rfl rfl)
theorem dX1_markAnew_22 : decode cX1_markAnew 22 = .ok (.checkcast 88, 3) := dk_192 0 88 (dk_at dksX1_markAnew_1 0 rfl rfl)
theorem dX1_markAnew_25 : decode cX1_markAnew 25 = .ok (.astore 4, 2) := dk_58 4 (dk_at dksX1_markAnew_1 3 rfl rfl)
theorem dX1_markAnew_27 : decode cX1_markAnew 27 = .ok (.aload 4, 2) := dk_25 4 (dk_at dksX1_markAnew_1 5 rfl rfl)
theorem dX1_markAnew_29 : decode cX1_markAnew 29 = .ok (.getfield 128, 3) := dk_180 0 128 (dk_at dksX1_markAnew_1 7 rfl rfl)
theorem dX1_markAnew_32 : decode cX1_markAnew 32 = .ok (.ifCond .eq 69, 3) := dk_153 0 69 (dk_at dksX1_markAnew_1 10 rfl rfl)
theorem dX1_markAnew_35 : decode cX1_markAnew 35 = .ok (.aload 4, 2) := dk_25 4 (dk_at dksX1_markAnew_1 13 rfl rfl)
theorem dX1_markAnew_37 : decode cX1_markAnew 37 = .ok (.iload_n 1, 1) := dk_27 (dk_at dksX1_markAnew_1 15 rfl rfl)
theorem dX1_markAnew_38 : decode cX1_markAnew 38 = .ok (.aload_n 2, 1) := dk_44 (dk_at dksX1_markAnew_1 16 rfl rfl)
theorem dX1_markAnew_39 : decode cX1_markAnew 39 = .ok (.invokevirtual 161, 3) := dk_182 0 161 (dk_at dksX1_markAnew_1 17 rfl rfl)
theorem dX1_markAnew_42 : decode cX1_markAnew 42 = .ok (.ifCond .eq 59, 3) := dk_153 0 59 (dk_at dksX1_markAnew_1 20 rfl rfl)
theorem dX1_markAnew_45 : decode cX1_markAnew 45 = .ok (.aload_n 2, 1) := dk_44 (dk_at dksX1_markAnew_1 23 rfl rfl)
theorem dX1_markAnew_46 : decode cX1_markAnew 46 = .ok (.getfield 185, 3) := dk_180 0 185 (dk_at dksX1_markAnew_2 0 rfl rfl)
theorem dX1_markAnew_49 : decode cX1_markAnew 49 = .ok (.aload 4, 2) := dk_25 4 (dk_at dksX1_markAnew_2 3 rfl rfl)
theorem dX1_markAnew_51 : decode cX1_markAnew 51 = .ok (.getfield 188, 3) := dk_180 0 188 (dk_at dksX1_markAnew_2 5 rfl rfl)
theorem dX1_markAnew_54 : decode cX1_markAnew 54 = .ok (.imul, 1) := dk_104 (dk_at dksX1_markAnew_2 8 rfl rfl)
theorem dX1_markAnew_55 : decode cX1_markAnew 55 = .ok (.bipush 100, 2) := dk_16 100 (dk_at dksX1_markAnew_2 9 rfl rfl)
theorem dX1_markAnew_57 : decode cX1_markAnew 57 = .ok (.idiv, 1) := dk_108 (dk_at dksX1_markAnew_2 11 rfl rfl)
theorem dX1_markAnew_58 : decode cX1_markAnew 58 = .ok (.aload_n 2, 1) := dk_44 (dk_at dksX1_markAnew_2 12 rfl rfl)
theorem dX1_markAnew_59 : decode cX1_markAnew 59 = .ok (.getfield 191, 3) := dk_180 0 191 (dk_at dksX1_markAnew_2 13 rfl rfl)
theorem dX1_markAnew_62 : decode cX1_markAnew 62 = .ok (.aload_n 0, 1) := dk_42 (dk_at dksX1_markAnew_2 16 rfl rfl)
theorem dX1_markAnew_63 : decode cX1_markAnew 63 = .ok (.aload 4, 2) := dk_25 4 (dk_at dksX1_markAnew_2 17 rfl rfl)
theorem dX1_markAnew_65 : decode cX1_markAnew 65 = .ok (.invokevirtual 195, 3) := dk_182 0 195 (dk_at dksX1_markAnew_2 19 rfl rfl)
theorem dX1_markAnew_68 : decode cX1_markAnew 68 = .ok (.invokeinterface 198 2, 5) := by decide +kernel
theorem dX1_markAnew_73 : decode cX1_markAnew 73 = .ok (.isub, 1) := dk_100 (dk_at dksX1_markAnew_3 5 rfl rfl)
theorem dX1_markAnew_74 : decode cX1_markAnew 74 = .ok (.istore 5, 2) := dk_54 5 (dk_at dksX1_markAnew_3 6 rfl rfl)
theorem dX1_markAnew_76 : decode cX1_markAnew 76 = .ok (.aload_n 0, 1) := dk_42 (dk_at dksX1_markAnew_3 8 rfl rfl)
theorem dX1_markAnew_77 : decode cX1_markAnew 77 = .ok (.getfield 42, 3) := dk_180 0 42 (dk_at dksX1_markAnew_3 9 rfl rfl)
theorem dX1_markAnew_80 : decode cX1_markAnew 80 = .ok (.iload_n 1, 1) := dk_27 (dk_at dksX1_markAnew_3 12 rfl rfl)
theorem dX1_markAnew_81 : decode cX1_markAnew 81 = .ok (.aaload, 1) := dk_50 (dk_at dksX1_markAnew_3 13 rfl rfl)
theorem dX1_markAnew_82 : decode cX1_markAnew 82 = .ok (.aload_n 2, 1) := dk_44 (dk_at dksX1_markAnew_3 14 rfl rfl)
theorem dX1_markAnew_83 : decode cX1_markAnew 83 = .ok (.getfield 182, 3) := dk_180 0 182 (dk_at dksX1_markAnew_3 15 rfl rfl)
theorem dX1_markAnew_86 : decode cX1_markAnew 86 = .ok (.baload, 1) := dk_51 (dk_at dksX1_markAnew_3 18 rfl rfl)
theorem dX1_markAnew_87 : decode cX1_markAnew 87 = .ok (.ifCond .eq 7, 3) := dk_153 0 7 (dk_at dksX1_markAnew_3 19 rfl rfl)
theorem dX1_markAnew_90 : decode cX1_markAnew 90 = .ok (.iconst 0, 1) := dk_3 (dk_at dksX1_markAnew_3 22 rfl rfl)
theorem dX1_markAnew_91 : decode cX1_markAnew 91 = .ok (.goto 9, 3) := dk_167 0 9 (dk_at dksX1_markAnew_4 0 rfl rfl)
theorem dX1_markAnew_94 : decode cX1_markAnew 94 = .ok (.iconst 0, 1) := dk_3 (dk_at dksX1_markAnew_4 3 rfl rfl)
theorem dX1_markAnew_95 : decode cX1_markAnew 95 = .ok (.iload 5, 2) := dk_21 5 (dk_at dksX1_markAnew_4 4 rfl rfl)
theorem dX1_markAnew_97 : decode cX1_markAnew 97 = .ok (.invokestatic 114, 3) := dk_184 0 114 (dk_at dksX1_markAnew_4 6 rfl rfl)
theorem dX1_markAnew_100 : decode cX1_markAnew 100 = .ok (.ireturn, 1) := dk_172 (dk_at dksX1_markAnew_4 9 rfl rfl)
theorem dX1_markAnew_101 : decode cX1_markAnew 101 = .ok (.iinc 3 (-1), 3) := dk_132 3 255 (dk_at dksX1_markAnew_4 10 rfl rfl)
theorem dX1_markAnew_104 : decode cX1_markAnew 104 = .ok (.goto (-94), 3) := dk_167 255 162 (dk_at dksX1_markAnew_4 13 rfl rfl)
theorem dX1_markAnew_107 : decode cX1_markAnew 107 = .ok (.iconst 0, 1) := dk_3 (dk_at dksX1_markAnew_4 16 rfl rfl)
theorem dX1_markAnew_108 : decode cX1_markAnew 108 = .ok (.ireturn, 1) := dk_172 (dk_at dksX1_markAnew_4 17 rfl rfl)
abbrev cX1_classroom : ByteArray := prog_1_method_17_code
def yX1_classroom : MethodName := ⟨RX1, "classroom", "(I)I"⟩
def dkwX1_classroom_2 : List UInt8 := [182, 0, 207, 4, 100, 172]
abbrev dktX1_classroom_2 : List UInt8 := dkwX1_classroom_2 ++ []
def dkwX1_classroom_1 : List UInt8 := [4, 167, 0, 4, 3, 184, 0, 208, 42, 180, 0, 14, 27, 184, 0, 211, 182, 0, 215, 87, 42, 180, 0, 14]
abbrev dktX1_classroom_1 : List UInt8 := dkwX1_classroom_1 ++ dktX1_classroom_2
def dkwX1_classroom_0 : List UInt8 := [27, 17, 253, 48, 17, 2, 208, 184, 0, 68, 184, 0, 203, 42, 180, 0, 14, 182, 0, 207, 7, 162, 0, 7]
abbrev dktX1_classroom_0 : List UInt8 := dkwX1_classroom_0 ++ dktX1_classroom_1
theorem dksX1_classroom_0 : cX1_classroom.data.toList.drop 0 = dktX1_classroom_0 := by decide +kernel
theorem dksX1_classroom_1 : cX1_classroom.data.toList.drop 24 = dktX1_classroom_1 := dk_seg dksX1_classroom_0 24 rfl rfl
theorem dksX1_classroom_2 : cX1_classroom.data.toList.drop 48 = dktX1_classroom_2 := dk_seg dksX1_classroom_1 24 rfl rfl
theorem dX1_classroom_0 : decode cX1_classroom 0 = .ok (.iload_n 1, 1) := dk_27 (dk_at dksX1_classroom_0 0 rfl rfl)
theorem dX1_classroom_1 : decode cX1_classroom 1 = .ok (.sipush (-720), 3) := dk_17 253 48 (dk_at dksX1_classroom_0 1 rfl rfl)
theorem dX1_classroom_4 : decode cX1_classroom 4 = .ok (.sipush 720, 3) := dk_17 2 208 (dk_at dksX1_classroom_0 4 rfl rfl)
theorem dX1_classroom_7 : decode cX1_classroom 7 = .ok (.invokestatic 68, 3) := dk_184 0 68 (dk_at dksX1_classroom_0 7 rfl rfl)
theorem dX1_classroom_10 : decode cX1_classroom 10 = .ok (.invokestatic 203, 3) := dk_184 0 203 (dk_at dksX1_classroom_0 10 rfl rfl)
theorem dX1_classroom_13 : decode cX1_classroom 13 = .ok (.aload_n 0, 1) := dk_42 (dk_at dksX1_classroom_0 13 rfl rfl)
theorem dX1_classroom_14 : decode cX1_classroom 14 = .ok (.getfield 14, 3) := dk_180 0 14 (dk_at dksX1_classroom_0 14 rfl rfl)
theorem dX1_classroom_17 : decode cX1_classroom 17 = .ok (.invokevirtual 207, 3) := dk_182 0 207 (dk_at dksX1_classroom_0 17 rfl rfl)
theorem dX1_classroom_20 : decode cX1_classroom 20 = .ok (.iconst 4, 1) := dk_7 (dk_at dksX1_classroom_0 20 rfl rfl)
theorem dX1_classroom_21 : decode cX1_classroom 21 = .ok (.if_icmp .ge 7, 3) := dk_162 0 7 (dk_at dksX1_classroom_0 21 rfl rfl)
theorem dX1_classroom_24 : decode cX1_classroom 24 = .ok (.iconst 1, 1) := dk_4 (dk_at dksX1_classroom_1 0 rfl rfl)
theorem dX1_classroom_25 : decode cX1_classroom 25 = .ok (.goto 4, 3) := dk_167 0 4 (dk_at dksX1_classroom_1 1 rfl rfl)
theorem dX1_classroom_28 : decode cX1_classroom 28 = .ok (.iconst 0, 1) := dk_3 (dk_at dksX1_classroom_1 4 rfl rfl)
theorem dX1_classroom_29 : decode cX1_classroom 29 = .ok (.invokestatic 208, 3) := dk_184 0 208 (dk_at dksX1_classroom_1 5 rfl rfl)
theorem dX1_classroom_32 : decode cX1_classroom 32 = .ok (.aload_n 0, 1) := dk_42 (dk_at dksX1_classroom_1 8 rfl rfl)
theorem dX1_classroom_33 : decode cX1_classroom 33 = .ok (.getfield 14, 3) := dk_180 0 14 (dk_at dksX1_classroom_1 9 rfl rfl)
theorem dX1_classroom_36 : decode cX1_classroom 36 = .ok (.iload_n 1, 1) := dk_27 (dk_at dksX1_classroom_1 12 rfl rfl)
theorem dX1_classroom_37 : decode cX1_classroom 37 = .ok (.invokestatic 211, 3) := dk_184 0 211 (dk_at dksX1_classroom_1 13 rfl rfl)
theorem dX1_classroom_40 : decode cX1_classroom 40 = .ok (.invokevirtual 215, 3) := dk_182 0 215 (dk_at dksX1_classroom_1 16 rfl rfl)
theorem dX1_classroom_43 : decode cX1_classroom 43 = .ok (.pop, 1) := dk_87 (dk_at dksX1_classroom_1 19 rfl rfl)
theorem dX1_classroom_44 : decode cX1_classroom 44 = .ok (.aload_n 0, 1) := dk_42 (dk_at dksX1_classroom_1 20 rfl rfl)
theorem dX1_classroom_45 : decode cX1_classroom 45 = .ok (.getfield 14, 3) := dk_180 0 14 (dk_at dksX1_classroom_1 21 rfl rfl)
theorem dX1_classroom_48 : decode cX1_classroom 48 = .ok (.invokevirtual 207, 3) := dk_182 0 207 (dk_at dksX1_classroom_2 0 rfl rfl)
theorem dX1_classroom_51 : decode cX1_classroom 51 = .ok (.iconst 1, 1) := dk_4 (dk_at dksX1_classroom_2 3 rfl rfl)
theorem dX1_classroom_52 : decode cX1_classroom 52 = .ok (.isub, 1) := dk_100 (dk_at dksX1_classroom_2 4 rfl rfl)
theorem dX1_classroom_53 : decode cX1_classroom 53 = .ok (.ireturn, 1) := dk_172 (dk_at dksX1_classroom_2 5 rfl rfl)
abbrev cX1_isBetween : ByteArray := prog_1_method_2_code
def yX1_isBetween : MethodName := ⟨RX1, "isBetween", "(III)Z"⟩
def dkwX1_isBetween_0 : List UInt8 := [26, 27, 161, 0, 12, 26, 28, 163, 0, 7, 4, 167, 0, 4, 3, 172]
abbrev dktX1_isBetween_0 : List UInt8 := dkwX1_isBetween_0 ++ []
theorem dksX1_isBetween_0 : cX1_isBetween.data.toList.drop 0 = dktX1_isBetween_0 := by decide +kernel
theorem dX1_isBetween_0 : decode cX1_isBetween 0 = .ok (.iload_n 0, 1) := dk_26 (dk_at dksX1_isBetween_0 0 rfl rfl)
theorem dX1_isBetween_1 : decode cX1_isBetween 1 = .ok (.iload_n 1, 1) := dk_27 (dk_at dksX1_isBetween_0 1 rfl rfl)
theorem dX1_isBetween_2 : decode cX1_isBetween 2 = .ok (.if_icmp .lt 12, 3) := dk_161 0 12 (dk_at dksX1_isBetween_0 2 rfl rfl)
theorem dX1_isBetween_5 : decode cX1_isBetween 5 = .ok (.iload_n 0, 1) := dk_26 (dk_at dksX1_isBetween_0 5 rfl rfl)
theorem dX1_isBetween_6 : decode cX1_isBetween 6 = .ok (.iload_n 2, 1) := dk_28 (dk_at dksX1_isBetween_0 6 rfl rfl)
theorem dX1_isBetween_7 : decode cX1_isBetween 7 = .ok (.if_icmp .gt 7, 3) := dk_163 0 7 (dk_at dksX1_isBetween_0 7 rfl rfl)
theorem dX1_isBetween_10 : decode cX1_isBetween 10 = .ok (.iconst 1, 1) := dk_4 (dk_at dksX1_isBetween_0 10 rfl rfl)
theorem dX1_isBetween_11 : decode cX1_isBetween 11 = .ok (.goto 4, 3) := dk_167 0 4 (dk_at dksX1_isBetween_0 11 rfl rfl)
theorem dX1_isBetween_14 : decode cX1_isBetween 14 = .ok (.iconst 0, 1) := dk_3 (dk_at dksX1_isBetween_0 14 rfl rfl)
theorem dX1_isBetween_15 : decode cX1_isBetween 15 = .ok (.ireturn, 1) := dk_172 (dk_at dksX1_isBetween_0 15 rfl rfl)
abbrev cX1_checkArgument : ByteArray := prog_1_method_3_code
def yX1_checkArgument : MethodName := ⟨RX1, "checkArgument", "(Z)V"⟩
def dkwX1_checkArgument_0 : List UInt8 := [26, 154, 0, 11, 187, 0, 56, 89, 183, 0, 58, 191, 177]
abbrev dktX1_checkArgument_0 : List UInt8 := dkwX1_checkArgument_0 ++ []
theorem dksX1_checkArgument_0 : cX1_checkArgument.data.toList.drop 0 = dktX1_checkArgument_0 := by decide +kernel
theorem dX1_checkArgument_0 : decode cX1_checkArgument 0 = .ok (.iload_n 0, 1) := dk_26 (dk_at dksX1_checkArgument_0 0 rfl rfl)
theorem dX1_checkArgument_1 : decode cX1_checkArgument 1 = .ok (.ifCond .ne 11, 3) := dk_154 0 11 (dk_at dksX1_checkArgument_0 1 rfl rfl)
theorem dX1_checkArgument_4 : decode cX1_checkArgument 4 = .ok (.new 56, 3) := dk_187 0 56 (dk_at dksX1_checkArgument_0 4 rfl rfl)
theorem dX1_checkArgument_7 : decode cX1_checkArgument 7 = .ok (.dup, 1) := dk_89 (dk_at dksX1_checkArgument_0 7 rfl rfl)
theorem dX1_checkArgument_8 : decode cX1_checkArgument 8 = .ok (.invokespecial 58, 3) := dk_183 0 58 (dk_at dksX1_checkArgument_0 8 rfl rfl)
theorem dX1_checkArgument_11 : decode cX1_checkArgument 11 = .ok (.athrow, 1) := dk_191 (dk_at dksX1_checkArgument_0 11 rfl rfl)
theorem dX1_checkArgument_12 : decode cX1_checkArgument 12 = .ok (.return_, 1) := dk_177 (dk_at dksX1_checkArgument_0 12 rfl rfl)
abbrev cX1_checkState : ByteArray := prog_1_method_4_code
def yX1_checkState : MethodName := ⟨RX1, "checkState", "(Z)V"⟩
def dkwX1_checkState_0 : List UInt8 := [26, 154, 0, 11, 187, 0, 59, 89, 183, 0, 61, 191, 177]
abbrev dktX1_checkState_0 : List UInt8 := dkwX1_checkState_0 ++ []
theorem dksX1_checkState_0 : cX1_checkState.data.toList.drop 0 = dktX1_checkState_0 := by decide +kernel
theorem dX1_checkState_0 : decode cX1_checkState 0 = .ok (.iload_n 0, 1) := dk_26 (dk_at dksX1_checkState_0 0 rfl rfl)
theorem dX1_checkState_1 : decode cX1_checkState 1 = .ok (.ifCond .ne 11, 3) := dk_154 0 11 (dk_at dksX1_checkState_0 1 rfl rfl)
theorem dX1_checkState_4 : decode cX1_checkState 4 = .ok (.new 59, 3) := dk_187 0 59 (dk_at dksX1_checkState_0 4 rfl rfl)
theorem dX1_checkState_7 : decode cX1_checkState 7 = .ok (.dup, 1) := dk_89 (dk_at dksX1_checkState_0 7 rfl rfl)
theorem dX1_checkState_8 : decode cX1_checkState 8 = .ok (.invokespecial 61, 3) := dk_183 0 61 (dk_at dksX1_checkState_0 8 rfl rfl)
theorem dX1_checkState_11 : decode cX1_checkState 11 = .ok (.athrow, 1) := dk_191 (dk_at dksX1_checkState_0 11 rfl rfl)
theorem dX1_checkState_12 : decode cX1_checkState 12 = .ok (.return_, 1) := dk_177 (dk_at dksX1_checkState_0 12 rfl rfl)
abbrev cX1_pupil : ByteArray := prog_1_method_18_code
def yX1_pupil : MethodName := ⟨RX1, "pupil", "(I)I"⟩
def dkwX1_pupil_2 : List UInt8 := [182, 0, 207, 4, 100, 172]
abbrev dktX1_pupil_2 : List UInt8 := dkwX1_pupil_2 ++ []
def dkwX1_pupil_1 : List UInt8 := [167, 0, 4, 3, 184, 0, 208, 42, 180, 0, 18, 27, 184, 0, 211, 182, 0, 215, 87, 42, 180, 0, 18]
abbrev dktX1_pupil_1 : List UInt8 := dkwX1_pupil_1 ++ dktX1_pupil_2
def dkwX1_pupil_0 : List UInt8 := [27, 42, 180, 0, 14, 182, 0, 207, 184, 0, 219, 42, 180, 0, 18, 182, 0, 207, 16, 12, 162, 0, 7, 4]
abbrev dktX1_pupil_0 : List UInt8 := dkwX1_pupil_0 ++ dktX1_pupil_1
theorem dksX1_pupil_0 : cX1_pupil.data.toList.drop 0 = dktX1_pupil_0 := by decide +kernel
theorem dksX1_pupil_1 : cX1_pupil.data.toList.drop 24 = dktX1_pupil_1 := dk_seg dksX1_pupil_0 24 rfl rfl
theorem dksX1_pupil_2 : cX1_pupil.data.toList.drop 47 = dktX1_pupil_2 := dk_seg dksX1_pupil_1 23 rfl rfl
theorem dX1_pupil_0 : decode cX1_pupil 0 = .ok (.iload_n 1, 1) := dk_27 (dk_at dksX1_pupil_0 0 rfl rfl)
theorem dX1_pupil_1 : decode cX1_pupil 1 = .ok (.aload_n 0, 1) := dk_42 (dk_at dksX1_pupil_0 1 rfl rfl)
theorem dX1_pupil_2 : decode cX1_pupil 2 = .ok (.getfield 14, 3) := dk_180 0 14 (dk_at dksX1_pupil_0 2 rfl rfl)
theorem dX1_pupil_5 : decode cX1_pupil 5 = .ok (.invokevirtual 207, 3) := dk_182 0 207 (dk_at dksX1_pupil_0 5 rfl rfl)
theorem dX1_pupil_8 : decode cX1_pupil 8 = .ok (.invokestatic 219, 3) := dk_184 0 219 (dk_at dksX1_pupil_0 8 rfl rfl)
theorem dX1_pupil_11 : decode cX1_pupil 11 = .ok (.aload_n 0, 1) := dk_42 (dk_at dksX1_pupil_0 11 rfl rfl)
theorem dX1_pupil_12 : decode cX1_pupil 12 = .ok (.getfield 18, 3) := dk_180 0 18 (dk_at dksX1_pupil_0 12 rfl rfl)
theorem dX1_pupil_15 : decode cX1_pupil 15 = .ok (.invokevirtual 207, 3) := dk_182 0 207 (dk_at dksX1_pupil_0 15 rfl rfl)
theorem dX1_pupil_18 : decode cX1_pupil 18 = .ok (.bipush 12, 2) := dk_16 12 (dk_at dksX1_pupil_0 18 rfl rfl)
theorem dX1_pupil_20 : decode cX1_pupil 20 = .ok (.if_icmp .ge 7, 3) := dk_162 0 7 (dk_at dksX1_pupil_0 20 rfl rfl)
theorem dX1_pupil_23 : decode cX1_pupil 23 = .ok (.iconst 1, 1) := dk_4 (dk_at dksX1_pupil_0 23 rfl rfl)
theorem dX1_pupil_24 : decode cX1_pupil 24 = .ok (.goto 4, 3) := dk_167 0 4 (dk_at dksX1_pupil_1 0 rfl rfl)
theorem dX1_pupil_27 : decode cX1_pupil 27 = .ok (.iconst 0, 1) := dk_3 (dk_at dksX1_pupil_1 3 rfl rfl)
theorem dX1_pupil_28 : decode cX1_pupil 28 = .ok (.invokestatic 208, 3) := dk_184 0 208 (dk_at dksX1_pupil_1 4 rfl rfl)
theorem dX1_pupil_31 : decode cX1_pupil 31 = .ok (.aload_n 0, 1) := dk_42 (dk_at dksX1_pupil_1 7 rfl rfl)
theorem dX1_pupil_32 : decode cX1_pupil 32 = .ok (.getfield 18, 3) := dk_180 0 18 (dk_at dksX1_pupil_1 8 rfl rfl)
theorem dX1_pupil_35 : decode cX1_pupil 35 = .ok (.iload_n 1, 1) := dk_27 (dk_at dksX1_pupil_1 11 rfl rfl)
theorem dX1_pupil_36 : decode cX1_pupil 36 = .ok (.invokestatic 211, 3) := dk_184 0 211 (dk_at dksX1_pupil_1 12 rfl rfl)
theorem dX1_pupil_39 : decode cX1_pupil 39 = .ok (.invokevirtual 215, 3) := dk_182 0 215 (dk_at dksX1_pupil_1 15 rfl rfl)
theorem dX1_pupil_42 : decode cX1_pupil 42 = .ok (.pop, 1) := dk_87 (dk_at dksX1_pupil_1 18 rfl rfl)
theorem dX1_pupil_43 : decode cX1_pupil 43 = .ok (.aload_n 0, 1) := dk_42 (dk_at dksX1_pupil_1 19 rfl rfl)
theorem dX1_pupil_44 : decode cX1_pupil 44 = .ok (.getfield 18, 3) := dk_180 0 18 (dk_at dksX1_pupil_1 20 rfl rfl)
theorem dX1_pupil_47 : decode cX1_pupil 47 = .ok (.invokevirtual 207, 3) := dk_182 0 207 (dk_at dksX1_pupil_2 0 rfl rfl)
theorem dX1_pupil_50 : decode cX1_pupil 50 = .ok (.iconst 1, 1) := dk_4 (dk_at dksX1_pupil_2 3 rfl rfl)
theorem dX1_pupil_51 : decode cX1_pupil 51 = .ok (.isub, 1) := dk_100 (dk_at dksX1_pupil_2 4 rfl rfl)
theorem dX1_pupil_52 : decode cX1_pupil 52 = .ok (.ireturn, 1) := dk_172 (dk_at dksX1_pupil_2 5 rfl rfl)
abbrev cX1_checkIndex : ByteArray := prog_1_method_7_code
def yX1_checkIndex : MethodName := ⟨RX1, "checkIndex", "(II)V"⟩
def dkwX1_checkIndex_0 : List UInt8 := [26, 3, 27, 4, 100, 184, 0, 68, 154, 0, 11, 187, 0, 72, 89, 183, 0, 74, 191, 177]
abbrev dktX1_checkIndex_0 : List UInt8 := dkwX1_checkIndex_0 ++ []
theorem dksX1_checkIndex_0 : cX1_checkIndex.data.toList.drop 0 = dktX1_checkIndex_0 := by decide +kernel
theorem dX1_checkIndex_0 : decode cX1_checkIndex 0 = .ok (.iload_n 0, 1) := dk_26 (dk_at dksX1_checkIndex_0 0 rfl rfl)
theorem dX1_checkIndex_1 : decode cX1_checkIndex 1 = .ok (.iconst 0, 1) := dk_3 (dk_at dksX1_checkIndex_0 1 rfl rfl)
theorem dX1_checkIndex_2 : decode cX1_checkIndex 2 = .ok (.iload_n 1, 1) := dk_27 (dk_at dksX1_checkIndex_0 2 rfl rfl)
theorem dX1_checkIndex_3 : decode cX1_checkIndex 3 = .ok (.iconst 1, 1) := dk_4 (dk_at dksX1_checkIndex_0 3 rfl rfl)
theorem dX1_checkIndex_4 : decode cX1_checkIndex 4 = .ok (.isub, 1) := dk_100 (dk_at dksX1_checkIndex_0 4 rfl rfl)
theorem dX1_checkIndex_5 : decode cX1_checkIndex 5 = .ok (.invokestatic 68, 3) := dk_184 0 68 (dk_at dksX1_checkIndex_0 5 rfl rfl)
theorem dX1_checkIndex_8 : decode cX1_checkIndex 8 = .ok (.ifCond .ne 11, 3) := dk_154 0 11 (dk_at dksX1_checkIndex_0 8 rfl rfl)
theorem dX1_checkIndex_11 : decode cX1_checkIndex 11 = .ok (.new 72, 3) := dk_187 0 72 (dk_at dksX1_checkIndex_0 11 rfl rfl)
theorem dX1_checkIndex_14 : decode cX1_checkIndex 14 = .ok (.dup, 1) := dk_89 (dk_at dksX1_checkIndex_0 14 rfl rfl)
theorem dX1_checkIndex_15 : decode cX1_checkIndex 15 = .ok (.invokespecial 74, 3) := dk_183 0 74 (dk_at dksX1_checkIndex_0 15 rfl rfl)
theorem dX1_checkIndex_18 : decode cX1_checkIndex 18 = .ok (.athrow, 1) := dk_191 (dk_at dksX1_checkIndex_0 18 rfl rfl)
theorem dX1_checkIndex_19 : decode cX1_checkIndex 19 = .ok (.return_, 1) := dk_177 (dk_at dksX1_checkIndex_0 19 rfl rfl)
abbrev cX1_task : ByteArray := prog_1_method_19_code
def yX1_task : MethodName := ⟨RX1, "task", "(IIICI)I"⟩
def dkwX1_task_6 : List UInt8 := [182, 0, 215, 87, 42, 180, 0, 21, 182, 0, 207, 4, 100, 172]
abbrev dktX1_task_6 : List UInt8 := dkwX1_task_6 ++ []
def dkwX1_task_5 : List UInt8 := [187, 0, 97, 89, 42, 180, 0, 21, 182, 0, 207, 27, 28, 29, 21, 4, 21, 5, 184, 0, 224, 183, 0, 228]
abbrev dktX1_task_5 : List UInt8 := dkwX1_task_5 ++ dktX1_task_6
def dkwX1_task_4 : List UInt8 := [180, 0, 21, 182, 0, 207, 16, 10, 162, 0, 7, 4, 167, 0, 4, 3, 184, 0, 208, 42, 180, 0, 21]
abbrev dktX1_task_4 : List UInt8 := dkwX1_task_4 ++ dktX1_task_5
def dkwX1_task_3 : List UInt8 := [153, 0, 18, 21, 5, 3, 16, 100, 184, 0, 68, 153, 0, 7, 4, 167, 0, 4, 3, 184, 0, 203, 42]
abbrev dktX1_task_3 : List UInt8 := dkwX1_task_3 ++ dktX1_task_4
def dkwX1_task_2 : List UInt8 := [21, 6, 153, 0, 38, 28, 3, 18, 223, 184, 0, 68, 153, 0, 28, 29, 4, 16, 100, 184, 0, 68]
abbrev dktX1_task_2 : List UInt8 := dkwX1_task_2 ++ dktX1_task_3
def dkwX1_task_1 : List UInt8 := [159, 0, 17, 21, 4, 16, 103, 159, 0, 10, 21, 4, 16, 115, 160, 0, 7, 4, 167, 0, 4, 3, 54, 6]
abbrev dktX1_task_1 : List UInt8 := dkwX1_task_1 ++ dktX1_task_2
def dkwX1_task_0 : List UInt8 := [27, 42, 180, 0, 14, 182, 0, 207, 184, 0, 219, 21, 4, 16, 104, 159, 0, 24, 21, 4, 16, 100]
abbrev dktX1_task_0 : List UInt8 := dkwX1_task_0 ++ dktX1_task_1
theorem dksX1_task_0 : cX1_task.data.toList.drop 0 = dktX1_task_0 := by decide +kernel
theorem dksX1_task_1 : cX1_task.data.toList.drop 22 = dktX1_task_1 := dk_seg dksX1_task_0 22 rfl rfl
theorem dksX1_task_2 : cX1_task.data.toList.drop 46 = dktX1_task_2 := dk_seg dksX1_task_1 24 rfl rfl
theorem dksX1_task_3 : cX1_task.data.toList.drop 68 = dktX1_task_3 := dk_seg dksX1_task_2 22 rfl rfl
theorem dksX1_task_4 : cX1_task.data.toList.drop 91 = dktX1_task_4 := dk_seg dksX1_task_3 23 rfl rfl
theorem dksX1_task_5 : cX1_task.data.toList.drop 114 = dktX1_task_5 := dk_seg dksX1_task_4 23 rfl rfl
theorem dksX1_task_6 : cX1_task.data.toList.drop 138 = dktX1_task_6 := dk_seg dksX1_task_5 24 rfl rfl
theorem dX1_task_0 : decode cX1_task 0 = .ok (.iload_n 1, 1) := dk_27 (dk_at dksX1_task_0 0 rfl rfl)
theorem dX1_task_1 : decode cX1_task 1 = .ok (.aload_n 0, 1) := dk_42 (dk_at dksX1_task_0 1 rfl rfl)
theorem dX1_task_2 : decode cX1_task 2 = .ok (.getfield 14, 3) := dk_180 0 14 (dk_at dksX1_task_0 2 rfl rfl)
theorem dX1_task_5 : decode cX1_task 5 = .ok (.invokevirtual 207, 3) := dk_182 0 207 (dk_at dksX1_task_0 5 rfl rfl)
theorem dX1_task_8 : decode cX1_task 8 = .ok (.invokestatic 219, 3) := dk_184 0 219 (dk_at dksX1_task_0 8 rfl rfl)
theorem dX1_task_11 : decode cX1_task 11 = .ok (.iload 4, 2) := dk_21 4 (dk_at dksX1_task_0 11 rfl rfl)
theorem dX1_task_13 : decode cX1_task 13 = .ok (.bipush 104, 2) := dk_16 104 (dk_at dksX1_task_0 13 rfl rfl)
theorem dX1_task_15 : decode cX1_task 15 = .ok (.if_icmp .eq 24, 3) := dk_159 0 24 (dk_at dksX1_task_0 15 rfl rfl)
theorem dX1_task_18 : decode cX1_task 18 = .ok (.iload 4, 2) := dk_21 4 (dk_at dksX1_task_0 18 rfl rfl)
theorem dX1_task_20 : decode cX1_task 20 = .ok (.bipush 100, 2) := dk_16 100 (dk_at dksX1_task_0 20 rfl rfl)
theorem dX1_task_22 : decode cX1_task 22 = .ok (.if_icmp .eq 17, 3) := dk_159 0 17 (dk_at dksX1_task_1 0 rfl rfl)
theorem dX1_task_25 : decode cX1_task 25 = .ok (.iload 4, 2) := dk_21 4 (dk_at dksX1_task_1 3 rfl rfl)
theorem dX1_task_27 : decode cX1_task 27 = .ok (.bipush 103, 2) := dk_16 103 (dk_at dksX1_task_1 5 rfl rfl)
theorem dX1_task_29 : decode cX1_task 29 = .ok (.if_icmp .eq 10, 3) := dk_159 0 10 (dk_at dksX1_task_1 7 rfl rfl)
theorem dX1_task_32 : decode cX1_task 32 = .ok (.iload 4, 2) := dk_21 4 (dk_at dksX1_task_1 10 rfl rfl)
theorem dX1_task_34 : decode cX1_task 34 = .ok (.bipush 115, 2) := dk_16 115 (dk_at dksX1_task_1 12 rfl rfl)
theorem dX1_task_36 : decode cX1_task 36 = .ok (.if_icmp .ne 7, 3) := dk_160 0 7 (dk_at dksX1_task_1 14 rfl rfl)
theorem dX1_task_39 : decode cX1_task 39 = .ok (.iconst 1, 1) := dk_4 (dk_at dksX1_task_1 17 rfl rfl)
theorem dX1_task_40 : decode cX1_task 40 = .ok (.goto 4, 3) := dk_167 0 4 (dk_at dksX1_task_1 18 rfl rfl)
theorem dX1_task_43 : decode cX1_task 43 = .ok (.iconst 0, 1) := dk_3 (dk_at dksX1_task_1 21 rfl rfl)
theorem dX1_task_44 : decode cX1_task 44 = .ok (.istore 6, 2) := dk_54 6 (dk_at dksX1_task_1 22 rfl rfl)
theorem dX1_task_46 : decode cX1_task 46 = .ok (.iload 6, 2) := dk_21 6 (dk_at dksX1_task_2 0 rfl rfl)
theorem dX1_task_48 : decode cX1_task 48 = .ok (.ifCond .eq 38, 3) := dk_153 0 38 (dk_at dksX1_task_2 2 rfl rfl)
theorem dX1_task_51 : decode cX1_task 51 = .ok (.iload_n 2, 1) := dk_28 (dk_at dksX1_task_2 5 rfl rfl)
theorem dX1_task_52 : decode cX1_task 52 = .ok (.iconst 0, 1) := dk_3 (dk_at dksX1_task_2 6 rfl rfl)
theorem dX1_task_53 : decode cX1_task 53 = .ok (.ldc 223, 2) := dk_18 223 (dk_at dksX1_task_2 7 rfl rfl)
theorem dX1_task_55 : decode cX1_task 55 = .ok (.invokestatic 68, 3) := dk_184 0 68 (dk_at dksX1_task_2 9 rfl rfl)
theorem dX1_task_58 : decode cX1_task 58 = .ok (.ifCond .eq 28, 3) := dk_153 0 28 (dk_at dksX1_task_2 12 rfl rfl)
theorem dX1_task_61 : decode cX1_task 61 = .ok (.iload_n 3, 1) := dk_29 (dk_at dksX1_task_2 15 rfl rfl)
theorem dX1_task_62 : decode cX1_task 62 = .ok (.iconst 1, 1) := dk_4 (dk_at dksX1_task_2 16 rfl rfl)
theorem dX1_task_63 : decode cX1_task 63 = .ok (.bipush 100, 2) := dk_16 100 (dk_at dksX1_task_2 17 rfl rfl)
theorem dX1_task_65 : decode cX1_task 65 = .ok (.invokestatic 68, 3) := dk_184 0 68 (dk_at dksX1_task_2 19 rfl rfl)
theorem dX1_task_68 : decode cX1_task 68 = .ok (.ifCond .eq 18, 3) := dk_153 0 18 (dk_at dksX1_task_3 0 rfl rfl)
theorem dX1_task_71 : decode cX1_task 71 = .ok (.iload 5, 2) := dk_21 5 (dk_at dksX1_task_3 3 rfl rfl)
theorem dX1_task_73 : decode cX1_task 73 = .ok (.iconst 0, 1) := dk_3 (dk_at dksX1_task_3 5 rfl rfl)
theorem dX1_task_74 : decode cX1_task 74 = .ok (.bipush 100, 2) := dk_16 100 (dk_at dksX1_task_3 6 rfl rfl)
theorem dX1_task_76 : decode cX1_task 76 = .ok (.invokestatic 68, 3) := dk_184 0 68 (dk_at dksX1_task_3 8 rfl rfl)
theorem dX1_task_79 : decode cX1_task 79 = .ok (.ifCond .eq 7, 3) := dk_153 0 7 (dk_at dksX1_task_3 11 rfl rfl)
theorem dX1_task_82 : decode cX1_task 82 = .ok (.iconst 1, 1) := dk_4 (dk_at dksX1_task_3 14 rfl rfl)
theorem dX1_task_83 : decode cX1_task 83 = .ok (.goto 4, 3) := dk_167 0 4 (dk_at dksX1_task_3 15 rfl rfl)
theorem dX1_task_86 : decode cX1_task 86 = .ok (.iconst 0, 1) := dk_3 (dk_at dksX1_task_3 18 rfl rfl)
theorem dX1_task_87 : decode cX1_task 87 = .ok (.invokestatic 203, 3) := dk_184 0 203 (dk_at dksX1_task_3 19 rfl rfl)
theorem dX1_task_90 : decode cX1_task 90 = .ok (.aload_n 0, 1) := dk_42 (dk_at dksX1_task_3 22 rfl rfl)
theorem dX1_task_91 : decode cX1_task 91 = .ok (.getfield 21, 3) := dk_180 0 21 (dk_at dksX1_task_4 0 rfl rfl)
theorem dX1_task_94 : decode cX1_task 94 = .ok (.invokevirtual 207, 3) := dk_182 0 207 (dk_at dksX1_task_4 3 rfl rfl)
theorem dX1_task_97 : decode cX1_task 97 = .ok (.bipush 10, 2) := dk_16 10 (dk_at dksX1_task_4 6 rfl rfl)
theorem dX1_task_99 : decode cX1_task 99 = .ok (.if_icmp .ge 7, 3) := dk_162 0 7 (dk_at dksX1_task_4 8 rfl rfl)
theorem dX1_task_102 : decode cX1_task 102 = .ok (.iconst 1, 1) := dk_4 (dk_at dksX1_task_4 11 rfl rfl)
theorem dX1_task_103 : decode cX1_task 103 = .ok (.goto 4, 3) := dk_167 0 4 (dk_at dksX1_task_4 12 rfl rfl)
theorem dX1_task_106 : decode cX1_task 106 = .ok (.iconst 0, 1) := dk_3 (dk_at dksX1_task_4 15 rfl rfl)
theorem dX1_task_107 : decode cX1_task 107 = .ok (.invokestatic 208, 3) := dk_184 0 208 (dk_at dksX1_task_4 16 rfl rfl)
theorem dX1_task_110 : decode cX1_task 110 = .ok (.aload_n 0, 1) := dk_42 (dk_at dksX1_task_4 19 rfl rfl)
theorem dX1_task_111 : decode cX1_task 111 = .ok (.getfield 21, 3) := dk_180 0 21 (dk_at dksX1_task_4 20 rfl rfl)
theorem dX1_task_114 : decode cX1_task 114 = .ok (.new 97, 3) := dk_187 0 97 (dk_at dksX1_task_5 0 rfl rfl)
theorem dX1_task_117 : decode cX1_task 117 = .ok (.dup, 1) := dk_89 (dk_at dksX1_task_5 3 rfl rfl)
theorem dX1_task_118 : decode cX1_task 118 = .ok (.aload_n 0, 1) := dk_42 (dk_at dksX1_task_5 4 rfl rfl)
theorem dX1_task_119 : decode cX1_task 119 = .ok (.getfield 21, 3) := dk_180 0 21 (dk_at dksX1_task_5 5 rfl rfl)
theorem dX1_task_122 : decode cX1_task 122 = .ok (.invokevirtual 207, 3) := dk_182 0 207 (dk_at dksX1_task_5 8 rfl rfl)
theorem dX1_task_125 : decode cX1_task 125 = .ok (.iload_n 1, 1) := dk_27 (dk_at dksX1_task_5 11 rfl rfl)
theorem dX1_task_126 : decode cX1_task 126 = .ok (.iload_n 2, 1) := dk_28 (dk_at dksX1_task_5 12 rfl rfl)
theorem dX1_task_127 : decode cX1_task 127 = .ok (.iload_n 3, 1) := dk_29 (dk_at dksX1_task_5 13 rfl rfl)
theorem dX1_task_128 : decode cX1_task 128 = .ok (.iload 4, 2) := dk_21 4 (dk_at dksX1_task_5 14 rfl rfl)
theorem dX1_task_130 : decode cX1_task 130 = .ok (.iload 5, 2) := dk_21 5 (dk_at dksX1_task_5 16 rfl rfl)
theorem dX1_task_132 : decode cX1_task 132 = .ok (.invokestatic 224, 3) := dk_184 0 224 (dk_at dksX1_task_5 18 rfl rfl)
theorem dX1_task_135 : decode cX1_task 135 = .ok (.invokespecial 228, 3) := dk_183 0 228 (dk_at dksX1_task_5 21 rfl rfl)
theorem dX1_task_138 : decode cX1_task 138 = .ok (.invokevirtual 215, 3) := dk_182 0 215 (dk_at dksX1_task_6 0 rfl rfl)
theorem dX1_task_141 : decode cX1_task 141 = .ok (.pop, 1) := dk_87 (dk_at dksX1_task_6 3 rfl rfl)
theorem dX1_task_142 : decode cX1_task 142 = .ok (.aload_n 0, 1) := dk_42 (dk_at dksX1_task_6 4 rfl rfl)
theorem dX1_task_143 : decode cX1_task 143 = .ok (.getfield 21, 3) := dk_180 0 21 (dk_at dksX1_task_6 5 rfl rfl)
theorem dX1_task_146 : decode cX1_task 146 = .ok (.invokevirtual 207, 3) := dk_182 0 207 (dk_at dksX1_task_6 8 rfl rfl)
theorem dX1_task_149 : decode cX1_task 149 = .ok (.iconst 1, 1) := dk_4 (dk_at dksX1_task_6 11 rfl rfl)
theorem dX1_task_150 : decode cX1_task 150 = .ok (.isub, 1) := dk_100 (dk_at dksX1_task_6 12 rfl rfl)
theorem dX1_task_151 : decode cX1_task 151 = .ok (.ireturn, 1) := dk_172 (dk_at dksX1_task_6 13 rfl rfl)
abbrev cX1_ruleOf : ByteArray := prog_1_method_9_code
def yX1_ruleOf : MethodName := ⟨RX1, "ruleOf", "(CI)LHomewatcher$Rule;"⟩
def dkwX1_ruleOf_3 : List UInt8 := [186, 0, 84, 0, 0, 176]
abbrev dktX1_ruleOf_3 : List UInt8 := dkwX1_ruleOf_3 ++ []
def dkwX1_ruleOf_2 : List UInt8 := [27, 186, 0, 78, 0, 0, 176, 27, 186, 0, 82, 0, 0, 176, 27, 186, 0, 83, 0, 0, 176, 27]
abbrev dktX1_ruleOf_2 : List UInt8 := dkwX1_ruleOf_2 ++ dktX1_ruleOf_3
def dkwX1_ruleOf_1 : List UInt8 := [170, 0, 0, 0, 0, 0, 56, 0, 0, 0, 100, 0, 0, 0, 104, 0, 0, 0, 42, 0, 0, 0, 56, 0, 0, 0, 56, 0, 0, 0, 49, 0, 0, 0, 35]
abbrev dktX1_ruleOf_1 : List UInt8 := dkwX1_ruleOf_1 ++ dktX1_ruleOf_2
def dkwX1_ruleOf_0 : List UInt8 := [26]
abbrev dktX1_ruleOf_0 : List UInt8 := dkwX1_ruleOf_0 ++ dktX1_ruleOf_1
theorem dksX1_ruleOf_0 : cX1_ruleOf.data.toList.drop 0 = dktX1_ruleOf_0 := by decide +kernel
theorem dksX1_ruleOf_1 : cX1_ruleOf.data.toList.drop 1 = dktX1_ruleOf_1 := dk_seg dksX1_ruleOf_0 1 rfl rfl
theorem dksX1_ruleOf_2 : cX1_ruleOf.data.toList.drop 36 = dktX1_ruleOf_2 := dk_seg dksX1_ruleOf_1 35 rfl rfl
theorem dksX1_ruleOf_3 : cX1_ruleOf.data.toList.drop 58 = dktX1_ruleOf_3 := dk_seg dksX1_ruleOf_2 22 rfl rfl
theorem dX1_ruleOf_0 : decode cX1_ruleOf 0 = .ok (.iload_n 0, 1) := dk_26 (dk_at dksX1_ruleOf_0 0 rfl rfl)
theorem dX1_ruleOf_1 : decode cX1_ruleOf 1 = .ok (.tableswitch 56 100 104 #[42, 56, 56, 49, 35], 35) := by decide +kernel
theorem dX1_ruleOf_36 : decode cX1_ruleOf 36 = .ok (.iload_n 1, 1) := dk_27 (dk_at dksX1_ruleOf_2 0 rfl rfl)
theorem dX1_ruleOf_37 : decode cX1_ruleOf 37 = .ok (.invokedynamic 78, 5) := by decide +kernel
theorem dX1_ruleOf_42 : decode cX1_ruleOf 42 = .ok (.areturn, 1) := dk_176 (dk_at dksX1_ruleOf_2 6 rfl rfl)
theorem dX1_ruleOf_43 : decode cX1_ruleOf 43 = .ok (.iload_n 1, 1) := dk_27 (dk_at dksX1_ruleOf_2 7 rfl rfl)
theorem dX1_ruleOf_44 : decode cX1_ruleOf 44 = .ok (.invokedynamic 82, 5) := by decide +kernel
theorem dX1_ruleOf_49 : decode cX1_ruleOf 49 = .ok (.areturn, 1) := dk_176 (dk_at dksX1_ruleOf_2 13 rfl rfl)
theorem dX1_ruleOf_50 : decode cX1_ruleOf 50 = .ok (.iload_n 1, 1) := dk_27 (dk_at dksX1_ruleOf_2 14 rfl rfl)
theorem dX1_ruleOf_51 : decode cX1_ruleOf 51 = .ok (.invokedynamic 83, 5) := by decide +kernel
theorem dX1_ruleOf_56 : decode cX1_ruleOf 56 = .ok (.areturn, 1) := dk_176 (dk_at dksX1_ruleOf_2 20 rfl rfl)
theorem dX1_ruleOf_57 : decode cX1_ruleOf 57 = .ok (.iload_n 1, 1) := dk_27 (dk_at dksX1_ruleOf_2 21 rfl rfl)
theorem dX1_ruleOf_58 : decode cX1_ruleOf 58 = .ok (.invokedynamic 84, 5) := by decide +kernel
theorem dX1_ruleOf_63 : decode cX1_ruleOf 63 = .ok (.areturn, 1) := dk_176 (dk_at dksX1_ruleOf_3 5 rfl rfl)
abbrev cX1_lambda_ruleOf_0 : ByteArray := prog_1_method_69_code
def yX1_lambda_ruleOf_0 : MethodName := ⟨RX1, "lambda$ruleOf$0", "(II)I"⟩
def dkwX1_lambda_ruleOf_0_0 : List UInt8 := [26, 27, 16, 60, 96, 4, 100, 16, 60, 108, 104, 172]
abbrev dktX1_lambda_ruleOf_0_0 : List UInt8 := dkwX1_lambda_ruleOf_0_0 ++ []
theorem dksX1_lambda_ruleOf_0_0 : cX1_lambda_ruleOf_0.data.toList.drop 0 = dktX1_lambda_ruleOf_0_0 := by decide +kernel
theorem dX1_lambda_ruleOf_0_0 : decode cX1_lambda_ruleOf_0 0 = .ok (.iload_n 0, 1) := dk_26 (dk_at dksX1_lambda_ruleOf_0_0 0 rfl rfl)
theorem dX1_lambda_ruleOf_0_1 : decode cX1_lambda_ruleOf_0 1 = .ok (.iload_n 1, 1) := dk_27 (dk_at dksX1_lambda_ruleOf_0_0 1 rfl rfl)
theorem dX1_lambda_ruleOf_0_2 : decode cX1_lambda_ruleOf_0 2 = .ok (.bipush 60, 2) := dk_16 60 (dk_at dksX1_lambda_ruleOf_0_0 2 rfl rfl)
theorem dX1_lambda_ruleOf_0_4 : decode cX1_lambda_ruleOf_0 4 = .ok (.iadd, 1) := dk_96 (dk_at dksX1_lambda_ruleOf_0_0 4 rfl rfl)
theorem dX1_lambda_ruleOf_0_5 : decode cX1_lambda_ruleOf_0 5 = .ok (.iconst 1, 1) := dk_4 (dk_at dksX1_lambda_ruleOf_0_0 5 rfl rfl)
theorem dX1_lambda_ruleOf_0_6 : decode cX1_lambda_ruleOf_0 6 = .ok (.isub, 1) := dk_100 (dk_at dksX1_lambda_ruleOf_0_0 6 rfl rfl)
theorem dX1_lambda_ruleOf_0_7 : decode cX1_lambda_ruleOf_0 7 = .ok (.bipush 60, 2) := dk_16 60 (dk_at dksX1_lambda_ruleOf_0_0 7 rfl rfl)
theorem dX1_lambda_ruleOf_0_9 : decode cX1_lambda_ruleOf_0 9 = .ok (.idiv, 1) := dk_108 (dk_at dksX1_lambda_ruleOf_0_0 9 rfl rfl)
theorem dX1_lambda_ruleOf_0_10 : decode cX1_lambda_ruleOf_0 10 = .ok (.imul, 1) := dk_104 (dk_at dksX1_lambda_ruleOf_0_0 10 rfl rfl)
theorem dX1_lambda_ruleOf_0_11 : decode cX1_lambda_ruleOf_0 11 = .ok (.ireturn, 1) := dk_172 (dk_at dksX1_lambda_ruleOf_0_0 11 rfl rfl)
abbrev cX1_lambda_ruleOf_1 : ByteArray := prog_1_method_68_code
def yX1_lambda_ruleOf_1 : MethodName := ⟨RX1, "lambda$ruleOf$1", "(II)I"⟩
def dkwX1_lambda_ruleOf_1_0 : List UInt8 := [26, 27, 17, 5, 160, 96, 4, 100, 17, 5, 160, 108, 104, 172]
abbrev dktX1_lambda_ruleOf_1_0 : List UInt8 := dkwX1_lambda_ruleOf_1_0 ++ []
theorem dksX1_lambda_ruleOf_1_0 : cX1_lambda_ruleOf_1.data.toList.drop 0 = dktX1_lambda_ruleOf_1_0 := by decide +kernel
theorem dX1_lambda_ruleOf_1_0 : decode cX1_lambda_ruleOf_1 0 = .ok (.iload_n 0, 1) := dk_26 (dk_at dksX1_lambda_ruleOf_1_0 0 rfl rfl)
theorem dX1_lambda_ruleOf_1_1 : decode cX1_lambda_ruleOf_1 1 = .ok (.iload_n 1, 1) := dk_27 (dk_at dksX1_lambda_ruleOf_1_0 1 rfl rfl)
theorem dX1_lambda_ruleOf_1_2 : decode cX1_lambda_ruleOf_1 2 = .ok (.sipush 1440, 3) := dk_17 5 160 (dk_at dksX1_lambda_ruleOf_1_0 2 rfl rfl)
theorem dX1_lambda_ruleOf_1_5 : decode cX1_lambda_ruleOf_1 5 = .ok (.iadd, 1) := dk_96 (dk_at dksX1_lambda_ruleOf_1_0 5 rfl rfl)
theorem dX1_lambda_ruleOf_1_6 : decode cX1_lambda_ruleOf_1 6 = .ok (.iconst 1, 1) := dk_4 (dk_at dksX1_lambda_ruleOf_1_0 6 rfl rfl)
theorem dX1_lambda_ruleOf_1_7 : decode cX1_lambda_ruleOf_1 7 = .ok (.isub, 1) := dk_100 (dk_at dksX1_lambda_ruleOf_1_0 7 rfl rfl)
theorem dX1_lambda_ruleOf_1_8 : decode cX1_lambda_ruleOf_1 8 = .ok (.sipush 1440, 3) := dk_17 5 160 (dk_at dksX1_lambda_ruleOf_1_0 8 rfl rfl)
theorem dX1_lambda_ruleOf_1_11 : decode cX1_lambda_ruleOf_1 11 = .ok (.idiv, 1) := dk_108 (dk_at dksX1_lambda_ruleOf_1_0 11 rfl rfl)
theorem dX1_lambda_ruleOf_1_12 : decode cX1_lambda_ruleOf_1 12 = .ok (.imul, 1) := dk_104 (dk_at dksX1_lambda_ruleOf_1_0 12 rfl rfl)
theorem dX1_lambda_ruleOf_1_13 : decode cX1_lambda_ruleOf_1 13 = .ok (.ireturn, 1) := dk_172 (dk_at dksX1_lambda_ruleOf_1_0 13 rfl rfl)
abbrev cX1_lambda_ruleOf_2 : ByteArray := prog_1_method_67_code
def yX1_lambda_ruleOf_2 : MethodName := ⟨RX1, "lambda$ruleOf$2", "(II)I"⟩
def dkwX1_lambda_ruleOf_2_0 : List UInt8 := [27, 26, 164, 0, 8, 16, 10, 167, 0, 4, 3, 172]
abbrev dktX1_lambda_ruleOf_2_0 : List UInt8 := dkwX1_lambda_ruleOf_2_0 ++ []
theorem dksX1_lambda_ruleOf_2_0 : cX1_lambda_ruleOf_2.data.toList.drop 0 = dktX1_lambda_ruleOf_2_0 := by decide +kernel
theorem dX1_lambda_ruleOf_2_0 : decode cX1_lambda_ruleOf_2 0 = .ok (.iload_n 1, 1) := dk_27 (dk_at dksX1_lambda_ruleOf_2_0 0 rfl rfl)
theorem dX1_lambda_ruleOf_2_1 : decode cX1_lambda_ruleOf_2 1 = .ok (.iload_n 0, 1) := dk_26 (dk_at dksX1_lambda_ruleOf_2_0 1 rfl rfl)
theorem dX1_lambda_ruleOf_2_2 : decode cX1_lambda_ruleOf_2 2 = .ok (.if_icmp .le 8, 3) := dk_164 0 8 (dk_at dksX1_lambda_ruleOf_2_0 2 rfl rfl)
theorem dX1_lambda_ruleOf_2_5 : decode cX1_lambda_ruleOf_2 5 = .ok (.bipush 10, 2) := dk_16 10 (dk_at dksX1_lambda_ruleOf_2_0 5 rfl rfl)
theorem dX1_lambda_ruleOf_2_7 : decode cX1_lambda_ruleOf_2 7 = .ok (.goto 4, 3) := dk_167 0 4 (dk_at dksX1_lambda_ruleOf_2_0 7 rfl rfl)
theorem dX1_lambda_ruleOf_2_10 : decode cX1_lambda_ruleOf_2 10 = .ok (.iconst 0, 1) := dk_3 (dk_at dksX1_lambda_ruleOf_2_0 10 rfl rfl)
theorem dX1_lambda_ruleOf_2_11 : decode cX1_lambda_ruleOf_2 11 = .ok (.ireturn, 1) := dk_172 (dk_at dksX1_lambda_ruleOf_2_0 11 rfl rfl)
abbrev cX1_lambda_ruleOf_3 : ByteArray := prog_1_method_66_code
def yX1_lambda_ruleOf_3 : MethodName := ⟨RX1, "lambda$ruleOf$3", "(II)I"⟩
def dkwX1_lambda_ruleOf_3_0 : List UInt8 := [27, 154, 0, 7, 3, 167, 0, 16, 26, 4, 16, 6, 27, 16, 60, 108, 184, 0, 144, 120, 104, 172]
abbrev dktX1_lambda_ruleOf_3_0 : List UInt8 := dkwX1_lambda_ruleOf_3_0 ++ []
theorem dksX1_lambda_ruleOf_3_0 : cX1_lambda_ruleOf_3.data.toList.drop 0 = dktX1_lambda_ruleOf_3_0 := by decide +kernel
theorem dX1_lambda_ruleOf_3_0 : decode cX1_lambda_ruleOf_3 0 = .ok (.iload_n 1, 1) := dk_27 (dk_at dksX1_lambda_ruleOf_3_0 0 rfl rfl)
theorem dX1_lambda_ruleOf_3_1 : decode cX1_lambda_ruleOf_3 1 = .ok (.ifCond .ne 7, 3) := dk_154 0 7 (dk_at dksX1_lambda_ruleOf_3_0 1 rfl rfl)
theorem dX1_lambda_ruleOf_3_4 : decode cX1_lambda_ruleOf_3 4 = .ok (.iconst 0, 1) := dk_3 (dk_at dksX1_lambda_ruleOf_3_0 4 rfl rfl)
theorem dX1_lambda_ruleOf_3_5 : decode cX1_lambda_ruleOf_3 5 = .ok (.goto 16, 3) := dk_167 0 16 (dk_at dksX1_lambda_ruleOf_3_0 5 rfl rfl)
theorem dX1_lambda_ruleOf_3_8 : decode cX1_lambda_ruleOf_3 8 = .ok (.iload_n 0, 1) := dk_26 (dk_at dksX1_lambda_ruleOf_3_0 8 rfl rfl)
theorem dX1_lambda_ruleOf_3_9 : decode cX1_lambda_ruleOf_3 9 = .ok (.iconst 1, 1) := dk_4 (dk_at dksX1_lambda_ruleOf_3_0 9 rfl rfl)
theorem dX1_lambda_ruleOf_3_10 : decode cX1_lambda_ruleOf_3 10 = .ok (.bipush 6, 2) := dk_16 6 (dk_at dksX1_lambda_ruleOf_3_0 10 rfl rfl)
theorem dX1_lambda_ruleOf_3_12 : decode cX1_lambda_ruleOf_3 12 = .ok (.iload_n 1, 1) := dk_27 (dk_at dksX1_lambda_ruleOf_3_0 12 rfl rfl)
theorem dX1_lambda_ruleOf_3_13 : decode cX1_lambda_ruleOf_3 13 = .ok (.bipush 60, 2) := dk_16 60 (dk_at dksX1_lambda_ruleOf_3_0 13 rfl rfl)
theorem dX1_lambda_ruleOf_3_15 : decode cX1_lambda_ruleOf_3 15 = .ok (.idiv, 1) := dk_108 (dk_at dksX1_lambda_ruleOf_3_0 15 rfl rfl)
theorem dX1_lambda_ruleOf_3_16 : decode cX1_lambda_ruleOf_3 16 = .ok (.invokestatic 144, 3) := dk_184 0 144 (dk_at dksX1_lambda_ruleOf_3_0 16 rfl rfl)
theorem dX1_lambda_ruleOf_3_19 : decode cX1_lambda_ruleOf_3 19 = .ok (.ishl, 1) := dk_120 (dk_at dksX1_lambda_ruleOf_3_0 19 rfl rfl)
theorem dX1_lambda_ruleOf_3_20 : decode cX1_lambda_ruleOf_3 20 = .ok (.imul, 1) := dk_104 (dk_at dksX1_lambda_ruleOf_3_0 20 rfl rfl)
theorem dX1_lambda_ruleOf_3_21 : decode cX1_lambda_ruleOf_3 21 = .ok (.ireturn, 1) := dk_172 (dk_at dksX1_lambda_ruleOf_3_0 21 rfl rfl)
abbrev cX1_pass : ByteArray := prog_1_method_20_code
def yX1_pass : MethodName := ⟨RX1, "pass", "(I)I"⟩
def dkwX1_pass_1 : List UInt8 := [167, 0, 4, 3, 184, 0, 208, 42, 89, 180, 0, 232, 27, 96, 181, 0, 232, 42, 180, 0, 232, 172]
abbrev dktX1_pass_1 : List UInt8 := dkwX1_pass_1 ++ []
def dkwX1_pass_0 : List UInt8 := [27, 4, 18, 231, 184, 0, 68, 184, 0, 203, 42, 180, 0, 232, 27, 96, 18, 223, 163, 0, 7, 4]
abbrev dktX1_pass_0 : List UInt8 := dkwX1_pass_0 ++ dktX1_pass_1
theorem dksX1_pass_0 : cX1_pass.data.toList.drop 0 = dktX1_pass_0 := by decide +kernel
theorem dksX1_pass_1 : cX1_pass.data.toList.drop 22 = dktX1_pass_1 := dk_seg dksX1_pass_0 22 rfl rfl
theorem dX1_pass_0 : decode cX1_pass 0 = .ok (.iload_n 1, 1) := dk_27 (dk_at dksX1_pass_0 0 rfl rfl)
theorem dX1_pass_1 : decode cX1_pass 1 = .ok (.iconst 1, 1) := dk_4 (dk_at dksX1_pass_0 1 rfl rfl)
theorem dX1_pass_2 : decode cX1_pass 2 = .ok (.ldc 231, 2) := dk_18 231 (dk_at dksX1_pass_0 2 rfl rfl)
theorem dX1_pass_4 : decode cX1_pass 4 = .ok (.invokestatic 68, 3) := dk_184 0 68 (dk_at dksX1_pass_0 4 rfl rfl)
theorem dX1_pass_7 : decode cX1_pass 7 = .ok (.invokestatic 203, 3) := dk_184 0 203 (dk_at dksX1_pass_0 7 rfl rfl)
theorem dX1_pass_10 : decode cX1_pass 10 = .ok (.aload_n 0, 1) := dk_42 (dk_at dksX1_pass_0 10 rfl rfl)
theorem dX1_pass_11 : decode cX1_pass 11 = .ok (.getfield 232, 3) := dk_180 0 232 (dk_at dksX1_pass_0 11 rfl rfl)
theorem dX1_pass_14 : decode cX1_pass 14 = .ok (.iload_n 1, 1) := dk_27 (dk_at dksX1_pass_0 14 rfl rfl)
theorem dX1_pass_15 : decode cX1_pass 15 = .ok (.iadd, 1) := dk_96 (dk_at dksX1_pass_0 15 rfl rfl)
theorem dX1_pass_16 : decode cX1_pass 16 = .ok (.ldc 223, 2) := dk_18 223 (dk_at dksX1_pass_0 16 rfl rfl)
theorem dX1_pass_18 : decode cX1_pass 18 = .ok (.if_icmp .gt 7, 3) := dk_163 0 7 (dk_at dksX1_pass_0 18 rfl rfl)
theorem dX1_pass_21 : decode cX1_pass 21 = .ok (.iconst 1, 1) := dk_4 (dk_at dksX1_pass_0 21 rfl rfl)
theorem dX1_pass_22 : decode cX1_pass 22 = .ok (.goto 4, 3) := dk_167 0 4 (dk_at dksX1_pass_1 0 rfl rfl)
theorem dX1_pass_25 : decode cX1_pass 25 = .ok (.iconst 0, 1) := dk_3 (dk_at dksX1_pass_1 3 rfl rfl)
theorem dX1_pass_26 : decode cX1_pass 26 = .ok (.invokestatic 208, 3) := dk_184 0 208 (dk_at dksX1_pass_1 4 rfl rfl)
theorem dX1_pass_29 : decode cX1_pass 29 = .ok (.aload_n 0, 1) := dk_42 (dk_at dksX1_pass_1 7 rfl rfl)
theorem dX1_pass_30 : decode cX1_pass 30 = .ok (.dup, 1) := dk_89 (dk_at dksX1_pass_1 8 rfl rfl)
theorem dX1_pass_31 : decode cX1_pass 31 = .ok (.getfield 232, 3) := dk_180 0 232 (dk_at dksX1_pass_1 9 rfl rfl)
theorem dX1_pass_34 : decode cX1_pass 34 = .ok (.iload_n 1, 1) := dk_27 (dk_at dksX1_pass_1 12 rfl rfl)
theorem dX1_pass_35 : decode cX1_pass 35 = .ok (.iadd, 1) := dk_96 (dk_at dksX1_pass_1 13 rfl rfl)
theorem dX1_pass_36 : decode cX1_pass 36 = .ok (.putfield 232, 3) := dk_181 0 232 (dk_at dksX1_pass_1 14 rfl rfl)
theorem dX1_pass_39 : decode cX1_pass 39 = .ok (.aload_n 0, 1) := dk_42 (dk_at dksX1_pass_1 17 rfl rfl)
theorem dX1_pass_40 : decode cX1_pass 40 = .ok (.getfield 232, 3) := dk_180 0 232 (dk_at dksX1_pass_1 18 rfl rfl)
theorem dX1_pass_43 : decode cX1_pass 43 = .ok (.ireturn, 1) := dk_172 (dk_at dksX1_pass_1 21 rfl rfl)
abbrev cX1_clock : ByteArray := prog_1_method_21_code
def yX1_clock : MethodName := ⟨RX1, "clock", "(I)I"⟩
def dkwX1_clock_1 : List UInt8 := [192, 0, 105, 182, 0, 107, 96, 172]
abbrev dktX1_clock_1 : List UInt8 := dkwX1_clock_1 ++ []
def dkwX1_clock_0 : List UInt8 := [27, 42, 180, 0, 14, 182, 0, 207, 184, 0, 219, 42, 180, 0, 232, 42, 180, 0, 14, 27, 182, 0, 101]
abbrev dktX1_clock_0 : List UInt8 := dkwX1_clock_0 ++ dktX1_clock_1
theorem dksX1_clock_0 : cX1_clock.data.toList.drop 0 = dktX1_clock_0 := by decide +kernel
theorem dksX1_clock_1 : cX1_clock.data.toList.drop 23 = dktX1_clock_1 := dk_seg dksX1_clock_0 23 rfl rfl
theorem dX1_clock_0 : decode cX1_clock 0 = .ok (.iload_n 1, 1) := dk_27 (dk_at dksX1_clock_0 0 rfl rfl)
theorem dX1_clock_1 : decode cX1_clock 1 = .ok (.aload_n 0, 1) := dk_42 (dk_at dksX1_clock_0 1 rfl rfl)
theorem dX1_clock_2 : decode cX1_clock 2 = .ok (.getfield 14, 3) := dk_180 0 14 (dk_at dksX1_clock_0 2 rfl rfl)
theorem dX1_clock_5 : decode cX1_clock 5 = .ok (.invokevirtual 207, 3) := dk_182 0 207 (dk_at dksX1_clock_0 5 rfl rfl)
theorem dX1_clock_8 : decode cX1_clock 8 = .ok (.invokestatic 219, 3) := dk_184 0 219 (dk_at dksX1_clock_0 8 rfl rfl)
theorem dX1_clock_11 : decode cX1_clock 11 = .ok (.aload_n 0, 1) := dk_42 (dk_at dksX1_clock_0 11 rfl rfl)
theorem dX1_clock_12 : decode cX1_clock 12 = .ok (.getfield 232, 3) := dk_180 0 232 (dk_at dksX1_clock_0 12 rfl rfl)
theorem dX1_clock_15 : decode cX1_clock 15 = .ok (.aload_n 0, 1) := dk_42 (dk_at dksX1_clock_0 15 rfl rfl)
theorem dX1_clock_16 : decode cX1_clock 16 = .ok (.getfield 14, 3) := dk_180 0 14 (dk_at dksX1_clock_0 16 rfl rfl)
theorem dX1_clock_19 : decode cX1_clock 19 = .ok (.iload_n 1, 1) := dk_27 (dk_at dksX1_clock_0 19 rfl rfl)
theorem dX1_clock_20 : decode cX1_clock 20 = .ok (.invokevirtual 101, 3) := dk_182 0 101 (dk_at dksX1_clock_0 20 rfl rfl)
theorem dX1_clock_23 : decode cX1_clock 23 = .ok (.checkcast 105, 3) := dk_192 0 105 (dk_at dksX1_clock_1 0 rfl rfl)
theorem dX1_clock_26 : decode cX1_clock 26 = .ok (.invokevirtual 107, 3) := dk_182 0 107 (dk_at dksX1_clock_1 3 rfl rfl)
theorem dX1_clock_29 : decode cX1_clock 29 = .ok (.iadd, 1) := dk_96 (dk_at dksX1_clock_1 6 rfl rfl)
theorem dX1_clock_30 : decode cX1_clock 30 = .ok (.ireturn, 1) := dk_172 (dk_at dksX1_clock_1 7 rfl rfl)
abbrev cX1_type : ByteArray := prog_1_method_25_code
def yX1_type : MethodName := ⟨RX1, "type", "(I)I"⟩
def dkwX1_type_1 : List UInt8 := [42, 42, 180, 0, 48, 182, 0, 237, 27, 182, 1, 4, 42, 182, 1, 1, 172]
abbrev dktX1_type_1 : List UInt8 := dkwX1_type_1 ++ []
def dkwX1_type_0 : List UInt8 := [27, 184, 0, 253, 184, 0, 203, 42, 182, 1, 1, 16, 40, 162, 0, 7, 4, 167, 0, 4, 3, 184, 0, 208]
abbrev dktX1_type_0 : List UInt8 := dkwX1_type_0 ++ dktX1_type_1
theorem dksX1_type_0 : cX1_type.data.toList.drop 0 = dktX1_type_0 := by decide +kernel
theorem dksX1_type_1 : cX1_type.data.toList.drop 24 = dktX1_type_1 := dk_seg dksX1_type_0 24 rfl rfl
theorem dX1_type_0 : decode cX1_type 0 = .ok (.iload_n 1, 1) := dk_27 (dk_at dksX1_type_0 0 rfl rfl)
theorem dX1_type_1 : decode cX1_type 1 = .ok (.invokestatic 253, 3) := dk_184 0 253 (dk_at dksX1_type_0 1 rfl rfl)
theorem dX1_type_4 : decode cX1_type 4 = .ok (.invokestatic 203, 3) := dk_184 0 203 (dk_at dksX1_type_0 4 rfl rfl)
theorem dX1_type_7 : decode cX1_type 7 = .ok (.aload_n 0, 1) := dk_42 (dk_at dksX1_type_0 7 rfl rfl)
theorem dX1_type_8 : decode cX1_type 8 = .ok (.invokevirtual 257, 3) := dk_182 1 1 (dk_at dksX1_type_0 8 rfl rfl)
theorem dX1_type_11 : decode cX1_type 11 = .ok (.bipush 40, 2) := dk_16 40 (dk_at dksX1_type_0 11 rfl rfl)
theorem dX1_type_13 : decode cX1_type 13 = .ok (.if_icmp .ge 7, 3) := dk_162 0 7 (dk_at dksX1_type_0 13 rfl rfl)
theorem dX1_type_16 : decode cX1_type 16 = .ok (.iconst 1, 1) := dk_4 (dk_at dksX1_type_0 16 rfl rfl)
theorem dX1_type_17 : decode cX1_type 17 = .ok (.goto 4, 3) := dk_167 0 4 (dk_at dksX1_type_0 17 rfl rfl)
theorem dX1_type_20 : decode cX1_type 20 = .ok (.iconst 0, 1) := dk_3 (dk_at dksX1_type_0 20 rfl rfl)
theorem dX1_type_21 : decode cX1_type 21 = .ok (.invokestatic 208, 3) := dk_184 0 208 (dk_at dksX1_type_0 21 rfl rfl)
theorem dX1_type_24 : decode cX1_type 24 = .ok (.aload_n 0, 1) := dk_42 (dk_at dksX1_type_1 0 rfl rfl)
theorem dX1_type_25 : decode cX1_type 25 = .ok (.aload_n 0, 1) := dk_42 (dk_at dksX1_type_1 1 rfl rfl)
theorem dX1_type_26 : decode cX1_type 26 = .ok (.getfield 48, 3) := dk_180 0 48 (dk_at dksX1_type_1 2 rfl rfl)
theorem dX1_type_29 : decode cX1_type 29 = .ok (.invokevirtual 237, 3) := dk_182 0 237 (dk_at dksX1_type_1 5 rfl rfl)
theorem dX1_type_32 : decode cX1_type 32 = .ok (.iload_n 1, 1) := dk_27 (dk_at dksX1_type_1 8 rfl rfl)
theorem dX1_type_33 : decode cX1_type 33 = .ok (.invokevirtual 260, 3) := dk_182 1 4 (dk_at dksX1_type_1 9 rfl rfl)
theorem dX1_type_36 : decode cX1_type 36 = .ok (.aload_n 0, 1) := dk_42 (dk_at dksX1_type_1 12 rfl rfl)
theorem dX1_type_37 : decode cX1_type 37 = .ok (.invokevirtual 257, 3) := dk_182 1 1 (dk_at dksX1_type_1 13 rfl rfl)
theorem dX1_type_40 : decode cX1_type 40 = .ok (.ireturn, 1) := dk_172 (dk_at dksX1_type_1 16 rfl rfl)
abbrev cX1_isSign : ByteArray := prog_1_method_22_code
def yX1_isSign : MethodName := ⟨RX1, "isSign", "(I)Z"⟩
def dkwX1_isSign_1 : List UInt8 := [184, 0, 68, 153, 0, 7, 4, 167, 0, 4, 3, 172]
abbrev dktX1_isSign_1 : List UInt8 := dkwX1_isSign_1 ++ []
def dkwX1_isSign_0 : List UInt8 := [26, 16, 97, 16, 122, 184, 0, 68, 154, 0, 20, 26, 16, 32, 159, 0, 14, 26, 18, 235, 18, 236]
abbrev dktX1_isSign_0 : List UInt8 := dkwX1_isSign_0 ++ dktX1_isSign_1
theorem dksX1_isSign_0 : cX1_isSign.data.toList.drop 0 = dktX1_isSign_0 := by decide +kernel
theorem dksX1_isSign_1 : cX1_isSign.data.toList.drop 22 = dktX1_isSign_1 := dk_seg dksX1_isSign_0 22 rfl rfl
theorem dX1_isSign_0 : decode cX1_isSign 0 = .ok (.iload_n 0, 1) := dk_26 (dk_at dksX1_isSign_0 0 rfl rfl)
theorem dX1_isSign_1 : decode cX1_isSign 1 = .ok (.bipush 97, 2) := dk_16 97 (dk_at dksX1_isSign_0 1 rfl rfl)
theorem dX1_isSign_3 : decode cX1_isSign 3 = .ok (.bipush 122, 2) := dk_16 122 (dk_at dksX1_isSign_0 3 rfl rfl)
theorem dX1_isSign_5 : decode cX1_isSign 5 = .ok (.invokestatic 68, 3) := dk_184 0 68 (dk_at dksX1_isSign_0 5 rfl rfl)
theorem dX1_isSign_8 : decode cX1_isSign 8 = .ok (.ifCond .ne 20, 3) := dk_154 0 20 (dk_at dksX1_isSign_0 8 rfl rfl)
theorem dX1_isSign_11 : decode cX1_isSign 11 = .ok (.iload_n 0, 1) := dk_26 (dk_at dksX1_isSign_0 11 rfl rfl)
theorem dX1_isSign_12 : decode cX1_isSign 12 = .ok (.bipush 32, 2) := dk_16 32 (dk_at dksX1_isSign_0 12 rfl rfl)
theorem dX1_isSign_14 : decode cX1_isSign 14 = .ok (.if_icmp .eq 14, 3) := dk_159 0 14 (dk_at dksX1_isSign_0 14 rfl rfl)
theorem dX1_isSign_17 : decode cX1_isSign 17 = .ok (.iload_n 0, 1) := dk_26 (dk_at dksX1_isSign_0 17 rfl rfl)
theorem dX1_isSign_18 : decode cX1_isSign 18 = .ok (.ldc 235, 2) := dk_18 235 (dk_at dksX1_isSign_0 18 rfl rfl)
theorem dX1_isSign_20 : decode cX1_isSign 20 = .ok (.ldc 236, 2) := dk_18 236 (dk_at dksX1_isSign_0 20 rfl rfl)
theorem dX1_isSign_22 : decode cX1_isSign 22 = .ok (.invokestatic 68, 3) := dk_184 0 68 (dk_at dksX1_isSign_1 0 rfl rfl)
theorem dX1_isSign_25 : decode cX1_isSign 25 = .ok (.ifCond .eq 7, 3) := dk_153 0 7 (dk_at dksX1_isSign_1 3 rfl rfl)
theorem dX1_isSign_28 : decode cX1_isSign 28 = .ok (.iconst 1, 1) := dk_4 (dk_at dksX1_isSign_1 6 rfl rfl)
theorem dX1_isSign_29 : decode cX1_isSign 29 = .ok (.goto 4, 3) := dk_167 0 4 (dk_at dksX1_isSign_1 7 rfl rfl)
theorem dX1_isSign_32 : decode cX1_isSign 32 = .ok (.iconst 0, 1) := dk_3 (dk_at dksX1_isSign_1 10 rfl rfl)
theorem dX1_isSign_33 : decode cX1_isSign 33 = .ok (.ireturn, 1) := dk_172 (dk_at dksX1_isSign_1 11 rfl rfl)
abbrev cX1_put : ByteArray := prog_1_method_24_code
def yX1_put : MethodName := ⟨RX1, "put", "(II)V"⟩
def dkwX1_put_2 : List UInt8 := [18, 85, 29, 16, 10, 124, 128, 146, 182, 0, 249, 87, 177]
abbrev dktX1_put_2 : List UInt8 := dkwX1_put_2 ++ []
def dkwX1_put_1 : List UInt8 := [62, 42, 180, 0, 48, 27, 18, 86, 29, 17, 3, 255, 126, 128, 146, 182, 0, 249, 87, 42, 180, 0, 48, 27]
abbrev dktX1_put_1 : List UInt8 := dkwX1_put_1 ++ dktX1_put_2
def dkwX1_put_0 : List UInt8 := [28, 18, 248, 162, 0, 17, 42, 180, 0, 48, 27, 28, 146, 182, 0, 249, 87, 167, 0, 43, 28, 18, 248, 100]
abbrev dktX1_put_0 : List UInt8 := dkwX1_put_0 ++ dktX1_put_1
theorem dksX1_put_0 : cX1_put.data.toList.drop 0 = dktX1_put_0 := by decide +kernel
theorem dksX1_put_1 : cX1_put.data.toList.drop 24 = dktX1_put_1 := dk_seg dksX1_put_0 24 rfl rfl
theorem dksX1_put_2 : cX1_put.data.toList.drop 48 = dktX1_put_2 := dk_seg dksX1_put_1 24 rfl rfl
theorem dX1_put_0 : decode cX1_put 0 = .ok (.iload_n 2, 1) := dk_28 (dk_at dksX1_put_0 0 rfl rfl)
theorem dX1_put_1 : decode cX1_put 1 = .ok (.ldc 248, 2) := dk_18 248 (dk_at dksX1_put_0 1 rfl rfl)
theorem dX1_put_3 : decode cX1_put 3 = .ok (.if_icmp .ge 17, 3) := dk_162 0 17 (dk_at dksX1_put_0 3 rfl rfl)
theorem dX1_put_6 : decode cX1_put 6 = .ok (.aload_n 0, 1) := dk_42 (dk_at dksX1_put_0 6 rfl rfl)
theorem dX1_put_7 : decode cX1_put 7 = .ok (.getfield 48, 3) := dk_180 0 48 (dk_at dksX1_put_0 7 rfl rfl)
theorem dX1_put_10 : decode cX1_put 10 = .ok (.iload_n 1, 1) := dk_27 (dk_at dksX1_put_0 10 rfl rfl)
theorem dX1_put_11 : decode cX1_put 11 = .ok (.iload_n 2, 1) := dk_28 (dk_at dksX1_put_0 11 rfl rfl)
theorem dX1_put_12 : decode cX1_put 12 = .ok (.i2c, 1) := dk_146 (dk_at dksX1_put_0 12 rfl rfl)
theorem dX1_put_13 : decode cX1_put 13 = .ok (.invokevirtual 249, 3) := dk_182 0 249 (dk_at dksX1_put_0 13 rfl rfl)
theorem dX1_put_16 : decode cX1_put 16 = .ok (.pop, 1) := dk_87 (dk_at dksX1_put_0 16 rfl rfl)
theorem dX1_put_17 : decode cX1_put 17 = .ok (.goto 43, 3) := dk_167 0 43 (dk_at dksX1_put_0 17 rfl rfl)
theorem dX1_put_20 : decode cX1_put 20 = .ok (.iload_n 2, 1) := dk_28 (dk_at dksX1_put_0 20 rfl rfl)
theorem dX1_put_21 : decode cX1_put 21 = .ok (.ldc 248, 2) := dk_18 248 (dk_at dksX1_put_0 21 rfl rfl)
theorem dX1_put_23 : decode cX1_put 23 = .ok (.isub, 1) := dk_100 (dk_at dksX1_put_0 23 rfl rfl)
theorem dX1_put_24 : decode cX1_put 24 = .ok (.istore_n 3, 1) := dk_62 (dk_at dksX1_put_1 0 rfl rfl)
theorem dX1_put_25 : decode cX1_put 25 = .ok (.aload_n 0, 1) := dk_42 (dk_at dksX1_put_1 1 rfl rfl)
theorem dX1_put_26 : decode cX1_put 26 = .ok (.getfield 48, 3) := dk_180 0 48 (dk_at dksX1_put_1 2 rfl rfl)
theorem dX1_put_29 : decode cX1_put 29 = .ok (.iload_n 1, 1) := dk_27 (dk_at dksX1_put_1 5 rfl rfl)
theorem dX1_put_30 : decode cX1_put 30 = .ok (.ldc 86, 2) := dk_18 86 (dk_at dksX1_put_1 6 rfl rfl)
theorem dX1_put_32 : decode cX1_put 32 = .ok (.iload_n 3, 1) := dk_29 (dk_at dksX1_put_1 8 rfl rfl)
theorem dX1_put_33 : decode cX1_put 33 = .ok (.sipush 1023, 3) := dk_17 3 255 (dk_at dksX1_put_1 9 rfl rfl)
theorem dX1_put_36 : decode cX1_put 36 = .ok (.iand, 1) := dk_126 (dk_at dksX1_put_1 12 rfl rfl)
theorem dX1_put_37 : decode cX1_put 37 = .ok (.ior, 1) := dk_128 (dk_at dksX1_put_1 13 rfl rfl)
theorem dX1_put_38 : decode cX1_put 38 = .ok (.i2c, 1) := dk_146 (dk_at dksX1_put_1 14 rfl rfl)
theorem dX1_put_39 : decode cX1_put 39 = .ok (.invokevirtual 249, 3) := dk_182 0 249 (dk_at dksX1_put_1 15 rfl rfl)
theorem dX1_put_42 : decode cX1_put 42 = .ok (.pop, 1) := dk_87 (dk_at dksX1_put_1 18 rfl rfl)
theorem dX1_put_43 : decode cX1_put 43 = .ok (.aload_n 0, 1) := dk_42 (dk_at dksX1_put_1 19 rfl rfl)
theorem dX1_put_44 : decode cX1_put 44 = .ok (.getfield 48, 3) := dk_180 0 48 (dk_at dksX1_put_1 20 rfl rfl)
theorem dX1_put_47 : decode cX1_put 47 = .ok (.iload_n 1, 1) := dk_27 (dk_at dksX1_put_1 23 rfl rfl)
theorem dX1_put_48 : decode cX1_put 48 = .ok (.ldc 85, 2) := dk_18 85 (dk_at dksX1_put_2 0 rfl rfl)
theorem dX1_put_50 : decode cX1_put 50 = .ok (.iload_n 3, 1) := dk_29 (dk_at dksX1_put_2 2 rfl rfl)
theorem dX1_put_51 : decode cX1_put 51 = .ok (.bipush 10, 2) := dk_16 10 (dk_at dksX1_put_2 3 rfl rfl)
theorem dX1_put_53 : decode cX1_put 53 = .ok (.iushr, 1) := dk_124 (dk_at dksX1_put_2 5 rfl rfl)
theorem dX1_put_54 : decode cX1_put 54 = .ok (.ior, 1) := dk_128 (dk_at dksX1_put_2 6 rfl rfl)
theorem dX1_put_55 : decode cX1_put 55 = .ok (.i2c, 1) := dk_146 (dk_at dksX1_put_2 7 rfl rfl)
theorem dX1_put_56 : decode cX1_put 56 = .ok (.invokevirtual 249, 3) := dk_182 0 249 (dk_at dksX1_put_2 8 rfl rfl)
theorem dX1_put_59 : decode cX1_put 59 = .ok (.pop, 1) := dk_87 (dk_at dksX1_put_2 11 rfl rfl)
theorem dX1_put_60 : decode cX1_put 60 = .ok (.return_, 1) := dk_177 (dk_at dksX1_put_2 12 rfl rfl)
abbrev cX1_insert : ByteArray := prog_1_method_26_code
def yX1_insert : MethodName := ⟨RX1, "insert", "(II)I"⟩
def dkwX1_insert_3 : List UInt8 := [167, 255, 225, 42, 29, 28, 182, 1, 4, 42, 180, 0, 48, 182, 0, 237, 172]
abbrev dktX1_insert_3 : List UInt8 := dkwX1_insert_3 ++ []
def dkwX1_insert_2 : List UInt8 := [180, 0, 48, 29, 182, 0, 240, 184, 0, 244, 153, 0, 7, 5, 167, 0, 4, 4, 96, 62, 132, 4, 1]
abbrev dktX1_insert_2 : List UInt8 := dkwX1_insert_2 ++ dktX1_insert_3
def dkwX1_insert_1 : List UInt8 := [162, 0, 7, 4, 167, 0, 4, 3, 184, 0, 208, 3, 62, 3, 54, 4, 21, 4, 27, 162, 0, 31, 29, 42]
abbrev dktX1_insert_1 : List UInt8 := dkwX1_insert_1 ++ dktX1_insert_2
def dkwX1_insert_0 : List UInt8 := [27, 42, 182, 1, 1, 4, 96, 184, 0, 219, 28, 184, 0, 253, 184, 0, 203, 42, 182, 1, 1, 16, 40]
abbrev dktX1_insert_0 : List UInt8 := dkwX1_insert_0 ++ dktX1_insert_1
theorem dksX1_insert_0 : cX1_insert.data.toList.drop 0 = dktX1_insert_0 := by decide +kernel
theorem dksX1_insert_1 : cX1_insert.data.toList.drop 23 = dktX1_insert_1 := dk_seg dksX1_insert_0 23 rfl rfl
theorem dksX1_insert_2 : cX1_insert.data.toList.drop 47 = dktX1_insert_2 := dk_seg dksX1_insert_1 24 rfl rfl
theorem dksX1_insert_3 : cX1_insert.data.toList.drop 70 = dktX1_insert_3 := dk_seg dksX1_insert_2 23 rfl rfl
theorem dX1_insert_0 : decode cX1_insert 0 = .ok (.iload_n 1, 1) := dk_27 (dk_at dksX1_insert_0 0 rfl rfl)
theorem dX1_insert_1 : decode cX1_insert 1 = .ok (.aload_n 0, 1) := dk_42 (dk_at dksX1_insert_0 1 rfl rfl)
theorem dX1_insert_2 : decode cX1_insert 2 = .ok (.invokevirtual 257, 3) := dk_182 1 1 (dk_at dksX1_insert_0 2 rfl rfl)
theorem dX1_insert_5 : decode cX1_insert 5 = .ok (.iconst 1, 1) := dk_4 (dk_at dksX1_insert_0 5 rfl rfl)
theorem dX1_insert_6 : decode cX1_insert 6 = .ok (.iadd, 1) := dk_96 (dk_at dksX1_insert_0 6 rfl rfl)
theorem dX1_insert_7 : decode cX1_insert 7 = .ok (.invokestatic 219, 3) := dk_184 0 219 (dk_at dksX1_insert_0 7 rfl rfl)
theorem dX1_insert_10 : decode cX1_insert 10 = .ok (.iload_n 2, 1) := dk_28 (dk_at dksX1_insert_0 10 rfl rfl)
theorem dX1_insert_11 : decode cX1_insert 11 = .ok (.invokestatic 253, 3) := dk_184 0 253 (dk_at dksX1_insert_0 11 rfl rfl)
theorem dX1_insert_14 : decode cX1_insert 14 = .ok (.invokestatic 203, 3) := dk_184 0 203 (dk_at dksX1_insert_0 14 rfl rfl)
theorem dX1_insert_17 : decode cX1_insert 17 = .ok (.aload_n 0, 1) := dk_42 (dk_at dksX1_insert_0 17 rfl rfl)
theorem dX1_insert_18 : decode cX1_insert 18 = .ok (.invokevirtual 257, 3) := dk_182 1 1 (dk_at dksX1_insert_0 18 rfl rfl)
theorem dX1_insert_21 : decode cX1_insert 21 = .ok (.bipush 40, 2) := dk_16 40 (dk_at dksX1_insert_0 21 rfl rfl)
theorem dX1_insert_23 : decode cX1_insert 23 = .ok (.if_icmp .ge 7, 3) := dk_162 0 7 (dk_at dksX1_insert_1 0 rfl rfl)
theorem dX1_insert_26 : decode cX1_insert 26 = .ok (.iconst 1, 1) := dk_4 (dk_at dksX1_insert_1 3 rfl rfl)
theorem dX1_insert_27 : decode cX1_insert 27 = .ok (.goto 4, 3) := dk_167 0 4 (dk_at dksX1_insert_1 4 rfl rfl)
theorem dX1_insert_30 : decode cX1_insert 30 = .ok (.iconst 0, 1) := dk_3 (dk_at dksX1_insert_1 7 rfl rfl)
theorem dX1_insert_31 : decode cX1_insert 31 = .ok (.invokestatic 208, 3) := dk_184 0 208 (dk_at dksX1_insert_1 8 rfl rfl)
theorem dX1_insert_34 : decode cX1_insert 34 = .ok (.iconst 0, 1) := dk_3 (dk_at dksX1_insert_1 11 rfl rfl)
theorem dX1_insert_35 : decode cX1_insert 35 = .ok (.istore_n 3, 1) := dk_62 (dk_at dksX1_insert_1 12 rfl rfl)
theorem dX1_insert_36 : decode cX1_insert 36 = .ok (.iconst 0, 1) := dk_3 (dk_at dksX1_insert_1 13 rfl rfl)
theorem dX1_insert_37 : decode cX1_insert 37 = .ok (.istore 4, 2) := dk_54 4 (dk_at dksX1_insert_1 14 rfl rfl)
theorem dX1_insert_39 : decode cX1_insert 39 = .ok (.iload 4, 2) := dk_21 4 (dk_at dksX1_insert_1 16 rfl rfl)
theorem dX1_insert_41 : decode cX1_insert 41 = .ok (.iload_n 1, 1) := dk_27 (dk_at dksX1_insert_1 18 rfl rfl)
theorem dX1_insert_42 : decode cX1_insert 42 = .ok (.if_icmp .ge 31, 3) := dk_162 0 31 (dk_at dksX1_insert_1 19 rfl rfl)
theorem dX1_insert_45 : decode cX1_insert 45 = .ok (.iload_n 3, 1) := dk_29 (dk_at dksX1_insert_1 22 rfl rfl)
theorem dX1_insert_46 : decode cX1_insert 46 = .ok (.aload_n 0, 1) := dk_42 (dk_at dksX1_insert_1 23 rfl rfl)
theorem dX1_insert_47 : decode cX1_insert 47 = .ok (.getfield 48, 3) := dk_180 0 48 (dk_at dksX1_insert_2 0 rfl rfl)
theorem dX1_insert_50 : decode cX1_insert 50 = .ok (.iload_n 3, 1) := dk_29 (dk_at dksX1_insert_2 3 rfl rfl)
theorem dX1_insert_51 : decode cX1_insert 51 = .ok (.invokevirtual 240, 3) := dk_182 0 240 (dk_at dksX1_insert_2 4 rfl rfl)
theorem dX1_insert_54 : decode cX1_insert 54 = .ok (.invokestatic 244, 3) := dk_184 0 244 (dk_at dksX1_insert_2 7 rfl rfl)
theorem dX1_insert_57 : decode cX1_insert 57 = .ok (.ifCond .eq 7, 3) := dk_153 0 7 (dk_at dksX1_insert_2 10 rfl rfl)
theorem dX1_insert_60 : decode cX1_insert 60 = .ok (.iconst 2, 1) := dk_5 (dk_at dksX1_insert_2 13 rfl rfl)
theorem dX1_insert_61 : decode cX1_insert 61 = .ok (.goto 4, 3) := dk_167 0 4 (dk_at dksX1_insert_2 14 rfl rfl)
theorem dX1_insert_64 : decode cX1_insert 64 = .ok (.iconst 1, 1) := dk_4 (dk_at dksX1_insert_2 17 rfl rfl)
theorem dX1_insert_65 : decode cX1_insert 65 = .ok (.iadd, 1) := dk_96 (dk_at dksX1_insert_2 18 rfl rfl)
theorem dX1_insert_66 : decode cX1_insert 66 = .ok (.istore_n 3, 1) := dk_62 (dk_at dksX1_insert_2 19 rfl rfl)
theorem dX1_insert_67 : decode cX1_insert 67 = .ok (.iinc 4 1, 3) := dk_132 4 1 (dk_at dksX1_insert_2 20 rfl rfl)
theorem dX1_insert_70 : decode cX1_insert 70 = .ok (.goto (-31), 3) := dk_167 255 225 (dk_at dksX1_insert_3 0 rfl rfl)
theorem dX1_insert_73 : decode cX1_insert 73 = .ok (.aload_n 0, 1) := dk_42 (dk_at dksX1_insert_3 3 rfl rfl)
theorem dX1_insert_74 : decode cX1_insert 74 = .ok (.iload_n 3, 1) := dk_29 (dk_at dksX1_insert_3 4 rfl rfl)
theorem dX1_insert_75 : decode cX1_insert 75 = .ok (.iload_n 2, 1) := dk_28 (dk_at dksX1_insert_3 5 rfl rfl)
theorem dX1_insert_76 : decode cX1_insert 76 = .ok (.invokevirtual 260, 3) := dk_182 1 4 (dk_at dksX1_insert_3 6 rfl rfl)
theorem dX1_insert_79 : decode cX1_insert 79 = .ok (.aload_n 0, 1) := dk_42 (dk_at dksX1_insert_3 9 rfl rfl)
theorem dX1_insert_80 : decode cX1_insert 80 = .ok (.getfield 48, 3) := dk_180 0 48 (dk_at dksX1_insert_3 10 rfl rfl)
theorem dX1_insert_83 : decode cX1_insert 83 = .ok (.invokevirtual 237, 3) := dk_182 0 237 (dk_at dksX1_insert_3 13 rfl rfl)
theorem dX1_insert_86 : decode cX1_insert 86 = .ok (.ireturn, 1) := dk_172 (dk_at dksX1_insert_3 16 rfl rfl)
abbrev cX1_charAt : ByteArray := prog_1_method_29_code
def yX1_charAt : MethodName := ⟨RX1, "charAt", "(I)C"⟩
def dkwX1_charAt_1 : List UInt8 := [182, 0, 240, 172]
abbrev dktX1_charAt_1 : List UInt8 := dkwX1_charAt_1 ++ []
def dkwX1_charAt_0 : List UInt8 := [27, 3, 42, 180, 0, 48, 182, 0, 237, 4, 100, 184, 0, 68, 184, 1, 14, 42, 180, 0, 48, 27]
abbrev dktX1_charAt_0 : List UInt8 := dkwX1_charAt_0 ++ dktX1_charAt_1
theorem dksX1_charAt_0 : cX1_charAt.data.toList.drop 0 = dktX1_charAt_0 := by decide +kernel
theorem dksX1_charAt_1 : cX1_charAt.data.toList.drop 22 = dktX1_charAt_1 := dk_seg dksX1_charAt_0 22 rfl rfl
theorem dX1_charAt_0 : decode cX1_charAt 0 = .ok (.iload_n 1, 1) := dk_27 (dk_at dksX1_charAt_0 0 rfl rfl)
theorem dX1_charAt_1 : decode cX1_charAt 1 = .ok (.iconst 0, 1) := dk_3 (dk_at dksX1_charAt_0 1 rfl rfl)
theorem dX1_charAt_2 : decode cX1_charAt 2 = .ok (.aload_n 0, 1) := dk_42 (dk_at dksX1_charAt_0 2 rfl rfl)
theorem dX1_charAt_3 : decode cX1_charAt 3 = .ok (.getfield 48, 3) := dk_180 0 48 (dk_at dksX1_charAt_0 3 rfl rfl)
theorem dX1_charAt_6 : decode cX1_charAt 6 = .ok (.invokevirtual 237, 3) := dk_182 0 237 (dk_at dksX1_charAt_0 6 rfl rfl)
theorem dX1_charAt_9 : decode cX1_charAt 9 = .ok (.iconst 1, 1) := dk_4 (dk_at dksX1_charAt_0 9 rfl rfl)
theorem dX1_charAt_10 : decode cX1_charAt 10 = .ok (.isub, 1) := dk_100 (dk_at dksX1_charAt_0 10 rfl rfl)
theorem dX1_charAt_11 : decode cX1_charAt 11 = .ok (.invokestatic 68, 3) := dk_184 0 68 (dk_at dksX1_charAt_0 11 rfl rfl)
theorem dX1_charAt_14 : decode cX1_charAt 14 = .ok (.invokestatic 270, 3) := dk_184 1 14 (dk_at dksX1_charAt_0 14 rfl rfl)
theorem dX1_charAt_17 : decode cX1_charAt 17 = .ok (.aload_n 0, 1) := dk_42 (dk_at dksX1_charAt_0 17 rfl rfl)
theorem dX1_charAt_18 : decode cX1_charAt 18 = .ok (.getfield 48, 3) := dk_180 0 48 (dk_at dksX1_charAt_0 18 rfl rfl)
theorem dX1_charAt_21 : decode cX1_charAt 21 = .ok (.iload_n 1, 1) := dk_27 (dk_at dksX1_charAt_0 21 rfl rfl)
theorem dX1_charAt_22 : decode cX1_charAt 22 = .ok (.invokevirtual 240, 3) := dk_182 0 240 (dk_at dksX1_charAt_1 0 rfl rfl)
theorem dX1_charAt_25 : decode cX1_charAt 25 = .ok (.ireturn, 1) := dk_172 (dk_at dksX1_charAt_1 3 rfl rfl)
abbrev cX1_checkElement : ByteArray := prog_1_method_6_code
def yX1_checkElement : MethodName := ⟨RX1, "checkElement", "(Z)V"⟩
def dkwX1_checkElement_0 : List UInt8 := [26, 154, 0, 11, 187, 0, 65, 89, 183, 0, 67, 191, 177]
abbrev dktX1_checkElement_0 : List UInt8 := dkwX1_checkElement_0 ++ []
theorem dksX1_checkElement_0 : cX1_checkElement.data.toList.drop 0 = dktX1_checkElement_0 := by decide +kernel
theorem dX1_checkElement_0 : decode cX1_checkElement 0 = .ok (.iload_n 0, 1) := dk_26 (dk_at dksX1_checkElement_0 0 rfl rfl)
theorem dX1_checkElement_1 : decode cX1_checkElement 1 = .ok (.ifCond .ne 11, 3) := dk_154 0 11 (dk_at dksX1_checkElement_0 1 rfl rfl)
theorem dX1_checkElement_4 : decode cX1_checkElement 4 = .ok (.new 65, 3) := dk_187 0 65 (dk_at dksX1_checkElement_0 4 rfl rfl)
theorem dX1_checkElement_7 : decode cX1_checkElement 7 = .ok (.dup, 1) := dk_89 (dk_at dksX1_checkElement_0 7 rfl rfl)
theorem dX1_checkElement_8 : decode cX1_checkElement 8 = .ok (.invokespecial 67, 3) := dk_183 0 67 (dk_at dksX1_checkElement_0 8 rfl rfl)
theorem dX1_checkElement_11 : decode cX1_checkElement 11 = .ok (.athrow, 1) := dk_191 (dk_at dksX1_checkElement_0 11 rfl rfl)
theorem dX1_checkElement_12 : decode cX1_checkElement 12 = .ok (.return_, 1) := dk_177 (dk_at dksX1_checkElement_0 12 rfl rfl)
abbrev cX1_save : ByteArray := prog_1_method_32_code
def yX1_save : MethodName := ⟨RX1, "save", "(IIII)I"⟩
def dkwX1_save_9 : List UInt8 := [183, 1, 30, 182, 0, 215, 87, 42, 180, 0, 24, 182, 0, 207, 4, 100, 172]
abbrev dktX1_save_9 : List UInt8 := dkwX1_save_9 ++ []
def dkwX1_save_8 : List UInt8 := [180, 0, 24, 187, 0, 88, 89, 42, 180, 0, 24, 182, 0, 207, 27, 25, 6, 25, 5, 21, 7, 25, 8]
abbrev dktX1_save_8 : List UInt8 := dkwX1_save_8 ++ dktX1_save_9
def dkwX1_save_7 : List UInt8 := [180, 0, 48, 21, 9, 182, 0, 240, 85, 132, 9, 1, 167, 255, 231, 42, 180, 0, 48, 3, 182, 1, 11, 42]
abbrev dktX1_save_7 : List UInt8 := dkwX1_save_7 ++ dktX1_save_8
def dkwX1_save_6 : List UInt8 := [182, 0, 237, 188, 5, 58, 8, 3, 54, 9, 21, 9, 25, 8, 190, 162, 0, 23, 25, 8, 21, 9, 42]
abbrev dktX1_save_6 : List UInt8 := dkwX1_save_6 ++ dktX1_save_7
def dkwX1_save_5 : List UInt8 := [180, 0, 24, 182, 0, 207, 16, 60, 162, 0, 7, 4, 167, 0, 4, 3, 184, 0, 208, 42, 180, 0, 48]
abbrev dktX1_save_5 : List UInt8 := dkwX1_save_5 ++ dktX1_save_6
def dkwX1_save_4 : List UInt8 := [153, 0, 17, 25, 5, 180, 1, 24, 21, 7, 163, 0, 7, 4, 167, 0, 4, 3, 184, 1, 27, 42]
abbrev dktX1_save_4 : List UInt8 := dkwX1_save_4 ++ dktX1_save_5
def dkwX1_save_3 : List UInt8 := [192, 0, 105, 182, 0, 107, 160, 0, 33, 25, 5, 198, 0, 24, 25, 5, 27, 25, 6, 182, 0, 161]
abbrev dktX1_save_3 : List UInt8 := dkwX1_save_3 ++ dktX1_save_4
def dkwX1_save_2 : List UInt8 := [42, 180, 0, 232, 21, 4, 100, 54, 7, 25, 6, 180, 0, 96, 42, 180, 0, 18, 27, 182, 0, 101]
abbrev dktX1_save_2 : List UInt8 := dkwX1_save_2 ++ dktX1_save_3
def dkwX1_save_1 : List UInt8 := [3, 42, 180, 0, 232, 184, 0, 68, 184, 0, 203, 42, 180, 0, 21, 28, 182, 0, 101, 192, 0, 97, 58, 6]
abbrev dktX1_save_1 : List UInt8 := dkwX1_save_1 ++ dktX1_save_2
def dkwX1_save_0 : List UInt8 := [42, 27, 28, 182, 1, 17, 29, 2, 160, 0, 7, 1, 167, 0, 8, 42, 29, 182, 1, 20, 58, 5, 21, 4]
abbrev dktX1_save_0 : List UInt8 := dkwX1_save_0 ++ dktX1_save_1
theorem dksX1_save_0 : cX1_save.data.toList.drop 0 = dktX1_save_0 := by decide +kernel
theorem dksX1_save_1 : cX1_save.data.toList.drop 24 = dktX1_save_1 := dk_seg dksX1_save_0 24 rfl rfl
theorem dksX1_save_2 : cX1_save.data.toList.drop 48 = dktX1_save_2 := dk_seg dksX1_save_1 24 rfl rfl
theorem dksX1_save_3 : cX1_save.data.toList.drop 70 = dktX1_save_3 := dk_seg dksX1_save_2 22 rfl rfl
theorem dksX1_save_4 : cX1_save.data.toList.drop 92 = dktX1_save_4 := dk_seg dksX1_save_3 22 rfl rfl
theorem dksX1_save_5 : cX1_save.data.toList.drop 114 = dktX1_save_5 := dk_seg dksX1_save_4 22 rfl rfl
theorem dksX1_save_6 : cX1_save.data.toList.drop 137 = dktX1_save_6 := dk_seg dksX1_save_5 23 rfl rfl
theorem dksX1_save_7 : cX1_save.data.toList.drop 160 = dktX1_save_7 := dk_seg dksX1_save_6 23 rfl rfl
theorem dksX1_save_8 : cX1_save.data.toList.drop 184 = dktX1_save_8 := dk_seg dksX1_save_7 24 rfl rfl
theorem dksX1_save_9 : cX1_save.data.toList.drop 207 = dktX1_save_9 := dk_seg dksX1_save_8 23 rfl rfl
theorem dX1_save_0 : decode cX1_save 0 = .ok (.aload_n 0, 1) := dk_42 (dk_at dksX1_save_0 0 rfl rfl)
theorem dX1_save_1 : decode cX1_save 1 = .ok (.iload_n 1, 1) := dk_27 (dk_at dksX1_save_0 1 rfl rfl)
theorem dX1_save_2 : decode cX1_save 2 = .ok (.iload_n 2, 1) := dk_28 (dk_at dksX1_save_0 2 rfl rfl)
theorem dX1_save_3 : decode cX1_save 3 = .ok (.invokevirtual 273, 3) := dk_182 1 17 (dk_at dksX1_save_0 3 rfl rfl)
theorem dX1_save_6 : decode cX1_save 6 = .ok (.iload_n 3, 1) := dk_29 (dk_at dksX1_save_0 6 rfl rfl)
theorem dX1_save_7 : decode cX1_save 7 = .ok (.iconst (-1), 1) := dk_2 (dk_at dksX1_save_0 7 rfl rfl)
theorem dX1_save_8 : decode cX1_save 8 = .ok (.if_icmp .ne 7, 3) := dk_160 0 7 (dk_at dksX1_save_0 8 rfl rfl)
theorem dX1_save_11 : decode cX1_save 11 = .ok (.aconst_null, 1) := dk_1 (dk_at dksX1_save_0 11 rfl rfl)
theorem dX1_save_12 : decode cX1_save 12 = .ok (.goto 8, 3) := dk_167 0 8 (dk_at dksX1_save_0 12 rfl rfl)
theorem dX1_save_15 : decode cX1_save 15 = .ok (.aload_n 0, 1) := dk_42 (dk_at dksX1_save_0 15 rfl rfl)
theorem dX1_save_16 : decode cX1_save 16 = .ok (.iload_n 3, 1) := dk_29 (dk_at dksX1_save_0 16 rfl rfl)
theorem dX1_save_17 : decode cX1_save 17 = .ok (.invokevirtual 276, 3) := dk_182 1 20 (dk_at dksX1_save_0 17 rfl rfl)
theorem dX1_save_20 : decode cX1_save 20 = .ok (.astore 5, 2) := dk_58 5 (dk_at dksX1_save_0 20 rfl rfl)
theorem dX1_save_22 : decode cX1_save 22 = .ok (.iload 4, 2) := dk_21 4 (dk_at dksX1_save_0 22 rfl rfl)
theorem dX1_save_24 : decode cX1_save 24 = .ok (.iconst 0, 1) := dk_3 (dk_at dksX1_save_1 0 rfl rfl)
theorem dX1_save_25 : decode cX1_save 25 = .ok (.aload_n 0, 1) := dk_42 (dk_at dksX1_save_1 1 rfl rfl)
theorem dX1_save_26 : decode cX1_save 26 = .ok (.getfield 232, 3) := dk_180 0 232 (dk_at dksX1_save_1 2 rfl rfl)
theorem dX1_save_29 : decode cX1_save 29 = .ok (.invokestatic 68, 3) := dk_184 0 68 (dk_at dksX1_save_1 5 rfl rfl)
theorem dX1_save_32 : decode cX1_save 32 = .ok (.invokestatic 203, 3) := dk_184 0 203 (dk_at dksX1_save_1 8 rfl rfl)
theorem dX1_save_35 : decode cX1_save 35 = .ok (.aload_n 0, 1) := dk_42 (dk_at dksX1_save_1 11 rfl rfl)
theorem dX1_save_36 : decode cX1_save 36 = .ok (.getfield 21, 3) := dk_180 0 21 (dk_at dksX1_save_1 12 rfl rfl)
theorem dX1_save_39 : decode cX1_save 39 = .ok (.iload_n 2, 1) := dk_28 (dk_at dksX1_save_1 15 rfl rfl)
theorem dX1_save_40 : decode cX1_save 40 = .ok (.invokevirtual 101, 3) := dk_182 0 101 (dk_at dksX1_save_1 16 rfl rfl)
theorem dX1_save_43 : decode cX1_save 43 = .ok (.checkcast 97, 3) := dk_192 0 97 (dk_at dksX1_save_1 19 rfl rfl)
theorem dX1_save_46 : decode cX1_save 46 = .ok (.astore 6, 2) := dk_58 6 (dk_at dksX1_save_1 22 rfl rfl)
theorem dX1_save_48 : decode cX1_save 48 = .ok (.aload_n 0, 1) := dk_42 (dk_at dksX1_save_2 0 rfl rfl)
theorem dX1_save_49 : decode cX1_save 49 = .ok (.getfield 232, 3) := dk_180 0 232 (dk_at dksX1_save_2 1 rfl rfl)
theorem dX1_save_52 : decode cX1_save 52 = .ok (.iload 4, 2) := dk_21 4 (dk_at dksX1_save_2 4 rfl rfl)
theorem dX1_save_54 : decode cX1_save 54 = .ok (.isub, 1) := dk_100 (dk_at dksX1_save_2 6 rfl rfl)
theorem dX1_save_55 : decode cX1_save 55 = .ok (.istore 7, 2) := dk_54 7 (dk_at dksX1_save_2 7 rfl rfl)
theorem dX1_save_57 : decode cX1_save 57 = .ok (.aload 6, 2) := dk_25 6 (dk_at dksX1_save_2 9 rfl rfl)
theorem dX1_save_59 : decode cX1_save 59 = .ok (.getfield 96, 3) := dk_180 0 96 (dk_at dksX1_save_2 11 rfl rfl)
theorem dX1_save_62 : decode cX1_save 62 = .ok (.aload_n 0, 1) := dk_42 (dk_at dksX1_save_2 14 rfl rfl)
theorem dX1_save_63 : decode cX1_save 63 = .ok (.getfield 18, 3) := dk_180 0 18 (dk_at dksX1_save_2 15 rfl rfl)
theorem dX1_save_66 : decode cX1_save 66 = .ok (.iload_n 1, 1) := dk_27 (dk_at dksX1_save_2 18 rfl rfl)
theorem dX1_save_67 : decode cX1_save 67 = .ok (.invokevirtual 101, 3) := dk_182 0 101 (dk_at dksX1_save_2 19 rfl rfl)
theorem dX1_save_70 : decode cX1_save 70 = .ok (.checkcast 105, 3) := dk_192 0 105 (dk_at dksX1_save_3 0 rfl rfl)
theorem dX1_save_73 : decode cX1_save 73 = .ok (.invokevirtual 107, 3) := dk_182 0 107 (dk_at dksX1_save_3 3 rfl rfl)
theorem dX1_save_76 : decode cX1_save 76 = .ok (.if_icmp .ne 33, 3) := dk_160 0 33 (dk_at dksX1_save_3 6 rfl rfl)
theorem dX1_save_79 : decode cX1_save 79 = .ok (.aload 5, 2) := dk_25 5 (dk_at dksX1_save_3 9 rfl rfl)
theorem dX1_save_81 : decode cX1_save 81 = .ok (.ifnull 24, 3) := dk_198 0 24 (dk_at dksX1_save_3 11 rfl rfl)
theorem dX1_save_84 : decode cX1_save 84 = .ok (.aload 5, 2) := dk_25 5 (dk_at dksX1_save_3 14 rfl rfl)
theorem dX1_save_86 : decode cX1_save 86 = .ok (.iload_n 1, 1) := dk_27 (dk_at dksX1_save_3 16 rfl rfl)
theorem dX1_save_87 : decode cX1_save 87 = .ok (.aload 6, 2) := dk_25 6 (dk_at dksX1_save_3 17 rfl rfl)
theorem dX1_save_89 : decode cX1_save 89 = .ok (.invokevirtual 161, 3) := dk_182 0 161 (dk_at dksX1_save_3 19 rfl rfl)
theorem dX1_save_92 : decode cX1_save 92 = .ok (.ifCond .eq 17, 3) := dk_153 0 17 (dk_at dksX1_save_4 0 rfl rfl)
theorem dX1_save_95 : decode cX1_save 95 = .ok (.aload 5, 2) := dk_25 5 (dk_at dksX1_save_4 3 rfl rfl)
theorem dX1_save_97 : decode cX1_save 97 = .ok (.getfield 280, 3) := dk_180 1 24 (dk_at dksX1_save_4 5 rfl rfl)
theorem dX1_save_100 : decode cX1_save 100 = .ok (.iload 7, 2) := dk_21 7 (dk_at dksX1_save_4 8 rfl rfl)
theorem dX1_save_102 : decode cX1_save 102 = .ok (.if_icmp .gt 7, 3) := dk_163 0 7 (dk_at dksX1_save_4 10 rfl rfl)
theorem dX1_save_105 : decode cX1_save 105 = .ok (.iconst 1, 1) := dk_4 (dk_at dksX1_save_4 13 rfl rfl)
theorem dX1_save_106 : decode cX1_save 106 = .ok (.goto 4, 3) := dk_167 0 4 (dk_at dksX1_save_4 14 rfl rfl)
theorem dX1_save_109 : decode cX1_save 109 = .ok (.iconst 0, 1) := dk_3 (dk_at dksX1_save_4 17 rfl rfl)
theorem dX1_save_110 : decode cX1_save 110 = .ok (.invokestatic 283, 3) := dk_184 1 27 (dk_at dksX1_save_4 18 rfl rfl)
theorem dX1_save_113 : decode cX1_save 113 = .ok (.aload_n 0, 1) := dk_42 (dk_at dksX1_save_4 21 rfl rfl)
theorem dX1_save_114 : decode cX1_save 114 = .ok (.getfield 24, 3) := dk_180 0 24 (dk_at dksX1_save_5 0 rfl rfl)
theorem dX1_save_117 : decode cX1_save 117 = .ok (.invokevirtual 207, 3) := dk_182 0 207 (dk_at dksX1_save_5 3 rfl rfl)
theorem dX1_save_120 : decode cX1_save 120 = .ok (.bipush 60, 2) := dk_16 60 (dk_at dksX1_save_5 6 rfl rfl)
theorem dX1_save_122 : decode cX1_save 122 = .ok (.if_icmp .ge 7, 3) := dk_162 0 7 (dk_at dksX1_save_5 8 rfl rfl)
theorem dX1_save_125 : decode cX1_save 125 = .ok (.iconst 1, 1) := dk_4 (dk_at dksX1_save_5 11 rfl rfl)
theorem dX1_save_126 : decode cX1_save 126 = .ok (.goto 4, 3) := dk_167 0 4 (dk_at dksX1_save_5 12 rfl rfl)
theorem dX1_save_129 : decode cX1_save 129 = .ok (.iconst 0, 1) := dk_3 (dk_at dksX1_save_5 15 rfl rfl)
theorem dX1_save_130 : decode cX1_save 130 = .ok (.invokestatic 208, 3) := dk_184 0 208 (dk_at dksX1_save_5 16 rfl rfl)
theorem dX1_save_133 : decode cX1_save 133 = .ok (.aload_n 0, 1) := dk_42 (dk_at dksX1_save_5 19 rfl rfl)
theorem dX1_save_134 : decode cX1_save 134 = .ok (.getfield 48, 3) := dk_180 0 48 (dk_at dksX1_save_5 20 rfl rfl)
theorem dX1_save_137 : decode cX1_save 137 = .ok (.invokevirtual 237, 3) := dk_182 0 237 (dk_at dksX1_save_6 0 rfl rfl)
theorem dX1_save_140 : decode cX1_save 140 = .ok (.newarray .char, 2) := dk_188_5 (dk_at dksX1_save_6 3 rfl rfl)
theorem dX1_save_142 : decode cX1_save 142 = .ok (.astore 8, 2) := dk_58 8 (dk_at dksX1_save_6 5 rfl rfl)
theorem dX1_save_144 : decode cX1_save 144 = .ok (.iconst 0, 1) := dk_3 (dk_at dksX1_save_6 7 rfl rfl)
theorem dX1_save_145 : decode cX1_save 145 = .ok (.istore 9, 2) := dk_54 9 (dk_at dksX1_save_6 8 rfl rfl)
theorem dX1_save_147 : decode cX1_save 147 = .ok (.iload 9, 2) := dk_21 9 (dk_at dksX1_save_6 10 rfl rfl)
theorem dX1_save_149 : decode cX1_save 149 = .ok (.aload 8, 2) := dk_25 8 (dk_at dksX1_save_6 12 rfl rfl)
theorem dX1_save_151 : decode cX1_save 151 = .ok (.arraylength, 1) := dk_190 (dk_at dksX1_save_6 14 rfl rfl)
theorem dX1_save_152 : decode cX1_save 152 = .ok (.if_icmp .ge 23, 3) := dk_162 0 23 (dk_at dksX1_save_6 15 rfl rfl)
theorem dX1_save_155 : decode cX1_save 155 = .ok (.aload 8, 2) := dk_25 8 (dk_at dksX1_save_6 18 rfl rfl)
theorem dX1_save_157 : decode cX1_save 157 = .ok (.iload 9, 2) := dk_21 9 (dk_at dksX1_save_6 20 rfl rfl)
theorem dX1_save_159 : decode cX1_save 159 = .ok (.aload_n 0, 1) := dk_42 (dk_at dksX1_save_6 22 rfl rfl)
theorem dX1_save_160 : decode cX1_save 160 = .ok (.getfield 48, 3) := dk_180 0 48 (dk_at dksX1_save_7 0 rfl rfl)
theorem dX1_save_163 : decode cX1_save 163 = .ok (.iload 9, 2) := dk_21 9 (dk_at dksX1_save_7 3 rfl rfl)
theorem dX1_save_165 : decode cX1_save 165 = .ok (.invokevirtual 240, 3) := dk_182 0 240 (dk_at dksX1_save_7 5 rfl rfl)
theorem dX1_save_168 : decode cX1_save 168 = .ok (.castore, 1) := dk_85 (dk_at dksX1_save_7 8 rfl rfl)
theorem dX1_save_169 : decode cX1_save 169 = .ok (.iinc 9 1, 3) := dk_132 9 1 (dk_at dksX1_save_7 9 rfl rfl)
theorem dX1_save_172 : decode cX1_save 172 = .ok (.goto (-25), 3) := dk_167 255 231 (dk_at dksX1_save_7 12 rfl rfl)
theorem dX1_save_175 : decode cX1_save 175 = .ok (.aload_n 0, 1) := dk_42 (dk_at dksX1_save_7 15 rfl rfl)
theorem dX1_save_176 : decode cX1_save 176 = .ok (.getfield 48, 3) := dk_180 0 48 (dk_at dksX1_save_7 16 rfl rfl)
theorem dX1_save_179 : decode cX1_save 179 = .ok (.iconst 0, 1) := dk_3 (dk_at dksX1_save_7 19 rfl rfl)
theorem dX1_save_180 : decode cX1_save 180 = .ok (.invokevirtual 267, 3) := dk_182 1 11 (dk_at dksX1_save_7 20 rfl rfl)
theorem dX1_save_183 : decode cX1_save 183 = .ok (.aload_n 0, 1) := dk_42 (dk_at dksX1_save_7 23 rfl rfl)
theorem dX1_save_184 : decode cX1_save 184 = .ok (.getfield 24, 3) := dk_180 0 24 (dk_at dksX1_save_8 0 rfl rfl)
theorem dX1_save_187 : decode cX1_save 187 = .ok (.new 88, 3) := dk_187 0 88 (dk_at dksX1_save_8 3 rfl rfl)
theorem dX1_save_190 : decode cX1_save 190 = .ok (.dup, 1) := dk_89 (dk_at dksX1_save_8 6 rfl rfl)
theorem dX1_save_191 : decode cX1_save 191 = .ok (.aload_n 0, 1) := dk_42 (dk_at dksX1_save_8 7 rfl rfl)
theorem dX1_save_192 : decode cX1_save 192 = .ok (.getfield 24, 3) := dk_180 0 24 (dk_at dksX1_save_8 8 rfl rfl)
theorem dX1_save_195 : decode cX1_save 195 = .ok (.invokevirtual 207, 3) := dk_182 0 207 (dk_at dksX1_save_8 11 rfl rfl)
theorem dX1_save_198 : decode cX1_save 198 = .ok (.iload_n 1, 1) := dk_27 (dk_at dksX1_save_8 14 rfl rfl)
theorem dX1_save_199 : decode cX1_save 199 = .ok (.aload 6, 2) := dk_25 6 (dk_at dksX1_save_8 15 rfl rfl)
theorem dX1_save_201 : decode cX1_save 201 = .ok (.aload 5, 2) := dk_25 5 (dk_at dksX1_save_8 17 rfl rfl)
theorem dX1_save_203 : decode cX1_save 203 = .ok (.iload 7, 2) := dk_21 7 (dk_at dksX1_save_8 19 rfl rfl)
theorem dX1_save_205 : decode cX1_save 205 = .ok (.aload 8, 2) := dk_25 8 (dk_at dksX1_save_8 21 rfl rfl)
theorem dX1_save_207 : decode cX1_save 207 = .ok (.invokespecial 286, 3) := dk_183 1 30 (dk_at dksX1_save_9 0 rfl rfl)
theorem dX1_save_210 : decode cX1_save 210 = .ok (.invokevirtual 215, 3) := dk_182 0 215 (dk_at dksX1_save_9 3 rfl rfl)
theorem dX1_save_213 : decode cX1_save 213 = .ok (.pop, 1) := dk_87 (dk_at dksX1_save_9 6 rfl rfl)
theorem dX1_save_214 : decode cX1_save 214 = .ok (.aload_n 0, 1) := dk_42 (dk_at dksX1_save_9 7 rfl rfl)
theorem dX1_save_215 : decode cX1_save 215 = .ok (.getfield 24, 3) := dk_180 0 24 (dk_at dksX1_save_9 8 rfl rfl)
theorem dX1_save_218 : decode cX1_save 218 = .ok (.invokevirtual 207, 3) := dk_182 0 207 (dk_at dksX1_save_9 11 rfl rfl)
theorem dX1_save_221 : decode cX1_save 221 = .ok (.iconst 1, 1) := dk_4 (dk_at dksX1_save_9 14 rfl rfl)
theorem dX1_save_222 : decode cX1_save 222 = .ok (.isub, 1) := dk_100 (dk_at dksX1_save_9 15 rfl rfl)
theorem dX1_save_223 : decode cX1_save 223 = .ok (.ireturn, 1) := dk_172 (dk_at dksX1_save_9 16 rfl rfl)
abbrev cX1_checkPair : ByteArray := prog_1_method_30_code
def yX1_checkPair : MethodName := ⟨RX1, "checkPair", "(II)V"⟩
def dkwX1_checkPair_0 : List UInt8 := [27, 42, 180, 0, 18, 182, 0, 207, 184, 0, 219, 28, 42, 180, 0, 21, 182, 0, 207, 184, 0, 219, 177]
abbrev dktX1_checkPair_0 : List UInt8 := dkwX1_checkPair_0 ++ []
theorem dksX1_checkPair_0 : cX1_checkPair.data.toList.drop 0 = dktX1_checkPair_0 := by decide +kernel
theorem dX1_checkPair_0 : decode cX1_checkPair 0 = .ok (.iload_n 1, 1) := dk_27 (dk_at dksX1_checkPair_0 0 rfl rfl)
theorem dX1_checkPair_1 : decode cX1_checkPair 1 = .ok (.aload_n 0, 1) := dk_42 (dk_at dksX1_checkPair_0 1 rfl rfl)
theorem dX1_checkPair_2 : decode cX1_checkPair 2 = .ok (.getfield 18, 3) := dk_180 0 18 (dk_at dksX1_checkPair_0 2 rfl rfl)
theorem dX1_checkPair_5 : decode cX1_checkPair 5 = .ok (.invokevirtual 207, 3) := dk_182 0 207 (dk_at dksX1_checkPair_0 5 rfl rfl)
theorem dX1_checkPair_8 : decode cX1_checkPair 8 = .ok (.invokestatic 219, 3) := dk_184 0 219 (dk_at dksX1_checkPair_0 8 rfl rfl)
theorem dX1_checkPair_11 : decode cX1_checkPair 11 = .ok (.iload_n 2, 1) := dk_28 (dk_at dksX1_checkPair_0 11 rfl rfl)
theorem dX1_checkPair_12 : decode cX1_checkPair 12 = .ok (.aload_n 0, 1) := dk_42 (dk_at dksX1_checkPair_0 12 rfl rfl)
theorem dX1_checkPair_13 : decode cX1_checkPair 13 = .ok (.getfield 21, 3) := dk_180 0 21 (dk_at dksX1_checkPair_0 13 rfl rfl)
theorem dX1_checkPair_16 : decode cX1_checkPair 16 = .ok (.invokevirtual 207, 3) := dk_182 0 207 (dk_at dksX1_checkPair_0 16 rfl rfl)
theorem dX1_checkPair_19 : decode cX1_checkPair 19 = .ok (.invokestatic 219, 3) := dk_184 0 219 (dk_at dksX1_checkPair_0 19 rfl rfl)
theorem dX1_checkPair_22 : decode cX1_checkPair 22 = .ok (.return_, 1) := dk_177 (dk_at dksX1_checkPair_0 22 rfl rfl)
abbrev cX1_versionAt : ByteArray := prog_1_method_31_code
def yX1_versionAt : MethodName := ⟨RX1, "versionAt", "(I)LHomewatcher$Version;"⟩
def dkwX1_versionAt_0 : List UInt8 := [27, 42, 180, 0, 24, 182, 0, 207, 184, 0, 219, 42, 180, 0, 24, 27, 182, 0, 101, 192, 0, 88, 176]
abbrev dktX1_versionAt_0 : List UInt8 := dkwX1_versionAt_0 ++ []
theorem dksX1_versionAt_0 : cX1_versionAt.data.toList.drop 0 = dktX1_versionAt_0 := by decide +kernel
theorem dX1_versionAt_0 : decode cX1_versionAt 0 = .ok (.iload_n 1, 1) := dk_27 (dk_at dksX1_versionAt_0 0 rfl rfl)
theorem dX1_versionAt_1 : decode cX1_versionAt 1 = .ok (.aload_n 0, 1) := dk_42 (dk_at dksX1_versionAt_0 1 rfl rfl)
theorem dX1_versionAt_2 : decode cX1_versionAt 2 = .ok (.getfield 24, 3) := dk_180 0 24 (dk_at dksX1_versionAt_0 2 rfl rfl)
theorem dX1_versionAt_5 : decode cX1_versionAt 5 = .ok (.invokevirtual 207, 3) := dk_182 0 207 (dk_at dksX1_versionAt_0 5 rfl rfl)
theorem dX1_versionAt_8 : decode cX1_versionAt 8 = .ok (.invokestatic 219, 3) := dk_184 0 219 (dk_at dksX1_versionAt_0 8 rfl rfl)
theorem dX1_versionAt_11 : decode cX1_versionAt 11 = .ok (.aload_n 0, 1) := dk_42 (dk_at dksX1_versionAt_0 11 rfl rfl)
theorem dX1_versionAt_12 : decode cX1_versionAt 12 = .ok (.getfield 24, 3) := dk_180 0 24 (dk_at dksX1_versionAt_0 12 rfl rfl)
theorem dX1_versionAt_15 : decode cX1_versionAt 15 = .ok (.iload_n 1, 1) := dk_27 (dk_at dksX1_versionAt_0 15 rfl rfl)
theorem dX1_versionAt_16 : decode cX1_versionAt 16 = .ok (.invokevirtual 101, 3) := dk_182 0 101 (dk_at dksX1_versionAt_0 16 rfl rfl)
theorem dX1_versionAt_19 : decode cX1_versionAt 19 = .ok (.checkcast 88, 3) := dk_192 0 88 (dk_at dksX1_versionAt_0 19 rfl rfl)
theorem dX1_versionAt_22 : decode cX1_versionAt 22 = .ok (.areturn, 1) := dk_176 (dk_at dksX1_versionAt_0 22 rfl rfl)
abbrev cX1_checkAllowed : ByteArray := prog_1_method_5_code
def yX1_checkAllowed : MethodName := ⟨RX1, "checkAllowed", "(Z)V"⟩
def dkwX1_checkAllowed_0 : List UInt8 := [26, 154, 0, 11, 187, 0, 62, 89, 183, 0, 64, 191, 177]
abbrev dktX1_checkAllowed_0 : List UInt8 := dkwX1_checkAllowed_0 ++ []
theorem dksX1_checkAllowed_0 : cX1_checkAllowed.data.toList.drop 0 = dktX1_checkAllowed_0 := by decide +kernel
theorem dX1_checkAllowed_0 : decode cX1_checkAllowed 0 = .ok (.iload_n 0, 1) := dk_26 (dk_at dksX1_checkAllowed_0 0 rfl rfl)
theorem dX1_checkAllowed_1 : decode cX1_checkAllowed 1 = .ok (.ifCond .ne 11, 3) := dk_154 0 11 (dk_at dksX1_checkAllowed_0 1 rfl rfl)
theorem dX1_checkAllowed_4 : decode cX1_checkAllowed 4 = .ok (.new 62, 3) := dk_187 0 62 (dk_at dksX1_checkAllowed_0 4 rfl rfl)
theorem dX1_checkAllowed_7 : decode cX1_checkAllowed 7 = .ok (.dup, 1) := dk_89 (dk_at dksX1_checkAllowed_0 7 rfl rfl)
theorem dX1_checkAllowed_8 : decode cX1_checkAllowed 8 = .ok (.invokespecial 64, 3) := dk_183 0 64 (dk_at dksX1_checkAllowed_0 8 rfl rfl)
theorem dX1_checkAllowed_11 : decode cX1_checkAllowed 11 = .ok (.athrow, 1) := dk_191 (dk_at dksX1_checkAllowed_0 11 rfl rfl)
theorem dX1_checkAllowed_12 : decode cX1_checkAllowed 12 = .ok (.return_, 1) := dk_177 (dk_at dksX1_checkAllowed_0 12 rfl rfl)
abbrev cX1_of : ByteArray := prog_1_method_33_code
def yX1_of : MethodName := ⟨RX1, "of", "(IC)I"⟩
def dkwX1_of_4 : List UInt8 := [45, 180, 0, 188, 172, 187, 0, 56, 89, 183, 0, 58, 191]
abbrev dktX1_of_4 : List UInt8 := dkwX1_of_4 ++ []
def dkwX1_of_3 : List UInt8 := [45, 180, 0, 87, 172, 45, 182, 1, 34, 172, 45, 180, 1, 37, 190, 172, 45, 180, 0, 135, 182, 0, 139, 172]
abbrev dktX1_of_3 : List UInt8 := dkwX1_of_3 ++ dktX1_of_4
def dkwX1_of_2 : List UInt8 := [45, 180, 0, 124, 199, 0, 7, 2, 167, 0, 10, 45, 180, 0, 124, 180, 1, 33, 172, 45, 180, 1, 24, 172]
abbrev dktX1_of_2 : List UInt8 := dkwX1_of_2 ++ dktX1_of_3
def dkwX1_of_1 : List UInt8 := [170, 0, 0, 0, 142, 0, 0, 0, 99, 0, 0, 0, 117, 0, 0, 0, 123, 0, 0, 0, 142, 0, 0, 0, 142, 0, 0, 0, 142, 0, 0, 0, 137, 0, 0, 0, 113, 0, 0, 0, 142, 0, 0, 0, 142, 0, 0, 0, 142, 0, 0, 0, 142, 0, 0, 0, 142, 0, 0, 0, 118, 0, 0, 0, 142, 0, 0, 0, 89, 0, 0, 0, 142, 0, 0, 0, 142, 0, 0, 0, 108, 0, 0, 0, 142, 0, 0, 0, 129]
abbrev dktX1_of_1 : List UInt8 := dkwX1_of_1 ++ dktX1_of_2
def dkwX1_of_0 : List UInt8 := [42, 27, 182, 1, 20, 78, 28]
abbrev dktX1_of_0 : List UInt8 := dkwX1_of_0 ++ dktX1_of_1
theorem dksX1_of_0 : cX1_of.data.toList.drop 0 = dktX1_of_0 := by decide +kernel
theorem dksX1_of_1 : cX1_of.data.toList.drop 7 = dktX1_of_1 := dk_seg dksX1_of_0 7 rfl rfl
theorem dksX1_of_2 : cX1_of.data.toList.drop 96 = dktX1_of_2 := dk_seg dksX1_of_1 89 rfl rfl
theorem dksX1_of_3 : cX1_of.data.toList.drop 120 = dktX1_of_3 := dk_seg dksX1_of_2 24 rfl rfl
theorem dksX1_of_4 : cX1_of.data.toList.drop 144 = dktX1_of_4 := dk_seg dksX1_of_3 24 rfl rfl
theorem dX1_of_0 : decode cX1_of 0 = .ok (.aload_n 0, 1) := dk_42 (dk_at dksX1_of_0 0 rfl rfl)
theorem dX1_of_1 : decode cX1_of 1 = .ok (.iload_n 1, 1) := dk_27 (dk_at dksX1_of_0 1 rfl rfl)
theorem dX1_of_2 : decode cX1_of 2 = .ok (.invokevirtual 276, 3) := dk_182 1 20 (dk_at dksX1_of_0 2 rfl rfl)
theorem dX1_of_5 : decode cX1_of 5 = .ok (.astore_n 3, 1) := dk_78 (dk_at dksX1_of_0 5 rfl rfl)
theorem dX1_of_6 : decode cX1_of 6 = .ok (.iload_n 2, 1) := dk_28 (dk_at dksX1_of_0 6 rfl rfl)
theorem dX1_of_7 : decode cX1_of 7 = .ok (.tableswitch 142 99 117 #[123, 142, 142, 142, 137, 113, 142, 142, 142, 142, 142, 118, 142, 89, 142, 142, 108, 142, 129], 89) := by decide +kernel
theorem dX1_of_96 : decode cX1_of 96 = .ok (.aload_n 3, 1) := dk_45 (dk_at dksX1_of_2 0 rfl rfl)
theorem dX1_of_97 : decode cX1_of 97 = .ok (.getfield 124, 3) := dk_180 0 124 (dk_at dksX1_of_2 1 rfl rfl)
theorem dX1_of_100 : decode cX1_of 100 = .ok (.ifnonnull 7, 3) := dk_199 0 7 (dk_at dksX1_of_2 4 rfl rfl)
theorem dX1_of_103 : decode cX1_of 103 = .ok (.iconst (-1), 1) := dk_2 (dk_at dksX1_of_2 7 rfl rfl)
theorem dX1_of_104 : decode cX1_of 104 = .ok (.goto 10, 3) := dk_167 0 10 (dk_at dksX1_of_2 8 rfl rfl)
theorem dX1_of_107 : decode cX1_of 107 = .ok (.aload_n 3, 1) := dk_45 (dk_at dksX1_of_2 11 rfl rfl)
theorem dX1_of_108 : decode cX1_of 108 = .ok (.getfield 124, 3) := dk_180 0 124 (dk_at dksX1_of_2 12 rfl rfl)
theorem dX1_of_111 : decode cX1_of 111 = .ok (.getfield 289, 3) := dk_180 1 33 (dk_at dksX1_of_2 15 rfl rfl)
theorem dX1_of_114 : decode cX1_of 114 = .ok (.ireturn, 1) := dk_172 (dk_at dksX1_of_2 18 rfl rfl)
theorem dX1_of_115 : decode cX1_of 115 = .ok (.aload_n 3, 1) := dk_45 (dk_at dksX1_of_2 19 rfl rfl)
theorem dX1_of_116 : decode cX1_of 116 = .ok (.getfield 280, 3) := dk_180 1 24 (dk_at dksX1_of_2 20 rfl rfl)
theorem dX1_of_119 : decode cX1_of 119 = .ok (.ireturn, 1) := dk_172 (dk_at dksX1_of_2 23 rfl rfl)
theorem dX1_of_120 : decode cX1_of 120 = .ok (.aload_n 3, 1) := dk_45 (dk_at dksX1_of_3 0 rfl rfl)
theorem dX1_of_121 : decode cX1_of 121 = .ok (.getfield 87, 3) := dk_180 0 87 (dk_at dksX1_of_3 1 rfl rfl)
theorem dX1_of_124 : decode cX1_of 124 = .ok (.ireturn, 1) := dk_172 (dk_at dksX1_of_3 4 rfl rfl)
theorem dX1_of_125 : decode cX1_of 125 = .ok (.aload_n 3, 1) := dk_45 (dk_at dksX1_of_3 5 rfl rfl)
theorem dX1_of_126 : decode cX1_of 126 = .ok (.invokevirtual 290, 3) := dk_182 1 34 (dk_at dksX1_of_3 6 rfl rfl)
theorem dX1_of_129 : decode cX1_of 129 = .ok (.ireturn, 1) := dk_172 (dk_at dksX1_of_3 9 rfl rfl)
theorem dX1_of_130 : decode cX1_of 130 = .ok (.aload_n 3, 1) := dk_45 (dk_at dksX1_of_3 10 rfl rfl)
theorem dX1_of_131 : decode cX1_of 131 = .ok (.getfield 293, 3) := dk_180 1 37 (dk_at dksX1_of_3 11 rfl rfl)
theorem dX1_of_134 : decode cX1_of 134 = .ok (.arraylength, 1) := dk_190 (dk_at dksX1_of_3 14 rfl rfl)
theorem dX1_of_135 : decode cX1_of 135 = .ok (.ireturn, 1) := dk_172 (dk_at dksX1_of_3 15 rfl rfl)
theorem dX1_of_136 : decode cX1_of 136 = .ok (.aload_n 3, 1) := dk_45 (dk_at dksX1_of_3 16 rfl rfl)
theorem dX1_of_137 : decode cX1_of 137 = .ok (.getfield 135, 3) := dk_180 0 135 (dk_at dksX1_of_3 17 rfl rfl)
theorem dX1_of_140 : decode cX1_of 140 = .ok (.invokevirtual 139, 3) := dk_182 0 139 (dk_at dksX1_of_3 20 rfl rfl)
theorem dX1_of_143 : decode cX1_of 143 = .ok (.ireturn, 1) := dk_172 (dk_at dksX1_of_3 23 rfl rfl)
theorem dX1_of_144 : decode cX1_of 144 = .ok (.aload_n 3, 1) := dk_45 (dk_at dksX1_of_4 0 rfl rfl)
theorem dX1_of_145 : decode cX1_of 145 = .ok (.getfield 188, 3) := dk_180 0 188 (dk_at dksX1_of_4 1 rfl rfl)
theorem dX1_of_148 : decode cX1_of 148 = .ok (.ireturn, 1) := dk_172 (dk_at dksX1_of_4 4 rfl rfl)
theorem dX1_of_149 : decode cX1_of 149 = .ok (.new 56, 3) := dk_187 0 56 (dk_at dksX1_of_4 5 rfl rfl)
theorem dX1_of_152 : decode cX1_of 152 = .ok (.dup, 1) := dk_89 (dk_at dksX1_of_4 8 rfl rfl)
theorem dX1_of_153 : decode cX1_of 153 = .ok (.invokespecial 58, 3) := dk_183 0 58 (dk_at dksX1_of_4 9 rfl rfl)
theorem dX1_of_156 : decode cX1_of 156 = .ok (.athrow, 1) := dk_191 (dk_at dksX1_of_4 12 rfl rfl)
abbrev cX1_forks : ByteArray := prog_1_method_34_code
def yX1_forks : MethodName := ⟨RX1, "forks", "(I)I"⟩
def dkwX1_forks_3 : List UInt8 := [167, 0, 4, 3, 96, 62, 167, 255, 198, 29, 172]
abbrev dktX1_forks_3 : List UInt8 := dkwX1_forks_3 ++ []
def dkwX1_forks_2 : List UInt8 := [180, 0, 92, 182, 0, 161, 153, 0, 19, 25, 5, 180, 0, 124, 44, 180, 0, 124, 166, 0, 7, 4]
abbrev dktX1_forks_2 : List UInt8 := dkwX1_forks_2 ++ dktX1_forks_3
def dkwX1_forks_1 : List UInt8 := [153, 0, 54, 25, 4, 185, 0, 157, 1, 0, 192, 0, 88, 58, 5, 29, 25, 5, 44, 180, 1, 41, 44]
abbrev dktX1_forks_1 : List UInt8 := dkwX1_forks_1 ++ dktX1_forks_2
def dkwX1_forks_0 : List UInt8 := [42, 27, 182, 1, 20, 77, 2, 62, 42, 180, 0, 24, 182, 0, 147, 58, 4, 25, 4, 185, 0, 151, 1, 0]
abbrev dktX1_forks_0 : List UInt8 := dkwX1_forks_0 ++ dktX1_forks_1
theorem dksX1_forks_0 : cX1_forks.data.toList.drop 0 = dktX1_forks_0 := by decide +kernel
theorem dksX1_forks_1 : cX1_forks.data.toList.drop 24 = dktX1_forks_1 := dk_seg dksX1_forks_0 24 rfl rfl
theorem dksX1_forks_2 : cX1_forks.data.toList.drop 47 = dktX1_forks_2 := dk_seg dksX1_forks_1 23 rfl rfl
theorem dksX1_forks_3 : cX1_forks.data.toList.drop 69 = dktX1_forks_3 := dk_seg dksX1_forks_2 22 rfl rfl
theorem dX1_forks_0 : decode cX1_forks 0 = .ok (.aload_n 0, 1) := dk_42 (dk_at dksX1_forks_0 0 rfl rfl)
theorem dX1_forks_1 : decode cX1_forks 1 = .ok (.iload_n 1, 1) := dk_27 (dk_at dksX1_forks_0 1 rfl rfl)
theorem dX1_forks_2 : decode cX1_forks 2 = .ok (.invokevirtual 276, 3) := dk_182 1 20 (dk_at dksX1_forks_0 2 rfl rfl)
theorem dX1_forks_5 : decode cX1_forks 5 = .ok (.astore_n 2, 1) := dk_77 (dk_at dksX1_forks_0 5 rfl rfl)
theorem dX1_forks_6 : decode cX1_forks 6 = .ok (.iconst (-1), 1) := dk_2 (dk_at dksX1_forks_0 6 rfl rfl)
theorem dX1_forks_7 : decode cX1_forks 7 = .ok (.istore_n 3, 1) := dk_62 (dk_at dksX1_forks_0 7 rfl rfl)
theorem dX1_forks_8 : decode cX1_forks 8 = .ok (.aload_n 0, 1) := dk_42 (dk_at dksX1_forks_0 8 rfl rfl)
theorem dX1_forks_9 : decode cX1_forks 9 = .ok (.getfield 24, 3) := dk_180 0 24 (dk_at dksX1_forks_0 9 rfl rfl)
theorem dX1_forks_12 : decode cX1_forks 12 = .ok (.invokevirtual 147, 3) := dk_182 0 147 (dk_at dksX1_forks_0 12 rfl rfl)
theorem dX1_forks_15 : decode cX1_forks 15 = .ok (.astore 4, 2) := dk_58 4 (dk_at dksX1_forks_0 15 rfl rfl)
theorem dX1_forks_17 : decode cX1_forks 17 = .ok (.aload 4, 2) := dk_25 4 (dk_at dksX1_forks_0 17 rfl rfl)
theorem dX1_forks_19 : decode cX1_forks 19 = .ok (.invokeinterface 151 1, 5) := by decide +kernel
theorem dX1_forks_24 : decode cX1_forks 24 = .ok (.ifCond .eq 54, 3) := dk_153 0 54 (dk_at dksX1_forks_1 0 rfl rfl)
theorem dX1_forks_27 : decode cX1_forks 27 = .ok (.aload 4, 2) := dk_25 4 (dk_at dksX1_forks_1 3 rfl rfl)
theorem dX1_forks_29 : decode cX1_forks 29 = .ok (.invokeinterface 157 1, 5) := by decide +kernel
theorem dX1_forks_34 : decode cX1_forks 34 = .ok (.checkcast 88, 3) := dk_192 0 88 (dk_at dksX1_forks_1 10 rfl rfl)
theorem dX1_forks_37 : decode cX1_forks 37 = .ok (.astore 5, 2) := dk_58 5 (dk_at dksX1_forks_1 13 rfl rfl)
theorem dX1_forks_39 : decode cX1_forks 39 = .ok (.iload_n 3, 1) := dk_29 (dk_at dksX1_forks_1 15 rfl rfl)
theorem dX1_forks_40 : decode cX1_forks 40 = .ok (.aload 5, 2) := dk_25 5 (dk_at dksX1_forks_1 16 rfl rfl)
theorem dX1_forks_42 : decode cX1_forks 42 = .ok (.aload_n 2, 1) := dk_44 (dk_at dksX1_forks_1 18 rfl rfl)
theorem dX1_forks_43 : decode cX1_forks 43 = .ok (.getfield 297, 3) := dk_180 1 41 (dk_at dksX1_forks_1 19 rfl rfl)
theorem dX1_forks_46 : decode cX1_forks 46 = .ok (.aload_n 2, 1) := dk_44 (dk_at dksX1_forks_1 22 rfl rfl)
theorem dX1_forks_47 : decode cX1_forks 47 = .ok (.getfield 92, 3) := dk_180 0 92 (dk_at dksX1_forks_2 0 rfl rfl)
theorem dX1_forks_50 : decode cX1_forks 50 = .ok (.invokevirtual 161, 3) := dk_182 0 161 (dk_at dksX1_forks_2 3 rfl rfl)
theorem dX1_forks_53 : decode cX1_forks 53 = .ok (.ifCond .eq 19, 3) := dk_153 0 19 (dk_at dksX1_forks_2 6 rfl rfl)
theorem dX1_forks_56 : decode cX1_forks 56 = .ok (.aload 5, 2) := dk_25 5 (dk_at dksX1_forks_2 9 rfl rfl)
theorem dX1_forks_58 : decode cX1_forks 58 = .ok (.getfield 124, 3) := dk_180 0 124 (dk_at dksX1_forks_2 11 rfl rfl)
theorem dX1_forks_61 : decode cX1_forks 61 = .ok (.aload_n 2, 1) := dk_44 (dk_at dksX1_forks_2 14 rfl rfl)
theorem dX1_forks_62 : decode cX1_forks 62 = .ok (.getfield 124, 3) := dk_180 0 124 (dk_at dksX1_forks_2 15 rfl rfl)
theorem dX1_forks_65 : decode cX1_forks 65 = .ok (.if_acmp .ne 7, 3) := dk_166 0 7 (dk_at dksX1_forks_2 18 rfl rfl)
theorem dX1_forks_68 : decode cX1_forks 68 = .ok (.iconst 1, 1) := dk_4 (dk_at dksX1_forks_2 21 rfl rfl)
theorem dX1_forks_69 : decode cX1_forks 69 = .ok (.goto 4, 3) := dk_167 0 4 (dk_at dksX1_forks_3 0 rfl rfl)
theorem dX1_forks_72 : decode cX1_forks 72 = .ok (.iconst 0, 1) := dk_3 (dk_at dksX1_forks_3 3 rfl rfl)
theorem dX1_forks_73 : decode cX1_forks 73 = .ok (.iadd, 1) := dk_96 (dk_at dksX1_forks_3 4 rfl rfl)
theorem dX1_forks_74 : decode cX1_forks 74 = .ok (.istore_n 3, 1) := dk_62 (dk_at dksX1_forks_3 5 rfl rfl)
theorem dX1_forks_75 : decode cX1_forks 75 = .ok (.goto (-58), 3) := dk_167 255 198 (dk_at dksX1_forks_3 6 rfl rfl)
theorem dX1_forks_78 : decode cX1_forks 78 = .ok (.iload_n 3, 1) := dk_29 (dk_at dksX1_forks_3 9 rfl rfl)
theorem dX1_forks_79 : decode cX1_forks 79 = .ok (.ireturn, 1) := dk_172 (dk_at dksX1_forks_3 10 rfl rfl)
abbrev cX1_heads : ByteArray := prog_1_method_35_code
def yX1_heads : MethodName := ⟨RX1, "heads", "(II)I"⟩
def dkwX1_heads_3 : List UInt8 := [167, 0, 4, 3, 96, 62, 167, 255, 197, 29, 172]
abbrev dktX1_heads_3 : List UInt8 := dkwX1_heads_3 ++ []
def dkwX1_heads_2 : List UInt8 := [182, 0, 101, 192, 0, 97, 182, 0, 161, 153, 0, 16, 42, 25, 5, 182, 1, 44, 154, 0, 7, 4]
abbrev dktX1_heads_2 : List UInt8 := dkwX1_heads_2 ++ dktX1_heads_3
def dkwX1_heads_1 : List UInt8 := [153, 0, 55, 25, 4, 185, 0, 157, 1, 0, 192, 0, 88, 58, 5, 29, 25, 5, 27, 42, 180, 0, 21, 28]
abbrev dktX1_heads_1 : List UInt8 := dkwX1_heads_1 ++ dktX1_heads_2
def dkwX1_heads_0 : List UInt8 := [42, 27, 28, 182, 1, 17, 3, 62, 42, 180, 0, 24, 182, 0, 147, 58, 4, 25, 4, 185, 0, 151, 1, 0]
abbrev dktX1_heads_0 : List UInt8 := dkwX1_heads_0 ++ dktX1_heads_1
theorem dksX1_heads_0 : cX1_heads.data.toList.drop 0 = dktX1_heads_0 := by decide +kernel
theorem dksX1_heads_1 : cX1_heads.data.toList.drop 24 = dktX1_heads_1 := dk_seg dksX1_heads_0 24 rfl rfl
theorem dksX1_heads_2 : cX1_heads.data.toList.drop 48 = dktX1_heads_2 := dk_seg dksX1_heads_1 24 rfl rfl
theorem dksX1_heads_3 : cX1_heads.data.toList.drop 70 = dktX1_heads_3 := dk_seg dksX1_heads_2 22 rfl rfl
theorem dX1_heads_0 : decode cX1_heads 0 = .ok (.aload_n 0, 1) := dk_42 (dk_at dksX1_heads_0 0 rfl rfl)
theorem dX1_heads_1 : decode cX1_heads 1 = .ok (.iload_n 1, 1) := dk_27 (dk_at dksX1_heads_0 1 rfl rfl)
theorem dX1_heads_2 : decode cX1_heads 2 = .ok (.iload_n 2, 1) := dk_28 (dk_at dksX1_heads_0 2 rfl rfl)
theorem dX1_heads_3 : decode cX1_heads 3 = .ok (.invokevirtual 273, 3) := dk_182 1 17 (dk_at dksX1_heads_0 3 rfl rfl)
theorem dX1_heads_6 : decode cX1_heads 6 = .ok (.iconst 0, 1) := dk_3 (dk_at dksX1_heads_0 6 rfl rfl)
theorem dX1_heads_7 : decode cX1_heads 7 = .ok (.istore_n 3, 1) := dk_62 (dk_at dksX1_heads_0 7 rfl rfl)
theorem dX1_heads_8 : decode cX1_heads 8 = .ok (.aload_n 0, 1) := dk_42 (dk_at dksX1_heads_0 8 rfl rfl)
theorem dX1_heads_9 : decode cX1_heads 9 = .ok (.getfield 24, 3) := dk_180 0 24 (dk_at dksX1_heads_0 9 rfl rfl)
theorem dX1_heads_12 : decode cX1_heads 12 = .ok (.invokevirtual 147, 3) := dk_182 0 147 (dk_at dksX1_heads_0 12 rfl rfl)
theorem dX1_heads_15 : decode cX1_heads 15 = .ok (.astore 4, 2) := dk_58 4 (dk_at dksX1_heads_0 15 rfl rfl)
theorem dX1_heads_17 : decode cX1_heads 17 = .ok (.aload 4, 2) := dk_25 4 (dk_at dksX1_heads_0 17 rfl rfl)
theorem dX1_heads_19 : decode cX1_heads 19 = .ok (.invokeinterface 151 1, 5) := by decide +kernel
theorem dX1_heads_24 : decode cX1_heads 24 = .ok (.ifCond .eq 55, 3) := dk_153 0 55 (dk_at dksX1_heads_1 0 rfl rfl)
theorem dX1_heads_27 : decode cX1_heads 27 = .ok (.aload 4, 2) := dk_25 4 (dk_at dksX1_heads_1 3 rfl rfl)
theorem dX1_heads_29 : decode cX1_heads 29 = .ok (.invokeinterface 157 1, 5) := by decide +kernel
theorem dX1_heads_34 : decode cX1_heads 34 = .ok (.checkcast 88, 3) := dk_192 0 88 (dk_at dksX1_heads_1 10 rfl rfl)
theorem dX1_heads_37 : decode cX1_heads 37 = .ok (.astore 5, 2) := dk_58 5 (dk_at dksX1_heads_1 13 rfl rfl)
theorem dX1_heads_39 : decode cX1_heads 39 = .ok (.iload_n 3, 1) := dk_29 (dk_at dksX1_heads_1 15 rfl rfl)
theorem dX1_heads_40 : decode cX1_heads 40 = .ok (.aload 5, 2) := dk_25 5 (dk_at dksX1_heads_1 16 rfl rfl)
theorem dX1_heads_42 : decode cX1_heads 42 = .ok (.iload_n 1, 1) := dk_27 (dk_at dksX1_heads_1 18 rfl rfl)
theorem dX1_heads_43 : decode cX1_heads 43 = .ok (.aload_n 0, 1) := dk_42 (dk_at dksX1_heads_1 19 rfl rfl)
theorem dX1_heads_44 : decode cX1_heads 44 = .ok (.getfield 21, 3) := dk_180 0 21 (dk_at dksX1_heads_1 20 rfl rfl)
theorem dX1_heads_47 : decode cX1_heads 47 = .ok (.iload_n 2, 1) := dk_28 (dk_at dksX1_heads_1 23 rfl rfl)
theorem dX1_heads_48 : decode cX1_heads 48 = .ok (.invokevirtual 101, 3) := dk_182 0 101 (dk_at dksX1_heads_2 0 rfl rfl)
theorem dX1_heads_51 : decode cX1_heads 51 = .ok (.checkcast 97, 3) := dk_192 0 97 (dk_at dksX1_heads_2 3 rfl rfl)
theorem dX1_heads_54 : decode cX1_heads 54 = .ok (.invokevirtual 161, 3) := dk_182 0 161 (dk_at dksX1_heads_2 6 rfl rfl)
theorem dX1_heads_57 : decode cX1_heads 57 = .ok (.ifCond .eq 16, 3) := dk_153 0 16 (dk_at dksX1_heads_2 9 rfl rfl)
theorem dX1_heads_60 : decode cX1_heads 60 = .ok (.aload_n 0, 1) := dk_42 (dk_at dksX1_heads_2 12 rfl rfl)
theorem dX1_heads_61 : decode cX1_heads 61 = .ok (.aload 5, 2) := dk_25 5 (dk_at dksX1_heads_2 13 rfl rfl)
theorem dX1_heads_63 : decode cX1_heads 63 = .ok (.invokevirtual 300, 3) := dk_182 1 44 (dk_at dksX1_heads_2 15 rfl rfl)
theorem dX1_heads_66 : decode cX1_heads 66 = .ok (.ifCond .ne 7, 3) := dk_154 0 7 (dk_at dksX1_heads_2 18 rfl rfl)
theorem dX1_heads_69 : decode cX1_heads 69 = .ok (.iconst 1, 1) := dk_4 (dk_at dksX1_heads_2 21 rfl rfl)
theorem dX1_heads_70 : decode cX1_heads 70 = .ok (.goto 4, 3) := dk_167 0 4 (dk_at dksX1_heads_3 0 rfl rfl)
theorem dX1_heads_73 : decode cX1_heads 73 = .ok (.iconst 0, 1) := dk_3 (dk_at dksX1_heads_3 3 rfl rfl)
theorem dX1_heads_74 : decode cX1_heads 74 = .ok (.iadd, 1) := dk_96 (dk_at dksX1_heads_3 4 rfl rfl)
theorem dX1_heads_75 : decode cX1_heads 75 = .ok (.istore_n 3, 1) := dk_62 (dk_at dksX1_heads_3 5 rfl rfl)
theorem dX1_heads_76 : decode cX1_heads 76 = .ok (.goto (-59), 3) := dk_167 255 197 (dk_at dksX1_heads_3 6 rfl rfl)
theorem dX1_heads_79 : decode cX1_heads 79 = .ok (.iload_n 3, 1) := dk_29 (dk_at dksX1_heads_3 9 rfl rfl)
theorem dX1_heads_80 : decode cX1_heads 80 = .ok (.ireturn, 1) := dk_172 (dk_at dksX1_heads_3 10 rfl rfl)
abbrev cX1_isParent : ByteArray := prog_1_method_36_code
def yX1_isParent : MethodName := ⟨RX1, "isParent", "(LHomewatcher$Version;)Z"⟩
def dkwX1_isParent_2 : List UInt8 := [3, 128, 61, 167, 255, 219, 28, 172]
abbrev dktX1_isParent_2 : List UInt8 := dkwX1_isParent_2 ++ []
def dkwX1_isParent_1 : List UInt8 := [185, 0, 157, 1, 0, 192, 0, 88, 58, 4, 28, 25, 4, 180, 0, 124, 43, 166, 0, 7, 4, 167, 0, 4]
abbrev dktX1_isParent_1 : List UInt8 := dkwX1_isParent_1 ++ dktX1_isParent_2
def dkwX1_isParent_0 : List UInt8 := [3, 61, 42, 180, 0, 24, 182, 0, 147, 78, 45, 185, 0, 151, 1, 0, 153, 0, 34, 45]
abbrev dktX1_isParent_0 : List UInt8 := dkwX1_isParent_0 ++ dktX1_isParent_1
theorem dksX1_isParent_0 : cX1_isParent.data.toList.drop 0 = dktX1_isParent_0 := by decide +kernel
theorem dksX1_isParent_1 : cX1_isParent.data.toList.drop 20 = dktX1_isParent_1 := dk_seg dksX1_isParent_0 20 rfl rfl
theorem dksX1_isParent_2 : cX1_isParent.data.toList.drop 44 = dktX1_isParent_2 := dk_seg dksX1_isParent_1 24 rfl rfl
theorem dX1_isParent_0 : decode cX1_isParent 0 = .ok (.iconst 0, 1) := dk_3 (dk_at dksX1_isParent_0 0 rfl rfl)
theorem dX1_isParent_1 : decode cX1_isParent 1 = .ok (.istore_n 2, 1) := dk_61 (dk_at dksX1_isParent_0 1 rfl rfl)
theorem dX1_isParent_2 : decode cX1_isParent 2 = .ok (.aload_n 0, 1) := dk_42 (dk_at dksX1_isParent_0 2 rfl rfl)
theorem dX1_isParent_3 : decode cX1_isParent 3 = .ok (.getfield 24, 3) := dk_180 0 24 (dk_at dksX1_isParent_0 3 rfl rfl)
theorem dX1_isParent_6 : decode cX1_isParent 6 = .ok (.invokevirtual 147, 3) := dk_182 0 147 (dk_at dksX1_isParent_0 6 rfl rfl)
theorem dX1_isParent_9 : decode cX1_isParent 9 = .ok (.astore_n 3, 1) := dk_78 (dk_at dksX1_isParent_0 9 rfl rfl)
theorem dX1_isParent_10 : decode cX1_isParent 10 = .ok (.aload_n 3, 1) := dk_45 (dk_at dksX1_isParent_0 10 rfl rfl)
theorem dX1_isParent_11 : decode cX1_isParent 11 = .ok (.invokeinterface 151 1, 5) := by decide +kernel
theorem dX1_isParent_16 : decode cX1_isParent 16 = .ok (.ifCond .eq 34, 3) := dk_153 0 34 (dk_at dksX1_isParent_0 16 rfl rfl)
theorem dX1_isParent_19 : decode cX1_isParent 19 = .ok (.aload_n 3, 1) := dk_45 (dk_at dksX1_isParent_0 19 rfl rfl)
theorem dX1_isParent_20 : decode cX1_isParent 20 = .ok (.invokeinterface 157 1, 5) := by decide +kernel
theorem dX1_isParent_25 : decode cX1_isParent 25 = .ok (.checkcast 88, 3) := dk_192 0 88 (dk_at dksX1_isParent_1 5 rfl rfl)
theorem dX1_isParent_28 : decode cX1_isParent 28 = .ok (.astore 4, 2) := dk_58 4 (dk_at dksX1_isParent_1 8 rfl rfl)
theorem dX1_isParent_30 : decode cX1_isParent 30 = .ok (.iload_n 2, 1) := dk_28 (dk_at dksX1_isParent_1 10 rfl rfl)
theorem dX1_isParent_31 : decode cX1_isParent 31 = .ok (.aload 4, 2) := dk_25 4 (dk_at dksX1_isParent_1 11 rfl rfl)
theorem dX1_isParent_33 : decode cX1_isParent 33 = .ok (.getfield 124, 3) := dk_180 0 124 (dk_at dksX1_isParent_1 13 rfl rfl)
theorem dX1_isParent_36 : decode cX1_isParent 36 = .ok (.aload_n 1, 1) := dk_43 (dk_at dksX1_isParent_1 16 rfl rfl)
theorem dX1_isParent_37 : decode cX1_isParent 37 = .ok (.if_acmp .ne 7, 3) := dk_166 0 7 (dk_at dksX1_isParent_1 17 rfl rfl)
theorem dX1_isParent_40 : decode cX1_isParent 40 = .ok (.iconst 1, 1) := dk_4 (dk_at dksX1_isParent_1 20 rfl rfl)
theorem dX1_isParent_41 : decode cX1_isParent 41 = .ok (.goto 4, 3) := dk_167 0 4 (dk_at dksX1_isParent_1 21 rfl rfl)
theorem dX1_isParent_44 : decode cX1_isParent 44 = .ok (.iconst 0, 1) := dk_3 (dk_at dksX1_isParent_2 0 rfl rfl)
theorem dX1_isParent_45 : decode cX1_isParent 45 = .ok (.ior, 1) := dk_128 (dk_at dksX1_isParent_2 1 rfl rfl)
theorem dX1_isParent_46 : decode cX1_isParent 46 = .ok (.istore_n 2, 1) := dk_61 (dk_at dksX1_isParent_2 2 rfl rfl)
theorem dX1_isParent_47 : decode cX1_isParent 47 = .ok (.goto (-37), 3) := dk_167 255 219 (dk_at dksX1_isParent_2 3 rfl rfl)
theorem dX1_isParent_50 : decode cX1_isParent 50 = .ok (.iload_n 2, 1) := dk_28 (dk_at dksX1_isParent_2 6 rfl rfl)
theorem dX1_isParent_51 : decode cX1_isParent 51 = .ok (.ireturn, 1) := dk_172 (dk_at dksX1_isParent_2 7 rfl rfl)
abbrev cX1_hand : ByteArray := prog_1_method_39_code
def yX1_hand : MethodName := ⟨RX1, "hand", "(I)I"⟩
def dkwX1_hand_8 : List UInt8 := [181, 0, 128, 42, 180, 0, 27, 44, 182, 0, 215, 87, 42, 44, 4, 182, 1, 64, 29, 172]
abbrev dktX1_hand_8 : List UInt8 := dkwX1_hand_8 ++ []
def dkwX1_hand_7 : List UInt8 := [182, 0, 132, 183, 1, 61, 182, 0, 215, 87, 167, 255, 193, 44, 42, 180, 0, 232, 181, 0, 87, 44, 4]
abbrev dktX1_hand_7 : List UInt8 := dkwX1_hand_7 ++ dktX1_hand_8
def dkwX1_hand_6 : List UInt8 := [153, 0, 34, 42, 180, 0, 30, 187, 0, 173, 89, 42, 180, 0, 30, 182, 0, 207, 44, 25, 5, 44, 25, 5]
abbrev dktX1_hand_6 : List UInt8 := dkwX1_hand_6 ++ dktX1_hand_7
def dkwX1_hand_5 : List UInt8 := [153, 0, 59, 25, 4, 185, 0, 157, 1, 0, 192, 0, 88, 58, 5, 42, 44, 25, 5, 182, 1, 58]
abbrev dktX1_hand_5 : List UInt8 := dkwX1_hand_5 ++ dktX1_hand_6
def dkwX1_hand_4 : List UInt8 := [167, 0, 4, 3, 184, 0, 208, 42, 180, 0, 24, 182, 0, 147, 58, 4, 25, 4, 185, 0, 151, 1, 0]
abbrev dktX1_hand_4 : List UInt8 := dkwX1_hand_4 ++ dktX1_hand_5
def dkwX1_hand_3 : List UInt8 := [167, 0, 4, 3, 96, 62, 167, 255, 216, 42, 180, 0, 30, 182, 0, 207, 29, 96, 16, 40, 163, 0, 7, 4]
abbrev dktX1_hand_3 : List UInt8 := dkwX1_hand_3 ++ dktX1_hand_4
def dkwX1_hand_2 : List UInt8 := [185, 0, 157, 1, 0, 192, 0, 88, 58, 5, 29, 42, 44, 25, 5, 182, 1, 58, 153, 0, 7, 4]
abbrev dktX1_hand_2 : List UInt8 := dkwX1_hand_2 ++ dktX1_hand_3
def dkwX1_hand_1 : List UInt8 := [42, 180, 0, 24, 182, 0, 147, 58, 4, 25, 4, 185, 0, 151, 1, 0, 153, 0, 36, 25, 4]
abbrev dktX1_hand_1 : List UInt8 := dkwX1_hand_1 ++ dktX1_hand_2
def dkwX1_hand_0 : List UInt8 := [42, 27, 182, 1, 20, 77, 44, 180, 0, 87, 2, 160, 0, 7, 4, 167, 0, 4, 3, 184, 1, 27, 3, 62]
abbrev dktX1_hand_0 : List UInt8 := dkwX1_hand_0 ++ dktX1_hand_1
theorem dksX1_hand_0 : cX1_hand.data.toList.drop 0 = dktX1_hand_0 := by decide +kernel
theorem dksX1_hand_1 : cX1_hand.data.toList.drop 24 = dktX1_hand_1 := dk_seg dksX1_hand_0 24 rfl rfl
theorem dksX1_hand_2 : cX1_hand.data.toList.drop 45 = dktX1_hand_2 := dk_seg dksX1_hand_1 21 rfl rfl
theorem dksX1_hand_3 : cX1_hand.data.toList.drop 67 = dktX1_hand_3 := dk_seg dksX1_hand_2 22 rfl rfl
theorem dksX1_hand_4 : cX1_hand.data.toList.drop 91 = dktX1_hand_4 := dk_seg dksX1_hand_3 24 rfl rfl
theorem dksX1_hand_5 : cX1_hand.data.toList.drop 114 = dktX1_hand_5 := dk_seg dksX1_hand_4 23 rfl rfl
theorem dksX1_hand_6 : cX1_hand.data.toList.drop 136 = dktX1_hand_6 := dk_seg dksX1_hand_5 22 rfl rfl
theorem dksX1_hand_7 : cX1_hand.data.toList.drop 160 = dktX1_hand_7 := dk_seg dksX1_hand_6 24 rfl rfl
theorem dksX1_hand_8 : cX1_hand.data.toList.drop 183 = dktX1_hand_8 := dk_seg dksX1_hand_7 23 rfl rfl
theorem dX1_hand_0 : decode cX1_hand 0 = .ok (.aload_n 0, 1) := dk_42 (dk_at dksX1_hand_0 0 rfl rfl)
theorem dX1_hand_1 : decode cX1_hand 1 = .ok (.iload_n 1, 1) := dk_27 (dk_at dksX1_hand_0 1 rfl rfl)
theorem dX1_hand_2 : decode cX1_hand 2 = .ok (.invokevirtual 276, 3) := dk_182 1 20 (dk_at dksX1_hand_0 2 rfl rfl)
theorem dX1_hand_5 : decode cX1_hand 5 = .ok (.astore_n 2, 1) := dk_77 (dk_at dksX1_hand_0 5 rfl rfl)
theorem dX1_hand_6 : decode cX1_hand 6 = .ok (.aload_n 2, 1) := dk_44 (dk_at dksX1_hand_0 6 rfl rfl)
theorem dX1_hand_7 : decode cX1_hand 7 = .ok (.getfield 87, 3) := dk_180 0 87 (dk_at dksX1_hand_0 7 rfl rfl)
theorem dX1_hand_10 : decode cX1_hand 10 = .ok (.iconst (-1), 1) := dk_2 (dk_at dksX1_hand_0 10 rfl rfl)
theorem dX1_hand_11 : decode cX1_hand 11 = .ok (.if_icmp .ne 7, 3) := dk_160 0 7 (dk_at dksX1_hand_0 11 rfl rfl)
theorem dX1_hand_14 : decode cX1_hand 14 = .ok (.iconst 1, 1) := dk_4 (dk_at dksX1_hand_0 14 rfl rfl)
theorem dX1_hand_15 : decode cX1_hand 15 = .ok (.goto 4, 3) := dk_167 0 4 (dk_at dksX1_hand_0 15 rfl rfl)
theorem dX1_hand_18 : decode cX1_hand 18 = .ok (.iconst 0, 1) := dk_3 (dk_at dksX1_hand_0 18 rfl rfl)
theorem dX1_hand_19 : decode cX1_hand 19 = .ok (.invokestatic 283, 3) := dk_184 1 27 (dk_at dksX1_hand_0 19 rfl rfl)
theorem dX1_hand_22 : decode cX1_hand 22 = .ok (.iconst 0, 1) := dk_3 (dk_at dksX1_hand_0 22 rfl rfl)
theorem dX1_hand_23 : decode cX1_hand 23 = .ok (.istore_n 3, 1) := dk_62 (dk_at dksX1_hand_0 23 rfl rfl)
theorem dX1_hand_24 : decode cX1_hand 24 = .ok (.aload_n 0, 1) := dk_42 (dk_at dksX1_hand_1 0 rfl rfl)
theorem dX1_hand_25 : decode cX1_hand 25 = .ok (.getfield 24, 3) := dk_180 0 24 (dk_at dksX1_hand_1 1 rfl rfl)
theorem dX1_hand_28 : decode cX1_hand 28 = .ok (.invokevirtual 147, 3) := dk_182 0 147 (dk_at dksX1_hand_1 4 rfl rfl)
theorem dX1_hand_31 : decode cX1_hand 31 = .ok (.astore 4, 2) := dk_58 4 (dk_at dksX1_hand_1 7 rfl rfl)
theorem dX1_hand_33 : decode cX1_hand 33 = .ok (.aload 4, 2) := dk_25 4 (dk_at dksX1_hand_1 9 rfl rfl)
theorem dX1_hand_35 : decode cX1_hand 35 = .ok (.invokeinterface 151 1, 5) := by decide +kernel
theorem dX1_hand_40 : decode cX1_hand 40 = .ok (.ifCond .eq 36, 3) := dk_153 0 36 (dk_at dksX1_hand_1 16 rfl rfl)
theorem dX1_hand_43 : decode cX1_hand 43 = .ok (.aload 4, 2) := dk_25 4 (dk_at dksX1_hand_1 19 rfl rfl)
theorem dX1_hand_45 : decode cX1_hand 45 = .ok (.invokeinterface 157 1, 5) := by decide +kernel
theorem dX1_hand_50 : decode cX1_hand 50 = .ok (.checkcast 88, 3) := dk_192 0 88 (dk_at dksX1_hand_2 5 rfl rfl)
theorem dX1_hand_53 : decode cX1_hand 53 = .ok (.astore 5, 2) := dk_58 5 (dk_at dksX1_hand_2 8 rfl rfl)
theorem dX1_hand_55 : decode cX1_hand 55 = .ok (.iload_n 3, 1) := dk_29 (dk_at dksX1_hand_2 10 rfl rfl)
theorem dX1_hand_56 : decode cX1_hand 56 = .ok (.aload_n 0, 1) := dk_42 (dk_at dksX1_hand_2 11 rfl rfl)
theorem dX1_hand_57 : decode cX1_hand 57 = .ok (.aload_n 2, 1) := dk_44 (dk_at dksX1_hand_2 12 rfl rfl)
theorem dX1_hand_58 : decode cX1_hand 58 = .ok (.aload 5, 2) := dk_25 5 (dk_at dksX1_hand_2 13 rfl rfl)
theorem dX1_hand_60 : decode cX1_hand 60 = .ok (.invokevirtual 314, 3) := dk_182 1 58 (dk_at dksX1_hand_2 15 rfl rfl)
theorem dX1_hand_63 : decode cX1_hand 63 = .ok (.ifCond .eq 7, 3) := dk_153 0 7 (dk_at dksX1_hand_2 18 rfl rfl)
theorem dX1_hand_66 : decode cX1_hand 66 = .ok (.iconst 1, 1) := dk_4 (dk_at dksX1_hand_2 21 rfl rfl)
theorem dX1_hand_67 : decode cX1_hand 67 = .ok (.goto 4, 3) := dk_167 0 4 (dk_at dksX1_hand_3 0 rfl rfl)
theorem dX1_hand_70 : decode cX1_hand 70 = .ok (.iconst 0, 1) := dk_3 (dk_at dksX1_hand_3 3 rfl rfl)
theorem dX1_hand_71 : decode cX1_hand 71 = .ok (.iadd, 1) := dk_96 (dk_at dksX1_hand_3 4 rfl rfl)
theorem dX1_hand_72 : decode cX1_hand 72 = .ok (.istore_n 3, 1) := dk_62 (dk_at dksX1_hand_3 5 rfl rfl)
theorem dX1_hand_73 : decode cX1_hand 73 = .ok (.goto (-40), 3) := dk_167 255 216 (dk_at dksX1_hand_3 6 rfl rfl)
theorem dX1_hand_76 : decode cX1_hand 76 = .ok (.aload_n 0, 1) := dk_42 (dk_at dksX1_hand_3 9 rfl rfl)
theorem dX1_hand_77 : decode cX1_hand 77 = .ok (.getfield 30, 3) := dk_180 0 30 (dk_at dksX1_hand_3 10 rfl rfl)
theorem dX1_hand_80 : decode cX1_hand 80 = .ok (.invokevirtual 207, 3) := dk_182 0 207 (dk_at dksX1_hand_3 13 rfl rfl)
theorem dX1_hand_83 : decode cX1_hand 83 = .ok (.iload_n 3, 1) := dk_29 (dk_at dksX1_hand_3 16 rfl rfl)
theorem dX1_hand_84 : decode cX1_hand 84 = .ok (.iadd, 1) := dk_96 (dk_at dksX1_hand_3 17 rfl rfl)
theorem dX1_hand_85 : decode cX1_hand 85 = .ok (.bipush 40, 2) := dk_16 40 (dk_at dksX1_hand_3 18 rfl rfl)
theorem dX1_hand_87 : decode cX1_hand 87 = .ok (.if_icmp .gt 7, 3) := dk_163 0 7 (dk_at dksX1_hand_3 20 rfl rfl)
theorem dX1_hand_90 : decode cX1_hand 90 = .ok (.iconst 1, 1) := dk_4 (dk_at dksX1_hand_3 23 rfl rfl)
theorem dX1_hand_91 : decode cX1_hand 91 = .ok (.goto 4, 3) := dk_167 0 4 (dk_at dksX1_hand_4 0 rfl rfl)
theorem dX1_hand_94 : decode cX1_hand 94 = .ok (.iconst 0, 1) := dk_3 (dk_at dksX1_hand_4 3 rfl rfl)
theorem dX1_hand_95 : decode cX1_hand 95 = .ok (.invokestatic 208, 3) := dk_184 0 208 (dk_at dksX1_hand_4 4 rfl rfl)
theorem dX1_hand_98 : decode cX1_hand 98 = .ok (.aload_n 0, 1) := dk_42 (dk_at dksX1_hand_4 7 rfl rfl)
theorem dX1_hand_99 : decode cX1_hand 99 = .ok (.getfield 24, 3) := dk_180 0 24 (dk_at dksX1_hand_4 8 rfl rfl)
theorem dX1_hand_102 : decode cX1_hand 102 = .ok (.invokevirtual 147, 3) := dk_182 0 147 (dk_at dksX1_hand_4 11 rfl rfl)
theorem dX1_hand_105 : decode cX1_hand 105 = .ok (.astore 4, 2) := dk_58 4 (dk_at dksX1_hand_4 14 rfl rfl)
theorem dX1_hand_107 : decode cX1_hand 107 = .ok (.aload 4, 2) := dk_25 4 (dk_at dksX1_hand_4 16 rfl rfl)
theorem dX1_hand_109 : decode cX1_hand 109 = .ok (.invokeinterface 151 1, 5) := by decide +kernel
theorem dX1_hand_114 : decode cX1_hand 114 = .ok (.ifCond .eq 59, 3) := dk_153 0 59 (dk_at dksX1_hand_5 0 rfl rfl)
theorem dX1_hand_117 : decode cX1_hand 117 = .ok (.aload 4, 2) := dk_25 4 (dk_at dksX1_hand_5 3 rfl rfl)
theorem dX1_hand_119 : decode cX1_hand 119 = .ok (.invokeinterface 157 1, 5) := by decide +kernel
theorem dX1_hand_124 : decode cX1_hand 124 = .ok (.checkcast 88, 3) := dk_192 0 88 (dk_at dksX1_hand_5 10 rfl rfl)
theorem dX1_hand_127 : decode cX1_hand 127 = .ok (.astore 5, 2) := dk_58 5 (dk_at dksX1_hand_5 13 rfl rfl)
theorem dX1_hand_129 : decode cX1_hand 129 = .ok (.aload_n 0, 1) := dk_42 (dk_at dksX1_hand_5 15 rfl rfl)
theorem dX1_hand_130 : decode cX1_hand 130 = .ok (.aload_n 2, 1) := dk_44 (dk_at dksX1_hand_5 16 rfl rfl)
theorem dX1_hand_131 : decode cX1_hand 131 = .ok (.aload 5, 2) := dk_25 5 (dk_at dksX1_hand_5 17 rfl rfl)
theorem dX1_hand_133 : decode cX1_hand 133 = .ok (.invokevirtual 314, 3) := dk_182 1 58 (dk_at dksX1_hand_5 19 rfl rfl)
theorem dX1_hand_136 : decode cX1_hand 136 = .ok (.ifCond .eq 34, 3) := dk_153 0 34 (dk_at dksX1_hand_6 0 rfl rfl)
theorem dX1_hand_139 : decode cX1_hand 139 = .ok (.aload_n 0, 1) := dk_42 (dk_at dksX1_hand_6 3 rfl rfl)
theorem dX1_hand_140 : decode cX1_hand 140 = .ok (.getfield 30, 3) := dk_180 0 30 (dk_at dksX1_hand_6 4 rfl rfl)
theorem dX1_hand_143 : decode cX1_hand 143 = .ok (.new 173, 3) := dk_187 0 173 (dk_at dksX1_hand_6 7 rfl rfl)
theorem dX1_hand_146 : decode cX1_hand 146 = .ok (.dup, 1) := dk_89 (dk_at dksX1_hand_6 10 rfl rfl)
theorem dX1_hand_147 : decode cX1_hand 147 = .ok (.aload_n 0, 1) := dk_42 (dk_at dksX1_hand_6 11 rfl rfl)
theorem dX1_hand_148 : decode cX1_hand 148 = .ok (.getfield 30, 3) := dk_180 0 30 (dk_at dksX1_hand_6 12 rfl rfl)
theorem dX1_hand_151 : decode cX1_hand 151 = .ok (.invokevirtual 207, 3) := dk_182 0 207 (dk_at dksX1_hand_6 15 rfl rfl)
theorem dX1_hand_154 : decode cX1_hand 154 = .ok (.aload_n 2, 1) := dk_44 (dk_at dksX1_hand_6 18 rfl rfl)
theorem dX1_hand_155 : decode cX1_hand 155 = .ok (.aload 5, 2) := dk_25 5 (dk_at dksX1_hand_6 19 rfl rfl)
theorem dX1_hand_157 : decode cX1_hand 157 = .ok (.aload_n 2, 1) := dk_44 (dk_at dksX1_hand_6 21 rfl rfl)
theorem dX1_hand_158 : decode cX1_hand 158 = .ok (.aload 5, 2) := dk_25 5 (dk_at dksX1_hand_6 22 rfl rfl)
theorem dX1_hand_160 : decode cX1_hand 160 = .ok (.invokevirtual 132, 3) := dk_182 0 132 (dk_at dksX1_hand_7 0 rfl rfl)
theorem dX1_hand_163 : decode cX1_hand 163 = .ok (.invokespecial 317, 3) := dk_183 1 61 (dk_at dksX1_hand_7 3 rfl rfl)
theorem dX1_hand_166 : decode cX1_hand 166 = .ok (.invokevirtual 215, 3) := dk_182 0 215 (dk_at dksX1_hand_7 6 rfl rfl)
theorem dX1_hand_169 : decode cX1_hand 169 = .ok (.pop, 1) := dk_87 (dk_at dksX1_hand_7 9 rfl rfl)
theorem dX1_hand_170 : decode cX1_hand 170 = .ok (.goto (-63), 3) := dk_167 255 193 (dk_at dksX1_hand_7 10 rfl rfl)
theorem dX1_hand_173 : decode cX1_hand 173 = .ok (.aload_n 2, 1) := dk_44 (dk_at dksX1_hand_7 13 rfl rfl)
theorem dX1_hand_174 : decode cX1_hand 174 = .ok (.aload_n 0, 1) := dk_42 (dk_at dksX1_hand_7 14 rfl rfl)
theorem dX1_hand_175 : decode cX1_hand 175 = .ok (.getfield 232, 3) := dk_180 0 232 (dk_at dksX1_hand_7 15 rfl rfl)
theorem dX1_hand_178 : decode cX1_hand 178 = .ok (.putfield 87, 3) := dk_181 0 87 (dk_at dksX1_hand_7 18 rfl rfl)
theorem dX1_hand_181 : decode cX1_hand 181 = .ok (.aload_n 2, 1) := dk_44 (dk_at dksX1_hand_7 21 rfl rfl)
theorem dX1_hand_182 : decode cX1_hand 182 = .ok (.iconst 1, 1) := dk_4 (dk_at dksX1_hand_7 22 rfl rfl)
theorem dX1_hand_183 : decode cX1_hand 183 = .ok (.putfield 128, 3) := dk_181 0 128 (dk_at dksX1_hand_8 0 rfl rfl)
theorem dX1_hand_186 : decode cX1_hand 186 = .ok (.aload_n 0, 1) := dk_42 (dk_at dksX1_hand_8 3 rfl rfl)
theorem dX1_hand_187 : decode cX1_hand 187 = .ok (.getfield 27, 3) := dk_180 0 27 (dk_at dksX1_hand_8 4 rfl rfl)
theorem dX1_hand_190 : decode cX1_hand 190 = .ok (.aload_n 2, 1) := dk_44 (dk_at dksX1_hand_8 7 rfl rfl)
theorem dX1_hand_191 : decode cX1_hand 191 = .ok (.invokevirtual 215, 3) := dk_182 0 215 (dk_at dksX1_hand_8 8 rfl rfl)
theorem dX1_hand_194 : decode cX1_hand 194 = .ok (.pop, 1) := dk_87 (dk_at dksX1_hand_8 11 rfl rfl)
theorem dX1_hand_195 : decode cX1_hand 195 = .ok (.aload_n 0, 1) := dk_42 (dk_at dksX1_hand_8 12 rfl rfl)
theorem dX1_hand_196 : decode cX1_hand 196 = .ok (.aload_n 2, 1) := dk_44 (dk_at dksX1_hand_8 13 rfl rfl)
theorem dX1_hand_197 : decode cX1_hand 197 = .ok (.iconst 1, 1) := dk_4 (dk_at dksX1_hand_8 14 rfl rfl)
theorem dX1_hand_198 : decode cX1_hand 198 = .ok (.invokevirtual 320, 3) := dk_182 1 64 (dk_at dksX1_hand_8 15 rfl rfl)
theorem dX1_hand_201 : decode cX1_hand 201 = .ok (.iload_n 3, 1) := dk_29 (dk_at dksX1_hand_8 18 rfl rfl)
theorem dX1_hand_202 : decode cX1_hand 202 = .ok (.ireturn, 1) := dk_172 (dk_at dksX1_hand_8 19 rfl rfl)
abbrev cX1_isHit : ByteArray := prog_1_method_38_code
def yX1_isHit : MethodName := ⟨RX1, "isHit", "(LHomewatcher$Version;LHomewatcher$Version;)Z"⟩
def dkwX1_isHit_1 : List UInt8 := [180, 0, 52, 161, 0, 7, 4, 167, 0, 4, 3, 172]
abbrev dktX1_isHit_1 : List UInt8 := dkwX1_isHit_1 ++ []
def dkwX1_isHit_0 : List UInt8 := [44, 180, 0, 128, 153, 0, 30, 44, 180, 1, 41, 43, 180, 1, 41, 159, 0, 19, 43, 44, 182, 0, 132, 42]
abbrev dktX1_isHit_0 : List UInt8 := dkwX1_isHit_0 ++ dktX1_isHit_1
theorem dksX1_isHit_0 : cX1_isHit.data.toList.drop 0 = dktX1_isHit_0 := by decide +kernel
theorem dksX1_isHit_1 : cX1_isHit.data.toList.drop 24 = dktX1_isHit_1 := dk_seg dksX1_isHit_0 24 rfl rfl
theorem dX1_isHit_0 : decode cX1_isHit 0 = .ok (.aload_n 2, 1) := dk_44 (dk_at dksX1_isHit_0 0 rfl rfl)
theorem dX1_isHit_1 : decode cX1_isHit 1 = .ok (.getfield 128, 3) := dk_180 0 128 (dk_at dksX1_isHit_0 1 rfl rfl)
theorem dX1_isHit_4 : decode cX1_isHit 4 = .ok (.ifCond .eq 30, 3) := dk_153 0 30 (dk_at dksX1_isHit_0 4 rfl rfl)
theorem dX1_isHit_7 : decode cX1_isHit 7 = .ok (.aload_n 2, 1) := dk_44 (dk_at dksX1_isHit_0 7 rfl rfl)
theorem dX1_isHit_8 : decode cX1_isHit 8 = .ok (.getfield 297, 3) := dk_180 1 41 (dk_at dksX1_isHit_0 8 rfl rfl)
theorem dX1_isHit_11 : decode cX1_isHit 11 = .ok (.aload_n 1, 1) := dk_43 (dk_at dksX1_isHit_0 11 rfl rfl)
theorem dX1_isHit_12 : decode cX1_isHit 12 = .ok (.getfield 297, 3) := dk_180 1 41 (dk_at dksX1_isHit_0 12 rfl rfl)
theorem dX1_isHit_15 : decode cX1_isHit 15 = .ok (.if_icmp .eq 19, 3) := dk_159 0 19 (dk_at dksX1_isHit_0 15 rfl rfl)
theorem dX1_isHit_18 : decode cX1_isHit 18 = .ok (.aload_n 1, 1) := dk_43 (dk_at dksX1_isHit_0 18 rfl rfl)
theorem dX1_isHit_19 : decode cX1_isHit 19 = .ok (.aload_n 2, 1) := dk_44 (dk_at dksX1_isHit_0 19 rfl rfl)
theorem dX1_isHit_20 : decode cX1_isHit 20 = .ok (.invokevirtual 132, 3) := dk_182 0 132 (dk_at dksX1_isHit_0 20 rfl rfl)
theorem dX1_isHit_23 : decode cX1_isHit 23 = .ok (.aload_n 0, 1) := dk_42 (dk_at dksX1_isHit_0 23 rfl rfl)
theorem dX1_isHit_24 : decode cX1_isHit 24 = .ok (.getfield 52, 3) := dk_180 0 52 (dk_at dksX1_isHit_1 0 rfl rfl)
theorem dX1_isHit_27 : decode cX1_isHit 27 = .ok (.if_icmp .lt 7, 3) := dk_161 0 7 (dk_at dksX1_isHit_1 3 rfl rfl)
theorem dX1_isHit_30 : decode cX1_isHit 30 = .ok (.iconst 1, 1) := dk_4 (dk_at dksX1_isHit_1 6 rfl rfl)
theorem dX1_isHit_31 : decode cX1_isHit 31 = .ok (.goto 4, 3) := dk_167 0 4 (dk_at dksX1_isHit_1 7 rfl rfl)
theorem dX1_isHit_34 : decode cX1_isHit 34 = .ok (.iconst 0, 1) := dk_3 (dk_at dksX1_isHit_1 10 rfl rfl)
theorem dX1_isHit_35 : decode cX1_isHit 35 = .ok (.ireturn, 1) := dk_172 (dk_at dksX1_isHit_1 11 rfl rfl)
abbrev cX1_count : ByteArray := prog_1_method_37_code
def yX1_count : MethodName := ⟨RX1, "count", "(LHomewatcher$Version;I)V"⟩
def dkwX1_count_5 : List UInt8 := [177]
abbrev dktX1_count_5 : List UInt8 := dkwX1_count_5 ++ []
def dkwX1_count_4 : List UInt8 := [180, 0, 36, 21, 4, 184, 0, 211, 21, 6, 184, 0, 211, 182, 1, 55, 192, 0, 105, 58, 7, 167, 255, 153]
abbrev dktX1_count_4 : List UInt8 := dkwX1_count_4 ++ dktX1_count_5
def dkwX1_count_3 : List UInt8 := [154, 0, 21, 42, 180, 0, 36, 21, 4, 184, 0, 211, 182, 1, 52, 192, 0, 105, 167, 0, 23, 42]
abbrev dktX1_count_3 : List UInt8 := dkwX1_count_3 ++ dktX1_count_4
def dkwX1_count_2 : List UInt8 := [58, 5, 25, 5, 199, 0, 7, 3, 167, 0, 8, 25, 5, 182, 0, 107, 28, 96, 54, 6, 21, 6]
abbrev dktX1_count_2 : List UInt8 := dkwX1_count_2 ++ dktX1_count_3
def dkwX1_count_1 : List UInt8 := [192, 0, 105, 182, 0, 107, 54, 4, 42, 180, 0, 36, 21, 4, 184, 0, 211, 182, 1, 49, 192, 0, 105]
abbrev dktX1_count_1 : List UInt8 := dkwX1_count_1 ++ dktX1_count_2
def dkwX1_count_0 : List UInt8 := [43, 180, 0, 135, 182, 1, 48, 78, 45, 185, 0, 151, 1, 0, 153, 0, 100, 45, 185, 0, 157, 1, 0]
abbrev dktX1_count_0 : List UInt8 := dkwX1_count_0 ++ dktX1_count_1
theorem dksX1_count_0 : cX1_count.data.toList.drop 0 = dktX1_count_0 := by decide +kernel
theorem dksX1_count_1 : cX1_count.data.toList.drop 23 = dktX1_count_1 := dk_seg dksX1_count_0 23 rfl rfl
theorem dksX1_count_2 : cX1_count.data.toList.drop 46 = dktX1_count_2 := dk_seg dksX1_count_1 23 rfl rfl
theorem dksX1_count_3 : cX1_count.data.toList.drop 68 = dktX1_count_3 := dk_seg dksX1_count_2 22 rfl rfl
theorem dksX1_count_4 : cX1_count.data.toList.drop 90 = dktX1_count_4 := dk_seg dksX1_count_3 22 rfl rfl
theorem dksX1_count_5 : cX1_count.data.toList.drop 114 = dktX1_count_5 := dk_seg dksX1_count_4 24 rfl rfl
theorem dX1_count_0 : decode cX1_count 0 = .ok (.aload_n 1, 1) := dk_43 (dk_at dksX1_count_0 0 rfl rfl)
theorem dX1_count_1 : decode cX1_count 1 = .ok (.getfield 135, 3) := dk_180 0 135 (dk_at dksX1_count_0 1 rfl rfl)
theorem dX1_count_4 : decode cX1_count 4 = .ok (.invokevirtual 304, 3) := dk_182 1 48 (dk_at dksX1_count_0 4 rfl rfl)
theorem dX1_count_7 : decode cX1_count 7 = .ok (.astore_n 3, 1) := dk_78 (dk_at dksX1_count_0 7 rfl rfl)
theorem dX1_count_8 : decode cX1_count 8 = .ok (.aload_n 3, 1) := dk_45 (dk_at dksX1_count_0 8 rfl rfl)
theorem dX1_count_9 : decode cX1_count 9 = .ok (.invokeinterface 151 1, 5) := by decide +kernel
theorem dX1_count_14 : decode cX1_count 14 = .ok (.ifCond .eq 100, 3) := dk_153 0 100 (dk_at dksX1_count_0 14 rfl rfl)
theorem dX1_count_17 : decode cX1_count 17 = .ok (.aload_n 3, 1) := dk_45 (dk_at dksX1_count_0 17 rfl rfl)
theorem dX1_count_18 : decode cX1_count 18 = .ok (.invokeinterface 157 1, 5) := by decide +kernel
theorem dX1_count_23 : decode cX1_count 23 = .ok (.checkcast 105, 3) := dk_192 0 105 (dk_at dksX1_count_1 0 rfl rfl)
theorem dX1_count_26 : decode cX1_count 26 = .ok (.invokevirtual 107, 3) := dk_182 0 107 (dk_at dksX1_count_1 3 rfl rfl)
theorem dX1_count_29 : decode cX1_count 29 = .ok (.istore 4, 2) := dk_54 4 (dk_at dksX1_count_1 6 rfl rfl)
theorem dX1_count_31 : decode cX1_count 31 = .ok (.aload_n 0, 1) := dk_42 (dk_at dksX1_count_1 8 rfl rfl)
theorem dX1_count_32 : decode cX1_count 32 = .ok (.getfield 36, 3) := dk_180 0 36 (dk_at dksX1_count_1 9 rfl rfl)
theorem dX1_count_35 : decode cX1_count 35 = .ok (.iload 4, 2) := dk_21 4 (dk_at dksX1_count_1 12 rfl rfl)
theorem dX1_count_37 : decode cX1_count 37 = .ok (.invokestatic 211, 3) := dk_184 0 211 (dk_at dksX1_count_1 14 rfl rfl)
theorem dX1_count_40 : decode cX1_count 40 = .ok (.invokevirtual 305, 3) := dk_182 1 49 (dk_at dksX1_count_1 17 rfl rfl)
theorem dX1_count_43 : decode cX1_count 43 = .ok (.checkcast 105, 3) := dk_192 0 105 (dk_at dksX1_count_1 20 rfl rfl)
theorem dX1_count_46 : decode cX1_count 46 = .ok (.astore 5, 2) := dk_58 5 (dk_at dksX1_count_2 0 rfl rfl)
theorem dX1_count_48 : decode cX1_count 48 = .ok (.aload 5, 2) := dk_25 5 (dk_at dksX1_count_2 2 rfl rfl)
theorem dX1_count_50 : decode cX1_count 50 = .ok (.ifnonnull 7, 3) := dk_199 0 7 (dk_at dksX1_count_2 4 rfl rfl)
theorem dX1_count_53 : decode cX1_count 53 = .ok (.iconst 0, 1) := dk_3 (dk_at dksX1_count_2 7 rfl rfl)
theorem dX1_count_54 : decode cX1_count 54 = .ok (.goto 8, 3) := dk_167 0 8 (dk_at dksX1_count_2 8 rfl rfl)
theorem dX1_count_57 : decode cX1_count 57 = .ok (.aload 5, 2) := dk_25 5 (dk_at dksX1_count_2 11 rfl rfl)
theorem dX1_count_59 : decode cX1_count 59 = .ok (.invokevirtual 107, 3) := dk_182 0 107 (dk_at dksX1_count_2 13 rfl rfl)
theorem dX1_count_62 : decode cX1_count 62 = .ok (.iload_n 2, 1) := dk_28 (dk_at dksX1_count_2 16 rfl rfl)
theorem dX1_count_63 : decode cX1_count 63 = .ok (.iadd, 1) := dk_96 (dk_at dksX1_count_2 17 rfl rfl)
theorem dX1_count_64 : decode cX1_count 64 = .ok (.istore 6, 2) := dk_54 6 (dk_at dksX1_count_2 18 rfl rfl)
theorem dX1_count_66 : decode cX1_count 66 = .ok (.iload 6, 2) := dk_21 6 (dk_at dksX1_count_2 20 rfl rfl)
theorem dX1_count_68 : decode cX1_count 68 = .ok (.ifCond .ne 21, 3) := dk_154 0 21 (dk_at dksX1_count_3 0 rfl rfl)
theorem dX1_count_71 : decode cX1_count 71 = .ok (.aload_n 0, 1) := dk_42 (dk_at dksX1_count_3 3 rfl rfl)
theorem dX1_count_72 : decode cX1_count 72 = .ok (.getfield 36, 3) := dk_180 0 36 (dk_at dksX1_count_3 4 rfl rfl)
theorem dX1_count_75 : decode cX1_count 75 = .ok (.iload 4, 2) := dk_21 4 (dk_at dksX1_count_3 7 rfl rfl)
theorem dX1_count_77 : decode cX1_count 77 = .ok (.invokestatic 211, 3) := dk_184 0 211 (dk_at dksX1_count_3 9 rfl rfl)
theorem dX1_count_80 : decode cX1_count 80 = .ok (.invokevirtual 308, 3) := dk_182 1 52 (dk_at dksX1_count_3 12 rfl rfl)
theorem dX1_count_83 : decode cX1_count 83 = .ok (.checkcast 105, 3) := dk_192 0 105 (dk_at dksX1_count_3 15 rfl rfl)
theorem dX1_count_86 : decode cX1_count 86 = .ok (.goto 23, 3) := dk_167 0 23 (dk_at dksX1_count_3 18 rfl rfl)
theorem dX1_count_89 : decode cX1_count 89 = .ok (.aload_n 0, 1) := dk_42 (dk_at dksX1_count_3 21 rfl rfl)
theorem dX1_count_90 : decode cX1_count 90 = .ok (.getfield 36, 3) := dk_180 0 36 (dk_at dksX1_count_4 0 rfl rfl)
theorem dX1_count_93 : decode cX1_count 93 = .ok (.iload 4, 2) := dk_21 4 (dk_at dksX1_count_4 3 rfl rfl)
theorem dX1_count_95 : decode cX1_count 95 = .ok (.invokestatic 211, 3) := dk_184 0 211 (dk_at dksX1_count_4 5 rfl rfl)
theorem dX1_count_98 : decode cX1_count 98 = .ok (.iload 6, 2) := dk_21 6 (dk_at dksX1_count_4 8 rfl rfl)
theorem dX1_count_100 : decode cX1_count 100 = .ok (.invokestatic 211, 3) := dk_184 0 211 (dk_at dksX1_count_4 10 rfl rfl)
theorem dX1_count_103 : decode cX1_count 103 = .ok (.invokevirtual 311, 3) := dk_182 1 55 (dk_at dksX1_count_4 13 rfl rfl)
theorem dX1_count_106 : decode cX1_count 106 = .ok (.checkcast 105, 3) := dk_192 0 105 (dk_at dksX1_count_4 16 rfl rfl)
theorem dX1_count_109 : decode cX1_count 109 = .ok (.astore 7, 2) := dk_58 7 (dk_at dksX1_count_4 19 rfl rfl)
theorem dX1_count_111 : decode cX1_count 111 = .ok (.goto (-103), 3) := dk_167 255 153 (dk_at dksX1_count_4 21 rfl rfl)
theorem dX1_count_114 : decode cX1_count 114 = .ok (.return_, 1) := dk_177 (dk_at dksX1_count_5 0 rfl rfl)
abbrev cX1_withdraw : ByteArray := prog_1_method_40_code
def yX1_withdraw : MethodName := ⟨RX1, "withdraw", "(I)Z"⟩
def dkwX1_withdraw_3 : List UInt8 := [180, 1, 41, 44, 180, 0, 92, 182, 0, 178, 198, 0, 7, 4, 167, 0, 4, 3, 172]
abbrev dktX1_withdraw_3 : List UInt8 := dkwX1_withdraw_3 ++ []
def dkwX1_withdraw_2 : List UInt8 := [163, 0, 7, 4, 167, 0, 4, 3, 184, 1, 27, 44, 3, 181, 0, 128, 42, 44, 2, 182, 1, 64, 42, 44]
abbrev dktX1_withdraw_2 : List UInt8 := dkwX1_withdraw_2 ++ dktX1_withdraw_3
def dkwX1_withdraw_1 : List UInt8 := [180, 0, 92, 180, 0, 96, 182, 0, 101, 192, 0, 105, 182, 0, 107, 96, 44, 180, 0, 92, 180, 0, 111]
abbrev dktX1_withdraw_1 : List UInt8 := dkwX1_withdraw_1 ++ dktX1_withdraw_2
def dkwX1_withdraw_0 : List UInt8 := [42, 27, 182, 1, 20, 77, 44, 180, 0, 128, 153, 0, 42, 42, 180, 0, 232, 42, 180, 0, 14, 44]
abbrev dktX1_withdraw_0 : List UInt8 := dkwX1_withdraw_0 ++ dktX1_withdraw_1
theorem dksX1_withdraw_0 : cX1_withdraw.data.toList.drop 0 = dktX1_withdraw_0 := by decide +kernel
theorem dksX1_withdraw_1 : cX1_withdraw.data.toList.drop 22 = dktX1_withdraw_1 := dk_seg dksX1_withdraw_0 22 rfl rfl
theorem dksX1_withdraw_2 : cX1_withdraw.data.toList.drop 45 = dktX1_withdraw_2 := dk_seg dksX1_withdraw_1 23 rfl rfl
theorem dksX1_withdraw_3 : cX1_withdraw.data.toList.drop 69 = dktX1_withdraw_3 := dk_seg dksX1_withdraw_2 24 rfl rfl
theorem dX1_withdraw_0 : decode cX1_withdraw 0 = .ok (.aload_n 0, 1) := dk_42 (dk_at dksX1_withdraw_0 0 rfl rfl)
theorem dX1_withdraw_1 : decode cX1_withdraw 1 = .ok (.iload_n 1, 1) := dk_27 (dk_at dksX1_withdraw_0 1 rfl rfl)
theorem dX1_withdraw_2 : decode cX1_withdraw 2 = .ok (.invokevirtual 276, 3) := dk_182 1 20 (dk_at dksX1_withdraw_0 2 rfl rfl)
theorem dX1_withdraw_5 : decode cX1_withdraw 5 = .ok (.astore_n 2, 1) := dk_77 (dk_at dksX1_withdraw_0 5 rfl rfl)
theorem dX1_withdraw_6 : decode cX1_withdraw 6 = .ok (.aload_n 2, 1) := dk_44 (dk_at dksX1_withdraw_0 6 rfl rfl)
theorem dX1_withdraw_7 : decode cX1_withdraw 7 = .ok (.getfield 128, 3) := dk_180 0 128 (dk_at dksX1_withdraw_0 7 rfl rfl)
theorem dX1_withdraw_10 : decode cX1_withdraw 10 = .ok (.ifCond .eq 42, 3) := dk_153 0 42 (dk_at dksX1_withdraw_0 10 rfl rfl)
theorem dX1_withdraw_13 : decode cX1_withdraw 13 = .ok (.aload_n 0, 1) := dk_42 (dk_at dksX1_withdraw_0 13 rfl rfl)
theorem dX1_withdraw_14 : decode cX1_withdraw 14 = .ok (.getfield 232, 3) := dk_180 0 232 (dk_at dksX1_withdraw_0 14 rfl rfl)
theorem dX1_withdraw_17 : decode cX1_withdraw 17 = .ok (.aload_n 0, 1) := dk_42 (dk_at dksX1_withdraw_0 17 rfl rfl)
theorem dX1_withdraw_18 : decode cX1_withdraw 18 = .ok (.getfield 14, 3) := dk_180 0 14 (dk_at dksX1_withdraw_0 18 rfl rfl)
theorem dX1_withdraw_21 : decode cX1_withdraw 21 = .ok (.aload_n 2, 1) := dk_44 (dk_at dksX1_withdraw_0 21 rfl rfl)
theorem dX1_withdraw_22 : decode cX1_withdraw 22 = .ok (.getfield 92, 3) := dk_180 0 92 (dk_at dksX1_withdraw_1 0 rfl rfl)
theorem dX1_withdraw_25 : decode cX1_withdraw 25 = .ok (.getfield 96, 3) := dk_180 0 96 (dk_at dksX1_withdraw_1 3 rfl rfl)
theorem dX1_withdraw_28 : decode cX1_withdraw 28 = .ok (.invokevirtual 101, 3) := dk_182 0 101 (dk_at dksX1_withdraw_1 6 rfl rfl)
theorem dX1_withdraw_31 : decode cX1_withdraw 31 = .ok (.checkcast 105, 3) := dk_192 0 105 (dk_at dksX1_withdraw_1 9 rfl rfl)
theorem dX1_withdraw_34 : decode cX1_withdraw 34 = .ok (.invokevirtual 107, 3) := dk_182 0 107 (dk_at dksX1_withdraw_1 12 rfl rfl)
theorem dX1_withdraw_37 : decode cX1_withdraw 37 = .ok (.iadd, 1) := dk_96 (dk_at dksX1_withdraw_1 15 rfl rfl)
theorem dX1_withdraw_38 : decode cX1_withdraw 38 = .ok (.aload_n 2, 1) := dk_44 (dk_at dksX1_withdraw_1 16 rfl rfl)
theorem dX1_withdraw_39 : decode cX1_withdraw 39 = .ok (.getfield 92, 3) := dk_180 0 92 (dk_at dksX1_withdraw_1 17 rfl rfl)
theorem dX1_withdraw_42 : decode cX1_withdraw 42 = .ok (.getfield 111, 3) := dk_180 0 111 (dk_at dksX1_withdraw_1 20 rfl rfl)
theorem dX1_withdraw_45 : decode cX1_withdraw 45 = .ok (.if_icmp .gt 7, 3) := dk_163 0 7 (dk_at dksX1_withdraw_2 0 rfl rfl)
theorem dX1_withdraw_48 : decode cX1_withdraw 48 = .ok (.iconst 1, 1) := dk_4 (dk_at dksX1_withdraw_2 3 rfl rfl)
theorem dX1_withdraw_49 : decode cX1_withdraw 49 = .ok (.goto 4, 3) := dk_167 0 4 (dk_at dksX1_withdraw_2 4 rfl rfl)
theorem dX1_withdraw_52 : decode cX1_withdraw 52 = .ok (.iconst 0, 1) := dk_3 (dk_at dksX1_withdraw_2 7 rfl rfl)
theorem dX1_withdraw_53 : decode cX1_withdraw 53 = .ok (.invokestatic 283, 3) := dk_184 1 27 (dk_at dksX1_withdraw_2 8 rfl rfl)
theorem dX1_withdraw_56 : decode cX1_withdraw 56 = .ok (.aload_n 2, 1) := dk_44 (dk_at dksX1_withdraw_2 11 rfl rfl)
theorem dX1_withdraw_57 : decode cX1_withdraw 57 = .ok (.iconst 0, 1) := dk_3 (dk_at dksX1_withdraw_2 12 rfl rfl)
theorem dX1_withdraw_58 : decode cX1_withdraw 58 = .ok (.putfield 128, 3) := dk_181 0 128 (dk_at dksX1_withdraw_2 13 rfl rfl)
theorem dX1_withdraw_61 : decode cX1_withdraw 61 = .ok (.aload_n 0, 1) := dk_42 (dk_at dksX1_withdraw_2 16 rfl rfl)
theorem dX1_withdraw_62 : decode cX1_withdraw 62 = .ok (.aload_n 2, 1) := dk_44 (dk_at dksX1_withdraw_2 17 rfl rfl)
theorem dX1_withdraw_63 : decode cX1_withdraw 63 = .ok (.iconst (-1), 1) := dk_2 (dk_at dksX1_withdraw_2 18 rfl rfl)
theorem dX1_withdraw_64 : decode cX1_withdraw 64 = .ok (.invokevirtual 320, 3) := dk_182 1 64 (dk_at dksX1_withdraw_2 19 rfl rfl)
theorem dX1_withdraw_67 : decode cX1_withdraw 67 = .ok (.aload_n 0, 1) := dk_42 (dk_at dksX1_withdraw_2 22 rfl rfl)
theorem dX1_withdraw_68 : decode cX1_withdraw 68 = .ok (.aload_n 2, 1) := dk_44 (dk_at dksX1_withdraw_2 23 rfl rfl)
theorem dX1_withdraw_69 : decode cX1_withdraw 69 = .ok (.getfield 297, 3) := dk_180 1 41 (dk_at dksX1_withdraw_3 0 rfl rfl)
theorem dX1_withdraw_72 : decode cX1_withdraw 72 = .ok (.aload_n 2, 1) := dk_44 (dk_at dksX1_withdraw_3 3 rfl rfl)
theorem dX1_withdraw_73 : decode cX1_withdraw 73 = .ok (.getfield 92, 3) := dk_180 0 92 (dk_at dksX1_withdraw_3 4 rfl rfl)
theorem dX1_withdraw_76 : decode cX1_withdraw 76 = .ok (.invokevirtual 178, 3) := dk_182 0 178 (dk_at dksX1_withdraw_3 7 rfl rfl)
theorem dX1_withdraw_79 : decode cX1_withdraw 79 = .ok (.ifnull 7, 3) := dk_198 0 7 (dk_at dksX1_withdraw_3 10 rfl rfl)
theorem dX1_withdraw_82 : decode cX1_withdraw 82 = .ok (.iconst 1, 1) := dk_4 (dk_at dksX1_withdraw_3 13 rfl rfl)
theorem dX1_withdraw_83 : decode cX1_withdraw 83 = .ok (.goto 4, 3) := dk_167 0 4 (dk_at dksX1_withdraw_3 14 rfl rfl)
theorem dX1_withdraw_86 : decode cX1_withdraw 86 = .ok (.iconst 0, 1) := dk_3 (dk_at dksX1_withdraw_3 17 rfl rfl)
theorem dX1_withdraw_87 : decode cX1_withdraw 87 = .ok (.ireturn, 1) := dk_172 (dk_at dksX1_withdraw_3 18 rfl rfl)
abbrev cX1_isIn : ByteArray := prog_1_method_41_code
def yX1_isIn : MethodName := ⟨RX1, "isIn", "(I)Z"⟩
def dkwX1_isIn_0 : List UInt8 := [42, 27, 182, 1, 20, 180, 0, 128, 172]
abbrev dktX1_isIn_0 : List UInt8 := dkwX1_isIn_0 ++ []
theorem dksX1_isIn_0 : cX1_isIn.data.toList.drop 0 = dktX1_isIn_0 := by decide +kernel
theorem dX1_isIn_0 : decode cX1_isIn 0 = .ok (.aload_n 0, 1) := dk_42 (dk_at dksX1_isIn_0 0 rfl rfl)
theorem dX1_isIn_1 : decode cX1_isIn 1 = .ok (.iload_n 1, 1) := dk_27 (dk_at dksX1_isIn_0 1 rfl rfl)
theorem dX1_isIn_2 : decode cX1_isIn 2 = .ok (.invokevirtual 276, 3) := dk_182 1 20 (dk_at dksX1_isIn_0 2 rfl rfl)
theorem dX1_isIn_5 : decode cX1_isIn 5 = .ok (.getfield 128, 3) := dk_180 0 128 (dk_at dksX1_isIn_0 5 rfl rfl)
theorem dX1_isIn_8 : decode cX1_isIn 8 = .ok (.ireturn, 1) := dk_172 (dk_at dksX1_isIn_0 8 rfl rfl)
abbrev cX1_late : ByteArray := prog_1_method_42_code
def yX1_late : MethodName := ⟨RX1, "late", "(I)I"⟩
def dkwX1_late_0 : List UInt8 := [42, 27, 182, 1, 20, 77, 44, 180, 0, 128, 184, 1, 27, 42, 44, 182, 0, 195, 172]
abbrev dktX1_late_0 : List UInt8 := dkwX1_late_0 ++ []
theorem dksX1_late_0 : cX1_late.data.toList.drop 0 = dktX1_late_0 := by decide +kernel
theorem dX1_late_0 : decode cX1_late 0 = .ok (.aload_n 0, 1) := dk_42 (dk_at dksX1_late_0 0 rfl rfl)
theorem dX1_late_1 : decode cX1_late 1 = .ok (.iload_n 1, 1) := dk_27 (dk_at dksX1_late_0 1 rfl rfl)
theorem dX1_late_2 : decode cX1_late 2 = .ok (.invokevirtual 276, 3) := dk_182 1 20 (dk_at dksX1_late_0 2 rfl rfl)
theorem dX1_late_5 : decode cX1_late 5 = .ok (.astore_n 2, 1) := dk_77 (dk_at dksX1_late_0 5 rfl rfl)
theorem dX1_late_6 : decode cX1_late 6 = .ok (.aload_n 2, 1) := dk_44 (dk_at dksX1_late_0 6 rfl rfl)
theorem dX1_late_7 : decode cX1_late 7 = .ok (.getfield 128, 3) := dk_180 0 128 (dk_at dksX1_late_0 7 rfl rfl)
theorem dX1_late_10 : decode cX1_late 10 = .ok (.invokestatic 283, 3) := dk_184 1 27 (dk_at dksX1_late_0 10 rfl rfl)
theorem dX1_late_13 : decode cX1_late 13 = .ok (.aload_n 0, 1) := dk_42 (dk_at dksX1_late_0 13 rfl rfl)
theorem dX1_late_14 : decode cX1_late 14 = .ok (.aload_n 2, 1) := dk_44 (dk_at dksX1_late_0 14 rfl rfl)
theorem dX1_late_15 : decode cX1_late 15 = .ok (.invokevirtual 195, 3) := dk_182 0 195 (dk_at dksX1_late_0 15 rfl rfl)
theorem dX1_late_18 : decode cX1_late 18 = .ok (.ireturn, 1) := dk_172 (dk_at dksX1_late_0 18 rfl rfl)
abbrev cX1_off : ByteArray := prog_1_method_43_code
def yX1_off : MethodName := ⟨RX1, "off", "(II)I"⟩
def dkwX1_off_1 : List UInt8 := [180, 0, 21, 27, 182, 0, 101, 192, 0, 97, 180, 0, 191, 28, 185, 0, 198, 2, 0, 172]
abbrev dktX1_off_1 : List UInt8 := dkwX1_off_1 ++ []
def dkwX1_off_0 : List UInt8 := [27, 42, 180, 0, 21, 182, 0, 207, 184, 0, 219, 28, 3, 18, 223, 184, 0, 68, 184, 0, 203, 42]
abbrev dktX1_off_0 : List UInt8 := dkwX1_off_0 ++ dktX1_off_1
theorem dksX1_off_0 : cX1_off.data.toList.drop 0 = dktX1_off_0 := by decide +kernel
theorem dksX1_off_1 : cX1_off.data.toList.drop 22 = dktX1_off_1 := dk_seg dksX1_off_0 22 rfl rfl
theorem dX1_off_0 : decode cX1_off 0 = .ok (.iload_n 1, 1) := dk_27 (dk_at dksX1_off_0 0 rfl rfl)
theorem dX1_off_1 : decode cX1_off 1 = .ok (.aload_n 0, 1) := dk_42 (dk_at dksX1_off_0 1 rfl rfl)
theorem dX1_off_2 : decode cX1_off 2 = .ok (.getfield 21, 3) := dk_180 0 21 (dk_at dksX1_off_0 2 rfl rfl)
theorem dX1_off_5 : decode cX1_off 5 = .ok (.invokevirtual 207, 3) := dk_182 0 207 (dk_at dksX1_off_0 5 rfl rfl)
theorem dX1_off_8 : decode cX1_off 8 = .ok (.invokestatic 219, 3) := dk_184 0 219 (dk_at dksX1_off_0 8 rfl rfl)
theorem dX1_off_11 : decode cX1_off 11 = .ok (.iload_n 2, 1) := dk_28 (dk_at dksX1_off_0 11 rfl rfl)
theorem dX1_off_12 : decode cX1_off 12 = .ok (.iconst 0, 1) := dk_3 (dk_at dksX1_off_0 12 rfl rfl)
theorem dX1_off_13 : decode cX1_off 13 = .ok (.ldc 223, 2) := dk_18 223 (dk_at dksX1_off_0 13 rfl rfl)
theorem dX1_off_15 : decode cX1_off 15 = .ok (.invokestatic 68, 3) := dk_184 0 68 (dk_at dksX1_off_0 15 rfl rfl)
theorem dX1_off_18 : decode cX1_off 18 = .ok (.invokestatic 203, 3) := dk_184 0 203 (dk_at dksX1_off_0 18 rfl rfl)
theorem dX1_off_21 : decode cX1_off 21 = .ok (.aload_n 0, 1) := dk_42 (dk_at dksX1_off_0 21 rfl rfl)
theorem dX1_off_22 : decode cX1_off 22 = .ok (.getfield 21, 3) := dk_180 0 21 (dk_at dksX1_off_1 0 rfl rfl)
theorem dX1_off_25 : decode cX1_off 25 = .ok (.iload_n 1, 1) := dk_27 (dk_at dksX1_off_1 3 rfl rfl)
theorem dX1_off_26 : decode cX1_off 26 = .ok (.invokevirtual 101, 3) := dk_182 0 101 (dk_at dksX1_off_1 4 rfl rfl)
theorem dX1_off_29 : decode cX1_off 29 = .ok (.checkcast 97, 3) := dk_192 0 97 (dk_at dksX1_off_1 7 rfl rfl)
theorem dX1_off_32 : decode cX1_off 32 = .ok (.getfield 191, 3) := dk_180 0 191 (dk_at dksX1_off_1 10 rfl rfl)
theorem dX1_off_35 : decode cX1_off 35 = .ok (.iload_n 2, 1) := dk_28 (dk_at dksX1_off_1 13 rfl rfl)
theorem dX1_off_36 : decode cX1_off 36 = .ok (.invokeinterface 198 2, 5) := by decide +kernel
theorem dX1_off_41 : decode cX1_off 41 = .ok (.ireturn, 1) := dk_172 (dk_at dksX1_off_1 19 rfl rfl)
abbrev cX1_points : ByteArray := prog_1_method_44_code
def yX1_points : MethodName := ⟨RX1, "points", "(II)I"⟩
def dkwX1_points_1 : List UInt8 := [181, 0, 188, 21, 4, 172]
abbrev dktX1_points_1 : List UInt8 := dkwX1_points_1 ++ []
def dkwX1_points_0 : List UInt8 := [42, 27, 182, 1, 20, 78, 28, 3, 16, 100, 184, 0, 68, 184, 0, 203, 45, 180, 0, 188, 54, 4, 45, 28]
abbrev dktX1_points_0 : List UInt8 := dkwX1_points_0 ++ dktX1_points_1
theorem dksX1_points_0 : cX1_points.data.toList.drop 0 = dktX1_points_0 := by decide +kernel
theorem dksX1_points_1 : cX1_points.data.toList.drop 24 = dktX1_points_1 := dk_seg dksX1_points_0 24 rfl rfl
theorem dX1_points_0 : decode cX1_points 0 = .ok (.aload_n 0, 1) := dk_42 (dk_at dksX1_points_0 0 rfl rfl)
theorem dX1_points_1 : decode cX1_points 1 = .ok (.iload_n 1, 1) := dk_27 (dk_at dksX1_points_0 1 rfl rfl)
theorem dX1_points_2 : decode cX1_points 2 = .ok (.invokevirtual 276, 3) := dk_182 1 20 (dk_at dksX1_points_0 2 rfl rfl)
theorem dX1_points_5 : decode cX1_points 5 = .ok (.astore_n 3, 1) := dk_78 (dk_at dksX1_points_0 5 rfl rfl)
theorem dX1_points_6 : decode cX1_points 6 = .ok (.iload_n 2, 1) := dk_28 (dk_at dksX1_points_0 6 rfl rfl)
theorem dX1_points_7 : decode cX1_points 7 = .ok (.iconst 0, 1) := dk_3 (dk_at dksX1_points_0 7 rfl rfl)
theorem dX1_points_8 : decode cX1_points 8 = .ok (.bipush 100, 2) := dk_16 100 (dk_at dksX1_points_0 8 rfl rfl)
theorem dX1_points_10 : decode cX1_points 10 = .ok (.invokestatic 68, 3) := dk_184 0 68 (dk_at dksX1_points_0 10 rfl rfl)
theorem dX1_points_13 : decode cX1_points 13 = .ok (.invokestatic 203, 3) := dk_184 0 203 (dk_at dksX1_points_0 13 rfl rfl)
theorem dX1_points_16 : decode cX1_points 16 = .ok (.aload_n 3, 1) := dk_45 (dk_at dksX1_points_0 16 rfl rfl)
theorem dX1_points_17 : decode cX1_points 17 = .ok (.getfield 188, 3) := dk_180 0 188 (dk_at dksX1_points_0 17 rfl rfl)
theorem dX1_points_20 : decode cX1_points 20 = .ok (.istore 4, 2) := dk_54 4 (dk_at dksX1_points_0 20 rfl rfl)
theorem dX1_points_22 : decode cX1_points 22 = .ok (.aload_n 3, 1) := dk_45 (dk_at dksX1_points_0 22 rfl rfl)
theorem dX1_points_23 : decode cX1_points 23 = .ok (.iload_n 2, 1) := dk_28 (dk_at dksX1_points_0 23 rfl rfl)
theorem dX1_points_24 : decode cX1_points 24 = .ok (.putfield 188, 3) := dk_181 0 188 (dk_at dksX1_points_1 0 rfl rfl)
theorem dX1_points_27 : decode cX1_points 27 = .ok (.iload 4, 2) := dk_21 4 (dk_at dksX1_points_1 3 rfl rfl)
theorem dX1_points_29 : decode cX1_points 29 = .ok (.ireturn, 1) := dk_172 (dk_at dksX1_points_1 5 rfl rfl)
abbrev cX1_counting : ByteArray := prog_1_method_45_code
def yX1_counting : MethodName := ⟨RX1, "counting", "(II)I"⟩
def dkwX1_counting_1 : List UInt8 := [198, 0, 7, 4, 167, 0, 4, 3, 184, 1, 14, 45, 180, 1, 33, 172]
abbrev dktX1_counting_1 : List UInt8 := dkwX1_counting_1 ++ []
def dkwX1_counting_0 : List UInt8 := [42, 27, 28, 182, 1, 17, 42, 27, 42, 180, 0, 21, 28, 182, 0, 101, 192, 0, 97, 182, 0, 178, 78, 45]
abbrev dktX1_counting_0 : List UInt8 := dkwX1_counting_0 ++ dktX1_counting_1
theorem dksX1_counting_0 : cX1_counting.data.toList.drop 0 = dktX1_counting_0 := by decide +kernel
theorem dksX1_counting_1 : cX1_counting.data.toList.drop 24 = dktX1_counting_1 := dk_seg dksX1_counting_0 24 rfl rfl
theorem dX1_counting_0 : decode cX1_counting 0 = .ok (.aload_n 0, 1) := dk_42 (dk_at dksX1_counting_0 0 rfl rfl)
theorem dX1_counting_1 : decode cX1_counting 1 = .ok (.iload_n 1, 1) := dk_27 (dk_at dksX1_counting_0 1 rfl rfl)
theorem dX1_counting_2 : decode cX1_counting 2 = .ok (.iload_n 2, 1) := dk_28 (dk_at dksX1_counting_0 2 rfl rfl)
theorem dX1_counting_3 : decode cX1_counting 3 = .ok (.invokevirtual 273, 3) := dk_182 1 17 (dk_at dksX1_counting_0 3 rfl rfl)
theorem dX1_counting_6 : decode cX1_counting 6 = .ok (.aload_n 0, 1) := dk_42 (dk_at dksX1_counting_0 6 rfl rfl)
theorem dX1_counting_7 : decode cX1_counting 7 = .ok (.iload_n 1, 1) := dk_27 (dk_at dksX1_counting_0 7 rfl rfl)
theorem dX1_counting_8 : decode cX1_counting 8 = .ok (.aload_n 0, 1) := dk_42 (dk_at dksX1_counting_0 8 rfl rfl)
theorem dX1_counting_9 : decode cX1_counting 9 = .ok (.getfield 21, 3) := dk_180 0 21 (dk_at dksX1_counting_0 9 rfl rfl)
theorem dX1_counting_12 : decode cX1_counting 12 = .ok (.iload_n 2, 1) := dk_28 (dk_at dksX1_counting_0 12 rfl rfl)
theorem dX1_counting_13 : decode cX1_counting 13 = .ok (.invokevirtual 101, 3) := dk_182 0 101 (dk_at dksX1_counting_0 13 rfl rfl)
theorem dX1_counting_16 : decode cX1_counting 16 = .ok (.checkcast 97, 3) := dk_192 0 97 (dk_at dksX1_counting_0 16 rfl rfl)
theorem dX1_counting_19 : decode cX1_counting 19 = .ok (.invokevirtual 178, 3) := dk_182 0 178 (dk_at dksX1_counting_0 19 rfl rfl)
theorem dX1_counting_22 : decode cX1_counting 22 = .ok (.astore_n 3, 1) := dk_78 (dk_at dksX1_counting_0 22 rfl rfl)
theorem dX1_counting_23 : decode cX1_counting 23 = .ok (.aload_n 3, 1) := dk_45 (dk_at dksX1_counting_0 23 rfl rfl)
theorem dX1_counting_24 : decode cX1_counting 24 = .ok (.ifnull 7, 3) := dk_198 0 7 (dk_at dksX1_counting_1 0 rfl rfl)
theorem dX1_counting_27 : decode cX1_counting 27 = .ok (.iconst 1, 1) := dk_4 (dk_at dksX1_counting_1 3 rfl rfl)
theorem dX1_counting_28 : decode cX1_counting 28 = .ok (.goto 4, 3) := dk_167 0 4 (dk_at dksX1_counting_1 4 rfl rfl)
theorem dX1_counting_31 : decode cX1_counting 31 = .ok (.iconst 0, 1) := dk_3 (dk_at dksX1_counting_1 7 rfl rfl)
theorem dX1_counting_32 : decode cX1_counting 32 = .ok (.invokestatic 270, 3) := dk_184 1 14 (dk_at dksX1_counting_1 8 rfl rfl)
theorem dX1_counting_35 : decode cX1_counting 35 = .ok (.aload_n 3, 1) := dk_45 (dk_at dksX1_counting_1 11 rfl rfl)
theorem dX1_counting_36 : decode cX1_counting 36 = .ok (.getfield 289, 3) := dk_180 1 33 (dk_at dksX1_counting_1 12 rfl rfl)
theorem dX1_counting_39 : decode cX1_counting 39 = .ok (.ireturn, 1) := dk_172 (dk_at dksX1_counting_1 15 rfl rfl)
abbrev cX1_mark : ByteArray := prog_1_method_46_code
def yX1_mark : MethodName := ⟨RX1, "mark", "(II)I"⟩
def dkwX1_mark_2 : List UInt8 := [182, 1, 71, 172]
abbrev dktX1_mark_2 : List UInt8 := dkwX1_mark_2 ++ []
def dkwX1_mark_1 : List UInt8 := [154, 0, 7, 4, 167, 0, 4, 3, 184, 1, 27, 42, 27, 42, 180, 0, 21, 28, 182, 0, 101, 192, 0, 97]
abbrev dktX1_mark_1 : List UInt8 := dkwX1_mark_1 ++ dktX1_mark_2
def dkwX1_mark_0 : List UInt8 := [42, 27, 28, 182, 1, 17, 42, 27, 42, 180, 0, 21, 28, 182, 0, 101, 192, 0, 97, 182, 1, 68]
abbrev dktX1_mark_0 : List UInt8 := dkwX1_mark_0 ++ dktX1_mark_1
theorem dksX1_mark_0 : cX1_mark.data.toList.drop 0 = dktX1_mark_0 := by decide +kernel
theorem dksX1_mark_1 : cX1_mark.data.toList.drop 22 = dktX1_mark_1 := dk_seg dksX1_mark_0 22 rfl rfl
theorem dksX1_mark_2 : cX1_mark.data.toList.drop 46 = dktX1_mark_2 := dk_seg dksX1_mark_1 24 rfl rfl
theorem dX1_mark_0 : decode cX1_mark 0 = .ok (.aload_n 0, 1) := dk_42 (dk_at dksX1_mark_0 0 rfl rfl)
theorem dX1_mark_1 : decode cX1_mark 1 = .ok (.iload_n 1, 1) := dk_27 (dk_at dksX1_mark_0 1 rfl rfl)
theorem dX1_mark_2 : decode cX1_mark 2 = .ok (.iload_n 2, 1) := dk_28 (dk_at dksX1_mark_0 2 rfl rfl)
theorem dX1_mark_3 : decode cX1_mark 3 = .ok (.invokevirtual 273, 3) := dk_182 1 17 (dk_at dksX1_mark_0 3 rfl rfl)
theorem dX1_mark_6 : decode cX1_mark 6 = .ok (.aload_n 0, 1) := dk_42 (dk_at dksX1_mark_0 6 rfl rfl)
theorem dX1_mark_7 : decode cX1_mark 7 = .ok (.iload_n 1, 1) := dk_27 (dk_at dksX1_mark_0 7 rfl rfl)
theorem dX1_mark_8 : decode cX1_mark 8 = .ok (.aload_n 0, 1) := dk_42 (dk_at dksX1_mark_0 8 rfl rfl)
theorem dX1_mark_9 : decode cX1_mark 9 = .ok (.getfield 21, 3) := dk_180 0 21 (dk_at dksX1_mark_0 9 rfl rfl)
theorem dX1_mark_12 : decode cX1_mark 12 = .ok (.iload_n 2, 1) := dk_28 (dk_at dksX1_mark_0 12 rfl rfl)
theorem dX1_mark_13 : decode cX1_mark 13 = .ok (.invokevirtual 101, 3) := dk_182 0 101 (dk_at dksX1_mark_0 13 rfl rfl)
theorem dX1_mark_16 : decode cX1_mark 16 = .ok (.checkcast 97, 3) := dk_192 0 97 (dk_at dksX1_mark_0 16 rfl rfl)
theorem dX1_mark_19 : decode cX1_mark 19 = .ok (.invokevirtual 324, 3) := dk_182 1 68 (dk_at dksX1_mark_0 19 rfl rfl)
theorem dX1_mark_22 : decode cX1_mark 22 = .ok (.ifCond .ne 7, 3) := dk_154 0 7 (dk_at dksX1_mark_1 0 rfl rfl)
theorem dX1_mark_25 : decode cX1_mark 25 = .ok (.iconst 1, 1) := dk_4 (dk_at dksX1_mark_1 3 rfl rfl)
theorem dX1_mark_26 : decode cX1_mark 26 = .ok (.goto 4, 3) := dk_167 0 4 (dk_at dksX1_mark_1 4 rfl rfl)
theorem dX1_mark_29 : decode cX1_mark 29 = .ok (.iconst 0, 1) := dk_3 (dk_at dksX1_mark_1 7 rfl rfl)
theorem dX1_mark_30 : decode cX1_mark 30 = .ok (.invokestatic 283, 3) := dk_184 1 27 (dk_at dksX1_mark_1 8 rfl rfl)
theorem dX1_mark_33 : decode cX1_mark 33 = .ok (.aload_n 0, 1) := dk_42 (dk_at dksX1_mark_1 11 rfl rfl)
theorem dX1_mark_34 : decode cX1_mark 34 = .ok (.iload_n 1, 1) := dk_27 (dk_at dksX1_mark_1 12 rfl rfl)
theorem dX1_mark_35 : decode cX1_mark 35 = .ok (.aload_n 0, 1) := dk_42 (dk_at dksX1_mark_1 13 rfl rfl)
theorem dX1_mark_36 : decode cX1_mark 36 = .ok (.getfield 21, 3) := dk_180 0 21 (dk_at dksX1_mark_1 14 rfl rfl)
theorem dX1_mark_39 : decode cX1_mark 39 = .ok (.iload_n 2, 1) := dk_28 (dk_at dksX1_mark_1 17 rfl rfl)
theorem dX1_mark_40 : decode cX1_mark 40 = .ok (.invokevirtual 101, 3) := dk_182 0 101 (dk_at dksX1_mark_1 18 rfl rfl)
theorem dX1_mark_43 : decode cX1_mark 43 = .ok (.checkcast 97, 3) := dk_192 0 97 (dk_at dksX1_mark_1 21 rfl rfl)
theorem dX1_mark_46 : decode cX1_mark 46 = .ok (.invokevirtual 327, 3) := dk_182 1 71 (dk_at dksX1_mark_2 0 rfl rfl)
theorem dX1_mark_49 : decode cX1_mark 49 = .ok (.ireturn, 1) := dk_172 (dk_at dksX1_mark_2 3 rfl rfl)
abbrev cX1_isFrozenOf : ByteArray := prog_1_method_15_code
def yX1_isFrozenOf : MethodName := ⟨RX1, "isFrozenOf", "(ILHomewatcher$Task;)Z"⟩
def dkwX1_isFrozenOf_2 : List UInt8 := [172]
abbrev dktX1_isFrozenOf_2 : List UInt8 := dkwX1_isFrozenOf_2 ++ []
def dkwX1_isFrozenOf_1 : List UInt8 := [185, 0, 157, 1, 0, 192, 0, 173, 58, 5, 29, 25, 5, 27, 44, 182, 0, 175, 128, 62, 167, 255, 224, 29]
abbrev dktX1_isFrozenOf_1 : List UInt8 := dkwX1_isFrozenOf_1 ++ dktX1_isFrozenOf_2
def dkwX1_isFrozenOf_0 : List UInt8 := [3, 62, 42, 180, 0, 30, 182, 0, 147, 58, 4, 25, 4, 185, 0, 151, 1, 0, 153, 0, 28, 25, 4]
abbrev dktX1_isFrozenOf_0 : List UInt8 := dkwX1_isFrozenOf_0 ++ dktX1_isFrozenOf_1
theorem dksX1_isFrozenOf_0 : cX1_isFrozenOf.data.toList.drop 0 = dktX1_isFrozenOf_0 := by decide +kernel
theorem dksX1_isFrozenOf_1 : cX1_isFrozenOf.data.toList.drop 23 = dktX1_isFrozenOf_1 := dk_seg dksX1_isFrozenOf_0 23 rfl rfl
theorem dksX1_isFrozenOf_2 : cX1_isFrozenOf.data.toList.drop 47 = dktX1_isFrozenOf_2 := dk_seg dksX1_isFrozenOf_1 24 rfl rfl
theorem dX1_isFrozenOf_0 : decode cX1_isFrozenOf 0 = .ok (.iconst 0, 1) := dk_3 (dk_at dksX1_isFrozenOf_0 0 rfl rfl)
theorem dX1_isFrozenOf_1 : decode cX1_isFrozenOf 1 = .ok (.istore_n 3, 1) := dk_62 (dk_at dksX1_isFrozenOf_0 1 rfl rfl)
theorem dX1_isFrozenOf_2 : decode cX1_isFrozenOf 2 = .ok (.aload_n 0, 1) := dk_42 (dk_at dksX1_isFrozenOf_0 2 rfl rfl)
theorem dX1_isFrozenOf_3 : decode cX1_isFrozenOf 3 = .ok (.getfield 30, 3) := dk_180 0 30 (dk_at dksX1_isFrozenOf_0 3 rfl rfl)
theorem dX1_isFrozenOf_6 : decode cX1_isFrozenOf 6 = .ok (.invokevirtual 147, 3) := dk_182 0 147 (dk_at dksX1_isFrozenOf_0 6 rfl rfl)
theorem dX1_isFrozenOf_9 : decode cX1_isFrozenOf 9 = .ok (.astore 4, 2) := dk_58 4 (dk_at dksX1_isFrozenOf_0 9 rfl rfl)
theorem dX1_isFrozenOf_11 : decode cX1_isFrozenOf 11 = .ok (.aload 4, 2) := dk_25 4 (dk_at dksX1_isFrozenOf_0 11 rfl rfl)
theorem dX1_isFrozenOf_13 : decode cX1_isFrozenOf 13 = .ok (.invokeinterface 151 1, 5) := by decide +kernel
theorem dX1_isFrozenOf_18 : decode cX1_isFrozenOf 18 = .ok (.ifCond .eq 28, 3) := dk_153 0 28 (dk_at dksX1_isFrozenOf_0 18 rfl rfl)
theorem dX1_isFrozenOf_21 : decode cX1_isFrozenOf 21 = .ok (.aload 4, 2) := dk_25 4 (dk_at dksX1_isFrozenOf_0 21 rfl rfl)
theorem dX1_isFrozenOf_23 : decode cX1_isFrozenOf 23 = .ok (.invokeinterface 157 1, 5) := by decide +kernel
theorem dX1_isFrozenOf_28 : decode cX1_isFrozenOf 28 = .ok (.checkcast 173, 3) := dk_192 0 173 (dk_at dksX1_isFrozenOf_1 5 rfl rfl)
theorem dX1_isFrozenOf_31 : decode cX1_isFrozenOf 31 = .ok (.astore 5, 2) := dk_58 5 (dk_at dksX1_isFrozenOf_1 8 rfl rfl)
theorem dX1_isFrozenOf_33 : decode cX1_isFrozenOf 33 = .ok (.iload_n 3, 1) := dk_29 (dk_at dksX1_isFrozenOf_1 10 rfl rfl)
theorem dX1_isFrozenOf_34 : decode cX1_isFrozenOf 34 = .ok (.aload 5, 2) := dk_25 5 (dk_at dksX1_isFrozenOf_1 11 rfl rfl)
theorem dX1_isFrozenOf_36 : decode cX1_isFrozenOf 36 = .ok (.iload_n 1, 1) := dk_27 (dk_at dksX1_isFrozenOf_1 13 rfl rfl)
theorem dX1_isFrozenOf_37 : decode cX1_isFrozenOf 37 = .ok (.aload_n 2, 1) := dk_44 (dk_at dksX1_isFrozenOf_1 14 rfl rfl)
theorem dX1_isFrozenOf_38 : decode cX1_isFrozenOf 38 = .ok (.invokevirtual 175, 3) := dk_182 0 175 (dk_at dksX1_isFrozenOf_1 15 rfl rfl)
theorem dX1_isFrozenOf_41 : decode cX1_isFrozenOf 41 = .ok (.ior, 1) := dk_128 (dk_at dksX1_isFrozenOf_1 18 rfl rfl)
theorem dX1_isFrozenOf_42 : decode cX1_isFrozenOf 42 = .ok (.istore_n 3, 1) := dk_62 (dk_at dksX1_isFrozenOf_1 19 rfl rfl)
theorem dX1_isFrozenOf_43 : decode cX1_isFrozenOf 43 = .ok (.goto (-32), 3) := dk_167 255 224 (dk_at dksX1_isFrozenOf_1 20 rfl rfl)
theorem dX1_isFrozenOf_46 : decode cX1_isFrozenOf 46 = .ok (.iload_n 3, 1) := dk_29 (dk_at dksX1_isFrozenOf_1 23 rfl rfl)
theorem dX1_isFrozenOf_47 : decode cX1_isFrozenOf 47 = .ok (.ireturn, 1) := dk_172 (dk_at dksX1_isFrozenOf_2 0 rfl rfl)
abbrev cX1_isFrozen : ByteArray := prog_1_method_47_code
def yX1_isFrozen : MethodName := ⟨RX1, "isFrozen", "(II)Z"⟩
def dkwX1_isFrozen_0 : List UInt8 := [42, 27, 28, 182, 1, 17, 42, 27, 42, 180, 0, 21, 28, 182, 0, 101, 192, 0, 97, 182, 1, 68, 172]
abbrev dktX1_isFrozen_0 : List UInt8 := dkwX1_isFrozen_0 ++ []
theorem dksX1_isFrozen_0 : cX1_isFrozen.data.toList.drop 0 = dktX1_isFrozen_0 := by decide +kernel
theorem dX1_isFrozen_0 : decode cX1_isFrozen 0 = .ok (.aload_n 0, 1) := dk_42 (dk_at dksX1_isFrozen_0 0 rfl rfl)
theorem dX1_isFrozen_1 : decode cX1_isFrozen 1 = .ok (.iload_n 1, 1) := dk_27 (dk_at dksX1_isFrozen_0 1 rfl rfl)
theorem dX1_isFrozen_2 : decode cX1_isFrozen 2 = .ok (.iload_n 2, 1) := dk_28 (dk_at dksX1_isFrozen_0 2 rfl rfl)
theorem dX1_isFrozen_3 : decode cX1_isFrozen 3 = .ok (.invokevirtual 273, 3) := dk_182 1 17 (dk_at dksX1_isFrozen_0 3 rfl rfl)
theorem dX1_isFrozen_6 : decode cX1_isFrozen 6 = .ok (.aload_n 0, 1) := dk_42 (dk_at dksX1_isFrozen_0 6 rfl rfl)
theorem dX1_isFrozen_7 : decode cX1_isFrozen 7 = .ok (.iload_n 1, 1) := dk_27 (dk_at dksX1_isFrozen_0 7 rfl rfl)
theorem dX1_isFrozen_8 : decode cX1_isFrozen 8 = .ok (.aload_n 0, 1) := dk_42 (dk_at dksX1_isFrozen_0 8 rfl rfl)
theorem dX1_isFrozen_9 : decode cX1_isFrozen 9 = .ok (.getfield 21, 3) := dk_180 0 21 (dk_at dksX1_isFrozen_0 9 rfl rfl)
theorem dX1_isFrozen_12 : decode cX1_isFrozen 12 = .ok (.iload_n 2, 1) := dk_28 (dk_at dksX1_isFrozen_0 12 rfl rfl)
theorem dX1_isFrozen_13 : decode cX1_isFrozen 13 = .ok (.invokevirtual 101, 3) := dk_182 0 101 (dk_at dksX1_isFrozen_0 13 rfl rfl)
theorem dX1_isFrozen_16 : decode cX1_isFrozen 16 = .ok (.checkcast 97, 3) := dk_192 0 97 (dk_at dksX1_isFrozen_0 16 rfl rfl)
theorem dX1_isFrozen_19 : decode cX1_isFrozen 19 = .ok (.invokevirtual 324, 3) := dk_182 1 68 (dk_at dksX1_isFrozen_0 19 rfl rfl)
theorem dX1_isFrozen_22 : decode cX1_isFrozen 22 = .ok (.ireturn, 1) := dk_172 (dk_at dksX1_isFrozen_0 22 rfl rfl)
abbrev cX1_shared : ByteArray := prog_1_method_48_code
def yX1_shared : MethodName := ⟨RX1, "shared", "(II)I"⟩
def dkwX1_shared_0 : List UInt8 := [42, 27, 182, 1, 20, 78, 45, 42, 28, 182, 1, 20, 182, 0, 132, 172]
abbrev dktX1_shared_0 : List UInt8 := dkwX1_shared_0 ++ []
theorem dksX1_shared_0 : cX1_shared.data.toList.drop 0 = dktX1_shared_0 := by decide +kernel
theorem dX1_shared_0 : decode cX1_shared 0 = .ok (.aload_n 0, 1) := dk_42 (dk_at dksX1_shared_0 0 rfl rfl)
theorem dX1_shared_1 : decode cX1_shared 1 = .ok (.iload_n 1, 1) := dk_27 (dk_at dksX1_shared_0 1 rfl rfl)
theorem dX1_shared_2 : decode cX1_shared 2 = .ok (.invokevirtual 276, 3) := dk_182 1 20 (dk_at dksX1_shared_0 2 rfl rfl)
theorem dX1_shared_5 : decode cX1_shared 5 = .ok (.astore_n 3, 1) := dk_78 (dk_at dksX1_shared_0 5 rfl rfl)
theorem dX1_shared_6 : decode cX1_shared 6 = .ok (.aload_n 3, 1) := dk_45 (dk_at dksX1_shared_0 6 rfl rfl)
theorem dX1_shared_7 : decode cX1_shared 7 = .ok (.aload_n 0, 1) := dk_42 (dk_at dksX1_shared_0 7 rfl rfl)
theorem dX1_shared_8 : decode cX1_shared 8 = .ok (.iload_n 2, 1) := dk_28 (dk_at dksX1_shared_0 8 rfl rfl)
theorem dX1_shared_9 : decode cX1_shared 9 = .ok (.invokevirtual 276, 3) := dk_182 1 20 (dk_at dksX1_shared_0 9 rfl rfl)
theorem dX1_shared_12 : decode cX1_shared 12 = .ok (.invokevirtual 132, 3) := dk_182 0 132 (dk_at dksX1_shared_0 12 rfl rfl)
theorem dX1_shared_15 : decode cX1_shared 15 = .ok (.ireturn, 1) := dk_172 (dk_at dksX1_shared_0 15 rfl rfl)
abbrev cX1_shingle : ByteArray := prog_1_method_49_code
def yX1_shingle : MethodName := ⟨RX1, "shingle", "(II)I"⟩
def dkwX1_shingle_3 : List UInt8 := [167, 0, 5, 21, 5, 54, 5, 132, 4, 1, 167, 255, 213, 21, 5, 172]
abbrev dktX1_shingle_3 : List UInt8 := dkwX1_shingle_3 ++ []
def dkwX1_shingle_2 : List UInt8 := [25, 6, 185, 0, 157, 1, 0, 192, 0, 105, 182, 0, 107, 54, 7, 21, 4, 28, 160, 0, 8, 21, 7]
abbrev dktX1_shingle_2 : List UInt8 := dkwX1_shingle_2 ++ dktX1_shingle_3
def dkwX1_shingle_1 : List UInt8 := [54, 4, 2, 54, 5, 45, 180, 0, 135, 182, 1, 48, 58, 6, 25, 6, 185, 0, 151, 1, 0, 153, 0, 39]
abbrev dktX1_shingle_1 : List UInt8 := dkwX1_shingle_1 ++ dktX1_shingle_2
def dkwX1_shingle_0 : List UInt8 := [42, 27, 182, 1, 20, 78, 28, 3, 45, 180, 0, 135, 182, 0, 139, 4, 100, 184, 0, 68, 184, 1, 14, 3]
abbrev dktX1_shingle_0 : List UInt8 := dkwX1_shingle_0 ++ dktX1_shingle_1
theorem dksX1_shingle_0 : cX1_shingle.data.toList.drop 0 = dktX1_shingle_0 := by decide +kernel
theorem dksX1_shingle_1 : cX1_shingle.data.toList.drop 24 = dktX1_shingle_1 := dk_seg dksX1_shingle_0 24 rfl rfl
theorem dksX1_shingle_2 : cX1_shingle.data.toList.drop 48 = dktX1_shingle_2 := dk_seg dksX1_shingle_1 24 rfl rfl
theorem dksX1_shingle_3 : cX1_shingle.data.toList.drop 71 = dktX1_shingle_3 := dk_seg dksX1_shingle_2 23 rfl rfl
theorem dX1_shingle_0 : decode cX1_shingle 0 = .ok (.aload_n 0, 1) := dk_42 (dk_at dksX1_shingle_0 0 rfl rfl)
theorem dX1_shingle_1 : decode cX1_shingle 1 = .ok (.iload_n 1, 1) := dk_27 (dk_at dksX1_shingle_0 1 rfl rfl)
theorem dX1_shingle_2 : decode cX1_shingle 2 = .ok (.invokevirtual 276, 3) := dk_182 1 20 (dk_at dksX1_shingle_0 2 rfl rfl)
theorem dX1_shingle_5 : decode cX1_shingle 5 = .ok (.astore_n 3, 1) := dk_78 (dk_at dksX1_shingle_0 5 rfl rfl)
theorem dX1_shingle_6 : decode cX1_shingle 6 = .ok (.iload_n 2, 1) := dk_28 (dk_at dksX1_shingle_0 6 rfl rfl)
theorem dX1_shingle_7 : decode cX1_shingle 7 = .ok (.iconst 0, 1) := dk_3 (dk_at dksX1_shingle_0 7 rfl rfl)
theorem dX1_shingle_8 : decode cX1_shingle 8 = .ok (.aload_n 3, 1) := dk_45 (dk_at dksX1_shingle_0 8 rfl rfl)
theorem dX1_shingle_9 : decode cX1_shingle 9 = .ok (.getfield 135, 3) := dk_180 0 135 (dk_at dksX1_shingle_0 9 rfl rfl)
theorem dX1_shingle_12 : decode cX1_shingle 12 = .ok (.invokevirtual 139, 3) := dk_182 0 139 (dk_at dksX1_shingle_0 12 rfl rfl)
theorem dX1_shingle_15 : decode cX1_shingle 15 = .ok (.iconst 1, 1) := dk_4 (dk_at dksX1_shingle_0 15 rfl rfl)
theorem dX1_shingle_16 : decode cX1_shingle 16 = .ok (.isub, 1) := dk_100 (dk_at dksX1_shingle_0 16 rfl rfl)
theorem dX1_shingle_17 : decode cX1_shingle 17 = .ok (.invokestatic 68, 3) := dk_184 0 68 (dk_at dksX1_shingle_0 17 rfl rfl)
theorem dX1_shingle_20 : decode cX1_shingle 20 = .ok (.invokestatic 270, 3) := dk_184 1 14 (dk_at dksX1_shingle_0 20 rfl rfl)
theorem dX1_shingle_23 : decode cX1_shingle 23 = .ok (.iconst 0, 1) := dk_3 (dk_at dksX1_shingle_0 23 rfl rfl)
theorem dX1_shingle_24 : decode cX1_shingle 24 = .ok (.istore 4, 2) := dk_54 4 (dk_at dksX1_shingle_1 0 rfl rfl)
theorem dX1_shingle_26 : decode cX1_shingle 26 = .ok (.iconst (-1), 1) := dk_2 (dk_at dksX1_shingle_1 2 rfl rfl)
theorem dX1_shingle_27 : decode cX1_shingle 27 = .ok (.istore 5, 2) := dk_54 5 (dk_at dksX1_shingle_1 3 rfl rfl)
theorem dX1_shingle_29 : decode cX1_shingle 29 = .ok (.aload_n 3, 1) := dk_45 (dk_at dksX1_shingle_1 5 rfl rfl)
theorem dX1_shingle_30 : decode cX1_shingle 30 = .ok (.getfield 135, 3) := dk_180 0 135 (dk_at dksX1_shingle_1 6 rfl rfl)
theorem dX1_shingle_33 : decode cX1_shingle 33 = .ok (.invokevirtual 304, 3) := dk_182 1 48 (dk_at dksX1_shingle_1 9 rfl rfl)
theorem dX1_shingle_36 : decode cX1_shingle 36 = .ok (.astore 6, 2) := dk_58 6 (dk_at dksX1_shingle_1 12 rfl rfl)
theorem dX1_shingle_38 : decode cX1_shingle 38 = .ok (.aload 6, 2) := dk_25 6 (dk_at dksX1_shingle_1 14 rfl rfl)
theorem dX1_shingle_40 : decode cX1_shingle 40 = .ok (.invokeinterface 151 1, 5) := by decide +kernel
theorem dX1_shingle_45 : decode cX1_shingle 45 = .ok (.ifCond .eq 39, 3) := dk_153 0 39 (dk_at dksX1_shingle_1 21 rfl rfl)
theorem dX1_shingle_48 : decode cX1_shingle 48 = .ok (.aload 6, 2) := dk_25 6 (dk_at dksX1_shingle_2 0 rfl rfl)
theorem dX1_shingle_50 : decode cX1_shingle 50 = .ok (.invokeinterface 157 1, 5) := by decide +kernel
theorem dX1_shingle_55 : decode cX1_shingle 55 = .ok (.checkcast 105, 3) := dk_192 0 105 (dk_at dksX1_shingle_2 7 rfl rfl)
theorem dX1_shingle_58 : decode cX1_shingle 58 = .ok (.invokevirtual 107, 3) := dk_182 0 107 (dk_at dksX1_shingle_2 10 rfl rfl)
theorem dX1_shingle_61 : decode cX1_shingle 61 = .ok (.istore 7, 2) := dk_54 7 (dk_at dksX1_shingle_2 13 rfl rfl)
theorem dX1_shingle_63 : decode cX1_shingle 63 = .ok (.iload 4, 2) := dk_21 4 (dk_at dksX1_shingle_2 15 rfl rfl)
theorem dX1_shingle_65 : decode cX1_shingle 65 = .ok (.iload_n 2, 1) := dk_28 (dk_at dksX1_shingle_2 17 rfl rfl)
theorem dX1_shingle_66 : decode cX1_shingle 66 = .ok (.if_icmp .ne 8, 3) := dk_160 0 8 (dk_at dksX1_shingle_2 18 rfl rfl)
theorem dX1_shingle_69 : decode cX1_shingle 69 = .ok (.iload 7, 2) := dk_21 7 (dk_at dksX1_shingle_2 21 rfl rfl)
theorem dX1_shingle_71 : decode cX1_shingle 71 = .ok (.goto 5, 3) := dk_167 0 5 (dk_at dksX1_shingle_3 0 rfl rfl)
theorem dX1_shingle_74 : decode cX1_shingle 74 = .ok (.iload 5, 2) := dk_21 5 (dk_at dksX1_shingle_3 3 rfl rfl)
theorem dX1_shingle_76 : decode cX1_shingle 76 = .ok (.istore 5, 2) := dk_54 5 (dk_at dksX1_shingle_3 5 rfl rfl)
theorem dX1_shingle_78 : decode cX1_shingle 78 = .ok (.iinc 4 1, 3) := dk_132 4 1 (dk_at dksX1_shingle_3 7 rfl rfl)
theorem dX1_shingle_81 : decode cX1_shingle 81 = .ok (.goto (-43), 3) := dk_167 255 213 (dk_at dksX1_shingle_3 10 rfl rfl)
theorem dX1_shingle_84 : decode cX1_shingle 84 = .ok (.iload 5, 2) := dk_21 5 (dk_at dksX1_shingle_3 13 rfl rfl)
theorem dX1_shingle_86 : decode cX1_shingle 86 = .ok (.ireturn, 1) := dk_172 (dk_at dksX1_shingle_3 15 rfl rfl)
abbrev cX1_threshold : ByteArray := prog_1_method_52_code
def yX1_threshold : MethodName := ⟨RX1, "threshold", "(I)I"⟩
def dkwX1_threshold_0 : List UInt8 := [27, 4, 16, 37, 184, 0, 68, 184, 0, 203, 42, 180, 0, 52, 61, 42, 27, 181, 0, 52, 28, 172]
abbrev dktX1_threshold_0 : List UInt8 := dkwX1_threshold_0 ++ []
theorem dksX1_threshold_0 : cX1_threshold.data.toList.drop 0 = dktX1_threshold_0 := by decide +kernel
theorem dX1_threshold_0 : decode cX1_threshold 0 = .ok (.iload_n 1, 1) := dk_27 (dk_at dksX1_threshold_0 0 rfl rfl)
theorem dX1_threshold_1 : decode cX1_threshold 1 = .ok (.iconst 1, 1) := dk_4 (dk_at dksX1_threshold_0 1 rfl rfl)
theorem dX1_threshold_2 : decode cX1_threshold 2 = .ok (.bipush 37, 2) := dk_16 37 (dk_at dksX1_threshold_0 2 rfl rfl)
theorem dX1_threshold_4 : decode cX1_threshold 4 = .ok (.invokestatic 68, 3) := dk_184 0 68 (dk_at dksX1_threshold_0 4 rfl rfl)
theorem dX1_threshold_7 : decode cX1_threshold 7 = .ok (.invokestatic 203, 3) := dk_184 0 203 (dk_at dksX1_threshold_0 7 rfl rfl)
theorem dX1_threshold_10 : decode cX1_threshold 10 = .ok (.aload_n 0, 1) := dk_42 (dk_at dksX1_threshold_0 10 rfl rfl)
theorem dX1_threshold_11 : decode cX1_threshold 11 = .ok (.getfield 52, 3) := dk_180 0 52 (dk_at dksX1_threshold_0 11 rfl rfl)
theorem dX1_threshold_14 : decode cX1_threshold 14 = .ok (.istore_n 2, 1) := dk_61 (dk_at dksX1_threshold_0 14 rfl rfl)
theorem dX1_threshold_15 : decode cX1_threshold 15 = .ok (.aload_n 0, 1) := dk_42 (dk_at dksX1_threshold_0 15 rfl rfl)
theorem dX1_threshold_16 : decode cX1_threshold 16 = .ok (.iload_n 1, 1) := dk_27 (dk_at dksX1_threshold_0 16 rfl rfl)
theorem dX1_threshold_17 : decode cX1_threshold 17 = .ok (.putfield 52, 3) := dk_181 0 52 (dk_at dksX1_threshold_0 17 rfl rfl)
theorem dX1_threshold_20 : decode cX1_threshold 20 = .ok (.iload_n 2, 1) := dk_28 (dk_at dksX1_threshold_0 20 rfl rfl)
theorem dX1_threshold_21 : decode cX1_threshold 21 = .ok (.ireturn, 1) := dk_172 (dk_at dksX1_threshold_0 21 rfl rfl)
abbrev cX1_hit : ByteArray := prog_1_method_55_code
def yX1_hit : MethodName := ⟨RX1, "hit", "(IC)I"⟩
def dkwX1_hit_3 : List UInt8 := [16, 99, 160, 0, 10, 45, 180, 1, 86, 167, 0, 7, 45, 180, 1, 89, 172]
abbrev dktX1_hit_3 : List UInt8 := dkwX1_hit_3 ++ []
def dkwX1_hit_2 : List UInt8 := [180, 1, 33, 167, 0, 36, 28, 16, 111, 160, 0, 13, 45, 180, 1, 83, 180, 1, 33, 167, 0, 20, 28]
abbrev dktX1_hit_2 : List UInt8 := dkwX1_hit_2 ++ dktX1_hit_3
def dkwX1_hit_1 : List UInt8 := [28, 16, 104, 160, 0, 7, 4, 167, 0, 4, 3, 184, 0, 203, 28, 16, 110, 160, 0, 13, 45, 180, 1, 80]
abbrev dktX1_hit_1 : List UInt8 := dkwX1_hit_1 ++ dktX1_hit_2
def dkwX1_hit_0 : List UInt8 := [42, 27, 182, 1, 76, 78, 28, 16, 110, 159, 0, 21, 28, 16, 111, 159, 0, 15, 28, 16, 99, 159, 0, 9]
abbrev dktX1_hit_0 : List UInt8 := dkwX1_hit_0 ++ dktX1_hit_1
theorem dksX1_hit_0 : cX1_hit.data.toList.drop 0 = dktX1_hit_0 := by decide +kernel
theorem dksX1_hit_1 : cX1_hit.data.toList.drop 24 = dktX1_hit_1 := dk_seg dksX1_hit_0 24 rfl rfl
theorem dksX1_hit_2 : cX1_hit.data.toList.drop 48 = dktX1_hit_2 := dk_seg dksX1_hit_1 24 rfl rfl
theorem dksX1_hit_3 : cX1_hit.data.toList.drop 71 = dktX1_hit_3 := dk_seg dksX1_hit_2 23 rfl rfl
theorem dX1_hit_0 : decode cX1_hit 0 = .ok (.aload_n 0, 1) := dk_42 (dk_at dksX1_hit_0 0 rfl rfl)
theorem dX1_hit_1 : decode cX1_hit 1 = .ok (.iload_n 1, 1) := dk_27 (dk_at dksX1_hit_0 1 rfl rfl)
theorem dX1_hit_2 : decode cX1_hit 2 = .ok (.invokevirtual 332, 3) := dk_182 1 76 (dk_at dksX1_hit_0 2 rfl rfl)
theorem dX1_hit_5 : decode cX1_hit 5 = .ok (.astore_n 3, 1) := dk_78 (dk_at dksX1_hit_0 5 rfl rfl)
theorem dX1_hit_6 : decode cX1_hit 6 = .ok (.iload_n 2, 1) := dk_28 (dk_at dksX1_hit_0 6 rfl rfl)
theorem dX1_hit_7 : decode cX1_hit 7 = .ok (.bipush 110, 2) := dk_16 110 (dk_at dksX1_hit_0 7 rfl rfl)
theorem dX1_hit_9 : decode cX1_hit 9 = .ok (.if_icmp .eq 21, 3) := dk_159 0 21 (dk_at dksX1_hit_0 9 rfl rfl)
theorem dX1_hit_12 : decode cX1_hit 12 = .ok (.iload_n 2, 1) := dk_28 (dk_at dksX1_hit_0 12 rfl rfl)
theorem dX1_hit_13 : decode cX1_hit 13 = .ok (.bipush 111, 2) := dk_16 111 (dk_at dksX1_hit_0 13 rfl rfl)
theorem dX1_hit_15 : decode cX1_hit 15 = .ok (.if_icmp .eq 15, 3) := dk_159 0 15 (dk_at dksX1_hit_0 15 rfl rfl)
theorem dX1_hit_18 : decode cX1_hit 18 = .ok (.iload_n 2, 1) := dk_28 (dk_at dksX1_hit_0 18 rfl rfl)
theorem dX1_hit_19 : decode cX1_hit 19 = .ok (.bipush 99, 2) := dk_16 99 (dk_at dksX1_hit_0 19 rfl rfl)
theorem dX1_hit_21 : decode cX1_hit 21 = .ok (.if_icmp .eq 9, 3) := dk_159 0 9 (dk_at dksX1_hit_0 21 rfl rfl)
theorem dX1_hit_24 : decode cX1_hit 24 = .ok (.iload_n 2, 1) := dk_28 (dk_at dksX1_hit_1 0 rfl rfl)
theorem dX1_hit_25 : decode cX1_hit 25 = .ok (.bipush 104, 2) := dk_16 104 (dk_at dksX1_hit_1 1 rfl rfl)
theorem dX1_hit_27 : decode cX1_hit 27 = .ok (.if_icmp .ne 7, 3) := dk_160 0 7 (dk_at dksX1_hit_1 3 rfl rfl)
theorem dX1_hit_30 : decode cX1_hit 30 = .ok (.iconst 1, 1) := dk_4 (dk_at dksX1_hit_1 6 rfl rfl)
theorem dX1_hit_31 : decode cX1_hit 31 = .ok (.goto 4, 3) := dk_167 0 4 (dk_at dksX1_hit_1 7 rfl rfl)
theorem dX1_hit_34 : decode cX1_hit 34 = .ok (.iconst 0, 1) := dk_3 (dk_at dksX1_hit_1 10 rfl rfl)
theorem dX1_hit_35 : decode cX1_hit 35 = .ok (.invokestatic 203, 3) := dk_184 0 203 (dk_at dksX1_hit_1 11 rfl rfl)
theorem dX1_hit_38 : decode cX1_hit 38 = .ok (.iload_n 2, 1) := dk_28 (dk_at dksX1_hit_1 14 rfl rfl)
theorem dX1_hit_39 : decode cX1_hit 39 = .ok (.bipush 110, 2) := dk_16 110 (dk_at dksX1_hit_1 15 rfl rfl)
theorem dX1_hit_41 : decode cX1_hit 41 = .ok (.if_icmp .ne 13, 3) := dk_160 0 13 (dk_at dksX1_hit_1 17 rfl rfl)
theorem dX1_hit_44 : decode cX1_hit 44 = .ok (.aload_n 3, 1) := dk_45 (dk_at dksX1_hit_1 20 rfl rfl)
theorem dX1_hit_45 : decode cX1_hit 45 = .ok (.getfield 336, 3) := dk_180 1 80 (dk_at dksX1_hit_1 21 rfl rfl)
theorem dX1_hit_48 : decode cX1_hit 48 = .ok (.getfield 289, 3) := dk_180 1 33 (dk_at dksX1_hit_2 0 rfl rfl)
theorem dX1_hit_51 : decode cX1_hit 51 = .ok (.goto 36, 3) := dk_167 0 36 (dk_at dksX1_hit_2 3 rfl rfl)
theorem dX1_hit_54 : decode cX1_hit 54 = .ok (.iload_n 2, 1) := dk_28 (dk_at dksX1_hit_2 6 rfl rfl)
theorem dX1_hit_55 : decode cX1_hit 55 = .ok (.bipush 111, 2) := dk_16 111 (dk_at dksX1_hit_2 7 rfl rfl)
theorem dX1_hit_57 : decode cX1_hit 57 = .ok (.if_icmp .ne 13, 3) := dk_160 0 13 (dk_at dksX1_hit_2 9 rfl rfl)
theorem dX1_hit_60 : decode cX1_hit 60 = .ok (.aload_n 3, 1) := dk_45 (dk_at dksX1_hit_2 12 rfl rfl)
theorem dX1_hit_61 : decode cX1_hit 61 = .ok (.getfield 339, 3) := dk_180 1 83 (dk_at dksX1_hit_2 13 rfl rfl)
theorem dX1_hit_64 : decode cX1_hit 64 = .ok (.getfield 289, 3) := dk_180 1 33 (dk_at dksX1_hit_2 16 rfl rfl)
theorem dX1_hit_67 : decode cX1_hit 67 = .ok (.goto 20, 3) := dk_167 0 20 (dk_at dksX1_hit_2 19 rfl rfl)
theorem dX1_hit_70 : decode cX1_hit 70 = .ok (.iload_n 2, 1) := dk_28 (dk_at dksX1_hit_2 22 rfl rfl)
theorem dX1_hit_71 : decode cX1_hit 71 = .ok (.bipush 99, 2) := dk_16 99 (dk_at dksX1_hit_3 0 rfl rfl)
theorem dX1_hit_73 : decode cX1_hit 73 = .ok (.if_icmp .ne 10, 3) := dk_160 0 10 (dk_at dksX1_hit_3 2 rfl rfl)
theorem dX1_hit_76 : decode cX1_hit 76 = .ok (.aload_n 3, 1) := dk_45 (dk_at dksX1_hit_3 5 rfl rfl)
theorem dX1_hit_77 : decode cX1_hit 77 = .ok (.getfield 342, 3) := dk_180 1 86 (dk_at dksX1_hit_3 6 rfl rfl)
theorem dX1_hit_80 : decode cX1_hit 80 = .ok (.goto 7, 3) := dk_167 0 7 (dk_at dksX1_hit_3 9 rfl rfl)
theorem dX1_hit_83 : decode cX1_hit 83 = .ok (.aload_n 3, 1) := dk_45 (dk_at dksX1_hit_3 12 rfl rfl)
theorem dX1_hit_84 : decode cX1_hit 84 = .ok (.getfield 345, 3) := dk_180 1 89 (dk_at dksX1_hit_3 13 rfl rfl)
theorem dX1_hit_87 : decode cX1_hit 87 = .ok (.ireturn, 1) := dk_172 (dk_at dksX1_hit_3 16 rfl rfl)
abbrev cX1_hitAt : ByteArray := prog_1_method_54_code
def yX1_hitAt : MethodName := ⟨RX1, "hitAt", "(I)LHomewatcher$Hit;"⟩
def dkwX1_hitAt_0 : List UInt8 := [27, 42, 180, 0, 30, 182, 0, 207, 184, 0, 219, 42, 180, 0, 30, 27, 182, 0, 101, 192, 0, 173, 176]
abbrev dktX1_hitAt_0 : List UInt8 := dkwX1_hitAt_0 ++ []
theorem dksX1_hitAt_0 : cX1_hitAt.data.toList.drop 0 = dktX1_hitAt_0 := by decide +kernel
theorem dX1_hitAt_0 : decode cX1_hitAt 0 = .ok (.iload_n 1, 1) := dk_27 (dk_at dksX1_hitAt_0 0 rfl rfl)
theorem dX1_hitAt_1 : decode cX1_hitAt 1 = .ok (.aload_n 0, 1) := dk_42 (dk_at dksX1_hitAt_0 1 rfl rfl)
theorem dX1_hitAt_2 : decode cX1_hitAt 2 = .ok (.getfield 30, 3) := dk_180 0 30 (dk_at dksX1_hitAt_0 2 rfl rfl)
theorem dX1_hitAt_5 : decode cX1_hitAt 5 = .ok (.invokevirtual 207, 3) := dk_182 0 207 (dk_at dksX1_hitAt_0 5 rfl rfl)
theorem dX1_hitAt_8 : decode cX1_hitAt 8 = .ok (.invokestatic 219, 3) := dk_184 0 219 (dk_at dksX1_hitAt_0 8 rfl rfl)
theorem dX1_hitAt_11 : decode cX1_hitAt 11 = .ok (.aload_n 0, 1) := dk_42 (dk_at dksX1_hitAt_0 11 rfl rfl)
theorem dX1_hitAt_12 : decode cX1_hitAt 12 = .ok (.getfield 30, 3) := dk_180 0 30 (dk_at dksX1_hitAt_0 12 rfl rfl)
theorem dX1_hitAt_15 : decode cX1_hitAt 15 = .ok (.iload_n 1, 1) := dk_27 (dk_at dksX1_hitAt_0 15 rfl rfl)
theorem dX1_hitAt_16 : decode cX1_hitAt 16 = .ok (.invokevirtual 101, 3) := dk_182 0 101 (dk_at dksX1_hitAt_0 16 rfl rfl)
theorem dX1_hitAt_19 : decode cX1_hitAt 19 = .ok (.checkcast 173, 3) := dk_192 0 173 (dk_at dksX1_hitAt_0 19 rfl rfl)
theorem dX1_hitAt_22 : decode cX1_hitAt 22 = .ok (.areturn, 1) := dk_176 (dk_at dksX1_hitAt_0 22 rfl rfl)
abbrev cX1_hear : ByteArray := prog_1_method_57_code
def yX1_hear : MethodName := ⟨RX1, "hear", "(II)I"⟩
def dkwX1_hear_4 : List UInt8 := [51, 28, 5, 126, 153, 0, 7, 4, 167, 0, 4, 3, 128, 84, 42, 182, 1, 96, 182, 1, 100, 172]
abbrev dktX1_hear_4 : List UInt8 := dkwX1_hear_4 ++ []
def dkwX1_hear_3 : List UInt8 := [84, 42, 180, 0, 42, 45, 180, 1, 83, 180, 1, 41, 50, 45, 180, 1, 83, 180, 0, 92, 180, 0, 182, 92]
abbrev dktX1_hear_3 : List UInt8 := dkwX1_hear_3 ++ dktX1_hear_4
def dkwX1_hear_2 : List UInt8 := [45, 180, 1, 80, 180, 0, 92, 180, 0, 182, 92, 51, 28, 4, 126, 153, 0, 7, 4, 167, 0, 4, 3, 128]
abbrev dktX1_hear_2 : List UInt8 := dkwX1_hear_2 ++ dktX1_hear_3
def dkwX1_hear_1 : List UInt8 := [167, 0, 4, 3, 184, 1, 27, 45, 28, 181, 1, 89, 42, 180, 0, 42, 45, 180, 1, 80, 180, 1, 41, 50]
abbrev dktX1_hear_1 : List UInt8 := dkwX1_hear_1 ++ dktX1_hear_2
def dkwX1_hear_0 : List UInt8 := [42, 27, 182, 1, 76, 78, 28, 3, 6, 184, 0, 68, 184, 0, 203, 45, 180, 1, 89, 2, 160, 0, 7, 4]
abbrev dktX1_hear_0 : List UInt8 := dkwX1_hear_0 ++ dktX1_hear_1
theorem dksX1_hear_0 : cX1_hear.data.toList.drop 0 = dktX1_hear_0 := by decide +kernel
theorem dksX1_hear_1 : cX1_hear.data.toList.drop 24 = dktX1_hear_1 := dk_seg dksX1_hear_0 24 rfl rfl
theorem dksX1_hear_2 : cX1_hear.data.toList.drop 48 = dktX1_hear_2 := dk_seg dksX1_hear_1 24 rfl rfl
theorem dksX1_hear_3 : cX1_hear.data.toList.drop 72 = dktX1_hear_3 := dk_seg dksX1_hear_2 24 rfl rfl
theorem dksX1_hear_4 : cX1_hear.data.toList.drop 96 = dktX1_hear_4 := dk_seg dksX1_hear_3 24 rfl rfl
theorem dX1_hear_0 : decode cX1_hear 0 = .ok (.aload_n 0, 1) := dk_42 (dk_at dksX1_hear_0 0 rfl rfl)
theorem dX1_hear_1 : decode cX1_hear 1 = .ok (.iload_n 1, 1) := dk_27 (dk_at dksX1_hear_0 1 rfl rfl)
theorem dX1_hear_2 : decode cX1_hear 2 = .ok (.invokevirtual 332, 3) := dk_182 1 76 (dk_at dksX1_hear_0 2 rfl rfl)
theorem dX1_hear_5 : decode cX1_hear 5 = .ok (.astore_n 3, 1) := dk_78 (dk_at dksX1_hear_0 5 rfl rfl)
theorem dX1_hear_6 : decode cX1_hear 6 = .ok (.iload_n 2, 1) := dk_28 (dk_at dksX1_hear_0 6 rfl rfl)
theorem dX1_hear_7 : decode cX1_hear 7 = .ok (.iconst 0, 1) := dk_3 (dk_at dksX1_hear_0 7 rfl rfl)
theorem dX1_hear_8 : decode cX1_hear 8 = .ok (.iconst 3, 1) := dk_6 (dk_at dksX1_hear_0 8 rfl rfl)
theorem dX1_hear_9 : decode cX1_hear 9 = .ok (.invokestatic 68, 3) := dk_184 0 68 (dk_at dksX1_hear_0 9 rfl rfl)
theorem dX1_hear_12 : decode cX1_hear 12 = .ok (.invokestatic 203, 3) := dk_184 0 203 (dk_at dksX1_hear_0 12 rfl rfl)
theorem dX1_hear_15 : decode cX1_hear 15 = .ok (.aload_n 3, 1) := dk_45 (dk_at dksX1_hear_0 15 rfl rfl)
theorem dX1_hear_16 : decode cX1_hear 16 = .ok (.getfield 345, 3) := dk_180 1 89 (dk_at dksX1_hear_0 16 rfl rfl)
theorem dX1_hear_19 : decode cX1_hear 19 = .ok (.iconst (-1), 1) := dk_2 (dk_at dksX1_hear_0 19 rfl rfl)
theorem dX1_hear_20 : decode cX1_hear 20 = .ok (.if_icmp .ne 7, 3) := dk_160 0 7 (dk_at dksX1_hear_0 20 rfl rfl)
theorem dX1_hear_23 : decode cX1_hear 23 = .ok (.iconst 1, 1) := dk_4 (dk_at dksX1_hear_0 23 rfl rfl)
theorem dX1_hear_24 : decode cX1_hear 24 = .ok (.goto 4, 3) := dk_167 0 4 (dk_at dksX1_hear_1 0 rfl rfl)
theorem dX1_hear_27 : decode cX1_hear 27 = .ok (.iconst 0, 1) := dk_3 (dk_at dksX1_hear_1 3 rfl rfl)
theorem dX1_hear_28 : decode cX1_hear 28 = .ok (.invokestatic 283, 3) := dk_184 1 27 (dk_at dksX1_hear_1 4 rfl rfl)
theorem dX1_hear_31 : decode cX1_hear 31 = .ok (.aload_n 3, 1) := dk_45 (dk_at dksX1_hear_1 7 rfl rfl)
theorem dX1_hear_32 : decode cX1_hear 32 = .ok (.iload_n 2, 1) := dk_28 (dk_at dksX1_hear_1 8 rfl rfl)
theorem dX1_hear_33 : decode cX1_hear 33 = .ok (.putfield 345, 3) := dk_181 1 89 (dk_at dksX1_hear_1 9 rfl rfl)
theorem dX1_hear_36 : decode cX1_hear 36 = .ok (.aload_n 0, 1) := dk_42 (dk_at dksX1_hear_1 12 rfl rfl)
theorem dX1_hear_37 : decode cX1_hear 37 = .ok (.getfield 42, 3) := dk_180 0 42 (dk_at dksX1_hear_1 13 rfl rfl)
theorem dX1_hear_40 : decode cX1_hear 40 = .ok (.aload_n 3, 1) := dk_45 (dk_at dksX1_hear_1 16 rfl rfl)
theorem dX1_hear_41 : decode cX1_hear 41 = .ok (.getfield 336, 3) := dk_180 1 80 (dk_at dksX1_hear_1 17 rfl rfl)
theorem dX1_hear_44 : decode cX1_hear 44 = .ok (.getfield 297, 3) := dk_180 1 41 (dk_at dksX1_hear_1 20 rfl rfl)
theorem dX1_hear_47 : decode cX1_hear 47 = .ok (.aaload, 1) := dk_50 (dk_at dksX1_hear_1 23 rfl rfl)
theorem dX1_hear_48 : decode cX1_hear 48 = .ok (.aload_n 3, 1) := dk_45 (dk_at dksX1_hear_2 0 rfl rfl)
theorem dX1_hear_49 : decode cX1_hear 49 = .ok (.getfield 336, 3) := dk_180 1 80 (dk_at dksX1_hear_2 1 rfl rfl)
theorem dX1_hear_52 : decode cX1_hear 52 = .ok (.getfield 92, 3) := dk_180 0 92 (dk_at dksX1_hear_2 4 rfl rfl)
theorem dX1_hear_55 : decode cX1_hear 55 = .ok (.getfield 182, 3) := dk_180 0 182 (dk_at dksX1_hear_2 7 rfl rfl)
theorem dX1_hear_58 : decode cX1_hear 58 = .ok (.dup2, 1) := dk_92 (dk_at dksX1_hear_2 10 rfl rfl)
theorem dX1_hear_59 : decode cX1_hear 59 = .ok (.baload, 1) := dk_51 (dk_at dksX1_hear_2 11 rfl rfl)
theorem dX1_hear_60 : decode cX1_hear 60 = .ok (.iload_n 2, 1) := dk_28 (dk_at dksX1_hear_2 12 rfl rfl)
theorem dX1_hear_61 : decode cX1_hear 61 = .ok (.iconst 1, 1) := dk_4 (dk_at dksX1_hear_2 13 rfl rfl)
theorem dX1_hear_62 : decode cX1_hear 62 = .ok (.iand, 1) := dk_126 (dk_at dksX1_hear_2 14 rfl rfl)
theorem dX1_hear_63 : decode cX1_hear 63 = .ok (.ifCond .eq 7, 3) := dk_153 0 7 (dk_at dksX1_hear_2 15 rfl rfl)
theorem dX1_hear_66 : decode cX1_hear 66 = .ok (.iconst 1, 1) := dk_4 (dk_at dksX1_hear_2 18 rfl rfl)
theorem dX1_hear_67 : decode cX1_hear 67 = .ok (.goto 4, 3) := dk_167 0 4 (dk_at dksX1_hear_2 19 rfl rfl)
theorem dX1_hear_70 : decode cX1_hear 70 = .ok (.iconst 0, 1) := dk_3 (dk_at dksX1_hear_2 22 rfl rfl)
theorem dX1_hear_71 : decode cX1_hear 71 = .ok (.ior, 1) := dk_128 (dk_at dksX1_hear_2 23 rfl rfl)
theorem dX1_hear_72 : decode cX1_hear 72 = .ok (.bastore, 1) := dk_84 (dk_at dksX1_hear_3 0 rfl rfl)
theorem dX1_hear_73 : decode cX1_hear 73 = .ok (.aload_n 0, 1) := dk_42 (dk_at dksX1_hear_3 1 rfl rfl)
theorem dX1_hear_74 : decode cX1_hear 74 = .ok (.getfield 42, 3) := dk_180 0 42 (dk_at dksX1_hear_3 2 rfl rfl)
theorem dX1_hear_77 : decode cX1_hear 77 = .ok (.aload_n 3, 1) := dk_45 (dk_at dksX1_hear_3 5 rfl rfl)
theorem dX1_hear_78 : decode cX1_hear 78 = .ok (.getfield 339, 3) := dk_180 1 83 (dk_at dksX1_hear_3 6 rfl rfl)
theorem dX1_hear_81 : decode cX1_hear 81 = .ok (.getfield 297, 3) := dk_180 1 41 (dk_at dksX1_hear_3 9 rfl rfl)
theorem dX1_hear_84 : decode cX1_hear 84 = .ok (.aaload, 1) := dk_50 (dk_at dksX1_hear_3 12 rfl rfl)
theorem dX1_hear_85 : decode cX1_hear 85 = .ok (.aload_n 3, 1) := dk_45 (dk_at dksX1_hear_3 13 rfl rfl)
theorem dX1_hear_86 : decode cX1_hear 86 = .ok (.getfield 339, 3) := dk_180 1 83 (dk_at dksX1_hear_3 14 rfl rfl)
theorem dX1_hear_89 : decode cX1_hear 89 = .ok (.getfield 92, 3) := dk_180 0 92 (dk_at dksX1_hear_3 17 rfl rfl)
theorem dX1_hear_92 : decode cX1_hear 92 = .ok (.getfield 182, 3) := dk_180 0 182 (dk_at dksX1_hear_3 20 rfl rfl)
theorem dX1_hear_95 : decode cX1_hear 95 = .ok (.dup2, 1) := dk_92 (dk_at dksX1_hear_3 23 rfl rfl)
theorem dX1_hear_96 : decode cX1_hear 96 = .ok (.baload, 1) := dk_51 (dk_at dksX1_hear_4 0 rfl rfl)
theorem dX1_hear_97 : decode cX1_hear 97 = .ok (.iload_n 2, 1) := dk_28 (dk_at dksX1_hear_4 1 rfl rfl)
theorem dX1_hear_98 : decode cX1_hear 98 = .ok (.iconst 2, 1) := dk_5 (dk_at dksX1_hear_4 2 rfl rfl)
theorem dX1_hear_99 : decode cX1_hear 99 = .ok (.iand, 1) := dk_126 (dk_at dksX1_hear_4 3 rfl rfl)
theorem dX1_hear_100 : decode cX1_hear 100 = .ok (.ifCond .eq 7, 3) := dk_153 0 7 (dk_at dksX1_hear_4 4 rfl rfl)
theorem dX1_hear_103 : decode cX1_hear 103 = .ok (.iconst 1, 1) := dk_4 (dk_at dksX1_hear_4 7 rfl rfl)
theorem dX1_hear_104 : decode cX1_hear 104 = .ok (.goto 4, 3) := dk_167 0 4 (dk_at dksX1_hear_4 8 rfl rfl)
theorem dX1_hear_107 : decode cX1_hear 107 = .ok (.iconst 0, 1) := dk_3 (dk_at dksX1_hear_4 11 rfl rfl)
theorem dX1_hear_108 : decode cX1_hear 108 = .ok (.ior, 1) := dk_128 (dk_at dksX1_hear_4 12 rfl rfl)
theorem dX1_hear_109 : decode cX1_hear 109 = .ok (.bastore, 1) := dk_84 (dk_at dksX1_hear_4 13 rfl rfl)
theorem dX1_hear_110 : decode cX1_hear 110 = .ok (.aload_n 0, 1) := dk_42 (dk_at dksX1_hear_4 14 rfl rfl)
theorem dX1_hear_111 : decode cX1_hear 111 = .ok (.invokevirtual 352, 3) := dk_182 1 96 (dk_at dksX1_hear_4 15 rfl rfl)
theorem dX1_hear_114 : decode cX1_hear 114 = .ok (.invokevirtual 356, 3) := dk_182 1 100 (dk_at dksX1_hear_4 18 rfl rfl)
theorem dX1_hear_117 : decode cX1_hear 117 = .ok (.ireturn, 1) := dk_172 (dk_at dksX1_hear_4 21 rfl rfl)
abbrev cX1_open : ByteArray := prog_1_method_56_code
def yX1_open : MethodName := ⟨RX1, "open", "()Ljava/util/PriorityQueue;"⟩
def dkwX1_open_2 : List UInt8 := [182, 1, 95, 153, 0, 7, 4, 167, 0, 4, 3, 54, 4, 167, 255, 214, 43, 176]
abbrev dktX1_open_2 : List UInt8 := dkwX1_open_2 ++ []
def dkwX1_open_1 : List UInt8 := [153, 0, 39, 44, 185, 0, 157, 1, 0, 192, 0, 173, 78, 45, 180, 1, 89, 2, 160, 0, 15, 43, 45]
abbrev dktX1_open_1 : List UInt8 := dkwX1_open_1 ++ dktX1_open_2
def dkwX1_open_0 : List UInt8 := [187, 1, 92, 89, 183, 1, 94, 76, 42, 180, 0, 30, 182, 0, 147, 77, 44, 185, 0, 151, 1, 0]
abbrev dktX1_open_0 : List UInt8 := dkwX1_open_0 ++ dktX1_open_1
theorem dksX1_open_0 : cX1_open.data.toList.drop 0 = dktX1_open_0 := by decide +kernel
theorem dksX1_open_1 : cX1_open.data.toList.drop 22 = dktX1_open_1 := dk_seg dksX1_open_0 22 rfl rfl
theorem dksX1_open_2 : cX1_open.data.toList.drop 45 = dktX1_open_2 := dk_seg dksX1_open_1 23 rfl rfl
theorem dX1_open_0 : decode cX1_open 0 = .ok (.new 348, 3) := dk_187 1 92 (dk_at dksX1_open_0 0 rfl rfl)
theorem dX1_open_3 : decode cX1_open 3 = .ok (.dup, 1) := dk_89 (dk_at dksX1_open_0 3 rfl rfl)
theorem dX1_open_4 : decode cX1_open 4 = .ok (.invokespecial 350, 3) := dk_183 1 94 (dk_at dksX1_open_0 4 rfl rfl)
theorem dX1_open_7 : decode cX1_open 7 = .ok (.astore_n 1, 1) := dk_76 (dk_at dksX1_open_0 7 rfl rfl)
theorem dX1_open_8 : decode cX1_open 8 = .ok (.aload_n 0, 1) := dk_42 (dk_at dksX1_open_0 8 rfl rfl)
theorem dX1_open_9 : decode cX1_open 9 = .ok (.getfield 30, 3) := dk_180 0 30 (dk_at dksX1_open_0 9 rfl rfl)
theorem dX1_open_12 : decode cX1_open 12 = .ok (.invokevirtual 147, 3) := dk_182 0 147 (dk_at dksX1_open_0 12 rfl rfl)
theorem dX1_open_15 : decode cX1_open 15 = .ok (.astore_n 2, 1) := dk_77 (dk_at dksX1_open_0 15 rfl rfl)
theorem dX1_open_16 : decode cX1_open 16 = .ok (.aload_n 2, 1) := dk_44 (dk_at dksX1_open_0 16 rfl rfl)
theorem dX1_open_17 : decode cX1_open 17 = .ok (.invokeinterface 151 1, 5) := by decide +kernel
theorem dX1_open_22 : decode cX1_open 22 = .ok (.ifCond .eq 39, 3) := dk_153 0 39 (dk_at dksX1_open_1 0 rfl rfl)
theorem dX1_open_25 : decode cX1_open 25 = .ok (.aload_n 2, 1) := dk_44 (dk_at dksX1_open_1 3 rfl rfl)
theorem dX1_open_26 : decode cX1_open 26 = .ok (.invokeinterface 157 1, 5) := by decide +kernel
theorem dX1_open_31 : decode cX1_open 31 = .ok (.checkcast 173, 3) := dk_192 0 173 (dk_at dksX1_open_1 9 rfl rfl)
theorem dX1_open_34 : decode cX1_open 34 = .ok (.astore_n 3, 1) := dk_78 (dk_at dksX1_open_1 12 rfl rfl)
theorem dX1_open_35 : decode cX1_open 35 = .ok (.aload_n 3, 1) := dk_45 (dk_at dksX1_open_1 13 rfl rfl)
theorem dX1_open_36 : decode cX1_open 36 = .ok (.getfield 345, 3) := dk_180 1 89 (dk_at dksX1_open_1 14 rfl rfl)
theorem dX1_open_39 : decode cX1_open 39 = .ok (.iconst (-1), 1) := dk_2 (dk_at dksX1_open_1 17 rfl rfl)
theorem dX1_open_40 : decode cX1_open 40 = .ok (.if_icmp .ne 15, 3) := dk_160 0 15 (dk_at dksX1_open_1 18 rfl rfl)
theorem dX1_open_43 : decode cX1_open 43 = .ok (.aload_n 1, 1) := dk_43 (dk_at dksX1_open_1 21 rfl rfl)
theorem dX1_open_44 : decode cX1_open 44 = .ok (.aload_n 3, 1) := dk_45 (dk_at dksX1_open_1 22 rfl rfl)
theorem dX1_open_45 : decode cX1_open 45 = .ok (.invokevirtual 351, 3) := dk_182 1 95 (dk_at dksX1_open_2 0 rfl rfl)
theorem dX1_open_48 : decode cX1_open 48 = .ok (.ifCond .eq 7, 3) := dk_153 0 7 (dk_at dksX1_open_2 3 rfl rfl)
theorem dX1_open_51 : decode cX1_open 51 = .ok (.iconst 1, 1) := dk_4 (dk_at dksX1_open_2 6 rfl rfl)
theorem dX1_open_52 : decode cX1_open 52 = .ok (.goto 4, 3) := dk_167 0 4 (dk_at dksX1_open_2 7 rfl rfl)
theorem dX1_open_55 : decode cX1_open 55 = .ok (.iconst 0, 1) := dk_3 (dk_at dksX1_open_2 10 rfl rfl)
theorem dX1_open_56 : decode cX1_open 56 = .ok (.istore 4, 2) := dk_54 4 (dk_at dksX1_open_2 11 rfl rfl)
theorem dX1_open_58 : decode cX1_open 58 = .ok (.goto (-42), 3) := dk_167 255 214 (dk_at dksX1_open_2 13 rfl rfl)
theorem dX1_open_61 : decode cX1_open 61 = .ok (.aload_n 1, 1) := dk_43 (dk_at dksX1_open_2 16 rfl rfl)
theorem dX1_open_62 : decode cX1_open 62 = .ok (.areturn, 1) := dk_176 (dk_at dksX1_open_2 17 rfl rfl)
abbrev cX1_next : ByteArray := prog_1_method_58_code
def yX1_next : MethodName := ⟨RX1, "next", "()I"⟩
def dkwX1_next_1 : List UInt8 := [192, 0, 173, 180, 1, 107, 172]
abbrev dktX1_next_1 : List UInt8 := dkwX1_next_1 ++ []
def dkwX1_next_0 : List UInt8 := [42, 182, 1, 96, 76, 43, 182, 1, 101, 154, 0, 7, 4, 167, 0, 4, 3, 184, 1, 14, 43, 182, 1, 104]
abbrev dktX1_next_0 : List UInt8 := dkwX1_next_0 ++ dktX1_next_1
theorem dksX1_next_0 : cX1_next.data.toList.drop 0 = dktX1_next_0 := by decide +kernel
theorem dksX1_next_1 : cX1_next.data.toList.drop 24 = dktX1_next_1 := dk_seg dksX1_next_0 24 rfl rfl
theorem dX1_next_0 : decode cX1_next 0 = .ok (.aload_n 0, 1) := dk_42 (dk_at dksX1_next_0 0 rfl rfl)
theorem dX1_next_1 : decode cX1_next 1 = .ok (.invokevirtual 352, 3) := dk_182 1 96 (dk_at dksX1_next_0 1 rfl rfl)
theorem dX1_next_4 : decode cX1_next 4 = .ok (.astore_n 1, 1) := dk_76 (dk_at dksX1_next_0 4 rfl rfl)
theorem dX1_next_5 : decode cX1_next 5 = .ok (.aload_n 1, 1) := dk_43 (dk_at dksX1_next_0 5 rfl rfl)
theorem dX1_next_6 : decode cX1_next 6 = .ok (.invokevirtual 357, 3) := dk_182 1 101 (dk_at dksX1_next_0 6 rfl rfl)
theorem dX1_next_9 : decode cX1_next 9 = .ok (.ifCond .ne 7, 3) := dk_154 0 7 (dk_at dksX1_next_0 9 rfl rfl)
theorem dX1_next_12 : decode cX1_next 12 = .ok (.iconst 1, 1) := dk_4 (dk_at dksX1_next_0 12 rfl rfl)
theorem dX1_next_13 : decode cX1_next 13 = .ok (.goto 4, 3) := dk_167 0 4 (dk_at dksX1_next_0 13 rfl rfl)
theorem dX1_next_16 : decode cX1_next 16 = .ok (.iconst 0, 1) := dk_3 (dk_at dksX1_next_0 16 rfl rfl)
theorem dX1_next_17 : decode cX1_next 17 = .ok (.invokestatic 270, 3) := dk_184 1 14 (dk_at dksX1_next_0 17 rfl rfl)
theorem dX1_next_20 : decode cX1_next 20 = .ok (.aload_n 1, 1) := dk_43 (dk_at dksX1_next_0 20 rfl rfl)
theorem dX1_next_21 : decode cX1_next 21 = .ok (.invokevirtual 360, 3) := dk_182 1 104 (dk_at dksX1_next_0 21 rfl rfl)
theorem dX1_next_24 : decode cX1_next 24 = .ok (.checkcast 173, 3) := dk_192 0 173 (dk_at dksX1_next_1 0 rfl rfl)
theorem dX1_next_27 : decode cX1_next 27 = .ok (.getfield 363, 3) := dk_180 1 107 (dk_at dksX1_next_1 3 rfl rfl)
theorem dX1_next_30 : decode cX1_next 30 = .ok (.ireturn, 1) := dk_172 (dk_at dksX1_next_1 6 rfl rfl)
abbrev cX1_byteSum : ByteArray := prog_1_method_59_code
def yX1_byteSum : MethodName := ⟨RX1, "byteSum", "(I)B"⟩
def dkwX1_byteSum_0 : List UInt8 := [42, 27, 182, 1, 20, 182, 1, 108, 172]
abbrev dktX1_byteSum_0 : List UInt8 := dkwX1_byteSum_0 ++ []
theorem dksX1_byteSum_0 : cX1_byteSum.data.toList.drop 0 = dktX1_byteSum_0 := by decide +kernel
theorem dX1_byteSum_0 : decode cX1_byteSum 0 = .ok (.aload_n 0, 1) := dk_42 (dk_at dksX1_byteSum_0 0 rfl rfl)
theorem dX1_byteSum_1 : decode cX1_byteSum 1 = .ok (.iload_n 1, 1) := dk_27 (dk_at dksX1_byteSum_0 1 rfl rfl)
theorem dX1_byteSum_2 : decode cX1_byteSum 2 = .ok (.invokevirtual 276, 3) := dk_182 1 20 (dk_at dksX1_byteSum_0 2 rfl rfl)
theorem dX1_byteSum_5 : decode cX1_byteSum 5 = .ok (.invokevirtual 364, 3) := dk_182 1 108 (dk_at dksX1_byteSum_0 5 rfl rfl)
theorem dX1_byteSum_8 : decode cX1_byteSum 8 = .ok (.ireturn, 1) := dk_172 (dk_at dksX1_byteSum_0 8 rfl rfl)
abbrev cX1_shortSum : ByteArray := prog_1_method_60_code
def yX1_shortSum : MethodName := ⟨RX1, "shortSum", "(I)S"⟩
def dkwX1_shortSum_0 : List UInt8 := [42, 27, 182, 1, 20, 182, 1, 112, 172]
abbrev dktX1_shortSum_0 : List UInt8 := dkwX1_shortSum_0 ++ []
theorem dksX1_shortSum_0 : cX1_shortSum.data.toList.drop 0 = dktX1_shortSum_0 := by decide +kernel
theorem dX1_shortSum_0 : decode cX1_shortSum 0 = .ok (.aload_n 0, 1) := dk_42 (dk_at dksX1_shortSum_0 0 rfl rfl)
theorem dX1_shortSum_1 : decode cX1_shortSum 1 = .ok (.iload_n 1, 1) := dk_27 (dk_at dksX1_shortSum_0 1 rfl rfl)
theorem dX1_shortSum_2 : decode cX1_shortSum 2 = .ok (.invokevirtual 276, 3) := dk_182 1 20 (dk_at dksX1_shortSum_0 2 rfl rfl)
theorem dX1_shortSum_5 : decode cX1_shortSum 5 = .ok (.invokevirtual 368, 3) := dk_182 1 112 (dk_at dksX1_shortSum_0 5 rfl rfl)
theorem dX1_shortSum_8 : decode cX1_shortSum 8 = .ok (.ireturn, 1) := dk_172 (dk_at dksX1_shortSum_0 8 rfl rfl)
abbrev cX1_packed : ByteArray := prog_1_method_61_code
def yX1_packed : MethodName := ⟨RX1, "packed", "(I)J"⟩
def dkwX1_packed_2 : List UInt8 := [180, 0, 182, 133, 16, 32, 121, 129, 66, 33, 44, 180, 1, 24, 133, 129, 66, 33, 173]
abbrev dktX1_packed_2 : List UInt8 := dkwX1_packed_2 ++ []
def dkwX1_packed_1 : List UInt8 := [127, 16, 40, 121, 129, 66, 33, 44, 180, 1, 41, 133, 16, 36, 121, 129, 66, 33, 44, 180, 0, 92]
abbrev dktX1_packed_1 : List UInt8 := dkwX1_packed_1 ++ dktX1_packed_2
def dkwX1_packed_0 : List UInt8 := [42, 27, 182, 1, 20, 77, 44, 180, 1, 33, 133, 16, 48, 121, 66, 33, 44, 182, 1, 108, 133, 20, 1, 116]
abbrev dktX1_packed_0 : List UInt8 := dkwX1_packed_0 ++ dktX1_packed_1
theorem dksX1_packed_0 : cX1_packed.data.toList.drop 0 = dktX1_packed_0 := by decide +kernel
theorem dksX1_packed_1 : cX1_packed.data.toList.drop 24 = dktX1_packed_1 := dk_seg dksX1_packed_0 24 rfl rfl
theorem dksX1_packed_2 : cX1_packed.data.toList.drop 46 = dktX1_packed_2 := dk_seg dksX1_packed_1 22 rfl rfl
theorem dX1_packed_0 : decode cX1_packed 0 = .ok (.aload_n 0, 1) := dk_42 (dk_at dksX1_packed_0 0 rfl rfl)
theorem dX1_packed_1 : decode cX1_packed 1 = .ok (.iload_n 1, 1) := dk_27 (dk_at dksX1_packed_0 1 rfl rfl)
theorem dX1_packed_2 : decode cX1_packed 2 = .ok (.invokevirtual 276, 3) := dk_182 1 20 (dk_at dksX1_packed_0 2 rfl rfl)
theorem dX1_packed_5 : decode cX1_packed 5 = .ok (.astore_n 2, 1) := dk_77 (dk_at dksX1_packed_0 5 rfl rfl)
theorem dX1_packed_6 : decode cX1_packed 6 = .ok (.aload_n 2, 1) := dk_44 (dk_at dksX1_packed_0 6 rfl rfl)
theorem dX1_packed_7 : decode cX1_packed 7 = .ok (.getfield 289, 3) := dk_180 1 33 (dk_at dksX1_packed_0 7 rfl rfl)
theorem dX1_packed_10 : decode cX1_packed 10 = .ok (.i2l, 1) := dk_133 (dk_at dksX1_packed_0 10 rfl rfl)
theorem dX1_packed_11 : decode cX1_packed 11 = .ok (.bipush 48, 2) := dk_16 48 (dk_at dksX1_packed_0 11 rfl rfl)
theorem dX1_packed_13 : decode cX1_packed 13 = .ok (.lshl, 1) := dk_121 (dk_at dksX1_packed_0 13 rfl rfl)
theorem dX1_packed_14 : decode cX1_packed 14 = .ok (.lstore_n 3, 1) := dk_66 (dk_at dksX1_packed_0 14 rfl rfl)
theorem dX1_packed_15 : decode cX1_packed 15 = .ok (.lload_n 3, 1) := dk_33 (dk_at dksX1_packed_0 15 rfl rfl)
theorem dX1_packed_16 : decode cX1_packed 16 = .ok (.aload_n 2, 1) := dk_44 (dk_at dksX1_packed_0 16 rfl rfl)
theorem dX1_packed_17 : decode cX1_packed 17 = .ok (.invokevirtual 364, 3) := dk_182 1 108 (dk_at dksX1_packed_0 17 rfl rfl)
theorem dX1_packed_20 : decode cX1_packed 20 = .ok (.i2l, 1) := dk_133 (dk_at dksX1_packed_0 20 rfl rfl)
theorem dX1_packed_21 : decode cX1_packed 21 = .ok (.ldc2_w 372, 3) := dk_20 1 116 (dk_at dksX1_packed_0 21 rfl rfl)
theorem dX1_packed_24 : decode cX1_packed 24 = .ok (.land, 1) := dk_127 (dk_at dksX1_packed_1 0 rfl rfl)
theorem dX1_packed_25 : decode cX1_packed 25 = .ok (.bipush 40, 2) := dk_16 40 (dk_at dksX1_packed_1 1 rfl rfl)
theorem dX1_packed_27 : decode cX1_packed 27 = .ok (.lshl, 1) := dk_121 (dk_at dksX1_packed_1 3 rfl rfl)
theorem dX1_packed_28 : decode cX1_packed 28 = .ok (.lor, 1) := dk_129 (dk_at dksX1_packed_1 4 rfl rfl)
theorem dX1_packed_29 : decode cX1_packed 29 = .ok (.lstore_n 3, 1) := dk_66 (dk_at dksX1_packed_1 5 rfl rfl)
theorem dX1_packed_30 : decode cX1_packed 30 = .ok (.lload_n 3, 1) := dk_33 (dk_at dksX1_packed_1 6 rfl rfl)
theorem dX1_packed_31 : decode cX1_packed 31 = .ok (.aload_n 2, 1) := dk_44 (dk_at dksX1_packed_1 7 rfl rfl)
theorem dX1_packed_32 : decode cX1_packed 32 = .ok (.getfield 297, 3) := dk_180 1 41 (dk_at dksX1_packed_1 8 rfl rfl)
theorem dX1_packed_35 : decode cX1_packed 35 = .ok (.i2l, 1) := dk_133 (dk_at dksX1_packed_1 11 rfl rfl)
theorem dX1_packed_36 : decode cX1_packed 36 = .ok (.bipush 36, 2) := dk_16 36 (dk_at dksX1_packed_1 12 rfl rfl)
theorem dX1_packed_38 : decode cX1_packed 38 = .ok (.lshl, 1) := dk_121 (dk_at dksX1_packed_1 14 rfl rfl)
theorem dX1_packed_39 : decode cX1_packed 39 = .ok (.lor, 1) := dk_129 (dk_at dksX1_packed_1 15 rfl rfl)
theorem dX1_packed_40 : decode cX1_packed 40 = .ok (.lstore_n 3, 1) := dk_66 (dk_at dksX1_packed_1 16 rfl rfl)
theorem dX1_packed_41 : decode cX1_packed 41 = .ok (.lload_n 3, 1) := dk_33 (dk_at dksX1_packed_1 17 rfl rfl)
theorem dX1_packed_42 : decode cX1_packed 42 = .ok (.aload_n 2, 1) := dk_44 (dk_at dksX1_packed_1 18 rfl rfl)
theorem dX1_packed_43 : decode cX1_packed 43 = .ok (.getfield 92, 3) := dk_180 0 92 (dk_at dksX1_packed_1 19 rfl rfl)
theorem dX1_packed_46 : decode cX1_packed 46 = .ok (.getfield 182, 3) := dk_180 0 182 (dk_at dksX1_packed_2 0 rfl rfl)
theorem dX1_packed_49 : decode cX1_packed 49 = .ok (.i2l, 1) := dk_133 (dk_at dksX1_packed_2 3 rfl rfl)
theorem dX1_packed_50 : decode cX1_packed 50 = .ok (.bipush 32, 2) := dk_16 32 (dk_at dksX1_packed_2 4 rfl rfl)
theorem dX1_packed_52 : decode cX1_packed 52 = .ok (.lshl, 1) := dk_121 (dk_at dksX1_packed_2 6 rfl rfl)
theorem dX1_packed_53 : decode cX1_packed 53 = .ok (.lor, 1) := dk_129 (dk_at dksX1_packed_2 7 rfl rfl)
theorem dX1_packed_54 : decode cX1_packed 54 = .ok (.lstore_n 3, 1) := dk_66 (dk_at dksX1_packed_2 8 rfl rfl)
theorem dX1_packed_55 : decode cX1_packed 55 = .ok (.lload_n 3, 1) := dk_33 (dk_at dksX1_packed_2 9 rfl rfl)
theorem dX1_packed_56 : decode cX1_packed 56 = .ok (.aload_n 2, 1) := dk_44 (dk_at dksX1_packed_2 10 rfl rfl)
theorem dX1_packed_57 : decode cX1_packed 57 = .ok (.getfield 280, 3) := dk_180 1 24 (dk_at dksX1_packed_2 11 rfl rfl)
theorem dX1_packed_60 : decode cX1_packed 60 = .ok (.i2l, 1) := dk_133 (dk_at dksX1_packed_2 14 rfl rfl)
theorem dX1_packed_61 : decode cX1_packed 61 = .ok (.lor, 1) := dk_129 (dk_at dksX1_packed_2 15 rfl rfl)
theorem dX1_packed_62 : decode cX1_packed 62 = .ok (.lstore_n 3, 1) := dk_66 (dk_at dksX1_packed_2 16 rfl rfl)
theorem dX1_packed_63 : decode cX1_packed 63 = .ok (.lload_n 3, 1) := dk_33 (dk_at dksX1_packed_2 17 rfl rfl)
theorem dX1_packed_64 : decode cX1_packed 64 = .ok (.lreturn, 1) := dk_173 (dk_at dksX1_packed_2 18 rfl rfl)
abbrev cX1_inShare : ByteArray := prog_1_method_62_code
def yX1_inShare : MethodName := ⟨RX1, "inShare", "()F"⟩
def dkwX1_inShare_3 : List UInt8 := [182, 0, 207, 134, 110, 174]
abbrev dktX1_inShare_3 : List UInt8 := dkwX1_inShare_3 ++ []
def dkwX1_inShare_2 : List UInt8 := [45, 180, 0, 128, 153, 0, 7, 4, 167, 0, 4, 3, 96, 60, 167, 255, 222, 27, 134, 42, 180, 0, 24]
abbrev dktX1_inShare_2 : List UInt8 := dkwX1_inShare_2 ++ dktX1_inShare_3
def dkwX1_inShare_1 : List UInt8 := [182, 0, 147, 77, 44, 185, 0, 151, 1, 0, 153, 0, 31, 44, 185, 0, 157, 1, 0, 192, 0, 88, 78, 27]
abbrev dktX1_inShare_1 : List UInt8 := dkwX1_inShare_1 ++ dktX1_inShare_2
def dkwX1_inShare_0 : List UInt8 := [42, 180, 0, 24, 182, 1, 118, 154, 0, 7, 4, 167, 0, 4, 3, 184, 1, 119, 3, 60, 42, 180, 0, 24]
abbrev dktX1_inShare_0 : List UInt8 := dkwX1_inShare_0 ++ dktX1_inShare_1
theorem dksX1_inShare_0 : cX1_inShare.data.toList.drop 0 = dktX1_inShare_0 := by decide +kernel
theorem dksX1_inShare_1 : cX1_inShare.data.toList.drop 24 = dktX1_inShare_1 := dk_seg dksX1_inShare_0 24 rfl rfl
theorem dksX1_inShare_2 : cX1_inShare.data.toList.drop 48 = dktX1_inShare_2 := dk_seg dksX1_inShare_1 24 rfl rfl
theorem dksX1_inShare_3 : cX1_inShare.data.toList.drop 71 = dktX1_inShare_3 := dk_seg dksX1_inShare_2 23 rfl rfl
theorem dX1_inShare_0 : decode cX1_inShare 0 = .ok (.aload_n 0, 1) := dk_42 (dk_at dksX1_inShare_0 0 rfl rfl)
theorem dX1_inShare_1 : decode cX1_inShare 1 = .ok (.getfield 24, 3) := dk_180 0 24 (dk_at dksX1_inShare_0 1 rfl rfl)
theorem dX1_inShare_4 : decode cX1_inShare 4 = .ok (.invokevirtual 374, 3) := dk_182 1 118 (dk_at dksX1_inShare_0 4 rfl rfl)
theorem dX1_inShare_7 : decode cX1_inShare 7 = .ok (.ifCond .ne 7, 3) := dk_154 0 7 (dk_at dksX1_inShare_0 7 rfl rfl)
theorem dX1_inShare_10 : decode cX1_inShare 10 = .ok (.iconst 1, 1) := dk_4 (dk_at dksX1_inShare_0 10 rfl rfl)
theorem dX1_inShare_11 : decode cX1_inShare 11 = .ok (.goto 4, 3) := dk_167 0 4 (dk_at dksX1_inShare_0 11 rfl rfl)
theorem dX1_inShare_14 : decode cX1_inShare 14 = .ok (.iconst 0, 1) := dk_3 (dk_at dksX1_inShare_0 14 rfl rfl)
theorem dX1_inShare_15 : decode cX1_inShare 15 = .ok (.invokestatic 375, 3) := dk_184 1 119 (dk_at dksX1_inShare_0 15 rfl rfl)
theorem dX1_inShare_18 : decode cX1_inShare 18 = .ok (.iconst 0, 1) := dk_3 (dk_at dksX1_inShare_0 18 rfl rfl)
theorem dX1_inShare_19 : decode cX1_inShare 19 = .ok (.istore_n 1, 1) := dk_60 (dk_at dksX1_inShare_0 19 rfl rfl)
theorem dX1_inShare_20 : decode cX1_inShare 20 = .ok (.aload_n 0, 1) := dk_42 (dk_at dksX1_inShare_0 20 rfl rfl)
theorem dX1_inShare_21 : decode cX1_inShare 21 = .ok (.getfield 24, 3) := dk_180 0 24 (dk_at dksX1_inShare_0 21 rfl rfl)
theorem dX1_inShare_24 : decode cX1_inShare 24 = .ok (.invokevirtual 147, 3) := dk_182 0 147 (dk_at dksX1_inShare_1 0 rfl rfl)
theorem dX1_inShare_27 : decode cX1_inShare 27 = .ok (.astore_n 2, 1) := dk_77 (dk_at dksX1_inShare_1 3 rfl rfl)
theorem dX1_inShare_28 : decode cX1_inShare 28 = .ok (.aload_n 2, 1) := dk_44 (dk_at dksX1_inShare_1 4 rfl rfl)
theorem dX1_inShare_29 : decode cX1_inShare 29 = .ok (.invokeinterface 151 1, 5) := by decide +kernel
theorem dX1_inShare_34 : decode cX1_inShare 34 = .ok (.ifCond .eq 31, 3) := dk_153 0 31 (dk_at dksX1_inShare_1 10 rfl rfl)
theorem dX1_inShare_37 : decode cX1_inShare 37 = .ok (.aload_n 2, 1) := dk_44 (dk_at dksX1_inShare_1 13 rfl rfl)
theorem dX1_inShare_38 : decode cX1_inShare 38 = .ok (.invokeinterface 157 1, 5) := by decide +kernel
theorem dX1_inShare_43 : decode cX1_inShare 43 = .ok (.checkcast 88, 3) := dk_192 0 88 (dk_at dksX1_inShare_1 19 rfl rfl)
theorem dX1_inShare_46 : decode cX1_inShare 46 = .ok (.astore_n 3, 1) := dk_78 (dk_at dksX1_inShare_1 22 rfl rfl)
theorem dX1_inShare_47 : decode cX1_inShare 47 = .ok (.iload_n 1, 1) := dk_27 (dk_at dksX1_inShare_1 23 rfl rfl)
theorem dX1_inShare_48 : decode cX1_inShare 48 = .ok (.aload_n 3, 1) := dk_45 (dk_at dksX1_inShare_2 0 rfl rfl)
theorem dX1_inShare_49 : decode cX1_inShare 49 = .ok (.getfield 128, 3) := dk_180 0 128 (dk_at dksX1_inShare_2 1 rfl rfl)
theorem dX1_inShare_52 : decode cX1_inShare 52 = .ok (.ifCond .eq 7, 3) := dk_153 0 7 (dk_at dksX1_inShare_2 4 rfl rfl)
theorem dX1_inShare_55 : decode cX1_inShare 55 = .ok (.iconst 1, 1) := dk_4 (dk_at dksX1_inShare_2 7 rfl rfl)
theorem dX1_inShare_56 : decode cX1_inShare 56 = .ok (.goto 4, 3) := dk_167 0 4 (dk_at dksX1_inShare_2 8 rfl rfl)
theorem dX1_inShare_59 : decode cX1_inShare 59 = .ok (.iconst 0, 1) := dk_3 (dk_at dksX1_inShare_2 11 rfl rfl)
theorem dX1_inShare_60 : decode cX1_inShare 60 = .ok (.iadd, 1) := dk_96 (dk_at dksX1_inShare_2 12 rfl rfl)
theorem dX1_inShare_61 : decode cX1_inShare 61 = .ok (.istore_n 1, 1) := dk_60 (dk_at dksX1_inShare_2 13 rfl rfl)
theorem dX1_inShare_62 : decode cX1_inShare 62 = .ok (.goto (-34), 3) := dk_167 255 222 (dk_at dksX1_inShare_2 14 rfl rfl)
theorem dX1_inShare_65 : decode cX1_inShare 65 = .ok (.iload_n 1, 1) := dk_27 (dk_at dksX1_inShare_2 17 rfl rfl)
theorem dX1_inShare_66 : decode cX1_inShare 66 = .ok (.i2f, 1) := dk_134 (dk_at dksX1_inShare_2 18 rfl rfl)
theorem dX1_inShare_67 : decode cX1_inShare 67 = .ok (.aload_n 0, 1) := dk_42 (dk_at dksX1_inShare_2 19 rfl rfl)
theorem dX1_inShare_68 : decode cX1_inShare 68 = .ok (.getfield 24, 3) := dk_180 0 24 (dk_at dksX1_inShare_2 20 rfl rfl)
theorem dX1_inShare_71 : decode cX1_inShare 71 = .ok (.invokevirtual 207, 3) := dk_182 0 207 (dk_at dksX1_inShare_3 0 rfl rfl)
theorem dX1_inShare_74 : decode cX1_inShare 74 = .ok (.i2f, 1) := dk_134 (dk_at dksX1_inShare_3 3 rfl rfl)
theorem dX1_inShare_75 : decode cX1_inShare 75 = .ok (.fdiv, 1) := dk_110 (dk_at dksX1_inShare_3 4 rfl rfl)
theorem dX1_inShare_76 : decode cX1_inShare 76 = .ok (.freturn, 1) := dk_174 (dk_at dksX1_inShare_3 5 rfl rfl)
abbrev cX1_checkNumber : ByteArray := prog_1_method_8_code
def yX1_checkNumber : MethodName := ⟨RX1, "checkNumber", "(Z)V"⟩
def dkwX1_checkNumber_0 : List UInt8 := [26, 154, 0, 11, 187, 0, 75, 89, 183, 0, 77, 191, 177]
abbrev dktX1_checkNumber_0 : List UInt8 := dkwX1_checkNumber_0 ++ []
theorem dksX1_checkNumber_0 : cX1_checkNumber.data.toList.drop 0 = dktX1_checkNumber_0 := by decide +kernel
theorem dX1_checkNumber_0 : decode cX1_checkNumber 0 = .ok (.iload_n 0, 1) := dk_26 (dk_at dksX1_checkNumber_0 0 rfl rfl)
theorem dX1_checkNumber_1 : decode cX1_checkNumber 1 = .ok (.ifCond .ne 11, 3) := dk_154 0 11 (dk_at dksX1_checkNumber_0 1 rfl rfl)
theorem dX1_checkNumber_4 : decode cX1_checkNumber 4 = .ok (.new 75, 3) := dk_187 0 75 (dk_at dksX1_checkNumber_0 4 rfl rfl)
theorem dX1_checkNumber_7 : decode cX1_checkNumber 7 = .ok (.dup, 1) := dk_89 (dk_at dksX1_checkNumber_0 7 rfl rfl)
theorem dX1_checkNumber_8 : decode cX1_checkNumber 8 = .ok (.invokespecial 77, 3) := dk_183 0 77 (dk_at dksX1_checkNumber_0 8 rfl rfl)
theorem dX1_checkNumber_11 : decode cX1_checkNumber 11 = .ok (.athrow, 1) := dk_191 (dk_at dksX1_checkNumber_0 11 rfl rfl)
theorem dX1_checkNumber_12 : decode cX1_checkNumber 12 = .ok (.return_, 1) := dk_177 (dk_at dksX1_checkNumber_0 12 rfl rfl)
abbrev cX1_meanMark : ByteArray := prog_1_method_63_code
def yX1_meanMark : MethodName := ⟨RX1, "meanMark", "()D"⟩
def dkwX1_meanMark_6 : List UInt8 := [28, 135, 111, 175]
abbrev dktX1_meanMark_6 : List UInt8 := dkwX1_meanMark_6 ++ []
def dkwX1_meanMark_5 : List UInt8 := [60, 167, 255, 163, 132, 3, 1, 167, 255, 137, 28, 158, 0, 7, 4, 167, 0, 4, 3, 184, 1, 119, 27, 135]
abbrev dktX1_meanMark_5 : List UInt8 := dkwX1_meanMark_5 ++ dktX1_meanMark_6
def dkwX1_meanMark_4 : List UInt8 := [167, 0, 4, 3, 96, 61, 27, 21, 6, 153, 0, 13, 42, 29, 25, 5, 182, 1, 71, 167, 0, 4, 3, 96]
abbrev dktX1_meanMark_4 : List UInt8 := dkwX1_meanMark_4 ++ dktX1_meanMark_5
def dkwX1_meanMark_3 : List UInt8 := [25, 5, 182, 1, 68, 154, 0, 7, 4, 167, 0, 4, 3, 54, 6, 28, 21, 6, 153, 0, 7, 4]
abbrev dktX1_meanMark_3 : List UInt8 := dkwX1_meanMark_3 ++ dktX1_meanMark_4
def dkwX1_meanMark_2 : List UInt8 := [25, 5, 180, 0, 96, 42, 180, 0, 18, 29, 182, 0, 101, 192, 0, 105, 182, 0, 107, 160, 0, 17, 42, 29]
abbrev dktX1_meanMark_2 : List UInt8 := dkwX1_meanMark_2 ++ dktX1_meanMark_3
def dkwX1_meanMark_1 : List UInt8 := [58, 4, 25, 4, 185, 0, 151, 1, 0, 153, 0, 89, 25, 4, 185, 0, 157, 1, 0, 192, 0, 97, 58, 5]
abbrev dktX1_meanMark_1 : List UInt8 := dkwX1_meanMark_1 ++ dktX1_meanMark_2
def dkwX1_meanMark_0 : List UInt8 := [3, 60, 3, 61, 3, 62, 29, 42, 180, 0, 18, 182, 0, 207, 162, 0, 114, 42, 180, 0, 21, 182, 0, 147]
abbrev dktX1_meanMark_0 : List UInt8 := dkwX1_meanMark_0 ++ dktX1_meanMark_1
theorem dksX1_meanMark_0 : cX1_meanMark.data.toList.drop 0 = dktX1_meanMark_0 := by decide +kernel
theorem dksX1_meanMark_1 : cX1_meanMark.data.toList.drop 24 = dktX1_meanMark_1 := dk_seg dksX1_meanMark_0 24 rfl rfl
theorem dksX1_meanMark_2 : cX1_meanMark.data.toList.drop 48 = dktX1_meanMark_2 := dk_seg dksX1_meanMark_1 24 rfl rfl
theorem dksX1_meanMark_3 : cX1_meanMark.data.toList.drop 72 = dktX1_meanMark_3 := dk_seg dksX1_meanMark_2 24 rfl rfl
theorem dksX1_meanMark_4 : cX1_meanMark.data.toList.drop 94 = dktX1_meanMark_4 := dk_seg dksX1_meanMark_3 22 rfl rfl
theorem dksX1_meanMark_5 : cX1_meanMark.data.toList.drop 118 = dktX1_meanMark_5 := dk_seg dksX1_meanMark_4 24 rfl rfl
theorem dksX1_meanMark_6 : cX1_meanMark.data.toList.drop 142 = dktX1_meanMark_6 := dk_seg dksX1_meanMark_5 24 rfl rfl
theorem dX1_meanMark_0 : decode cX1_meanMark 0 = .ok (.iconst 0, 1) := dk_3 (dk_at dksX1_meanMark_0 0 rfl rfl)
theorem dX1_meanMark_1 : decode cX1_meanMark 1 = .ok (.istore_n 1, 1) := dk_60 (dk_at dksX1_meanMark_0 1 rfl rfl)
theorem dX1_meanMark_2 : decode cX1_meanMark 2 = .ok (.iconst 0, 1) := dk_3 (dk_at dksX1_meanMark_0 2 rfl rfl)
theorem dX1_meanMark_3 : decode cX1_meanMark 3 = .ok (.istore_n 2, 1) := dk_61 (dk_at dksX1_meanMark_0 3 rfl rfl)
theorem dX1_meanMark_4 : decode cX1_meanMark 4 = .ok (.iconst 0, 1) := dk_3 (dk_at dksX1_meanMark_0 4 rfl rfl)
theorem dX1_meanMark_5 : decode cX1_meanMark 5 = .ok (.istore_n 3, 1) := dk_62 (dk_at dksX1_meanMark_0 5 rfl rfl)
theorem dX1_meanMark_6 : decode cX1_meanMark 6 = .ok (.iload_n 3, 1) := dk_29 (dk_at dksX1_meanMark_0 6 rfl rfl)
theorem dX1_meanMark_7 : decode cX1_meanMark 7 = .ok (.aload_n 0, 1) := dk_42 (dk_at dksX1_meanMark_0 7 rfl rfl)
theorem dX1_meanMark_8 : decode cX1_meanMark 8 = .ok (.getfield 18, 3) := dk_180 0 18 (dk_at dksX1_meanMark_0 8 rfl rfl)
theorem dX1_meanMark_11 : decode cX1_meanMark 11 = .ok (.invokevirtual 207, 3) := dk_182 0 207 (dk_at dksX1_meanMark_0 11 rfl rfl)
theorem dX1_meanMark_14 : decode cX1_meanMark 14 = .ok (.if_icmp .ge 114, 3) := dk_162 0 114 (dk_at dksX1_meanMark_0 14 rfl rfl)
theorem dX1_meanMark_17 : decode cX1_meanMark 17 = .ok (.aload_n 0, 1) := dk_42 (dk_at dksX1_meanMark_0 17 rfl rfl)
theorem dX1_meanMark_18 : decode cX1_meanMark 18 = .ok (.getfield 21, 3) := dk_180 0 21 (dk_at dksX1_meanMark_0 18 rfl rfl)
theorem dX1_meanMark_21 : decode cX1_meanMark 21 = .ok (.invokevirtual 147, 3) := dk_182 0 147 (dk_at dksX1_meanMark_0 21 rfl rfl)
theorem dX1_meanMark_24 : decode cX1_meanMark 24 = .ok (.astore 4, 2) := dk_58 4 (dk_at dksX1_meanMark_1 0 rfl rfl)
theorem dX1_meanMark_26 : decode cX1_meanMark 26 = .ok (.aload 4, 2) := dk_25 4 (dk_at dksX1_meanMark_1 2 rfl rfl)
theorem dX1_meanMark_28 : decode cX1_meanMark 28 = .ok (.invokeinterface 151 1, 5) := by decide +kernel
theorem dX1_meanMark_33 : decode cX1_meanMark 33 = .ok (.ifCond .eq 89, 3) := dk_153 0 89 (dk_at dksX1_meanMark_1 9 rfl rfl)
theorem dX1_meanMark_36 : decode cX1_meanMark 36 = .ok (.aload 4, 2) := dk_25 4 (dk_at dksX1_meanMark_1 12 rfl rfl)
theorem dX1_meanMark_38 : decode cX1_meanMark 38 = .ok (.invokeinterface 157 1, 5) := by decide +kernel
theorem dX1_meanMark_43 : decode cX1_meanMark 43 = .ok (.checkcast 97, 3) := dk_192 0 97 (dk_at dksX1_meanMark_1 19 rfl rfl)
theorem dX1_meanMark_46 : decode cX1_meanMark 46 = .ok (.astore 5, 2) := dk_58 5 (dk_at dksX1_meanMark_1 22 rfl rfl)
theorem dX1_meanMark_48 : decode cX1_meanMark 48 = .ok (.aload 5, 2) := dk_25 5 (dk_at dksX1_meanMark_2 0 rfl rfl)
theorem dX1_meanMark_50 : decode cX1_meanMark 50 = .ok (.getfield 96, 3) := dk_180 0 96 (dk_at dksX1_meanMark_2 2 rfl rfl)
theorem dX1_meanMark_53 : decode cX1_meanMark 53 = .ok (.aload_n 0, 1) := dk_42 (dk_at dksX1_meanMark_2 5 rfl rfl)
theorem dX1_meanMark_54 : decode cX1_meanMark 54 = .ok (.getfield 18, 3) := dk_180 0 18 (dk_at dksX1_meanMark_2 6 rfl rfl)
theorem dX1_meanMark_57 : decode cX1_meanMark 57 = .ok (.iload_n 3, 1) := dk_29 (dk_at dksX1_meanMark_2 9 rfl rfl)
theorem dX1_meanMark_58 : decode cX1_meanMark 58 = .ok (.invokevirtual 101, 3) := dk_182 0 101 (dk_at dksX1_meanMark_2 10 rfl rfl)
theorem dX1_meanMark_61 : decode cX1_meanMark 61 = .ok (.checkcast 105, 3) := dk_192 0 105 (dk_at dksX1_meanMark_2 13 rfl rfl)
theorem dX1_meanMark_64 : decode cX1_meanMark 64 = .ok (.invokevirtual 107, 3) := dk_182 0 107 (dk_at dksX1_meanMark_2 16 rfl rfl)
theorem dX1_meanMark_67 : decode cX1_meanMark 67 = .ok (.if_icmp .ne 17, 3) := dk_160 0 17 (dk_at dksX1_meanMark_2 19 rfl rfl)
theorem dX1_meanMark_70 : decode cX1_meanMark 70 = .ok (.aload_n 0, 1) := dk_42 (dk_at dksX1_meanMark_2 22 rfl rfl)
theorem dX1_meanMark_71 : decode cX1_meanMark 71 = .ok (.iload_n 3, 1) := dk_29 (dk_at dksX1_meanMark_2 23 rfl rfl)
theorem dX1_meanMark_72 : decode cX1_meanMark 72 = .ok (.aload 5, 2) := dk_25 5 (dk_at dksX1_meanMark_3 0 rfl rfl)
theorem dX1_meanMark_74 : decode cX1_meanMark 74 = .ok (.invokevirtual 324, 3) := dk_182 1 68 (dk_at dksX1_meanMark_3 2 rfl rfl)
theorem dX1_meanMark_77 : decode cX1_meanMark 77 = .ok (.ifCond .ne 7, 3) := dk_154 0 7 (dk_at dksX1_meanMark_3 5 rfl rfl)
theorem dX1_meanMark_80 : decode cX1_meanMark 80 = .ok (.iconst 1, 1) := dk_4 (dk_at dksX1_meanMark_3 8 rfl rfl)
theorem dX1_meanMark_81 : decode cX1_meanMark 81 = .ok (.goto 4, 3) := dk_167 0 4 (dk_at dksX1_meanMark_3 9 rfl rfl)
theorem dX1_meanMark_84 : decode cX1_meanMark 84 = .ok (.iconst 0, 1) := dk_3 (dk_at dksX1_meanMark_3 12 rfl rfl)
theorem dX1_meanMark_85 : decode cX1_meanMark 85 = .ok (.istore 6, 2) := dk_54 6 (dk_at dksX1_meanMark_3 13 rfl rfl)
theorem dX1_meanMark_87 : decode cX1_meanMark 87 = .ok (.iload_n 2, 1) := dk_28 (dk_at dksX1_meanMark_3 15 rfl rfl)
theorem dX1_meanMark_88 : decode cX1_meanMark 88 = .ok (.iload 6, 2) := dk_21 6 (dk_at dksX1_meanMark_3 16 rfl rfl)
theorem dX1_meanMark_90 : decode cX1_meanMark 90 = .ok (.ifCond .eq 7, 3) := dk_153 0 7 (dk_at dksX1_meanMark_3 18 rfl rfl)
theorem dX1_meanMark_93 : decode cX1_meanMark 93 = .ok (.iconst 1, 1) := dk_4 (dk_at dksX1_meanMark_3 21 rfl rfl)
theorem dX1_meanMark_94 : decode cX1_meanMark 94 = .ok (.goto 4, 3) := dk_167 0 4 (dk_at dksX1_meanMark_4 0 rfl rfl)
theorem dX1_meanMark_97 : decode cX1_meanMark 97 = .ok (.iconst 0, 1) := dk_3 (dk_at dksX1_meanMark_4 3 rfl rfl)
theorem dX1_meanMark_98 : decode cX1_meanMark 98 = .ok (.iadd, 1) := dk_96 (dk_at dksX1_meanMark_4 4 rfl rfl)
theorem dX1_meanMark_99 : decode cX1_meanMark 99 = .ok (.istore_n 2, 1) := dk_61 (dk_at dksX1_meanMark_4 5 rfl rfl)
theorem dX1_meanMark_100 : decode cX1_meanMark 100 = .ok (.iload_n 1, 1) := dk_27 (dk_at dksX1_meanMark_4 6 rfl rfl)
theorem dX1_meanMark_101 : decode cX1_meanMark 101 = .ok (.iload 6, 2) := dk_21 6 (dk_at dksX1_meanMark_4 7 rfl rfl)
theorem dX1_meanMark_103 : decode cX1_meanMark 103 = .ok (.ifCond .eq 13, 3) := dk_153 0 13 (dk_at dksX1_meanMark_4 9 rfl rfl)
theorem dX1_meanMark_106 : decode cX1_meanMark 106 = .ok (.aload_n 0, 1) := dk_42 (dk_at dksX1_meanMark_4 12 rfl rfl)
theorem dX1_meanMark_107 : decode cX1_meanMark 107 = .ok (.iload_n 3, 1) := dk_29 (dk_at dksX1_meanMark_4 13 rfl rfl)
theorem dX1_meanMark_108 : decode cX1_meanMark 108 = .ok (.aload 5, 2) := dk_25 5 (dk_at dksX1_meanMark_4 14 rfl rfl)
theorem dX1_meanMark_110 : decode cX1_meanMark 110 = .ok (.invokevirtual 327, 3) := dk_182 1 71 (dk_at dksX1_meanMark_4 16 rfl rfl)
theorem dX1_meanMark_113 : decode cX1_meanMark 113 = .ok (.goto 4, 3) := dk_167 0 4 (dk_at dksX1_meanMark_4 19 rfl rfl)
theorem dX1_meanMark_116 : decode cX1_meanMark 116 = .ok (.iconst 0, 1) := dk_3 (dk_at dksX1_meanMark_4 22 rfl rfl)
theorem dX1_meanMark_117 : decode cX1_meanMark 117 = .ok (.iadd, 1) := dk_96 (dk_at dksX1_meanMark_4 23 rfl rfl)
theorem dX1_meanMark_118 : decode cX1_meanMark 118 = .ok (.istore_n 1, 1) := dk_60 (dk_at dksX1_meanMark_5 0 rfl rfl)
theorem dX1_meanMark_119 : decode cX1_meanMark 119 = .ok (.goto (-93), 3) := dk_167 255 163 (dk_at dksX1_meanMark_5 1 rfl rfl)
theorem dX1_meanMark_122 : decode cX1_meanMark 122 = .ok (.iinc 3 1, 3) := dk_132 3 1 (dk_at dksX1_meanMark_5 4 rfl rfl)
theorem dX1_meanMark_125 : decode cX1_meanMark 125 = .ok (.goto (-119), 3) := dk_167 255 137 (dk_at dksX1_meanMark_5 7 rfl rfl)
theorem dX1_meanMark_128 : decode cX1_meanMark 128 = .ok (.iload_n 2, 1) := dk_28 (dk_at dksX1_meanMark_5 10 rfl rfl)
theorem dX1_meanMark_129 : decode cX1_meanMark 129 = .ok (.ifCond .le 7, 3) := dk_158 0 7 (dk_at dksX1_meanMark_5 11 rfl rfl)
theorem dX1_meanMark_132 : decode cX1_meanMark 132 = .ok (.iconst 1, 1) := dk_4 (dk_at dksX1_meanMark_5 14 rfl rfl)
theorem dX1_meanMark_133 : decode cX1_meanMark 133 = .ok (.goto 4, 3) := dk_167 0 4 (dk_at dksX1_meanMark_5 15 rfl rfl)
theorem dX1_meanMark_136 : decode cX1_meanMark 136 = .ok (.iconst 0, 1) := dk_3 (dk_at dksX1_meanMark_5 18 rfl rfl)
theorem dX1_meanMark_137 : decode cX1_meanMark 137 = .ok (.invokestatic 375, 3) := dk_184 1 119 (dk_at dksX1_meanMark_5 19 rfl rfl)
theorem dX1_meanMark_140 : decode cX1_meanMark 140 = .ok (.iload_n 1, 1) := dk_27 (dk_at dksX1_meanMark_5 22 rfl rfl)
theorem dX1_meanMark_141 : decode cX1_meanMark 141 = .ok (.i2d, 1) := dk_135 (dk_at dksX1_meanMark_5 23 rfl rfl)
theorem dX1_meanMark_142 : decode cX1_meanMark 142 = .ok (.iload_n 2, 1) := dk_28 (dk_at dksX1_meanMark_6 0 rfl rfl)
theorem dX1_meanMark_143 : decode cX1_meanMark 143 = .ok (.i2d, 1) := dk_135 (dk_at dksX1_meanMark_6 1 rfl rfl)
theorem dX1_meanMark_144 : decode cX1_meanMark 144 = .ok (.ddiv, 1) := dk_111 (dk_at dksX1_meanMark_6 2 rfl rfl)
theorem dX1_meanMark_145 : decode cX1_meanMark 145 = .ok (.dreturn, 1) := dk_175 (dk_at dksX1_meanMark_6 3 rfl rfl)
theorem q54 : (Jvm.Cond.initialized "Homewatcher") ∈ lw_all := lw_g (lw_at lw_m1 1 rfl) rfl
theorem q103 : (Jvm.Cond.instantiable "Homewatcher" (11 : Nat)) ∈ lw_all := lw_g (lw_at lw_m1 50 rfl) rfl
theorem q105 : (Jvm.Cond.instanceMethod ({ cls := "Homewatcher", name := "<init>", desc := "()V" } : Jvm.MethodName)) ∈ lw_all := lw_g (lw_at lw_m1 52 rfl) rfl
theorem q106 : (Jvm.Cond.code ({ cls := "Homewatcher", name := "<init>", desc := "()V" } : Jvm.MethodName) prog_1_method_1_code (1 : Nat) (Option.none : Option Jvm.ClassFile.FieldType)) ∈ lw_all := lw_g (lw_at lw_m1 53 rfl) rfl
theorem q107 : (Jvm.Cond.methodLink "Homewatcher" (1 : Nat) ({ cls := "java/lang/Object", name := "<init>", desc := "()V" } : Jvm.MethodName)) ∈ lw_all := lw_g (lw_at lw_m1 54 rfl) rfl
theorem q110 : (Jvm.Cond.classLink "Homewatcher" (7 : Nat) "java/util/ArrayList") ∈ lw_all := lw_g (lw_at lw_m1 57 rfl) rfl
theorem q112 : (Jvm.Cond.methodLink "Homewatcher" (11 : Nat) ({ cls := "java/util/ArrayList", name := "<init>", desc := "(I)V" } : Jvm.MethodName)) ∈ lw_all := lw_g (lw_at lw_m1 59 rfl) rfl
theorem q459 : (Jvm.Cond.classLink "Homewatcher" (33 : Nat) "java/util/TreeMap") ∈ lw_all := lw_g (lw_at lw_m2 166 rfl) rfl
theorem q461 : (Jvm.Cond.methodLink "Homewatcher" (35 : Nat) ({ cls := "java/util/TreeMap", name := "<init>", desc := "()V" } : Jvm.MethodName)) ∈ lw_all := lw_g (lw_at lw_m2 168 rfl) rfl
theorem q493 : (Jvm.Cond.classLink "Homewatcher" (40 : Nat) "[[Z") ∈ lw_all := lw_g (lw_at lw_m2 200 rfl) rfl
theorem q495 : (Jvm.Cond.classLink "Homewatcher" (45 : Nat) "java/lang/StringBuilder") ∈ lw_all := lw_g (lw_at lw_m2 202 rfl) rfl
theorem q496 : (Jvm.Cond.methodLink "Homewatcher" (47 : Nat) ({ cls := "java/lang/StringBuilder", name := "<init>", desc := "()V" } : Jvm.MethodName)) ∈ lw_all := lw_g (lw_at lw_m2 203 rfl) rfl
theorem q497 : (Jvm.Cond.fieldLink "Homewatcher" (14 : Nat) "Homewatcher" "offsets" "Ljava/util/ArrayList;") ∈ lw_all := lw_g (lw_at lw_m2 204 rfl) rfl
theorem q498 : (Jvm.Cond.fieldLink "Homewatcher" (18 : Nat) "Homewatcher" "classOf" "Ljava/util/ArrayList;") ∈ lw_all := lw_g (lw_at lw_m2 205 rfl) rfl
theorem q499 : (Jvm.Cond.fieldLink "Homewatcher" (21 : Nat) "Homewatcher" "tasks" "Ljava/util/ArrayList;") ∈ lw_all := lw_g (lw_at lw_m2 206 rfl) rfl
theorem q500 : (Jvm.Cond.fieldLink "Homewatcher" (24 : Nat) "Homewatcher" "versions" "Ljava/util/ArrayList;") ∈ lw_all := lw_g (lw_at lw_m2 207 rfl) rfl
theorem q501 : (Jvm.Cond.fieldLink "Homewatcher" (27 : Nat) "Homewatcher" "handings" "Ljava/util/ArrayList;") ∈ lw_all := lw_g (lw_at lw_m2 208 rfl) rfl
theorem q502 : (Jvm.Cond.fieldLink "Homewatcher" (30 : Nat) "Homewatcher" "hits" "Ljava/util/ArrayList;") ∈ lw_all := lw_g (lw_at lw_m2 209 rfl) rfl
theorem q503 : (Jvm.Cond.fieldLink "Homewatcher" (36 : Nat) "Homewatcher" "index" "Ljava/util/TreeMap;") ∈ lw_all := lw_g (lw_at lw_m2 210 rfl) rfl
theorem q504 : (Jvm.Cond.fieldLink "Homewatcher" (42 : Nat) "Homewatcher" "isLost" "[[Z") ∈ lw_all := lw_g (lw_at lw_m2 211 rfl) rfl
theorem q505 : (Jvm.Cond.fieldLink "Homewatcher" (48 : Nat) "Homewatcher" "text" "Ljava/lang/StringBuilder;") ∈ lw_all := lw_g (lw_at lw_m2 212 rfl) rfl
theorem q506 : (Jvm.Cond.fieldLink "Homewatcher" (232 : Nat) "Homewatcher" "now" "I") ∈ lw_all := lw_g (lw_at lw_m2 213 rfl) rfl
theorem q507 : (Jvm.Cond.fieldLink "Homewatcher" (52 : Nat) "Homewatcher" "threshold" "I") ∈ lw_all := lw_g (lw_at lw_m2 214 rfl) rfl
theorem q508 : (Jvm.Cond.laysFinal "Homewatcher" "Homewatcher" "offsets" "Ljava/util/ArrayList;") ∈ lw_all := lw_g (lw_at lw_m2 215 rfl) rfl
theorem q509 : (Jvm.Cond.soleField "Homewatcher" "offsets") ∈ lw_all := lw_g (lw_at lw_m2 216 rfl) rfl
theorem q510 : (Jvm.Cond.laysFinal "Homewatcher" "Homewatcher" "classOf" "Ljava/util/ArrayList;") ∈ lw_all := lw_g (lw_at lw_m2 217 rfl) rfl
theorem q511 : (Jvm.Cond.soleField "Homewatcher" "classOf") ∈ lw_all := lw_g (lw_at lw_m2 218 rfl) rfl
theorem q512 : (Jvm.Cond.laysFinal "Homewatcher" "Homewatcher" "tasks" "Ljava/util/ArrayList;") ∈ lw_all := lw_g (lw_at lw_m2 219 rfl) rfl
theorem q513 : (Jvm.Cond.soleField "Homewatcher" "tasks") ∈ lw_all := lw_g (lw_at lw_m2 220 rfl) rfl
theorem q514 : (Jvm.Cond.laysFinal "Homewatcher" "Homewatcher" "versions" "Ljava/util/ArrayList;") ∈ lw_all := lw_g (lw_at lw_m2 221 rfl) rfl
theorem q515 : (Jvm.Cond.soleField "Homewatcher" "versions") ∈ lw_all := lw_g (lw_at lw_m2 222 rfl) rfl
theorem q516 : (Jvm.Cond.laysFinal "Homewatcher" "Homewatcher" "handings" "Ljava/util/ArrayList;") ∈ lw_all := lw_g (lw_at lw_m2 223 rfl) rfl
theorem q517 : (Jvm.Cond.soleField "Homewatcher" "handings") ∈ lw_all := lw_g (lw_at lw_m2 224 rfl) rfl
theorem q518 : (Jvm.Cond.laysFinal "Homewatcher" "Homewatcher" "hits" "Ljava/util/ArrayList;") ∈ lw_all := lw_g (lw_at lw_m2 225 rfl) rfl
theorem q519 : (Jvm.Cond.soleField "Homewatcher" "hits") ∈ lw_all := lw_g (lw_at lw_m2 226 rfl) rfl
theorem q520 : (Jvm.Cond.laysFinal "Homewatcher" "Homewatcher" "index" "Ljava/util/TreeMap;") ∈ lw_all := lw_g (lw_at lw_m2 227 rfl) rfl
theorem q521 : (Jvm.Cond.soleField "Homewatcher" "index") ∈ lw_all := lw_g (lw_at lw_m2 228 rfl) rfl
theorem q522 : (Jvm.Cond.laysFinal "Homewatcher" "Homewatcher" "isLost" "[[Z") ∈ lw_all := lw_g (lw_at lw_m2 229 rfl) rfl
theorem q523 : (Jvm.Cond.soleField "Homewatcher" "isLost") ∈ lw_all := lw_g (lw_at lw_m2 230 rfl) rfl
theorem q524 : (Jvm.Cond.laysFinal "Homewatcher" "Homewatcher" "text" "Ljava/lang/StringBuilder;") ∈ lw_all := lw_g (lw_at lw_m2 231 rfl) rfl
theorem q525 : (Jvm.Cond.soleField "Homewatcher" "text") ∈ lw_all := lw_g (lw_at lw_m2 232 rfl) rfl
theorem q526 : (Jvm.Cond.lays "Homewatcher" "Homewatcher" "now" "I") ∈ lw_all := lw_g (lw_at lw_m2 233 rfl) rfl
theorem q527 : (Jvm.Cond.soleField "Homewatcher" "now") ∈ lw_all := lw_g (lw_at lw_m2 234 rfl) rfl
theorem q528 : (Jvm.Cond.lays "Homewatcher" "Homewatcher" "threshold" "I") ∈ lw_all := lw_g (lw_at lw_m2 235 rfl) rfl
theorem q529 : (Jvm.Cond.soleField "Homewatcher" "threshold") ∈ lw_all := lw_g (lw_at lw_m2 236 rfl) rfl
theorem q530 : (Jvm.Cond.superclass "Homewatcher" "java/lang/Object") ∈ lw_all := lw_g (lw_at lw_m2 237 rfl) rfl
theorem q533 : (Jvm.Cond.instanceMethod ({ cls := "Homewatcher", name := "reverse", desc := "()I" } : Jvm.MethodName)) ∈ lw_all := lw_g (lw_at lw_m3 0 rfl) rfl
theorem q534 : (Jvm.Cond.selects "Homewatcher" ({ cls := "Homewatcher", name := "reverse", desc := "()I" } : Jvm.MethodName) ({ cls := "Homewatcher", name := "reverse", desc := "()I" } : Jvm.MethodName)) ∈ lw_all := lw_g (lw_at lw_m3 1 rfl) rfl
theorem q535 : (Jvm.Cond.code ({ cls := "Homewatcher", name := "reverse", desc := "()I" } : Jvm.MethodName) prog_1_method_27_code (2 : Nat) (Option.some Jvm.ClassFile.FieldType.int)) ∈ lw_all := lw_g (lw_at lw_m3 2 rfl) rfl
theorem q536 : (Jvm.Cond.methodLink "Homewatcher" (263 : Nat) ({ cls := "java/lang/StringBuilder", name := "reverse", desc := "()Ljava/lang/StringBuilder;" } : Jvm.MethodName)) ∈ lw_all := lw_g (lw_at lw_m3 3 rfl) rfl
theorem q567 : (Jvm.Cond.methodLink "Homewatcher" (237 : Nat) ({ cls := "java/lang/StringBuilder", name := "length", desc := "()I" } : Jvm.MethodName)) ∈ lw_all := lw_g (lw_at lw_m3 34 rfl) rfl
theorem q568 : (Jvm.Cond.methodLink "Homewatcher" (240 : Nat) ({ cls := "java/lang/StringBuilder", name := "charAt", desc := "(I)C" } : Jvm.MethodName)) ∈ lw_all := lw_g (lw_at lw_m3 35 rfl) rfl
theorem q583 : (Jvm.Cond.methodLink "Homewatcher" (244 : Nat) ({ cls := "Homewatcher", name := "isHigh", desc := "(C)Z" } : Jvm.MethodName)) ∈ lw_all := lw_g (lw_at lw_m3 50 rfl) rfl
theorem q584 : (Jvm.Cond.static ({ cls := "Homewatcher", name := "isHigh", desc := "(C)Z" } : Jvm.MethodName)) ∈ lw_all := lw_g (lw_at lw_m3 51 rfl) rfl
theorem q585 : (Jvm.Cond.code ({ cls := "Homewatcher", name := "isHigh", desc := "(C)Z" } : Jvm.MethodName) prog_1_method_10_code (1 : Nat) (Option.some Jvm.ClassFile.FieldType.boolean)) ∈ lw_all := lw_g (lw_at lw_m3 52 rfl) rfl
theorem q586 : (Jvm.Cond.constant "Homewatcher" (85 : Nat) (55296 : Int32)) ∈ lw_all := lw_g (lw_at lw_m3 53 rfl) rfl
theorem q587 : (Jvm.Cond.constant "Homewatcher" (86 : Nat) (56320 : Int32)) ∈ lw_all := lw_g (lw_at lw_m3 54 rfl) rfl
theorem q588 : (Jvm.Cond.constant "Homewatcher" (248 : Nat) (65536 : Int32)) ∈ lw_all := lw_g (lw_at lw_m3 55 rfl) rfl
theorem q590 : (Jvm.Cond.instanceMethod ({ cls := "Homewatcher", name := "wipe", desc := "()I" } : Jvm.MethodName)) ∈ lw_all := lw_g (lw_at lw_m3 57 rfl) rfl
theorem q591 : (Jvm.Cond.selects "Homewatcher" ({ cls := "Homewatcher", name := "wipe", desc := "()I" } : Jvm.MethodName) ({ cls := "Homewatcher", name := "wipe", desc := "()I" } : Jvm.MethodName)) ∈ lw_all := lw_g (lw_at lw_m3 58 rfl) rfl
theorem q592 : (Jvm.Cond.code ({ cls := "Homewatcher", name := "wipe", desc := "()I" } : Jvm.MethodName) prog_1_method_28_code (2 : Nat) (Option.some Jvm.ClassFile.FieldType.int)) ∈ lw_all := lw_g (lw_at lw_m3 59 rfl) rfl
theorem q593 : (Jvm.Cond.methodLink "Homewatcher" (257 : Nat) ({ cls := "Homewatcher", name := "signCount", desc := "()I" } : Jvm.MethodName)) ∈ lw_all := lw_g (lw_at lw_m3 60 rfl) rfl
theorem q594 : (Jvm.Cond.privateMethod ({ cls := "Homewatcher", name := "signCount", desc := "()I" } : Jvm.MethodName)) ∈ lw_tbl := lw_at lw_m3 61 rfl
theorem q595 : (Jvm.Cond.instanceMethod ({ cls := "Homewatcher", name := "signCount", desc := "()I" } : Jvm.MethodName)) ∈ lw_all := lw_g (lw_at lw_m3 62 rfl) rfl
theorem q596 : (Jvm.Cond.code ({ cls := "Homewatcher", name := "signCount", desc := "()I" } : Jvm.MethodName) prog_1_method_23_code (3 : Nat) (Option.some Jvm.ClassFile.FieldType.int)) ∈ lw_all := lw_g (lw_at lw_m3 63 rfl) rfl
theorem q597 : (Jvm.Cond.methodLink "Homewatcher" (267 : Nat) ({ cls := "java/lang/StringBuilder", name := "setLength", desc := "(I)V" } : Jvm.MethodName)) ∈ lw_all := lw_g (lw_at lw_m3 64 rfl) rfl
theorem q666 : (Jvm.Cond.instanceMethod ({ cls := "Homewatcher", name := "indexed", desc := "()I" } : Jvm.MethodName)) ∈ lw_all := lw_g (lw_at lw_m3 133 rfl) rfl
theorem q667 : (Jvm.Cond.selects "Homewatcher" ({ cls := "Homewatcher", name := "indexed", desc := "()I" } : Jvm.MethodName) ({ cls := "Homewatcher", name := "indexed", desc := "()I" } : Jvm.MethodName)) ∈ lw_all := lw_g (lw_at lw_m3 134 rfl) rfl
theorem q668 : (Jvm.Cond.code ({ cls := "Homewatcher", name := "indexed", desc := "()I" } : Jvm.MethodName) prog_1_method_50_code (1 : Nat) (Option.some Jvm.ClassFile.FieldType.int)) ∈ lw_all := lw_g (lw_at lw_m3 135 rfl) rfl
theorem q669 : (Jvm.Cond.methodLink "Homewatcher" (331 : Nat) ({ cls := "java/util/TreeMap", name := "size", desc := "()I" } : Jvm.MethodName)) ∈ lw_all := lw_g (lw_at lw_m3 136 rfl) rfl
theorem q674 : (Jvm.Cond.instanceMethod ({ cls := "Homewatcher", name := "holders", desc := "(I)I" } : Jvm.MethodName)) ∈ lw_all := lw_g (lw_at lw_m3 141 rfl) rfl
theorem q675 : (Jvm.Cond.selects "Homewatcher" ({ cls := "Homewatcher", name := "holders", desc := "(I)I" } : Jvm.MethodName) ({ cls := "Homewatcher", name := "holders", desc := "(I)I" } : Jvm.MethodName)) ∈ lw_all := lw_g (lw_at lw_m3 142 rfl) rfl
theorem q676 : (Jvm.Cond.code ({ cls := "Homewatcher", name := "holders", desc := "(I)I" } : Jvm.MethodName) prog_1_method_51_code (3 : Nat) (Option.some Jvm.ClassFile.FieldType.int)) ∈ lw_all := lw_g (lw_at lw_m3 143 rfl) rfl
theorem q677 : (Jvm.Cond.methodLink "Homewatcher" (211 : Nat) ({ cls := "java/lang/Integer", name := "valueOf", desc := "(I)Ljava/lang/Integer;" } : Jvm.MethodName)) ∈ lw_all := lw_g (lw_at lw_m3 144 rfl) rfl
theorem q697 : (Jvm.Cond.methodLink "Homewatcher" (305 : Nat) ({ cls := "java/util/TreeMap", name := "get", desc := "(Ljava/lang/Object;)Ljava/lang/Object;" } : Jvm.MethodName)) ∈ lw_all := lw_g (lw_at lw_m3 164 rfl) rfl
theorem q918 : (Jvm.Cond.classLink "Homewatcher" (105 : Nat) "java/lang/Integer") ∈ lw_all := lw_g (lw_at lw_m4 145 rfl) rfl
theorem q919 : (Jvm.Cond.methodLink "Homewatcher" (107 : Nat) ({ cls := "java/lang/Integer", name := "intValue", desc := "()I" } : Jvm.MethodName)) ∈ lw_all := lw_g (lw_at lw_m4 146 rfl) rfl
theorem q924 : (Jvm.Cond.instanceMethod ({ cls := "Homewatcher", name := "hits", desc := "()I" } : Jvm.MethodName)) ∈ lw_all := lw_g (lw_at lw_m4 151 rfl) rfl
theorem q925 : (Jvm.Cond.selects "Homewatcher" ({ cls := "Homewatcher", name := "hits", desc := "()I" } : Jvm.MethodName) ({ cls := "Homewatcher", name := "hits", desc := "()I" } : Jvm.MethodName)) ∈ lw_all := lw_g (lw_at lw_m4 152 rfl) rfl
theorem q926 : (Jvm.Cond.code ({ cls := "Homewatcher", name := "hits", desc := "()I" } : Jvm.MethodName) prog_1_method_53_code (1 : Nat) (Option.some Jvm.ClassFile.FieldType.int)) ∈ lw_all := lw_g (lw_at lw_m4 153 rfl) rfl
theorem q927 : (Jvm.Cond.methodLink "Homewatcher" (207 : Nat) ({ cls := "java/util/ArrayList", name := "size", desc := "()I" } : Jvm.MethodName)) ∈ lw_all := lw_g (lw_at lw_m4 154 rfl) rfl
theorem q932 : (Jvm.Cond.instanceMethod ({ cls := "Homewatcher", name := "isTrue", desc := "()Z" } : Jvm.MethodName)) ∈ lw_all := lw_g (lw_at lw_m4 159 rfl) rfl
theorem q933 : (Jvm.Cond.selects "Homewatcher" ({ cls := "Homewatcher", name := "isTrue", desc := "()Z" } : Jvm.MethodName) ({ cls := "Homewatcher", name := "isTrue", desc := "()Z" } : Jvm.MethodName)) ∈ lw_all := lw_g (lw_at lw_m4 160 rfl) rfl
theorem q934 : (Jvm.Cond.code ({ cls := "Homewatcher", name := "isTrue", desc := "()Z" } : Jvm.MethodName) prog_1_method_65_code (9 : Nat) (Option.some Jvm.ClassFile.FieldType.boolean)) ∈ lw_all := lw_g (lw_at lw_m4 161 rfl) rfl
theorem q935 : (Jvm.Cond.methodLink "Homewatcher" (147 : Nat) ({ cls := "java/util/ArrayList", name := "iterator", desc := "()Ljava/util/Iterator;" } : Jvm.MethodName)) ∈ lw_all := lw_g (lw_at lw_m4 162 rfl) rfl
theorem q958 : (Jvm.Cond.interfaceEntry "Homewatcher" (151 : Nat)) ∈ lw_tbl := lw_at lw_m4 185 rfl
theorem q959 : (Jvm.Cond.methodLink "Homewatcher" (151 : Nat) ({ cls := "java/util/Iterator", name := "hasNext", desc := "()Z" } : Jvm.MethodName)) ∈ lw_all := lw_g (lw_at lw_m4 186 rfl) rfl
theorem q974 : (Jvm.Cond.interfaceEntry "Homewatcher" (157 : Nat)) ∈ lw_tbl := lw_at lw_m4 201 rfl
theorem q975 : (Jvm.Cond.methodLink "Homewatcher" (157 : Nat) ({ cls := "java/util/Iterator", name := "next", desc := "()Ljava/lang/Object;" } : Jvm.MethodName)) ∈ lw_all := lw_g (lw_at lw_m4 202 rfl) rfl
theorem q1024 : (Jvm.Cond.classLink "Homewatcher" (88 : Nat) "Homewatcher$Version") ∈ lw_all := lw_g (lw_at lw_m5 11 rfl) rfl
theorem q1025 : (Jvm.Cond.methodLink "Homewatcher" (304 : Nat) ({ cls := "java/util/TreeSet", name := "iterator", desc := "()Ljava/util/Iterator;" } : Jvm.MethodName)) ∈ lw_all := lw_g (lw_at lw_m5 12 rfl) rfl
theorem q1101 : (Jvm.Cond.methodLink "Homewatcher" (311 : Nat) ({ cls := "java/util/TreeMap", name := "put", desc := "(Ljava/lang/Object;Ljava/lang/Object;)Ljava/lang/Object;" } : Jvm.MethodName)) ∈ lw_all := lw_g (lw_at lw_m5 88 rfl) rfl
theorem q1178 : (Jvm.Cond.methodLink "Homewatcher" (378 : Nat) ({ cls := "java/util/TreeMap", name := "keySet", desc := "()Ljava/util/Set;" } : Jvm.MethodName)) ∈ lw_all := lw_g (lw_at lw_m5 165 rfl) rfl
theorem q1183 : (Jvm.Cond.interfaceEntry "Homewatcher" (382 : Nat)) ∈ lw_tbl := lw_at lw_m5 170 rfl
theorem q1184 : (Jvm.Cond.methodLink "Homewatcher" (382 : Nat) ({ cls := "java/util/Set", name := "iterator", desc := "()Ljava/util/Iterator;" } : Jvm.MethodName)) ∈ lw_all := lw_g (lw_at lw_m5 171 rfl) rfl
theorem q1191 : (Jvm.Cond.classLink "Homewatcher" (97 : Nat) "Homewatcher$Task") ∈ lw_all := lw_g (lw_at lw_m5 178 rfl) rfl
theorem q1192 : (Jvm.Cond.methodLink "Homewatcher" (178 : Nat) ({ cls := "Homewatcher", name := "countingOf", desc := "(ILHomewatcher$Task;)LHomewatcher$Version;" } : Jvm.MethodName)) ∈ lw_all := lw_g (lw_at lw_m5 179 rfl) rfl
theorem q1193 : (Jvm.Cond.privateMethod ({ cls := "Homewatcher", name := "countingOf", desc := "(ILHomewatcher$Task;)LHomewatcher$Version;" } : Jvm.MethodName)) ∈ lw_tbl := lw_at lw_m5 180 rfl
theorem q1194 : (Jvm.Cond.instanceMethod ({ cls := "Homewatcher", name := "countingOf", desc := "(ILHomewatcher$Task;)LHomewatcher$Version;" } : Jvm.MethodName)) ∈ lw_all := lw_g (lw_at lw_m5 181 rfl) rfl
theorem q1195 : (Jvm.Cond.code ({ cls := "Homewatcher", name := "countingOf", desc := "(ILHomewatcher$Task;)LHomewatcher$Version;" } : Jvm.MethodName) prog_1_method_13_code (7 : Nat) (Option.some (Jvm.ClassFile.FieldType.object "Homewatcher$Version"))) ∈ lw_all := lw_g (lw_at lw_m5 182 rfl) rfl
theorem q1196 : (Jvm.Cond.methodLink "Homewatcher" (161 : Nat) ({ cls := "Homewatcher$Version", name := "isOf", desc := "(ILHomewatcher$Task;)Z" } : Jvm.MethodName)) ∈ lw_all := lw_g (lw_at lw_m5 183 rfl) rfl
theorem q1200 : (Jvm.Cond.methodLink "Homewatcher" (165 : Nat) ({ cls := "Homewatcher", name := "isLater", desc := "(LHomewatcher$Version;LHomewatcher$Version;)Z" } : Jvm.MethodName)) ∈ lw_all := lw_g (lw_at lw_m5 187 rfl) rfl
theorem q1201 : (Jvm.Cond.privateMethod ({ cls := "Homewatcher", name := "isLater", desc := "(LHomewatcher$Version;LHomewatcher$Version;)Z" } : Jvm.MethodName)) ∈ lw_tbl := lw_at lw_m5 188 rfl
theorem q1202 : (Jvm.Cond.instanceMethod ({ cls := "Homewatcher", name := "isLater", desc := "(LHomewatcher$Version;LHomewatcher$Version;)Z" } : Jvm.MethodName)) ∈ lw_all := lw_g (lw_at lw_m5 189 rfl) rfl
theorem q1203 : (Jvm.Cond.code ({ cls := "Homewatcher", name := "isLater", desc := "(LHomewatcher$Version;LHomewatcher$Version;)Z" } : Jvm.MethodName) prog_1_method_14_code (3 : Nat) (Option.some Jvm.ClassFile.FieldType.boolean)) ∈ lw_all := lw_g (lw_at lw_m5 190 rfl) rfl
theorem q1204 : (Jvm.Cond.methodLink "Homewatcher" (169 : Nat) ({ cls := "java/util/ArrayList", name := "indexOf", desc := "(Ljava/lang/Object;)I" } : Jvm.MethodName)) ∈ lw_all := lw_g (lw_at lw_m5 191 rfl) rfl
theorem q1216 : (Jvm.Cond.selects "Homewatcher" ({ cls := "java/lang/Object", name := "equals", desc := "(Ljava/lang/Object;)Z" } : Jvm.MethodName) ({ cls := "java/lang/Object", name := "equals", desc := "(Ljava/lang/Object;)Z" } : Jvm.MethodName)) ∈ lw_all := lw_g (lw_at lw_m5 203 rfl) rfl
theorem q1241 : (Jvm.Cond.methodLink "Homewatcher" (327 : Nat) ({ cls := "Homewatcher", name := "markOf", desc := "(ILHomewatcher$Task;)I" } : Jvm.MethodName)) ∈ lw_all := lw_g (lw_at lw_m5 228 rfl) rfl
theorem q1242 : (Jvm.Cond.privateMethod ({ cls := "Homewatcher", name := "markOf", desc := "(ILHomewatcher$Task;)I" } : Jvm.MethodName)) ∈ lw_tbl := lw_at lw_m5 229 rfl
theorem q1243 : (Jvm.Cond.instanceMethod ({ cls := "Homewatcher", name := "markOf", desc := "(ILHomewatcher$Task;)I" } : Jvm.MethodName)) ∈ lw_all := lw_g (lw_at lw_m5 230 rfl) rfl
theorem q1244 : (Jvm.Cond.code ({ cls := "Homewatcher", name := "markOf", desc := "(ILHomewatcher$Task;)I" } : Jvm.MethodName) prog_1_method_16_code (4 : Nat) (Option.some Jvm.ClassFile.FieldType.int)) ∈ lw_all := lw_g (lw_at lw_m5 231 rfl) rfl
theorem q1245 : (Jvm.Cond.methodLink "Homewatcher" (195 : Nat) ({ cls := "Homewatcher", name := "lateOf", desc := "(LHomewatcher$Version;)I" } : Jvm.MethodName)) ∈ lw_all := lw_g (lw_at lw_m5 232 rfl) rfl
theorem q1246 : (Jvm.Cond.privateMethod ({ cls := "Homewatcher", name := "lateOf", desc := "(LHomewatcher$Version;)I" } : Jvm.MethodName)) ∈ lw_tbl := lw_at lw_m5 233 rfl
theorem q1247 : (Jvm.Cond.instanceMethod ({ cls := "Homewatcher", name := "lateOf", desc := "(LHomewatcher$Version;)I" } : Jvm.MethodName)) ∈ lw_all := lw_g (lw_at lw_m5 234 rfl) rfl
theorem q1248 : (Jvm.Cond.code ({ cls := "Homewatcher", name := "lateOf", desc := "(LHomewatcher$Version;)I" } : Jvm.MethodName) prog_1_method_12_code (5 : Nat) (Option.some Jvm.ClassFile.FieldType.int)) ∈ lw_all := lw_g (lw_at lw_m5 235 rfl) rfl
theorem q1249 : (Jvm.Cond.methodLink "Homewatcher" (120 : Nat) ({ cls := "Homewatcher", name := "ownLate", desc := "(LHomewatcher$Version;)I" } : Jvm.MethodName)) ∈ lw_all := lw_g (lw_at lw_m5 236 rfl) rfl
theorem q1250 : (Jvm.Cond.privateMethod ({ cls := "Homewatcher", name := "ownLate", desc := "(LHomewatcher$Version;)I" } : Jvm.MethodName)) ∈ lw_tbl := lw_at lw_m5 237 rfl
theorem q1251 : (Jvm.Cond.instanceMethod ({ cls := "Homewatcher", name := "ownLate", desc := "(LHomewatcher$Version;)I" } : Jvm.MethodName)) ∈ lw_all := lw_g (lw_at lw_m5 238 rfl) rfl
theorem q1252 : (Jvm.Cond.code ({ cls := "Homewatcher", name := "ownLate", desc := "(LHomewatcher$Version;)I" } : Jvm.MethodName) prog_1_method_11_code (2 : Nat) (Option.some Jvm.ClassFile.FieldType.int)) ∈ lw_all := lw_g (lw_at lw_m5 239 rfl) rfl
theorem q1253 : (Jvm.Cond.methodLink "Homewatcher" (101 : Nat) ({ cls := "java/util/ArrayList", name := "get", desc := "(I)Ljava/lang/Object;" } : Jvm.MethodName)) ∈ lw_all := lw_g (lw_at lw_m6 0 rfl) rfl
theorem q1265 : (Jvm.Cond.methodLink "Homewatcher" (114 : Nat) ({ cls := "java/lang/Math", name := "max", desc := "(II)I" } : Jvm.MethodName)) ∈ lw_all := lw_g (lw_at lw_m6 12 rfl) rfl
theorem q1266 : (Jvm.Cond.methodLink "Homewatcher" (132 : Nat) ({ cls := "Homewatcher$Version", name := "shared", desc := "(LHomewatcher$Version;)I" } : Jvm.MethodName)) ∈ lw_all := lw_g (lw_at lw_m6 13 rfl) rfl
theorem q1290 : (Jvm.Cond.methodLink "Homewatcher" (139 : Nat) ({ cls := "java/util/TreeSet", name := "size", desc := "()I" } : Jvm.MethodName)) ∈ lw_all := lw_g (lw_at lw_m6 37 rfl) rfl
theorem q1300 : (Jvm.Cond.methodLink "Homewatcher" (144 : Nat) ({ cls := "java/lang/Math", name := "min", desc := "(II)I" } : Jvm.MethodName)) ∈ lw_all := lw_g (lw_at lw_m6 47 rfl) rfl
theorem q1301 : (Jvm.Cond.interfaceEntry "Homewatcher" (198 : Nat)) ∈ lw_tbl := lw_at lw_m6 48 rfl
theorem q1302 : (Jvm.Cond.methodLink "Homewatcher" (198 : Nat) ({ cls := "Homewatcher$Rule", name := "off", desc := "(I)I" } : Jvm.MethodName)) ∈ lw_all := lw_g (lw_at lw_m6 49 rfl) rfl
theorem q1305 : (Jvm.Cond.methodLink "Homewatcher" (385 : Nat) ({ cls := "Homewatcher", name := "markAnew", desc := "(ILHomewatcher$Task;)I" } : Jvm.MethodName)) ∈ lw_all := lw_g (lw_at lw_m6 52 rfl) rfl
theorem q1306 : (Jvm.Cond.privateMethod ({ cls := "Homewatcher", name := "markAnew", desc := "(ILHomewatcher$Task;)I" } : Jvm.MethodName)) ∈ lw_tbl := lw_at lw_m6 53 rfl
theorem q1307 : (Jvm.Cond.instanceMethod ({ cls := "Homewatcher", name := "markAnew", desc := "(ILHomewatcher$Task;)I" } : Jvm.MethodName)) ∈ lw_all := lw_g (lw_at lw_m6 54 rfl) rfl
theorem q1308 : (Jvm.Cond.code ({ cls := "Homewatcher", name := "markAnew", desc := "(ILHomewatcher$Task;)I" } : Jvm.MethodName) prog_1_method_64_code (6 : Nat) (Option.some Jvm.ClassFile.FieldType.int)) ∈ lw_all := lw_g (lw_at lw_m6 55 rfl) rfl
theorem q1315 : (Jvm.Cond.instanceMethod ({ cls := "Homewatcher", name := "classroom", desc := "(I)I" } : Jvm.MethodName)) ∈ lw_all := lw_g (lw_at lw_m6 62 rfl) rfl
theorem q1316 : (Jvm.Cond.selects "Homewatcher" ({ cls := "Homewatcher", name := "classroom", desc := "(I)I" } : Jvm.MethodName) ({ cls := "Homewatcher", name := "classroom", desc := "(I)I" } : Jvm.MethodName)) ∈ lw_all := lw_g (lw_at lw_m6 63 rfl) rfl
theorem q1317 : (Jvm.Cond.code ({ cls := "Homewatcher", name := "classroom", desc := "(I)I" } : Jvm.MethodName) prog_1_method_17_code (2 : Nat) (Option.some Jvm.ClassFile.FieldType.int)) ∈ lw_all := lw_g (lw_at lw_m6 64 rfl) rfl
theorem q1318 : (Jvm.Cond.methodLink "Homewatcher" (68 : Nat) ({ cls := "Homewatcher", name := "isBetween", desc := "(III)Z" } : Jvm.MethodName)) ∈ lw_all := lw_g (lw_at lw_m6 65 rfl) rfl
theorem q1319 : (Jvm.Cond.static ({ cls := "Homewatcher", name := "isBetween", desc := "(III)Z" } : Jvm.MethodName)) ∈ lw_all := lw_g (lw_at lw_m6 66 rfl) rfl
theorem q1320 : (Jvm.Cond.code ({ cls := "Homewatcher", name := "isBetween", desc := "(III)Z" } : Jvm.MethodName) prog_1_method_2_code (3 : Nat) (Option.some Jvm.ClassFile.FieldType.boolean)) ∈ lw_all := lw_g (lw_at lw_m6 67 rfl) rfl
theorem q1321 : (Jvm.Cond.methodLink "Homewatcher" (203 : Nat) ({ cls := "Homewatcher", name := "checkArgument", desc := "(Z)V" } : Jvm.MethodName)) ∈ lw_all := lw_g (lw_at lw_m6 68 rfl) rfl
theorem q1322 : (Jvm.Cond.static ({ cls := "Homewatcher", name := "checkArgument", desc := "(Z)V" } : Jvm.MethodName)) ∈ lw_all := lw_g (lw_at lw_m6 69 rfl) rfl
theorem q1323 : (Jvm.Cond.code ({ cls := "Homewatcher", name := "checkArgument", desc := "(Z)V" } : Jvm.MethodName) prog_1_method_3_code (1 : Nat) (Option.none : Option Jvm.ClassFile.FieldType)) ∈ lw_all := lw_g (lw_at lw_m6 70 rfl) rfl
theorem q1324 : (Jvm.Cond.classLink "Homewatcher" (56 : Nat) "java/lang/IllegalArgumentException") ∈ lw_all := lw_g (lw_at lw_m6 71 rfl) rfl
theorem q1325 : (Jvm.Cond.methodLink "Homewatcher" (58 : Nat) ({ cls := "java/lang/IllegalArgumentException", name := "<init>", desc := "()V" } : Jvm.MethodName)) ∈ lw_all := lw_g (lw_at lw_m6 72 rfl) rfl
theorem q1329 : (Jvm.Cond.methodLink "Homewatcher" (208 : Nat) ({ cls := "Homewatcher", name := "checkState", desc := "(Z)V" } : Jvm.MethodName)) ∈ lw_all := lw_g (lw_at lw_m6 76 rfl) rfl
theorem q1330 : (Jvm.Cond.static ({ cls := "Homewatcher", name := "checkState", desc := "(Z)V" } : Jvm.MethodName)) ∈ lw_all := lw_g (lw_at lw_m6 77 rfl) rfl
theorem q1331 : (Jvm.Cond.code ({ cls := "Homewatcher", name := "checkState", desc := "(Z)V" } : Jvm.MethodName) prog_1_method_4_code (1 : Nat) (Option.none : Option Jvm.ClassFile.FieldType)) ∈ lw_all := lw_g (lw_at lw_m6 78 rfl) rfl
theorem q1332 : (Jvm.Cond.classLink "Homewatcher" (59 : Nat) "java/lang/IllegalStateException") ∈ lw_all := lw_g (lw_at lw_m6 79 rfl) rfl
theorem q1341 : (Jvm.Cond.methodLink "Homewatcher" (61 : Nat) ({ cls := "java/lang/IllegalStateException", name := "<init>", desc := "()V" } : Jvm.MethodName)) ∈ lw_all := lw_g (lw_at lw_m6 88 rfl) rfl
theorem q1347 : (Jvm.Cond.methodLink "Homewatcher" (215 : Nat) ({ cls := "java/util/ArrayList", name := "add", desc := "(Ljava/lang/Object;)Z" } : Jvm.MethodName)) ∈ lw_all := lw_g (lw_at lw_m6 94 rfl) rfl
theorem q1372 : (Jvm.Cond.selects "Homewatcher" ({ cls := "java/lang/Object", name := "getClass", desc := "()Ljava/lang/Class;" } : Jvm.MethodName) ({ cls := "java/lang/Object", name := "getClass", desc := "()Ljava/lang/Class;" } : Jvm.MethodName)) ∈ lw_all := lw_g (lw_at lw_m6 119 rfl) rfl
theorem q1411 : (Jvm.Cond.instanceMethod ({ cls := "Homewatcher", name := "pupil", desc := "(I)I" } : Jvm.MethodName)) ∈ lw_all := lw_g (lw_at lw_m6 158 rfl) rfl
theorem q1412 : (Jvm.Cond.selects "Homewatcher" ({ cls := "Homewatcher", name := "pupil", desc := "(I)I" } : Jvm.MethodName) ({ cls := "Homewatcher", name := "pupil", desc := "(I)I" } : Jvm.MethodName)) ∈ lw_all := lw_g (lw_at lw_m6 159 rfl) rfl
theorem q1413 : (Jvm.Cond.code ({ cls := "Homewatcher", name := "pupil", desc := "(I)I" } : Jvm.MethodName) prog_1_method_18_code (2 : Nat) (Option.some Jvm.ClassFile.FieldType.int)) ∈ lw_all := lw_g (lw_at lw_m6 160 rfl) rfl
theorem q1414 : (Jvm.Cond.methodLink "Homewatcher" (219 : Nat) ({ cls := "Homewatcher", name := "checkIndex", desc := "(II)V" } : Jvm.MethodName)) ∈ lw_all := lw_g (lw_at lw_m6 161 rfl) rfl
theorem q1415 : (Jvm.Cond.static ({ cls := "Homewatcher", name := "checkIndex", desc := "(II)V" } : Jvm.MethodName)) ∈ lw_all := lw_g (lw_at lw_m6 162 rfl) rfl
theorem q1416 : (Jvm.Cond.code ({ cls := "Homewatcher", name := "checkIndex", desc := "(II)V" } : Jvm.MethodName) prog_1_method_7_code (2 : Nat) (Option.none : Option Jvm.ClassFile.FieldType)) ∈ lw_all := lw_g (lw_at lw_m6 163 rfl) rfl
theorem q1417 : (Jvm.Cond.classLink "Homewatcher" (72 : Nat) "java/lang/IndexOutOfBoundsException") ∈ lw_all := lw_g (lw_at lw_m6 164 rfl) rfl
theorem q1426 : (Jvm.Cond.methodLink "Homewatcher" (74 : Nat) ({ cls := "java/lang/IndexOutOfBoundsException", name := "<init>", desc := "()V" } : Jvm.MethodName)) ∈ lw_all := lw_g (lw_at lw_m6 173 rfl) rfl
theorem q1436 : (Jvm.Cond.instanceMethod ({ cls := "Homewatcher", name := "task", desc := "(IIICI)I" } : Jvm.MethodName)) ∈ lw_all := lw_g (lw_at lw_m6 183 rfl) rfl
theorem q1437 : (Jvm.Cond.selects "Homewatcher" ({ cls := "Homewatcher", name := "task", desc := "(IIICI)I" } : Jvm.MethodName) ({ cls := "Homewatcher", name := "task", desc := "(IIICI)I" } : Jvm.MethodName)) ∈ lw_all := lw_g (lw_at lw_m6 184 rfl) rfl
theorem q1438 : (Jvm.Cond.code ({ cls := "Homewatcher", name := "task", desc := "(IIICI)I" } : Jvm.MethodName) prog_1_method_19_code (7 : Nat) (Option.some Jvm.ClassFile.FieldType.int)) ∈ lw_all := lw_g (lw_at lw_m6 185 rfl) rfl
theorem q1439 : (Jvm.Cond.constant "Homewatcher" (223 : Nat) (1000000 : Int32)) ∈ lw_all := lw_g (lw_at lw_m6 186 rfl) rfl
theorem q1441 : (Jvm.Cond.methodLink "Homewatcher" (224 : Nat) ({ cls := "Homewatcher", name := "ruleOf", desc := "(CI)LHomewatcher$Rule;" } : Jvm.MethodName)) ∈ lw_all := lw_g (lw_at lw_m6 188 rfl) rfl
theorem q1442 : (Jvm.Cond.static ({ cls := "Homewatcher", name := "ruleOf", desc := "(CI)LHomewatcher$Rule;" } : Jvm.MethodName)) ∈ lw_all := lw_g (lw_at lw_m6 189 rfl) rfl
theorem q1443 : (Jvm.Cond.code ({ cls := "Homewatcher", name := "ruleOf", desc := "(CI)LHomewatcher$Rule;" } : Jvm.MethodName) prog_1_method_9_code (2 : Nat) (Option.some (Jvm.ClassFile.FieldType.object "Homewatcher$Rule"))) ∈ lw_all := lw_g (lw_at lw_m6 190 rfl) rfl
theorem q1444 : (Jvm.Cond.static ({ cls := "Homewatcher", name := "lambda$ruleOf$0", desc := "(II)I" } : Jvm.MethodName)) ∈ lw_all := lw_g (lw_at lw_m6 191 rfl) rfl
theorem q1445 : (Jvm.Cond.code ({ cls := "Homewatcher", name := "lambda$ruleOf$0", desc := "(II)I" } : Jvm.MethodName) prog_1_method_69_code (2 : Nat) (Option.some Jvm.ClassFile.FieldType.int)) ∈ lw_all := lw_g (lw_at lw_m6 192 rfl) rfl
theorem q1446 : (Jvm.Cond.static ({ cls := "Homewatcher", name := "lambda$ruleOf$1", desc := "(II)I" } : Jvm.MethodName)) ∈ lw_all := lw_g (lw_at lw_m6 193 rfl) rfl
theorem q1447 : (Jvm.Cond.code ({ cls := "Homewatcher", name := "lambda$ruleOf$1", desc := "(II)I" } : Jvm.MethodName) prog_1_method_68_code (2 : Nat) (Option.some Jvm.ClassFile.FieldType.int)) ∈ lw_all := lw_g (lw_at lw_m6 194 rfl) rfl
theorem q1448 : (Jvm.Cond.static ({ cls := "Homewatcher", name := "lambda$ruleOf$2", desc := "(II)I" } : Jvm.MethodName)) ∈ lw_all := lw_g (lw_at lw_m6 195 rfl) rfl
theorem q1449 : (Jvm.Cond.code ({ cls := "Homewatcher", name := "lambda$ruleOf$2", desc := "(II)I" } : Jvm.MethodName) prog_1_method_67_code (2 : Nat) (Option.some Jvm.ClassFile.FieldType.int)) ∈ lw_all := lw_g (lw_at lw_m6 196 rfl) rfl
theorem q1450 : (Jvm.Cond.static ({ cls := "Homewatcher", name := "lambda$ruleOf$3", desc := "(II)I" } : Jvm.MethodName)) ∈ lw_all := lw_g (lw_at lw_m6 197 rfl) rfl
theorem q1451 : (Jvm.Cond.code ({ cls := "Homewatcher", name := "lambda$ruleOf$3", desc := "(II)I" } : Jvm.MethodName) prog_1_method_66_code (2 : Nat) (Option.some Jvm.ClassFile.FieldType.int)) ∈ lw_all := lw_g (lw_at lw_m6 198 rfl) rfl
theorem q1452 : (Jvm.Cond.methodLink "Homewatcher" (228 : Nat) ({ cls := "Homewatcher$Task", name := "<init>", desc := "(IIIILHomewatcher$Rule;)V" } : Jvm.MethodName)) ∈ lw_all := lw_g (lw_at lw_m6 199 rfl) rfl
theorem q1457 : (Jvm.Cond.fieldLinkNest "Homewatcher" (182 : Nat) "Homewatcher$Task" "number" "I" "Homewatcher") ∈ lw_tbl := lw_at lw_m6 204 rfl
theorem q1459 : (Jvm.Cond.fieldLinkNest "Homewatcher" (96 : Nat) "Homewatcher$Task" "classroom" "I" "Homewatcher") ∈ lw_tbl := lw_at lw_m6 206 rfl
theorem q1461 : (Jvm.Cond.fieldLinkNest "Homewatcher" (111 : Nat) "Homewatcher$Task" "due" "I" "Homewatcher") ∈ lw_tbl := lw_at lw_m6 208 rfl
theorem q1463 : (Jvm.Cond.fieldLinkNest "Homewatcher" (185 : Nat) "Homewatcher$Task" "full" "I" "Homewatcher") ∈ lw_tbl := lw_at lw_m6 210 rfl
theorem q1465 : (Jvm.Cond.fieldLinkNest "Homewatcher" (191 : Nat) "Homewatcher$Task" "rule" "LHomewatcher$Rule;" "Homewatcher") ∈ lw_tbl := lw_at lw_m6 212 rfl
theorem q1481 : (Jvm.Cond.instanceMethod ({ cls := "Homewatcher", name := "pass", desc := "(I)I" } : Jvm.MethodName)) ∈ lw_all := lw_g (lw_at lw_m6 228 rfl) rfl
theorem q1482 : (Jvm.Cond.selects "Homewatcher" ({ cls := "Homewatcher", name := "pass", desc := "(I)I" } : Jvm.MethodName) ({ cls := "Homewatcher", name := "pass", desc := "(I)I" } : Jvm.MethodName)) ∈ lw_all := lw_g (lw_at lw_m6 229 rfl) rfl
theorem q1483 : (Jvm.Cond.code ({ cls := "Homewatcher", name := "pass", desc := "(I)I" } : Jvm.MethodName) prog_1_method_20_code (2 : Nat) (Option.some Jvm.ClassFile.FieldType.int)) ∈ lw_all := lw_g (lw_at lw_m6 230 rfl) rfl
theorem q1484 : (Jvm.Cond.constant "Homewatcher" (231 : Nat) (100000 : Int32)) ∈ lw_all := lw_g (lw_at lw_m6 231 rfl) rfl
theorem q1489 : (Jvm.Cond.instanceMethod ({ cls := "Homewatcher", name := "clock", desc := "(I)I" } : Jvm.MethodName)) ∈ lw_all := lw_g (lw_at lw_m6 236 rfl) rfl
theorem q1490 : (Jvm.Cond.selects "Homewatcher" ({ cls := "Homewatcher", name := "clock", desc := "(I)I" } : Jvm.MethodName) ({ cls := "Homewatcher", name := "clock", desc := "(I)I" } : Jvm.MethodName)) ∈ lw_all := lw_g (lw_at lw_m6 237 rfl) rfl
theorem q1491 : (Jvm.Cond.code ({ cls := "Homewatcher", name := "clock", desc := "(I)I" } : Jvm.MethodName) prog_1_method_21_code (2 : Nat) (Option.some Jvm.ClassFile.FieldType.int)) ∈ lw_all := lw_g (lw_at lw_m6 238 rfl) rfl
theorem q1496 : (Jvm.Cond.instanceMethod ({ cls := "Homewatcher", name := "type", desc := "(I)I" } : Jvm.MethodName)) ∈ lw_all := lw_g (lw_at lw_m7 3 rfl) rfl
theorem q1497 : (Jvm.Cond.selects "Homewatcher" ({ cls := "Homewatcher", name := "type", desc := "(I)I" } : Jvm.MethodName) ({ cls := "Homewatcher", name := "type", desc := "(I)I" } : Jvm.MethodName)) ∈ lw_all := lw_g (lw_at lw_m7 4 rfl) rfl
theorem q1498 : (Jvm.Cond.code ({ cls := "Homewatcher", name := "type", desc := "(I)I" } : Jvm.MethodName) prog_1_method_25_code (2 : Nat) (Option.some Jvm.ClassFile.FieldType.int)) ∈ lw_all := lw_g (lw_at lw_m7 5 rfl) rfl
theorem q1499 : (Jvm.Cond.methodLink "Homewatcher" (253 : Nat) ({ cls := "Homewatcher", name := "isSign", desc := "(I)Z" } : Jvm.MethodName)) ∈ lw_all := lw_g (lw_at lw_m7 6 rfl) rfl
theorem q1500 : (Jvm.Cond.static ({ cls := "Homewatcher", name := "isSign", desc := "(I)Z" } : Jvm.MethodName)) ∈ lw_all := lw_g (lw_at lw_m7 7 rfl) rfl
theorem q1501 : (Jvm.Cond.code ({ cls := "Homewatcher", name := "isSign", desc := "(I)Z" } : Jvm.MethodName) prog_1_method_22_code (1 : Nat) (Option.some Jvm.ClassFile.FieldType.boolean)) ∈ lw_all := lw_g (lw_at lw_m7 8 rfl) rfl
theorem q1502 : (Jvm.Cond.constant "Homewatcher" (235 : Nat) (128512 : Int32)) ∈ lw_all := lw_g (lw_at lw_m7 9 rfl) rfl
theorem q1503 : (Jvm.Cond.constant "Homewatcher" (236 : Nat) (128591 : Int32)) ∈ lw_all := lw_g (lw_at lw_m7 10 rfl) rfl
theorem q1504 : (Jvm.Cond.methodLink "Homewatcher" (260 : Nat) ({ cls := "Homewatcher", name := "put", desc := "(II)V" } : Jvm.MethodName)) ∈ lw_all := lw_g (lw_at lw_m7 11 rfl) rfl
theorem q1505 : (Jvm.Cond.privateMethod ({ cls := "Homewatcher", name := "put", desc := "(II)V" } : Jvm.MethodName)) ∈ lw_tbl := lw_at lw_m7 12 rfl
theorem q1506 : (Jvm.Cond.instanceMethod ({ cls := "Homewatcher", name := "put", desc := "(II)V" } : Jvm.MethodName)) ∈ lw_all := lw_g (lw_at lw_m7 13 rfl) rfl
theorem q1507 : (Jvm.Cond.code ({ cls := "Homewatcher", name := "put", desc := "(II)V" } : Jvm.MethodName) prog_1_method_24_code (4 : Nat) (Option.none : Option Jvm.ClassFile.FieldType)) ∈ lw_all := lw_g (lw_at lw_m7 14 rfl) rfl
theorem q1508 : (Jvm.Cond.methodLink "Homewatcher" (249 : Nat) ({ cls := "java/lang/StringBuilder", name := "insert", desc := "(IC)Ljava/lang/StringBuilder;" } : Jvm.MethodName)) ∈ lw_all := lw_g (lw_at lw_m7 15 rfl) rfl
theorem q1535 : (Jvm.Cond.instanceMethod ({ cls := "Homewatcher", name := "insert", desc := "(II)I" } : Jvm.MethodName)) ∈ lw_all := lw_g (lw_at lw_m7 42 rfl) rfl
theorem q1536 : (Jvm.Cond.selects "Homewatcher" ({ cls := "Homewatcher", name := "insert", desc := "(II)I" } : Jvm.MethodName) ({ cls := "Homewatcher", name := "insert", desc := "(II)I" } : Jvm.MethodName)) ∈ lw_all := lw_g (lw_at lw_m7 43 rfl) rfl
theorem q1537 : (Jvm.Cond.code ({ cls := "Homewatcher", name := "insert", desc := "(II)I" } : Jvm.MethodName) prog_1_method_26_code (5 : Nat) (Option.some Jvm.ClassFile.FieldType.int)) ∈ lw_all := lw_g (lw_at lw_m7 44 rfl) rfl
theorem q1543 : (Jvm.Cond.instanceMethod ({ cls := "Homewatcher", name := "charAt", desc := "(I)C" } : Jvm.MethodName)) ∈ lw_all := lw_g (lw_at lw_m7 50 rfl) rfl
theorem q1544 : (Jvm.Cond.selects "Homewatcher" ({ cls := "Homewatcher", name := "charAt", desc := "(I)C" } : Jvm.MethodName) ({ cls := "Homewatcher", name := "charAt", desc := "(I)C" } : Jvm.MethodName)) ∈ lw_all := lw_g (lw_at lw_m7 51 rfl) rfl
theorem q1545 : (Jvm.Cond.code ({ cls := "Homewatcher", name := "charAt", desc := "(I)C" } : Jvm.MethodName) prog_1_method_29_code (2 : Nat) (Option.some Jvm.ClassFile.FieldType.char)) ∈ lw_all := lw_g (lw_at lw_m7 52 rfl) rfl
theorem q1546 : (Jvm.Cond.methodLink "Homewatcher" (270 : Nat) ({ cls := "Homewatcher", name := "checkElement", desc := "(Z)V" } : Jvm.MethodName)) ∈ lw_all := lw_g (lw_at lw_m7 53 rfl) rfl
theorem q1547 : (Jvm.Cond.static ({ cls := "Homewatcher", name := "checkElement", desc := "(Z)V" } : Jvm.MethodName)) ∈ lw_all := lw_g (lw_at lw_m7 54 rfl) rfl
theorem q1548 : (Jvm.Cond.code ({ cls := "Homewatcher", name := "checkElement", desc := "(Z)V" } : Jvm.MethodName) prog_1_method_6_code (1 : Nat) (Option.none : Option Jvm.ClassFile.FieldType)) ∈ lw_all := lw_g (lw_at lw_m7 55 rfl) rfl
theorem q1549 : (Jvm.Cond.classLink "Homewatcher" (65 : Nat) "java/util/NoSuchElementException") ∈ lw_all := lw_g (lw_at lw_m7 56 rfl) rfl
theorem q1550 : (Jvm.Cond.methodLink "Homewatcher" (67 : Nat) ({ cls := "java/util/NoSuchElementException", name := "<init>", desc := "()V" } : Jvm.MethodName)) ∈ lw_all := lw_g (lw_at lw_m7 57 rfl) rfl
theorem q1556 : (Jvm.Cond.instanceMethod ({ cls := "Homewatcher", name := "save", desc := "(IIII)I" } : Jvm.MethodName)) ∈ lw_all := lw_g (lw_at lw_m7 63 rfl) rfl
theorem q1557 : (Jvm.Cond.selects "Homewatcher" ({ cls := "Homewatcher", name := "save", desc := "(IIII)I" } : Jvm.MethodName) ({ cls := "Homewatcher", name := "save", desc := "(IIII)I" } : Jvm.MethodName)) ∈ lw_all := lw_g (lw_at lw_m7 64 rfl) rfl
theorem q1558 : (Jvm.Cond.code ({ cls := "Homewatcher", name := "save", desc := "(IIII)I" } : Jvm.MethodName) prog_1_method_32_code (10 : Nat) (Option.some Jvm.ClassFile.FieldType.int)) ∈ lw_all := lw_g (lw_at lw_m7 65 rfl) rfl
theorem q1559 : (Jvm.Cond.methodLink "Homewatcher" (273 : Nat) ({ cls := "Homewatcher", name := "checkPair", desc := "(II)V" } : Jvm.MethodName)) ∈ lw_all := lw_g (lw_at lw_m7 66 rfl) rfl
theorem q1560 : (Jvm.Cond.privateMethod ({ cls := "Homewatcher", name := "checkPair", desc := "(II)V" } : Jvm.MethodName)) ∈ lw_tbl := lw_at lw_m7 67 rfl
theorem q1561 : (Jvm.Cond.instanceMethod ({ cls := "Homewatcher", name := "checkPair", desc := "(II)V" } : Jvm.MethodName)) ∈ lw_all := lw_g (lw_at lw_m7 68 rfl) rfl
theorem q1562 : (Jvm.Cond.code ({ cls := "Homewatcher", name := "checkPair", desc := "(II)V" } : Jvm.MethodName) prog_1_method_30_code (3 : Nat) (Option.none : Option Jvm.ClassFile.FieldType)) ∈ lw_all := lw_g (lw_at lw_m7 69 rfl) rfl
theorem q1563 : (Jvm.Cond.methodLink "Homewatcher" (276 : Nat) ({ cls := "Homewatcher", name := "versionAt", desc := "(I)LHomewatcher$Version;" } : Jvm.MethodName)) ∈ lw_all := lw_g (lw_at lw_m7 70 rfl) rfl
theorem q1564 : (Jvm.Cond.privateMethod ({ cls := "Homewatcher", name := "versionAt", desc := "(I)LHomewatcher$Version;" } : Jvm.MethodName)) ∈ lw_tbl := lw_at lw_m7 71 rfl
theorem q1565 : (Jvm.Cond.instanceMethod ({ cls := "Homewatcher", name := "versionAt", desc := "(I)LHomewatcher$Version;" } : Jvm.MethodName)) ∈ lw_all := lw_g (lw_at lw_m7 72 rfl) rfl
theorem q1566 : (Jvm.Cond.code ({ cls := "Homewatcher", name := "versionAt", desc := "(I)LHomewatcher$Version;" } : Jvm.MethodName) prog_1_method_31_code (2 : Nat) (Option.some (Jvm.ClassFile.FieldType.object "Homewatcher$Version"))) ∈ lw_all := lw_g (lw_at lw_m7 73 rfl) rfl
theorem q1567 : (Jvm.Cond.methodLink "Homewatcher" (283 : Nat) ({ cls := "Homewatcher", name := "checkAllowed", desc := "(Z)V" } : Jvm.MethodName)) ∈ lw_all := lw_g (lw_at lw_m7 74 rfl) rfl
theorem q1568 : (Jvm.Cond.static ({ cls := "Homewatcher", name := "checkAllowed", desc := "(Z)V" } : Jvm.MethodName)) ∈ lw_all := lw_g (lw_at lw_m7 75 rfl) rfl
theorem q1569 : (Jvm.Cond.code ({ cls := "Homewatcher", name := "checkAllowed", desc := "(Z)V" } : Jvm.MethodName) prog_1_method_5_code (1 : Nat) (Option.none : Option Jvm.ClassFile.FieldType)) ∈ lw_all := lw_g (lw_at lw_m7 76 rfl) rfl
theorem q1570 : (Jvm.Cond.classLink "Homewatcher" (62 : Nat) "java/lang/UnsupportedOperationException") ∈ lw_all := lw_g (lw_at lw_m7 77 rfl) rfl
theorem q1579 : (Jvm.Cond.methodLink "Homewatcher" (64 : Nat) ({ cls := "java/lang/UnsupportedOperationException", name := "<init>", desc := "()V" } : Jvm.MethodName)) ∈ lw_all := lw_g (lw_at lw_m7 86 rfl) rfl
theorem q1586 : (Jvm.Cond.methodLink "Homewatcher" (286 : Nat) ({ cls := "Homewatcher$Version", name := "<init>", desc := "(IILHomewatcher$Task;LHomewatcher$Version;I[C)V" } : Jvm.MethodName)) ∈ lw_all := lw_g (lw_at lw_m7 93 rfl) rfl
theorem q1634 : (Jvm.Cond.fieldLinkNest "Homewatcher" (289 : Nat) "Homewatcher$Version" "number" "I" "Homewatcher") ∈ lw_tbl := lw_at lw_m7 141 rfl
theorem q1636 : (Jvm.Cond.fieldLinkNest "Homewatcher" (297 : Nat) "Homewatcher$Version" "pupil" "I" "Homewatcher") ∈ lw_tbl := lw_at lw_m7 143 rfl
theorem q1638 : (Jvm.Cond.fieldLinkNest "Homewatcher" (92 : Nat) "Homewatcher$Version" "task" "LHomewatcher$Task;" "Homewatcher") ∈ lw_tbl := lw_at lw_m7 145 rfl
theorem q1640 : (Jvm.Cond.fieldLinkNest "Homewatcher" (124 : Nat) "Homewatcher$Version" "parent" "LHomewatcher$Version;" "Homewatcher") ∈ lw_tbl := lw_at lw_m7 147 rfl
theorem q1642 : (Jvm.Cond.fieldLinkNest "Homewatcher" (280 : Nat) "Homewatcher$Version" "saved" "I" "Homewatcher") ∈ lw_tbl := lw_at lw_m7 149 rfl
theorem q1644 : (Jvm.Cond.fieldLinkNest "Homewatcher" (293 : Nat) "Homewatcher$Version" "chars" "[C" "Homewatcher") ∈ lw_tbl := lw_at lw_m7 151 rfl
theorem q1646 : (Jvm.Cond.fieldLinkNest "Homewatcher" (135 : Nat) "Homewatcher$Version" "shingles" "Ljava/util/TreeSet;" "Homewatcher") ∈ lw_tbl := lw_at lw_m7 153 rfl
theorem q1648 : (Jvm.Cond.fieldLinkNest "Homewatcher" (87 : Nat) "Homewatcher$Version" "handed" "I" "Homewatcher") ∈ lw_tbl := lw_at lw_m7 155 rfl
theorem q1649 : (Jvm.Cond.fieldLinkNest "Homewatcher" (188 : Nat) "Homewatcher$Version" "points" "I" "Homewatcher") ∈ lw_tbl := lw_at lw_m7 156 rfl
theorem q1650 : (Jvm.Cond.fieldLinkNest "Homewatcher" (128 : Nat) "Homewatcher$Version" "isIn" "Z" "Homewatcher") ∈ lw_tbl := lw_at lw_m7 157 rfl
theorem q1677 : (Jvm.Cond.instanceMethod ({ cls := "Homewatcher", name := "of", desc := "(IC)I" } : Jvm.MethodName)) ∈ lw_all := lw_g (lw_at lw_m7 184 rfl) rfl
theorem q1678 : (Jvm.Cond.selects "Homewatcher" ({ cls := "Homewatcher", name := "of", desc := "(IC)I" } : Jvm.MethodName) ({ cls := "Homewatcher", name := "of", desc := "(IC)I" } : Jvm.MethodName)) ∈ lw_all := lw_g (lw_at lw_m7 185 rfl) rfl
theorem q1679 : (Jvm.Cond.code ({ cls := "Homewatcher", name := "of", desc := "(IC)I" } : Jvm.MethodName) prog_1_method_33_code (4 : Nat) (Option.some Jvm.ClassFile.FieldType.int)) ∈ lw_all := lw_g (lw_at lw_m7 186 rfl) rfl
theorem q1680 : (Jvm.Cond.methodLink "Homewatcher" (290 : Nat) ({ cls := "Homewatcher$Version", name := "signs", desc := "()I" } : Jvm.MethodName)) ∈ lw_all := lw_g (lw_at lw_m7 187 rfl) rfl
theorem q1685 : (Jvm.Cond.instanceMethod ({ cls := "Homewatcher", name := "forks", desc := "(I)I" } : Jvm.MethodName)) ∈ lw_all := lw_g (lw_at lw_m7 192 rfl) rfl
theorem q1686 : (Jvm.Cond.selects "Homewatcher" ({ cls := "Homewatcher", name := "forks", desc := "(I)I" } : Jvm.MethodName) ({ cls := "Homewatcher", name := "forks", desc := "(I)I" } : Jvm.MethodName)) ∈ lw_all := lw_g (lw_at lw_m7 193 rfl) rfl
theorem q1687 : (Jvm.Cond.code ({ cls := "Homewatcher", name := "forks", desc := "(I)I" } : Jvm.MethodName) prog_1_method_34_code (6 : Nat) (Option.some Jvm.ClassFile.FieldType.int)) ∈ lw_all := lw_g (lw_at lw_m7 194 rfl) rfl
theorem q1692 : (Jvm.Cond.instanceMethod ({ cls := "Homewatcher", name := "heads", desc := "(II)I" } : Jvm.MethodName)) ∈ lw_all := lw_g (lw_at lw_m7 199 rfl) rfl
theorem q1693 : (Jvm.Cond.selects "Homewatcher" ({ cls := "Homewatcher", name := "heads", desc := "(II)I" } : Jvm.MethodName) ({ cls := "Homewatcher", name := "heads", desc := "(II)I" } : Jvm.MethodName)) ∈ lw_all := lw_g (lw_at lw_m7 200 rfl) rfl
theorem q1694 : (Jvm.Cond.code ({ cls := "Homewatcher", name := "heads", desc := "(II)I" } : Jvm.MethodName) prog_1_method_35_code (6 : Nat) (Option.some Jvm.ClassFile.FieldType.int)) ∈ lw_all := lw_g (lw_at lw_m7 201 rfl) rfl
theorem q1695 : (Jvm.Cond.methodLink "Homewatcher" (300 : Nat) ({ cls := "Homewatcher", name := "isParent", desc := "(LHomewatcher$Version;)Z" } : Jvm.MethodName)) ∈ lw_all := lw_g (lw_at lw_m7 202 rfl) rfl
theorem q1696 : (Jvm.Cond.privateMethod ({ cls := "Homewatcher", name := "isParent", desc := "(LHomewatcher$Version;)Z" } : Jvm.MethodName)) ∈ lw_tbl := lw_at lw_m7 203 rfl
theorem q1697 : (Jvm.Cond.instanceMethod ({ cls := "Homewatcher", name := "isParent", desc := "(LHomewatcher$Version;)Z" } : Jvm.MethodName)) ∈ lw_all := lw_g (lw_at lw_m7 204 rfl) rfl
theorem q1698 : (Jvm.Cond.code ({ cls := "Homewatcher", name := "isParent", desc := "(LHomewatcher$Version;)Z" } : Jvm.MethodName) prog_1_method_36_code (5 : Nat) (Option.some Jvm.ClassFile.FieldType.boolean)) ∈ lw_all := lw_g (lw_at lw_m7 205 rfl) rfl
theorem q1703 : (Jvm.Cond.instanceMethod ({ cls := "Homewatcher", name := "hand", desc := "(I)I" } : Jvm.MethodName)) ∈ lw_all := lw_g (lw_at lw_m7 210 rfl) rfl
theorem q1704 : (Jvm.Cond.selects "Homewatcher" ({ cls := "Homewatcher", name := "hand", desc := "(I)I" } : Jvm.MethodName) ({ cls := "Homewatcher", name := "hand", desc := "(I)I" } : Jvm.MethodName)) ∈ lw_all := lw_g (lw_at lw_m7 211 rfl) rfl
theorem q1705 : (Jvm.Cond.code ({ cls := "Homewatcher", name := "hand", desc := "(I)I" } : Jvm.MethodName) prog_1_method_39_code (6 : Nat) (Option.some Jvm.ClassFile.FieldType.int)) ∈ lw_all := lw_g (lw_at lw_m7 212 rfl) rfl
theorem q1706 : (Jvm.Cond.methodLink "Homewatcher" (314 : Nat) ({ cls := "Homewatcher", name := "isHit", desc := "(LHomewatcher$Version;LHomewatcher$Version;)Z" } : Jvm.MethodName)) ∈ lw_all := lw_g (lw_at lw_m7 213 rfl) rfl
theorem q1707 : (Jvm.Cond.privateMethod ({ cls := "Homewatcher", name := "isHit", desc := "(LHomewatcher$Version;LHomewatcher$Version;)Z" } : Jvm.MethodName)) ∈ lw_tbl := lw_at lw_m7 214 rfl
theorem q1708 : (Jvm.Cond.instanceMethod ({ cls := "Homewatcher", name := "isHit", desc := "(LHomewatcher$Version;LHomewatcher$Version;)Z" } : Jvm.MethodName)) ∈ lw_all := lw_g (lw_at lw_m7 215 rfl) rfl
theorem q1709 : (Jvm.Cond.code ({ cls := "Homewatcher", name := "isHit", desc := "(LHomewatcher$Version;LHomewatcher$Version;)Z" } : Jvm.MethodName) prog_1_method_38_code (3 : Nat) (Option.some Jvm.ClassFile.FieldType.boolean)) ∈ lw_all := lw_g (lw_at lw_m7 216 rfl) rfl
theorem q1710 : (Jvm.Cond.classLink "Homewatcher" (173 : Nat) "Homewatcher$Hit") ∈ lw_all := lw_g (lw_at lw_m7 217 rfl) rfl
theorem q1712 : (Jvm.Cond.methodLink "Homewatcher" (317 : Nat) ({ cls := "Homewatcher$Hit", name := "<init>", desc := "(ILHomewatcher$Version;LHomewatcher$Version;I)V" } : Jvm.MethodName)) ∈ lw_all := lw_g (lw_at lw_m7 219 rfl) rfl
theorem q1717 : (Jvm.Cond.fieldLinkNest "Homewatcher" (363 : Nat) "Homewatcher$Hit" "number" "I" "Homewatcher") ∈ lw_tbl := lw_at lw_m7 224 rfl
theorem q1719 : (Jvm.Cond.fieldLinkNest "Homewatcher" (336 : Nat) "Homewatcher$Hit" "fresh" "LHomewatcher$Version;" "Homewatcher") ∈ lw_tbl := lw_at lw_m7 226 rfl
theorem q1721 : (Jvm.Cond.fieldLinkNest "Homewatcher" (339 : Nat) "Homewatcher$Hit" "other" "LHomewatcher$Version;" "Homewatcher") ∈ lw_tbl := lw_at lw_m7 228 rfl
theorem q1723 : (Jvm.Cond.fieldLinkNest "Homewatcher" (342 : Nat) "Homewatcher$Hit" "common" "I" "Homewatcher") ∈ lw_tbl := lw_at lw_m7 230 rfl
theorem q1725 : (Jvm.Cond.fieldLinkNest "Homewatcher" (345 : Nat) "Homewatcher$Hit" "heard" "I" "Homewatcher") ∈ lw_tbl := lw_at lw_m7 232 rfl
theorem q1737 : (Jvm.Cond.methodLink "Homewatcher" (320 : Nat) ({ cls := "Homewatcher", name := "count", desc := "(LHomewatcher$Version;I)V" } : Jvm.MethodName)) ∈ lw_all := lw_g (lw_at lw_m8 4 rfl) rfl
theorem q1738 : (Jvm.Cond.privateMethod ({ cls := "Homewatcher", name := "count", desc := "(LHomewatcher$Version;I)V" } : Jvm.MethodName)) ∈ lw_tbl := lw_at lw_m8 5 rfl
theorem q1739 : (Jvm.Cond.instanceMethod ({ cls := "Homewatcher", name := "count", desc := "(LHomewatcher$Version;I)V" } : Jvm.MethodName)) ∈ lw_all := lw_g (lw_at lw_m8 6 rfl) rfl
theorem q1740 : (Jvm.Cond.code ({ cls := "Homewatcher", name := "count", desc := "(LHomewatcher$Version;I)V" } : Jvm.MethodName) prog_1_method_37_code (8 : Nat) (Option.none : Option Jvm.ClassFile.FieldType)) ∈ lw_all := lw_g (lw_at lw_m8 7 rfl) rfl
theorem q1741 : (Jvm.Cond.methodLink "Homewatcher" (308 : Nat) ({ cls := "java/util/TreeMap", name := "remove", desc := "(Ljava/lang/Object;)Ljava/lang/Object;" } : Jvm.MethodName)) ∈ lw_all := lw_g (lw_at lw_m8 8 rfl) rfl
theorem q1758 : (Jvm.Cond.instanceMethod ({ cls := "Homewatcher", name := "withdraw", desc := "(I)Z" } : Jvm.MethodName)) ∈ lw_all := lw_g (lw_at lw_m8 25 rfl) rfl
theorem q1759 : (Jvm.Cond.selects "Homewatcher" ({ cls := "Homewatcher", name := "withdraw", desc := "(I)Z" } : Jvm.MethodName) ({ cls := "Homewatcher", name := "withdraw", desc := "(I)Z" } : Jvm.MethodName)) ∈ lw_all := lw_g (lw_at lw_m8 26 rfl) rfl
theorem q1760 : (Jvm.Cond.code ({ cls := "Homewatcher", name := "withdraw", desc := "(I)Z" } : Jvm.MethodName) prog_1_method_40_code (3 : Nat) (Option.some Jvm.ClassFile.FieldType.boolean)) ∈ lw_all := lw_g (lw_at lw_m8 27 rfl) rfl
theorem q1765 : (Jvm.Cond.instanceMethod ({ cls := "Homewatcher", name := "isIn", desc := "(I)Z" } : Jvm.MethodName)) ∈ lw_all := lw_g (lw_at lw_m8 32 rfl) rfl
theorem q1766 : (Jvm.Cond.selects "Homewatcher" ({ cls := "Homewatcher", name := "isIn", desc := "(I)Z" } : Jvm.MethodName) ({ cls := "Homewatcher", name := "isIn", desc := "(I)Z" } : Jvm.MethodName)) ∈ lw_all := lw_g (lw_at lw_m8 33 rfl) rfl
theorem q1767 : (Jvm.Cond.code ({ cls := "Homewatcher", name := "isIn", desc := "(I)Z" } : Jvm.MethodName) prog_1_method_41_code (2 : Nat) (Option.some Jvm.ClassFile.FieldType.boolean)) ∈ lw_all := lw_g (lw_at lw_m8 34 rfl) rfl
theorem q1772 : (Jvm.Cond.instanceMethod ({ cls := "Homewatcher", name := "late", desc := "(I)I" } : Jvm.MethodName)) ∈ lw_all := lw_g (lw_at lw_m8 39 rfl) rfl
theorem q1773 : (Jvm.Cond.selects "Homewatcher" ({ cls := "Homewatcher", name := "late", desc := "(I)I" } : Jvm.MethodName) ({ cls := "Homewatcher", name := "late", desc := "(I)I" } : Jvm.MethodName)) ∈ lw_all := lw_g (lw_at lw_m8 40 rfl) rfl
theorem q1774 : (Jvm.Cond.code ({ cls := "Homewatcher", name := "late", desc := "(I)I" } : Jvm.MethodName) prog_1_method_42_code (3 : Nat) (Option.some Jvm.ClassFile.FieldType.int)) ∈ lw_all := lw_g (lw_at lw_m8 41 rfl) rfl
theorem q1779 : (Jvm.Cond.instanceMethod ({ cls := "Homewatcher", name := "off", desc := "(II)I" } : Jvm.MethodName)) ∈ lw_all := lw_g (lw_at lw_m8 46 rfl) rfl
theorem q1780 : (Jvm.Cond.selects "Homewatcher" ({ cls := "Homewatcher", name := "off", desc := "(II)I" } : Jvm.MethodName) ({ cls := "Homewatcher", name := "off", desc := "(II)I" } : Jvm.MethodName)) ∈ lw_all := lw_g (lw_at lw_m8 47 rfl) rfl
theorem q1781 : (Jvm.Cond.code ({ cls := "Homewatcher", name := "off", desc := "(II)I" } : Jvm.MethodName) prog_1_method_43_code (3 : Nat) (Option.some Jvm.ClassFile.FieldType.int)) ∈ lw_all := lw_g (lw_at lw_m8 48 rfl) rfl
theorem q1786 : (Jvm.Cond.instanceMethod ({ cls := "Homewatcher", name := "points", desc := "(II)I" } : Jvm.MethodName)) ∈ lw_all := lw_g (lw_at lw_m8 53 rfl) rfl
theorem q1787 : (Jvm.Cond.selects "Homewatcher" ({ cls := "Homewatcher", name := "points", desc := "(II)I" } : Jvm.MethodName) ({ cls := "Homewatcher", name := "points", desc := "(II)I" } : Jvm.MethodName)) ∈ lw_all := lw_g (lw_at lw_m8 54 rfl) rfl
theorem q1788 : (Jvm.Cond.code ({ cls := "Homewatcher", name := "points", desc := "(II)I" } : Jvm.MethodName) prog_1_method_44_code (5 : Nat) (Option.some Jvm.ClassFile.FieldType.int)) ∈ lw_all := lw_g (lw_at lw_m8 55 rfl) rfl
theorem q1793 : (Jvm.Cond.instanceMethod ({ cls := "Homewatcher", name := "counting", desc := "(II)I" } : Jvm.MethodName)) ∈ lw_all := lw_g (lw_at lw_m8 60 rfl) rfl
theorem q1794 : (Jvm.Cond.selects "Homewatcher" ({ cls := "Homewatcher", name := "counting", desc := "(II)I" } : Jvm.MethodName) ({ cls := "Homewatcher", name := "counting", desc := "(II)I" } : Jvm.MethodName)) ∈ lw_all := lw_g (lw_at lw_m8 61 rfl) rfl
theorem q1795 : (Jvm.Cond.code ({ cls := "Homewatcher", name := "counting", desc := "(II)I" } : Jvm.MethodName) prog_1_method_45_code (4 : Nat) (Option.some Jvm.ClassFile.FieldType.int)) ∈ lw_all := lw_g (lw_at lw_m8 62 rfl) rfl
theorem q1800 : (Jvm.Cond.instanceMethod ({ cls := "Homewatcher", name := "mark", desc := "(II)I" } : Jvm.MethodName)) ∈ lw_all := lw_g (lw_at lw_m8 67 rfl) rfl
theorem q1801 : (Jvm.Cond.selects "Homewatcher" ({ cls := "Homewatcher", name := "mark", desc := "(II)I" } : Jvm.MethodName) ({ cls := "Homewatcher", name := "mark", desc := "(II)I" } : Jvm.MethodName)) ∈ lw_all := lw_g (lw_at lw_m8 68 rfl) rfl
theorem q1802 : (Jvm.Cond.code ({ cls := "Homewatcher", name := "mark", desc := "(II)I" } : Jvm.MethodName) prog_1_method_46_code (3 : Nat) (Option.some Jvm.ClassFile.FieldType.int)) ∈ lw_all := lw_g (lw_at lw_m8 69 rfl) rfl
theorem q1803 : (Jvm.Cond.methodLink "Homewatcher" (324 : Nat) ({ cls := "Homewatcher", name := "isFrozenOf", desc := "(ILHomewatcher$Task;)Z" } : Jvm.MethodName)) ∈ lw_all := lw_g (lw_at lw_m8 70 rfl) rfl
theorem q1804 : (Jvm.Cond.privateMethod ({ cls := "Homewatcher", name := "isFrozenOf", desc := "(ILHomewatcher$Task;)Z" } : Jvm.MethodName)) ∈ lw_tbl := lw_at lw_m8 71 rfl
theorem q1805 : (Jvm.Cond.instanceMethod ({ cls := "Homewatcher", name := "isFrozenOf", desc := "(ILHomewatcher$Task;)Z" } : Jvm.MethodName)) ∈ lw_all := lw_g (lw_at lw_m8 72 rfl) rfl
theorem q1806 : (Jvm.Cond.code ({ cls := "Homewatcher", name := "isFrozenOf", desc := "(ILHomewatcher$Task;)Z" } : Jvm.MethodName) prog_1_method_15_code (6 : Nat) (Option.some Jvm.ClassFile.FieldType.boolean)) ∈ lw_all := lw_g (lw_at lw_m8 73 rfl) rfl
theorem q1807 : (Jvm.Cond.methodLink "Homewatcher" (175 : Nat) ({ cls := "Homewatcher$Hit", name := "freezes", desc := "(ILHomewatcher$Task;)Z" } : Jvm.MethodName)) ∈ lw_all := lw_g (lw_at lw_m8 74 rfl) rfl
theorem q1816 : (Jvm.Cond.instanceMethod ({ cls := "Homewatcher", name := "isFrozen", desc := "(II)Z" } : Jvm.MethodName)) ∈ lw_all := lw_g (lw_at lw_m8 83 rfl) rfl
theorem q1817 : (Jvm.Cond.selects "Homewatcher" ({ cls := "Homewatcher", name := "isFrozen", desc := "(II)Z" } : Jvm.MethodName) ({ cls := "Homewatcher", name := "isFrozen", desc := "(II)Z" } : Jvm.MethodName)) ∈ lw_all := lw_g (lw_at lw_m8 84 rfl) rfl
theorem q1818 : (Jvm.Cond.code ({ cls := "Homewatcher", name := "isFrozen", desc := "(II)Z" } : Jvm.MethodName) prog_1_method_47_code (3 : Nat) (Option.some Jvm.ClassFile.FieldType.boolean)) ∈ lw_all := lw_g (lw_at lw_m8 85 rfl) rfl
theorem q1823 : (Jvm.Cond.instanceMethod ({ cls := "Homewatcher", name := "shared", desc := "(II)I" } : Jvm.MethodName)) ∈ lw_all := lw_g (lw_at lw_m8 90 rfl) rfl
theorem q1824 : (Jvm.Cond.selects "Homewatcher" ({ cls := "Homewatcher", name := "shared", desc := "(II)I" } : Jvm.MethodName) ({ cls := "Homewatcher", name := "shared", desc := "(II)I" } : Jvm.MethodName)) ∈ lw_all := lw_g (lw_at lw_m8 91 rfl) rfl
theorem q1825 : (Jvm.Cond.code ({ cls := "Homewatcher", name := "shared", desc := "(II)I" } : Jvm.MethodName) prog_1_method_48_code (4 : Nat) (Option.some Jvm.ClassFile.FieldType.int)) ∈ lw_all := lw_g (lw_at lw_m8 92 rfl) rfl
theorem q1830 : (Jvm.Cond.instanceMethod ({ cls := "Homewatcher", name := "shingle", desc := "(II)I" } : Jvm.MethodName)) ∈ lw_all := lw_g (lw_at lw_m8 97 rfl) rfl
theorem q1831 : (Jvm.Cond.selects "Homewatcher" ({ cls := "Homewatcher", name := "shingle", desc := "(II)I" } : Jvm.MethodName) ({ cls := "Homewatcher", name := "shingle", desc := "(II)I" } : Jvm.MethodName)) ∈ lw_all := lw_g (lw_at lw_m8 98 rfl) rfl
theorem q1832 : (Jvm.Cond.code ({ cls := "Homewatcher", name := "shingle", desc := "(II)I" } : Jvm.MethodName) prog_1_method_49_code (8 : Nat) (Option.some Jvm.ClassFile.FieldType.int)) ∈ lw_all := lw_g (lw_at lw_m8 99 rfl) rfl
theorem q1837 : (Jvm.Cond.instanceMethod ({ cls := "Homewatcher", name := "threshold", desc := "(I)I" } : Jvm.MethodName)) ∈ lw_all := lw_g (lw_at lw_m8 104 rfl) rfl
theorem q1838 : (Jvm.Cond.selects "Homewatcher" ({ cls := "Homewatcher", name := "threshold", desc := "(I)I" } : Jvm.MethodName) ({ cls := "Homewatcher", name := "threshold", desc := "(I)I" } : Jvm.MethodName)) ∈ lw_all := lw_g (lw_at lw_m8 105 rfl) rfl
theorem q1839 : (Jvm.Cond.code ({ cls := "Homewatcher", name := "threshold", desc := "(I)I" } : Jvm.MethodName) prog_1_method_52_code (3 : Nat) (Option.some Jvm.ClassFile.FieldType.int)) ∈ lw_all := lw_g (lw_at lw_m8 106 rfl) rfl
theorem q1844 : (Jvm.Cond.instanceMethod ({ cls := "Homewatcher", name := "hit", desc := "(IC)I" } : Jvm.MethodName)) ∈ lw_all := lw_g (lw_at lw_m8 111 rfl) rfl
theorem q1845 : (Jvm.Cond.selects "Homewatcher" ({ cls := "Homewatcher", name := "hit", desc := "(IC)I" } : Jvm.MethodName) ({ cls := "Homewatcher", name := "hit", desc := "(IC)I" } : Jvm.MethodName)) ∈ lw_all := lw_g (lw_at lw_m8 112 rfl) rfl
theorem q1846 : (Jvm.Cond.code ({ cls := "Homewatcher", name := "hit", desc := "(IC)I" } : Jvm.MethodName) prog_1_method_55_code (4 : Nat) (Option.some Jvm.ClassFile.FieldType.int)) ∈ lw_all := lw_g (lw_at lw_m8 113 rfl) rfl
theorem q1847 : (Jvm.Cond.methodLink "Homewatcher" (332 : Nat) ({ cls := "Homewatcher", name := "hitAt", desc := "(I)LHomewatcher$Hit;" } : Jvm.MethodName)) ∈ lw_all := lw_g (lw_at lw_m8 114 rfl) rfl
theorem q1848 : (Jvm.Cond.privateMethod ({ cls := "Homewatcher", name := "hitAt", desc := "(I)LHomewatcher$Hit;" } : Jvm.MethodName)) ∈ lw_tbl := lw_at lw_m8 115 rfl
theorem q1849 : (Jvm.Cond.instanceMethod ({ cls := "Homewatcher", name := "hitAt", desc := "(I)LHomewatcher$Hit;" } : Jvm.MethodName)) ∈ lw_all := lw_g (lw_at lw_m8 116 rfl) rfl
theorem q1850 : (Jvm.Cond.code ({ cls := "Homewatcher", name := "hitAt", desc := "(I)LHomewatcher$Hit;" } : Jvm.MethodName) prog_1_method_54_code (2 : Nat) (Option.some (Jvm.ClassFile.FieldType.object "Homewatcher$Hit"))) ∈ lw_all := lw_g (lw_at lw_m8 117 rfl) rfl
theorem q1855 : (Jvm.Cond.instanceMethod ({ cls := "Homewatcher", name := "hear", desc := "(II)I" } : Jvm.MethodName)) ∈ lw_all := lw_g (lw_at lw_m8 122 rfl) rfl
theorem q1856 : (Jvm.Cond.selects "Homewatcher" ({ cls := "Homewatcher", name := "hear", desc := "(II)I" } : Jvm.MethodName) ({ cls := "Homewatcher", name := "hear", desc := "(II)I" } : Jvm.MethodName)) ∈ lw_all := lw_g (lw_at lw_m8 123 rfl) rfl
theorem q1857 : (Jvm.Cond.code ({ cls := "Homewatcher", name := "hear", desc := "(II)I" } : Jvm.MethodName) prog_1_method_57_code (4 : Nat) (Option.some Jvm.ClassFile.FieldType.int)) ∈ lw_all := lw_g (lw_at lw_m8 124 rfl) rfl
theorem q1858 : (Jvm.Cond.methodLink "Homewatcher" (352 : Nat) ({ cls := "Homewatcher", name := "open", desc := "()Ljava/util/PriorityQueue;" } : Jvm.MethodName)) ∈ lw_all := lw_g (lw_at lw_m8 125 rfl) rfl
theorem q1859 : (Jvm.Cond.privateMethod ({ cls := "Homewatcher", name := "open", desc := "()Ljava/util/PriorityQueue;" } : Jvm.MethodName)) ∈ lw_tbl := lw_at lw_m8 126 rfl
theorem q1860 : (Jvm.Cond.instanceMethod ({ cls := "Homewatcher", name := "open", desc := "()Ljava/util/PriorityQueue;" } : Jvm.MethodName)) ∈ lw_all := lw_g (lw_at lw_m8 127 rfl) rfl
theorem q1861 : (Jvm.Cond.code ({ cls := "Homewatcher", name := "open", desc := "()Ljava/util/PriorityQueue;" } : Jvm.MethodName) prog_1_method_56_code (5 : Nat) (Option.some (Jvm.ClassFile.FieldType.object "java/util/PriorityQueue"))) ∈ lw_all := lw_g (lw_at lw_m8 128 rfl) rfl
theorem q1862 : (Jvm.Cond.classLink "Homewatcher" (348 : Nat) "java/util/PriorityQueue") ∈ lw_all := lw_g (lw_at lw_m8 129 rfl) rfl
theorem q1864 : (Jvm.Cond.methodLink "Homewatcher" (350 : Nat) ({ cls := "java/util/PriorityQueue", name := "<init>", desc := "()V" } : Jvm.MethodName)) ∈ lw_all := lw_g (lw_at lw_m8 131 rfl) rfl
theorem q1890 : (Jvm.Cond.methodLink "Homewatcher" (351 : Nat) ({ cls := "java/util/PriorityQueue", name := "add", desc := "(Ljava/lang/Object;)Z" } : Jvm.MethodName)) ∈ lw_all := lw_g (lw_at lw_m8 157 rfl) rfl
theorem q1919 : (Jvm.Cond.methodLink "Homewatcher" (356 : Nat) ({ cls := "java/util/PriorityQueue", name := "size", desc := "()I" } : Jvm.MethodName)) ∈ lw_all := lw_g (lw_at lw_m8 186 rfl) rfl
theorem q1927 : (Jvm.Cond.instanceMethod ({ cls := "Homewatcher", name := "next", desc := "()I" } : Jvm.MethodName)) ∈ lw_all := lw_g (lw_at lw_m8 194 rfl) rfl
theorem q1928 : (Jvm.Cond.selects "Homewatcher" ({ cls := "Homewatcher", name := "next", desc := "()I" } : Jvm.MethodName) ({ cls := "Homewatcher", name := "next", desc := "()I" } : Jvm.MethodName)) ∈ lw_all := lw_g (lw_at lw_m8 195 rfl) rfl
theorem q1929 : (Jvm.Cond.code ({ cls := "Homewatcher", name := "next", desc := "()I" } : Jvm.MethodName) prog_1_method_58_code (2 : Nat) (Option.some Jvm.ClassFile.FieldType.int)) ∈ lw_all := lw_g (lw_at lw_m8 196 rfl) rfl
theorem q1930 : (Jvm.Cond.methodLink "Homewatcher" (357 : Nat) ({ cls := "java/util/PriorityQueue", name := "isEmpty", desc := "()Z" } : Jvm.MethodName)) ∈ lw_all := lw_g (lw_at lw_m8 197 rfl) rfl
theorem q1946 : (Jvm.Cond.methodLink "Homewatcher" (360 : Nat) ({ cls := "java/util/PriorityQueue", name := "poll", desc := "()Ljava/lang/Object;" } : Jvm.MethodName)) ∈ lw_all := lw_g (lw_at lw_m8 213 rfl) rfl
theorem q1960 : (Jvm.Cond.instanceMethod ({ cls := "Homewatcher", name := "byteSum", desc := "(I)B" } : Jvm.MethodName)) ∈ lw_all := lw_g (lw_at lw_m8 227 rfl) rfl
theorem q1961 : (Jvm.Cond.selects "Homewatcher" ({ cls := "Homewatcher", name := "byteSum", desc := "(I)B" } : Jvm.MethodName) ({ cls := "Homewatcher", name := "byteSum", desc := "(I)B" } : Jvm.MethodName)) ∈ lw_all := lw_g (lw_at lw_m8 228 rfl) rfl
theorem q1962 : (Jvm.Cond.code ({ cls := "Homewatcher", name := "byteSum", desc := "(I)B" } : Jvm.MethodName) prog_1_method_59_code (2 : Nat) (Option.some Jvm.ClassFile.FieldType.byte)) ∈ lw_all := lw_g (lw_at lw_m8 229 rfl) rfl
theorem q1963 : (Jvm.Cond.methodLink "Homewatcher" (364 : Nat) ({ cls := "Homewatcher$Version", name := "byteSum", desc := "()B" } : Jvm.MethodName)) ∈ lw_all := lw_g (lw_at lw_m8 230 rfl) rfl
theorem q1971 : (Jvm.Cond.instanceMethod ({ cls := "Homewatcher", name := "shortSum", desc := "(I)S" } : Jvm.MethodName)) ∈ lw_all := lw_g (lw_at lw_m8 238 rfl) rfl
theorem q1972 : (Jvm.Cond.selects "Homewatcher" ({ cls := "Homewatcher", name := "shortSum", desc := "(I)S" } : Jvm.MethodName) ({ cls := "Homewatcher", name := "shortSum", desc := "(I)S" } : Jvm.MethodName)) ∈ lw_all := lw_g (lw_at lw_m8 239 rfl) rfl
theorem q1973 : (Jvm.Cond.code ({ cls := "Homewatcher", name := "shortSum", desc := "(I)S" } : Jvm.MethodName) prog_1_method_60_code (2 : Nat) (Option.some Jvm.ClassFile.FieldType.short)) ∈ lw_all := lw_g (lw_at lw_m9 0 rfl) rfl
theorem q1974 : (Jvm.Cond.methodLink "Homewatcher" (368 : Nat) ({ cls := "Homewatcher$Version", name := "shortSum", desc := "()S" } : Jvm.MethodName)) ∈ lw_all := lw_g (lw_at lw_m9 1 rfl) rfl
theorem q1982 : (Jvm.Cond.instanceMethod ({ cls := "Homewatcher", name := "packed", desc := "(I)J" } : Jvm.MethodName)) ∈ lw_all := lw_g (lw_at lw_m9 9 rfl) rfl
theorem q1983 : (Jvm.Cond.selects "Homewatcher" ({ cls := "Homewatcher", name := "packed", desc := "(I)J" } : Jvm.MethodName) ({ cls := "Homewatcher", name := "packed", desc := "(I)J" } : Jvm.MethodName)) ∈ lw_all := lw_g (lw_at lw_m9 10 rfl) rfl
theorem q1984 : (Jvm.Cond.code ({ cls := "Homewatcher", name := "packed", desc := "(I)J" } : Jvm.MethodName) prog_1_method_61_code (5 : Nat) (Option.some Jvm.ClassFile.FieldType.long)) ∈ lw_all := lw_g (lw_at lw_m9 11 rfl) rfl
theorem q1985 : (Jvm.Cond.constantLong "Homewatcher" (372 : Nat) (255 : Int64)) ∈ lw_all := lw_g (lw_at lw_m9 12 rfl) rfl
theorem q2004 : (Jvm.Cond.instanceMethod ({ cls := "Homewatcher", name := "inShare", desc := "()F" } : Jvm.MethodName)) ∈ lw_all := lw_g (lw_at lw_m9 31 rfl) rfl
theorem q2005 : (Jvm.Cond.selects "Homewatcher" ({ cls := "Homewatcher", name := "inShare", desc := "()F" } : Jvm.MethodName) ({ cls := "Homewatcher", name := "inShare", desc := "()F" } : Jvm.MethodName)) ∈ lw_all := lw_g (lw_at lw_m9 32 rfl) rfl
theorem q2006 : (Jvm.Cond.code ({ cls := "Homewatcher", name := "inShare", desc := "()F" } : Jvm.MethodName) prog_1_method_62_code (4 : Nat) (Option.some Jvm.ClassFile.FieldType.float)) ∈ lw_all := lw_g (lw_at lw_m9 33 rfl) rfl
theorem q2007 : (Jvm.Cond.methodLink "Homewatcher" (374 : Nat) ({ cls := "java/util/ArrayList", name := "isEmpty", desc := "()Z" } : Jvm.MethodName)) ∈ lw_all := lw_g (lw_at lw_m9 34 rfl) rfl
theorem q2011 : (Jvm.Cond.methodLink "Homewatcher" (375 : Nat) ({ cls := "Homewatcher", name := "checkNumber", desc := "(Z)V" } : Jvm.MethodName)) ∈ lw_all := lw_g (lw_at lw_m9 38 rfl) rfl
theorem q2012 : (Jvm.Cond.static ({ cls := "Homewatcher", name := "checkNumber", desc := "(Z)V" } : Jvm.MethodName)) ∈ lw_all := lw_g (lw_at lw_m9 39 rfl) rfl
theorem q2013 : (Jvm.Cond.code ({ cls := "Homewatcher", name := "checkNumber", desc := "(Z)V" } : Jvm.MethodName) prog_1_method_8_code (1 : Nat) (Option.none : Option Jvm.ClassFile.FieldType)) ∈ lw_all := lw_g (lw_at lw_m9 40 rfl) rfl
theorem q2014 : (Jvm.Cond.classLink "Homewatcher" (75 : Nat) "java/lang/ArithmeticException") ∈ lw_all := lw_g (lw_at lw_m9 41 rfl) rfl
theorem q2015 : (Jvm.Cond.methodLink "Homewatcher" (77 : Nat) ({ cls := "java/lang/ArithmeticException", name := "<init>", desc := "()V" } : Jvm.MethodName)) ∈ lw_all := lw_g (lw_at lw_m9 42 rfl) rfl
theorem q2023 : (Jvm.Cond.instanceMethod ({ cls := "Homewatcher", name := "meanMark", desc := "()D" } : Jvm.MethodName)) ∈ lw_all := lw_g (lw_at lw_m9 50 rfl) rfl
theorem q2024 : (Jvm.Cond.selects "Homewatcher" ({ cls := "Homewatcher", name := "meanMark", desc := "()D" } : Jvm.MethodName) ({ cls := "Homewatcher", name := "meanMark", desc := "()D" } : Jvm.MethodName)) ∈ lw_all := lw_g (lw_at lw_m9 51 rfl) rfl
theorem q2025 : (Jvm.Cond.code ({ cls := "Homewatcher", name := "meanMark", desc := "()D" } : Jvm.MethodName) prog_1_method_63_code (7 : Nat) (Option.some Jvm.ClassFile.FieldType.double)) ∈ lw_all := lw_g (lw_at lw_m9 52 rfl) rfl
theorem q2430 : (Jvm.Cond.castable "Homewatcher" "java/lang/Object") ∈ lw_tbl := lw_at lw_m10 217 rfl
theorem in_X1 : ∀ w ∈ wsX10, w ∈ lw_all := lw_in wsX10 [508, 510, 512, 514, 516, 518, 520, 522, 524, 526, 528] (by decide +kernel) (by decide +kernel)
/-! HomewatcherModel -/
set_option maxRecDepth 100000
def RX2 : String := "HomewatcherModel"
def TX2 : u_T := fun k => match k with
  | 0 => ("HomewatcherModel", "now", "I", false)
  | 1 => ("HomewatcherModel", "classes", "I", false)
  | 2 => ("HomewatcherModel", "pupils", "I", false)
  | 3 => ("HomewatcherModel", "tasks", "I", false)
  | 4 => ("HomewatcherModel", "versions", "I", false)
  | 5 => ("HomewatcherModel", "signs", "I", false)
  | 6 => ("HomewatcherModel", "hits", "I", false)
  | 7 => ("HomewatcherModel", "handed", "I", false)
  | 8 => ("HomewatcherModel", "threshold", "I", false)
  | 9 => ("HomewatcherModel", "thrown", "I", false)
  | 10 => ("HomewatcherModel", "offsets", "[I", true)
  | 11 => ("HomewatcherModel", "classOf", "[I", true)
  | 12 => ("HomewatcherModel", "taskClass", "[I", true)
  | 13 => ("HomewatcherModel", "dues", "[I", true)
  | 14 => ("HomewatcherModel", "fulls", "[I", true)
  | 15 => ("HomewatcherModel", "amounts", "[I", true)
  | 16 => ("HomewatcherModel", "rules", "[C", true)
  | 17 => ("HomewatcherModel", "text", "[I", true)
  | 18 => ("HomewatcherModel", "pupilOf", "[I", true)
  | 19 => ("HomewatcherModel", "taskOf", "[I", true)
  | 20 => ("HomewatcherModel", "parents", "[I", true)
  | 21 => ("HomewatcherModel", "saved", "[I", true)
  | 22 => ("HomewatcherModel", "sizes", "[I", true)
  | 23 => ("HomewatcherModel", "states", "[I", true)
  | 24 => ("HomewatcherModel", "minutes", "[I", true)
  | 25 => ("HomewatcherModel", "orders", "[I", true)
  | 26 => ("HomewatcherModel", "points", "[I", true)
  | 27 => ("HomewatcherModel", "texts", "[I", true)
  | 28 => ("HomewatcherModel", "shingles", "[I", true)
  | 29 => ("HomewatcherModel", "shingleCounts", "[I", true)
  | 30 => ("HomewatcherModel", "hitNew", "[I", true)
  | 31 => ("HomewatcherModel", "hitOld", "[I", true)
  | 32 => ("HomewatcherModel", "hitCommon", "[I", true)
  | 33 => ("HomewatcherModel", "hitHeard", "[I", true)
  | _ => ("HomewatcherModel", "isLost", "[Z", true)
def tyX2 : Nat → FieldType := fun k => match k with
  | 0 => .int
  | 1 => .int
  | 2 => .int
  | 3 => .int
  | 4 => .int
  | 5 => .int
  | 6 => .int
  | 7 => .int
  | 8 => .int
  | 9 => .int
  | 10 => .array .int
  | 11 => .array .int
  | 12 => .array .int
  | 13 => .array .int
  | 14 => .array .int
  | 15 => .array .int
  | 16 => .array .char
  | 17 => .array .int
  | 18 => .array .int
  | 19 => .array .int
  | 20 => .array .int
  | 21 => .array .int
  | 22 => .array .int
  | 23 => .array .int
  | 24 => .array .int
  | 25 => .array .int
  | 26 => .array .int
  | 27 => .array .int
  | 28 => .array .int
  | 29 => .array .int
  | 30 => .array .int
  | 31 => .array .int
  | 32 => .array .int
  | 33 => .array .int
  | _ => .array .boolean
abbrev wsX20 : List Cond := u_ws RX2 TX2 35
set_option maxRecDepth 100000 in
theorem nmX2 : ∀ a, a < 35 → ∀ b, b < 35 → a ≠ b → (TX2 a).2.1 ≠ (TX2 b).2.1 := by decide +kernel
set_option maxRecDepth 100000 in
theorem tyX2_ok : ∀ k, k < 35 → parseFieldDescriptor (TX2 k).2.2.1 = some (tyX2 k) := by decide +kernel
abbrev cX2_init : ByteArray := prog_7_method_1_code
def yX2_init : MethodName := ⟨RX2, "<init>", "()V"⟩
def dkwX2_init_10 : List UInt8 := [181, 0, 108, 42, 16, 40, 188, 10, 181, 0, 111, 42, 16, 120, 188, 4, 181, 0, 114, 177]
abbrev dktX2_init_10 : List UInt8 := dkwX2_init_10 ++ []
def dkwX2_init_9 : List UInt8 := [181, 0, 99, 42, 16, 40, 188, 10, 181, 0, 102, 42, 16, 40, 188, 10, 181, 0, 105, 42, 16, 40, 188, 10]
abbrev dktX2_init_9 : List UInt8 := dkwX2_init_9 ++ dktX2_init_10
def dkwX2_init_8 : List UInt8 := [17, 9, 96, 188, 10, 181, 0, 93, 42, 17, 9, 96, 188, 10, 181, 0, 96, 42, 16, 60, 188, 10]
abbrev dktX2_init_8 : List UInt8 := dkwX2_init_8 ++ dktX2_init_9
def dkwX2_init_7 : List UInt8 := [16, 60, 188, 10, 181, 0, 84, 42, 16, 60, 188, 10, 181, 0, 87, 42, 16, 60, 188, 10, 181, 0, 90, 42]
abbrev dktX2_init_7 : List UInt8 := dkwX2_init_7 ++ dktX2_init_8
def dkwX2_init_6 : List UInt8 := [16, 60, 188, 10, 181, 0, 75, 42, 16, 60, 188, 10, 181, 0, 78, 42, 16, 60, 188, 10, 181, 0, 81, 42]
abbrev dktX2_init_6 : List UInt8 := dkwX2_init_6 ++ dktX2_init_7
def dkwX2_init_5 : List UInt8 := [16, 60, 188, 10, 181, 0, 66, 42, 16, 60, 188, 10, 181, 0, 69, 42, 16, 60, 188, 10, 181, 0, 72, 42]
abbrev dktX2_init_5 : List UInt8 := dkwX2_init_5 ++ dktX2_init_6
def dkwX2_init_4 : List UInt8 := [16, 10, 188, 10, 181, 0, 56, 42, 16, 10, 188, 5, 181, 0, 59, 42, 16, 40, 188, 10, 181, 0, 63, 42]
abbrev dktX2_init_4 : List UInt8 := dkwX2_init_4 ++ dktX2_init_5
def dkwX2_init_3 : List UInt8 := [16, 10, 188, 10, 181, 0, 47, 42, 16, 10, 188, 10, 181, 0, 50, 42, 16, 10, 188, 10, 181, 0, 53, 42]
abbrev dktX2_init_3 : List UInt8 := dkwX2_init_3 ++ dktX2_init_4
def dkwX2_init_2 : List UInt8 := [181, 0, 34, 42, 3, 181, 0, 37, 42, 7, 188, 10, 181, 0, 40, 42, 16, 12, 188, 10, 181, 0, 44, 42]
abbrev dktX2_init_2 : List UInt8 := dkwX2_init_2 ++ dktX2_init_3
def dkwX2_init_1 : List UInt8 := [42, 3, 181, 0, 22, 42, 3, 181, 0, 25, 42, 3, 181, 0, 28, 42, 3, 181, 0, 31, 42, 6]
abbrev dktX2_init_1 : List UInt8 := dkwX2_init_1 ++ dktX2_init_2
def dkwX2_init_0 : List UInt8 := [42, 183, 0, 1, 42, 3, 181, 0, 7, 42, 3, 181, 0, 13, 42, 3, 181, 0, 16, 42, 3, 181, 0, 19]
abbrev dktX2_init_0 : List UInt8 := dkwX2_init_0 ++ dktX2_init_1
theorem dksX2_init_0 : cX2_init.data.toList.drop 0 = dktX2_init_0 := by decide +kernel
theorem dksX2_init_1 : cX2_init.data.toList.drop 24 = dktX2_init_1 := dk_seg dksX2_init_0 24 rfl rfl
theorem dksX2_init_2 : cX2_init.data.toList.drop 46 = dktX2_init_2 := dk_seg dksX2_init_1 22 rfl rfl
theorem dksX2_init_3 : cX2_init.data.toList.drop 70 = dktX2_init_3 := dk_seg dksX2_init_2 24 rfl rfl
theorem dksX2_init_4 : cX2_init.data.toList.drop 94 = dktX2_init_4 := dk_seg dksX2_init_3 24 rfl rfl
theorem dksX2_init_5 : cX2_init.data.toList.drop 118 = dktX2_init_5 := dk_seg dksX2_init_4 24 rfl rfl
theorem dksX2_init_6 : cX2_init.data.toList.drop 142 = dktX2_init_6 := dk_seg dksX2_init_5 24 rfl rfl
theorem dksX2_init_7 : cX2_init.data.toList.drop 166 = dktX2_init_7 := dk_seg dksX2_init_6 24 rfl rfl
theorem dksX2_init_8 : cX2_init.data.toList.drop 190 = dktX2_init_8 := dk_seg dksX2_init_7 24 rfl rfl
theorem dksX2_init_9 : cX2_init.data.toList.drop 212 = dktX2_init_9 := dk_seg dksX2_init_8 22 rfl rfl
theorem dksX2_init_10 : cX2_init.data.toList.drop 236 = dktX2_init_10 := dk_seg dksX2_init_9 24 rfl rfl
theorem dX2_init_0 : decode cX2_init 0 = .ok (.aload_n 0, 1) := dk_42 (dk_at dksX2_init_0 0 rfl rfl)
theorem dX2_init_1 : decode cX2_init 1 = .ok (.invokespecial 1, 3) := dk_183 0 1 (dk_at dksX2_init_0 1 rfl rfl)
theorem dX2_init_4 : decode cX2_init 4 = .ok (.aload_n 0, 1) := dk_42 (dk_at dksX2_init_0 4 rfl rfl)
theorem dX2_init_5 : decode cX2_init 5 = .ok (.iconst 0, 1) := dk_3 (dk_at dksX2_init_0 5 rfl rfl)
theorem dX2_init_6 : decode cX2_init 6 = .ok (.putfield 7, 3) := dk_181 0 7 (dk_at dksX2_init_0 6 rfl rfl)
theorem dX2_init_9 : decode cX2_init 9 = .ok (.aload_n 0, 1) := dk_42 (dk_at dksX2_init_0 9 rfl rfl)
theorem dX2_init_10 : decode cX2_init 10 = .ok (.iconst 0, 1) := dk_3 (dk_at dksX2_init_0 10 rfl rfl)
theorem dX2_init_11 : decode cX2_init 11 = .ok (.putfield 13, 3) := dk_181 0 13 (dk_at dksX2_init_0 11 rfl rfl)
theorem dX2_init_14 : decode cX2_init 14 = .ok (.aload_n 0, 1) := dk_42 (dk_at dksX2_init_0 14 rfl rfl)
theorem dX2_init_15 : decode cX2_init 15 = .ok (.iconst 0, 1) := dk_3 (dk_at dksX2_init_0 15 rfl rfl)
theorem dX2_init_16 : decode cX2_init 16 = .ok (.putfield 16, 3) := dk_181 0 16 (dk_at dksX2_init_0 16 rfl rfl)
theorem dX2_init_19 : decode cX2_init 19 = .ok (.aload_n 0, 1) := dk_42 (dk_at dksX2_init_0 19 rfl rfl)
theorem dX2_init_20 : decode cX2_init 20 = .ok (.iconst 0, 1) := dk_3 (dk_at dksX2_init_0 20 rfl rfl)
theorem dX2_init_21 : decode cX2_init 21 = .ok (.putfield 19, 3) := dk_181 0 19 (dk_at dksX2_init_0 21 rfl rfl)
theorem dX2_init_24 : decode cX2_init 24 = .ok (.aload_n 0, 1) := dk_42 (dk_at dksX2_init_1 0 rfl rfl)
theorem dX2_init_25 : decode cX2_init 25 = .ok (.iconst 0, 1) := dk_3 (dk_at dksX2_init_1 1 rfl rfl)
theorem dX2_init_26 : decode cX2_init 26 = .ok (.putfield 22, 3) := dk_181 0 22 (dk_at dksX2_init_1 2 rfl rfl)
theorem dX2_init_29 : decode cX2_init 29 = .ok (.aload_n 0, 1) := dk_42 (dk_at dksX2_init_1 5 rfl rfl)
theorem dX2_init_30 : decode cX2_init 30 = .ok (.iconst 0, 1) := dk_3 (dk_at dksX2_init_1 6 rfl rfl)
theorem dX2_init_31 : decode cX2_init 31 = .ok (.putfield 25, 3) := dk_181 0 25 (dk_at dksX2_init_1 7 rfl rfl)
theorem dX2_init_34 : decode cX2_init 34 = .ok (.aload_n 0, 1) := dk_42 (dk_at dksX2_init_1 10 rfl rfl)
theorem dX2_init_35 : decode cX2_init 35 = .ok (.iconst 0, 1) := dk_3 (dk_at dksX2_init_1 11 rfl rfl)
theorem dX2_init_36 : decode cX2_init 36 = .ok (.putfield 28, 3) := dk_181 0 28 (dk_at dksX2_init_1 12 rfl rfl)
theorem dX2_init_39 : decode cX2_init 39 = .ok (.aload_n 0, 1) := dk_42 (dk_at dksX2_init_1 15 rfl rfl)
theorem dX2_init_40 : decode cX2_init 40 = .ok (.iconst 0, 1) := dk_3 (dk_at dksX2_init_1 16 rfl rfl)
theorem dX2_init_41 : decode cX2_init 41 = .ok (.putfield 31, 3) := dk_181 0 31 (dk_at dksX2_init_1 17 rfl rfl)
theorem dX2_init_44 : decode cX2_init 44 = .ok (.aload_n 0, 1) := dk_42 (dk_at dksX2_init_1 20 rfl rfl)
theorem dX2_init_45 : decode cX2_init 45 = .ok (.iconst 3, 1) := dk_6 (dk_at dksX2_init_1 21 rfl rfl)
theorem dX2_init_46 : decode cX2_init 46 = .ok (.putfield 34, 3) := dk_181 0 34 (dk_at dksX2_init_2 0 rfl rfl)
theorem dX2_init_49 : decode cX2_init 49 = .ok (.aload_n 0, 1) := dk_42 (dk_at dksX2_init_2 3 rfl rfl)
theorem dX2_init_50 : decode cX2_init 50 = .ok (.iconst 0, 1) := dk_3 (dk_at dksX2_init_2 4 rfl rfl)
theorem dX2_init_51 : decode cX2_init 51 = .ok (.putfield 37, 3) := dk_181 0 37 (dk_at dksX2_init_2 5 rfl rfl)
theorem dX2_init_54 : decode cX2_init 54 = .ok (.aload_n 0, 1) := dk_42 (dk_at dksX2_init_2 8 rfl rfl)
theorem dX2_init_55 : decode cX2_init 55 = .ok (.iconst 4, 1) := dk_7 (dk_at dksX2_init_2 9 rfl rfl)
theorem dX2_init_56 : decode cX2_init 56 = .ok (.newarray .int, 2) := dk_188_10 (dk_at dksX2_init_2 10 rfl rfl)
theorem dX2_init_58 : decode cX2_init 58 = .ok (.putfield 40, 3) := dk_181 0 40 (dk_at dksX2_init_2 12 rfl rfl)
theorem dX2_init_61 : decode cX2_init 61 = .ok (.aload_n 0, 1) := dk_42 (dk_at dksX2_init_2 15 rfl rfl)
theorem dX2_init_62 : decode cX2_init 62 = .ok (.bipush 12, 2) := dk_16 12 (dk_at dksX2_init_2 16 rfl rfl)
theorem dX2_init_64 : decode cX2_init 64 = .ok (.newarray .int, 2) := dk_188_10 (dk_at dksX2_init_2 18 rfl rfl)
theorem dX2_init_66 : decode cX2_init 66 = .ok (.putfield 44, 3) := dk_181 0 44 (dk_at dksX2_init_2 20 rfl rfl)
theorem dX2_init_69 : decode cX2_init 69 = .ok (.aload_n 0, 1) := dk_42 (dk_at dksX2_init_2 23 rfl rfl)
theorem dX2_init_70 : decode cX2_init 70 = .ok (.bipush 10, 2) := dk_16 10 (dk_at dksX2_init_3 0 rfl rfl)
theorem dX2_init_72 : decode cX2_init 72 = .ok (.newarray .int, 2) := dk_188_10 (dk_at dksX2_init_3 2 rfl rfl)
theorem dX2_init_74 : decode cX2_init 74 = .ok (.putfield 47, 3) := dk_181 0 47 (dk_at dksX2_init_3 4 rfl rfl)
theorem dX2_init_77 : decode cX2_init 77 = .ok (.aload_n 0, 1) := dk_42 (dk_at dksX2_init_3 7 rfl rfl)
theorem dX2_init_78 : decode cX2_init 78 = .ok (.bipush 10, 2) := dk_16 10 (dk_at dksX2_init_3 8 rfl rfl)
theorem dX2_init_80 : decode cX2_init 80 = .ok (.newarray .int, 2) := dk_188_10 (dk_at dksX2_init_3 10 rfl rfl)
theorem dX2_init_82 : decode cX2_init 82 = .ok (.putfield 50, 3) := dk_181 0 50 (dk_at dksX2_init_3 12 rfl rfl)
theorem dX2_init_85 : decode cX2_init 85 = .ok (.aload_n 0, 1) := dk_42 (dk_at dksX2_init_3 15 rfl rfl)
theorem dX2_init_86 : decode cX2_init 86 = .ok (.bipush 10, 2) := dk_16 10 (dk_at dksX2_init_3 16 rfl rfl)
theorem dX2_init_88 : decode cX2_init 88 = .ok (.newarray .int, 2) := dk_188_10 (dk_at dksX2_init_3 18 rfl rfl)
theorem dX2_init_90 : decode cX2_init 90 = .ok (.putfield 53, 3) := dk_181 0 53 (dk_at dksX2_init_3 20 rfl rfl)
theorem dX2_init_93 : decode cX2_init 93 = .ok (.aload_n 0, 1) := dk_42 (dk_at dksX2_init_3 23 rfl rfl)
theorem dX2_init_94 : decode cX2_init 94 = .ok (.bipush 10, 2) := dk_16 10 (dk_at dksX2_init_4 0 rfl rfl)
theorem dX2_init_96 : decode cX2_init 96 = .ok (.newarray .int, 2) := dk_188_10 (dk_at dksX2_init_4 2 rfl rfl)
theorem dX2_init_98 : decode cX2_init 98 = .ok (.putfield 56, 3) := dk_181 0 56 (dk_at dksX2_init_4 4 rfl rfl)
theorem dX2_init_101 : decode cX2_init 101 = .ok (.aload_n 0, 1) := dk_42 (dk_at dksX2_init_4 7 rfl rfl)
theorem dX2_init_102 : decode cX2_init 102 = .ok (.bipush 10, 2) := dk_16 10 (dk_at dksX2_init_4 8 rfl rfl)
theorem dX2_init_104 : decode cX2_init 104 = .ok (.newarray .char, 2) := dk_188_5 (dk_at dksX2_init_4 10 rfl rfl)
theorem dX2_init_106 : decode cX2_init 106 = .ok (.putfield 59, 3) := dk_181 0 59 (dk_at dksX2_init_4 12 rfl rfl)
theorem dX2_init_109 : decode cX2_init 109 = .ok (.aload_n 0, 1) := dk_42 (dk_at dksX2_init_4 15 rfl rfl)
theorem dX2_init_110 : decode cX2_init 110 = .ok (.bipush 40, 2) := dk_16 40 (dk_at dksX2_init_4 16 rfl rfl)
theorem dX2_init_112 : decode cX2_init 112 = .ok (.newarray .int, 2) := dk_188_10 (dk_at dksX2_init_4 18 rfl rfl)
theorem dX2_init_114 : decode cX2_init 114 = .ok (.putfield 63, 3) := dk_181 0 63 (dk_at dksX2_init_4 20 rfl rfl)
theorem dX2_init_117 : decode cX2_init 117 = .ok (.aload_n 0, 1) := dk_42 (dk_at dksX2_init_4 23 rfl rfl)
theorem dX2_init_118 : decode cX2_init 118 = .ok (.bipush 60, 2) := dk_16 60 (dk_at dksX2_init_5 0 rfl rfl)
theorem dX2_init_120 : decode cX2_init 120 = .ok (.newarray .int, 2) := dk_188_10 (dk_at dksX2_init_5 2 rfl rfl)
theorem dX2_init_122 : decode cX2_init 122 = .ok (.putfield 66, 3) := dk_181 0 66 (dk_at dksX2_init_5 4 rfl rfl)
theorem dX2_init_125 : decode cX2_init 125 = .ok (.aload_n 0, 1) := dk_42 (dk_at dksX2_init_5 7 rfl rfl)
theorem dX2_init_126 : decode cX2_init 126 = .ok (.bipush 60, 2) := dk_16 60 (dk_at dksX2_init_5 8 rfl rfl)
theorem dX2_init_128 : decode cX2_init 128 = .ok (.newarray .int, 2) := dk_188_10 (dk_at dksX2_init_5 10 rfl rfl)
theorem dX2_init_130 : decode cX2_init 130 = .ok (.putfield 69, 3) := dk_181 0 69 (dk_at dksX2_init_5 12 rfl rfl)
theorem dX2_init_133 : decode cX2_init 133 = .ok (.aload_n 0, 1) := dk_42 (dk_at dksX2_init_5 15 rfl rfl)
theorem dX2_init_134 : decode cX2_init 134 = .ok (.bipush 60, 2) := dk_16 60 (dk_at dksX2_init_5 16 rfl rfl)
theorem dX2_init_136 : decode cX2_init 136 = .ok (.newarray .int, 2) := dk_188_10 (dk_at dksX2_init_5 18 rfl rfl)
theorem dX2_init_138 : decode cX2_init 138 = .ok (.putfield 72, 3) := dk_181 0 72 (dk_at dksX2_init_5 20 rfl rfl)
theorem dX2_init_141 : decode cX2_init 141 = .ok (.aload_n 0, 1) := dk_42 (dk_at dksX2_init_5 23 rfl rfl)
theorem dX2_init_142 : decode cX2_init 142 = .ok (.bipush 60, 2) := dk_16 60 (dk_at dksX2_init_6 0 rfl rfl)
theorem dX2_init_144 : decode cX2_init 144 = .ok (.newarray .int, 2) := dk_188_10 (dk_at dksX2_init_6 2 rfl rfl)
theorem dX2_init_146 : decode cX2_init 146 = .ok (.putfield 75, 3) := dk_181 0 75 (dk_at dksX2_init_6 4 rfl rfl)
theorem dX2_init_149 : decode cX2_init 149 = .ok (.aload_n 0, 1) := dk_42 (dk_at dksX2_init_6 7 rfl rfl)
theorem dX2_init_150 : decode cX2_init 150 = .ok (.bipush 60, 2) := dk_16 60 (dk_at dksX2_init_6 8 rfl rfl)
theorem dX2_init_152 : decode cX2_init 152 = .ok (.newarray .int, 2) := dk_188_10 (dk_at dksX2_init_6 10 rfl rfl)
theorem dX2_init_154 : decode cX2_init 154 = .ok (.putfield 78, 3) := dk_181 0 78 (dk_at dksX2_init_6 12 rfl rfl)
theorem dX2_init_157 : decode cX2_init 157 = .ok (.aload_n 0, 1) := dk_42 (dk_at dksX2_init_6 15 rfl rfl)
theorem dX2_init_158 : decode cX2_init 158 = .ok (.bipush 60, 2) := dk_16 60 (dk_at dksX2_init_6 16 rfl rfl)
theorem dX2_init_160 : decode cX2_init 160 = .ok (.newarray .int, 2) := dk_188_10 (dk_at dksX2_init_6 18 rfl rfl)
theorem dX2_init_162 : decode cX2_init 162 = .ok (.putfield 81, 3) := dk_181 0 81 (dk_at dksX2_init_6 20 rfl rfl)
theorem dX2_init_165 : decode cX2_init 165 = .ok (.aload_n 0, 1) := dk_42 (dk_at dksX2_init_6 23 rfl rfl)
theorem dX2_init_166 : decode cX2_init 166 = .ok (.bipush 60, 2) := dk_16 60 (dk_at dksX2_init_7 0 rfl rfl)
theorem dX2_init_168 : decode cX2_init 168 = .ok (.newarray .int, 2) := dk_188_10 (dk_at dksX2_init_7 2 rfl rfl)
theorem dX2_init_170 : decode cX2_init 170 = .ok (.putfield 84, 3) := dk_181 0 84 (dk_at dksX2_init_7 4 rfl rfl)
theorem dX2_init_173 : decode cX2_init 173 = .ok (.aload_n 0, 1) := dk_42 (dk_at dksX2_init_7 7 rfl rfl)
theorem dX2_init_174 : decode cX2_init 174 = .ok (.bipush 60, 2) := dk_16 60 (dk_at dksX2_init_7 8 rfl rfl)
theorem dX2_init_176 : decode cX2_init 176 = .ok (.newarray .int, 2) := dk_188_10 (dk_at dksX2_init_7 10 rfl rfl)
theorem dX2_init_178 : decode cX2_init 178 = .ok (.putfield 87, 3) := dk_181 0 87 (dk_at dksX2_init_7 12 rfl rfl)
theorem dX2_init_181 : decode cX2_init 181 = .ok (.aload_n 0, 1) := dk_42 (dk_at dksX2_init_7 15 rfl rfl)
theorem dX2_init_182 : decode cX2_init 182 = .ok (.bipush 60, 2) := dk_16 60 (dk_at dksX2_init_7 16 rfl rfl)
theorem dX2_init_184 : decode cX2_init 184 = .ok (.newarray .int, 2) := dk_188_10 (dk_at dksX2_init_7 18 rfl rfl)
theorem dX2_init_186 : decode cX2_init 186 = .ok (.putfield 90, 3) := dk_181 0 90 (dk_at dksX2_init_7 20 rfl rfl)
theorem dX2_init_189 : decode cX2_init 189 = .ok (.aload_n 0, 1) := dk_42 (dk_at dksX2_init_7 23 rfl rfl)
theorem dX2_init_190 : decode cX2_init 190 = .ok (.sipush 2400, 3) := dk_17 9 96 (dk_at dksX2_init_8 0 rfl rfl)
theorem dX2_init_193 : decode cX2_init 193 = .ok (.newarray .int, 2) := dk_188_10 (dk_at dksX2_init_8 3 rfl rfl)
theorem dX2_init_195 : decode cX2_init 195 = .ok (.putfield 93, 3) := dk_181 0 93 (dk_at dksX2_init_8 5 rfl rfl)
theorem dX2_init_198 : decode cX2_init 198 = .ok (.aload_n 0, 1) := dk_42 (dk_at dksX2_init_8 8 rfl rfl)
theorem dX2_init_199 : decode cX2_init 199 = .ok (.sipush 2400, 3) := dk_17 9 96 (dk_at dksX2_init_8 9 rfl rfl)
theorem dX2_init_202 : decode cX2_init 202 = .ok (.newarray .int, 2) := dk_188_10 (dk_at dksX2_init_8 12 rfl rfl)
theorem dX2_init_204 : decode cX2_init 204 = .ok (.putfield 96, 3) := dk_181 0 96 (dk_at dksX2_init_8 14 rfl rfl)
theorem dX2_init_207 : decode cX2_init 207 = .ok (.aload_n 0, 1) := dk_42 (dk_at dksX2_init_8 17 rfl rfl)
theorem dX2_init_208 : decode cX2_init 208 = .ok (.bipush 60, 2) := dk_16 60 (dk_at dksX2_init_8 18 rfl rfl)
theorem dX2_init_210 : decode cX2_init 210 = .ok (.newarray .int, 2) := dk_188_10 (dk_at dksX2_init_8 20 rfl rfl)
theorem dX2_init_212 : decode cX2_init 212 = .ok (.putfield 99, 3) := dk_181 0 99 (dk_at dksX2_init_9 0 rfl rfl)
theorem dX2_init_215 : decode cX2_init 215 = .ok (.aload_n 0, 1) := dk_42 (dk_at dksX2_init_9 3 rfl rfl)
theorem dX2_init_216 : decode cX2_init 216 = .ok (.bipush 40, 2) := dk_16 40 (dk_at dksX2_init_9 4 rfl rfl)
theorem dX2_init_218 : decode cX2_init 218 = .ok (.newarray .int, 2) := dk_188_10 (dk_at dksX2_init_9 6 rfl rfl)
theorem dX2_init_220 : decode cX2_init 220 = .ok (.putfield 102, 3) := dk_181 0 102 (dk_at dksX2_init_9 8 rfl rfl)
theorem dX2_init_223 : decode cX2_init 223 = .ok (.aload_n 0, 1) := dk_42 (dk_at dksX2_init_9 11 rfl rfl)
theorem dX2_init_224 : decode cX2_init 224 = .ok (.bipush 40, 2) := dk_16 40 (dk_at dksX2_init_9 12 rfl rfl)
theorem dX2_init_226 : decode cX2_init 226 = .ok (.newarray .int, 2) := dk_188_10 (dk_at dksX2_init_9 14 rfl rfl)
theorem dX2_init_228 : decode cX2_init 228 = .ok (.putfield 105, 3) := dk_181 0 105 (dk_at dksX2_init_9 16 rfl rfl)
theorem dX2_init_231 : decode cX2_init 231 = .ok (.aload_n 0, 1) := dk_42 (dk_at dksX2_init_9 19 rfl rfl)
theorem dX2_init_232 : decode cX2_init 232 = .ok (.bipush 40, 2) := dk_16 40 (dk_at dksX2_init_9 20 rfl rfl)
theorem dX2_init_234 : decode cX2_init 234 = .ok (.newarray .int, 2) := dk_188_10 (dk_at dksX2_init_9 22 rfl rfl)
theorem dX2_init_236 : decode cX2_init 236 = .ok (.putfield 108, 3) := dk_181 0 108 (dk_at dksX2_init_10 0 rfl rfl)
theorem dX2_init_239 : decode cX2_init 239 = .ok (.aload_n 0, 1) := dk_42 (dk_at dksX2_init_10 3 rfl rfl)
theorem dX2_init_240 : decode cX2_init 240 = .ok (.bipush 40, 2) := dk_16 40 (dk_at dksX2_init_10 4 rfl rfl)
theorem dX2_init_242 : decode cX2_init 242 = .ok (.newarray .int, 2) := dk_188_10 (dk_at dksX2_init_10 6 rfl rfl)
theorem dX2_init_244 : decode cX2_init 244 = .ok (.putfield 111, 3) := dk_181 0 111 (dk_at dksX2_init_10 8 rfl rfl)
theorem dX2_init_247 : decode cX2_init 247 = .ok (.aload_n 0, 1) := dk_42 (dk_at dksX2_init_10 11 rfl rfl)
theorem dX2_init_248 : decode cX2_init 248 = .ok (.bipush 120, 2) := dk_16 120 (dk_at dksX2_init_10 12 rfl rfl)
theorem dX2_init_250 : decode cX2_init 250 = .ok (.newarray .boolean, 2) := dk_188_4 (dk_at dksX2_init_10 14 rfl rfl)
theorem dX2_init_252 : decode cX2_init 252 = .ok (.putfield 114, 3) := dk_181 0 114 (dk_at dksX2_init_10 16 rfl rfl)
theorem dX2_init_255 : decode cX2_init 255 = .ok (.return_, 1) := dk_177 (dk_at dksX2_init_10 19 rfl rfl)
abbrev cX2_thrown : ByteArray := prog_7_method_2_code
def yX2_thrown : MethodName := ⟨RX2, "thrown", "()I"⟩
theorem dX2_thrown_0 : decode cX2_thrown 0 = .ok (.aload_n 0, 1) := by decide +kernel
theorem dX2_thrown_1 : decode cX2_thrown 1 = .ok (.getfield 37, 3) := by decide +kernel
theorem dX2_thrown_4 : decode cX2_thrown 4 = .ok (.ireturn, 1) := by decide +kernel
abbrev cX2_classroom : ByteArray := prog_7_method_8_code
def yX2_classroom : MethodName := ⟨RX2, "classroom", "(I)I"⟩
def dkwX2_classroom_2 : List UInt8 := [4, 96, 181, 0, 13, 42, 42, 180, 0, 13, 4, 100, 182, 0, 126, 172]
abbrev dktX2_classroom_2 : List UInt8 := dkwX2_classroom_2 ++ []
def dkwX2_classroom_1 : List UInt8 := [160, 0, 9, 42, 5, 182, 0, 122, 172, 42, 180, 0, 40, 42, 180, 0, 13, 27, 79, 42, 89, 180, 0, 13]
abbrev dktX2_classroom_1 : List UInt8 := dkwX2_classroom_1 ++ dktX2_classroom_2
def dkwX2_classroom_0 : List UInt8 := [27, 17, 253, 48, 17, 2, 208, 184, 0, 118, 154, 0, 9, 42, 4, 182, 0, 122, 172, 42, 180, 0, 13, 7]
abbrev dktX2_classroom_0 : List UInt8 := dkwX2_classroom_0 ++ dktX2_classroom_1
theorem dksX2_classroom_0 : cX2_classroom.data.toList.drop 0 = dktX2_classroom_0 := by decide +kernel
theorem dksX2_classroom_1 : cX2_classroom.data.toList.drop 24 = dktX2_classroom_1 := dk_seg dksX2_classroom_0 24 rfl rfl
theorem dksX2_classroom_2 : cX2_classroom.data.toList.drop 48 = dktX2_classroom_2 := dk_seg dksX2_classroom_1 24 rfl rfl
theorem dX2_classroom_0 : decode cX2_classroom 0 = .ok (.iload_n 1, 1) := dk_27 (dk_at dksX2_classroom_0 0 rfl rfl)
theorem dX2_classroom_1 : decode cX2_classroom 1 = .ok (.sipush (-720), 3) := dk_17 253 48 (dk_at dksX2_classroom_0 1 rfl rfl)
theorem dX2_classroom_4 : decode cX2_classroom 4 = .ok (.sipush 720, 3) := dk_17 2 208 (dk_at dksX2_classroom_0 4 rfl rfl)
theorem dX2_classroom_7 : decode cX2_classroom 7 = .ok (.invokestatic 118, 3) := dk_184 0 118 (dk_at dksX2_classroom_0 7 rfl rfl)
theorem dX2_classroom_10 : decode cX2_classroom 10 = .ok (.ifCond .ne 9, 3) := dk_154 0 9 (dk_at dksX2_classroom_0 10 rfl rfl)
theorem dX2_classroom_13 : decode cX2_classroom 13 = .ok (.aload_n 0, 1) := dk_42 (dk_at dksX2_classroom_0 13 rfl rfl)
theorem dX2_classroom_14 : decode cX2_classroom 14 = .ok (.iconst 1, 1) := dk_4 (dk_at dksX2_classroom_0 14 rfl rfl)
theorem dX2_classroom_15 : decode cX2_classroom 15 = .ok (.invokevirtual 122, 3) := dk_182 0 122 (dk_at dksX2_classroom_0 15 rfl rfl)
theorem dX2_classroom_18 : decode cX2_classroom 18 = .ok (.ireturn, 1) := dk_172 (dk_at dksX2_classroom_0 18 rfl rfl)
theorem dX2_classroom_19 : decode cX2_classroom 19 = .ok (.aload_n 0, 1) := dk_42 (dk_at dksX2_classroom_0 19 rfl rfl)
theorem dX2_classroom_20 : decode cX2_classroom 20 = .ok (.getfield 13, 3) := dk_180 0 13 (dk_at dksX2_classroom_0 20 rfl rfl)
theorem dX2_classroom_23 : decode cX2_classroom 23 = .ok (.iconst 4, 1) := dk_7 (dk_at dksX2_classroom_0 23 rfl rfl)
theorem dX2_classroom_24 : decode cX2_classroom 24 = .ok (.if_icmp .ne 9, 3) := dk_160 0 9 (dk_at dksX2_classroom_1 0 rfl rfl)
theorem dX2_classroom_27 : decode cX2_classroom 27 = .ok (.aload_n 0, 1) := dk_42 (dk_at dksX2_classroom_1 3 rfl rfl)
theorem dX2_classroom_28 : decode cX2_classroom 28 = .ok (.iconst 2, 1) := dk_5 (dk_at dksX2_classroom_1 4 rfl rfl)
theorem dX2_classroom_29 : decode cX2_classroom 29 = .ok (.invokevirtual 122, 3) := dk_182 0 122 (dk_at dksX2_classroom_1 5 rfl rfl)
theorem dX2_classroom_32 : decode cX2_classroom 32 = .ok (.ireturn, 1) := dk_172 (dk_at dksX2_classroom_1 8 rfl rfl)
theorem dX2_classroom_33 : decode cX2_classroom 33 = .ok (.aload_n 0, 1) := dk_42 (dk_at dksX2_classroom_1 9 rfl rfl)
theorem dX2_classroom_34 : decode cX2_classroom 34 = .ok (.getfield 40, 3) := dk_180 0 40 (dk_at dksX2_classroom_1 10 rfl rfl)
theorem dX2_classroom_37 : decode cX2_classroom 37 = .ok (.aload_n 0, 1) := dk_42 (dk_at dksX2_classroom_1 13 rfl rfl)
theorem dX2_classroom_38 : decode cX2_classroom 38 = .ok (.getfield 13, 3) := dk_180 0 13 (dk_at dksX2_classroom_1 14 rfl rfl)
theorem dX2_classroom_41 : decode cX2_classroom 41 = .ok (.iload_n 1, 1) := dk_27 (dk_at dksX2_classroom_1 17 rfl rfl)
theorem dX2_classroom_42 : decode cX2_classroom 42 = .ok (.iastore, 1) := dk_79 (dk_at dksX2_classroom_1 18 rfl rfl)
theorem dX2_classroom_43 : decode cX2_classroom 43 = .ok (.aload_n 0, 1) := dk_42 (dk_at dksX2_classroom_1 19 rfl rfl)
theorem dX2_classroom_44 : decode cX2_classroom 44 = .ok (.dup, 1) := dk_89 (dk_at dksX2_classroom_1 20 rfl rfl)
theorem dX2_classroom_45 : decode cX2_classroom 45 = .ok (.getfield 13, 3) := dk_180 0 13 (dk_at dksX2_classroom_1 21 rfl rfl)
theorem dX2_classroom_48 : decode cX2_classroom 48 = .ok (.iconst 1, 1) := dk_4 (dk_at dksX2_classroom_2 0 rfl rfl)
theorem dX2_classroom_49 : decode cX2_classroom 49 = .ok (.iadd, 1) := dk_96 (dk_at dksX2_classroom_2 1 rfl rfl)
theorem dX2_classroom_50 : decode cX2_classroom 50 = .ok (.putfield 13, 3) := dk_181 0 13 (dk_at dksX2_classroom_2 2 rfl rfl)
theorem dX2_classroom_53 : decode cX2_classroom 53 = .ok (.aload_n 0, 1) := dk_42 (dk_at dksX2_classroom_2 5 rfl rfl)
theorem dX2_classroom_54 : decode cX2_classroom 54 = .ok (.aload_n 0, 1) := dk_42 (dk_at dksX2_classroom_2 6 rfl rfl)
theorem dX2_classroom_55 : decode cX2_classroom 55 = .ok (.getfield 13, 3) := dk_180 0 13 (dk_at dksX2_classroom_2 7 rfl rfl)
theorem dX2_classroom_58 : decode cX2_classroom 58 = .ok (.iconst 1, 1) := dk_4 (dk_at dksX2_classroom_2 10 rfl rfl)
theorem dX2_classroom_59 : decode cX2_classroom 59 = .ok (.isub, 1) := dk_100 (dk_at dksX2_classroom_2 11 rfl rfl)
theorem dX2_classroom_60 : decode cX2_classroom 60 = .ok (.invokevirtual 126, 3) := dk_182 0 126 (dk_at dksX2_classroom_2 12 rfl rfl)
theorem dX2_classroom_63 : decode cX2_classroom 63 = .ok (.ireturn, 1) := dk_172 (dk_at dksX2_classroom_2 15 rfl rfl)
abbrev cX2_in : ByteArray := prog_7_method_5_code
def yX2_in : MethodName := ⟨RX2, "in", "(III)Z"⟩
def dkwX2_in_0 : List UInt8 := [26, 27, 161, 0, 12, 26, 28, 163, 0, 7, 4, 167, 0, 4, 3, 172]
abbrev dktX2_in_0 : List UInt8 := dkwX2_in_0 ++ []
theorem dksX2_in_0 : cX2_in.data.toList.drop 0 = dktX2_in_0 := by decide +kernel
theorem dX2_in_0 : decode cX2_in 0 = .ok (.iload_n 0, 1) := dk_26 (dk_at dksX2_in_0 0 rfl rfl)
theorem dX2_in_1 : decode cX2_in 1 = .ok (.iload_n 1, 1) := dk_27 (dk_at dksX2_in_0 1 rfl rfl)
theorem dX2_in_2 : decode cX2_in 2 = .ok (.if_icmp .lt 12, 3) := dk_161 0 12 (dk_at dksX2_in_0 2 rfl rfl)
theorem dX2_in_5 : decode cX2_in 5 = .ok (.iload_n 0, 1) := dk_26 (dk_at dksX2_in_0 5 rfl rfl)
theorem dX2_in_6 : decode cX2_in 6 = .ok (.iload_n 2, 1) := dk_28 (dk_at dksX2_in_0 6 rfl rfl)
theorem dX2_in_7 : decode cX2_in 7 = .ok (.if_icmp .gt 7, 3) := dk_163 0 7 (dk_at dksX2_in_0 7 rfl rfl)
theorem dX2_in_10 : decode cX2_in 10 = .ok (.iconst 1, 1) := dk_4 (dk_at dksX2_in_0 10 rfl rfl)
theorem dX2_in_11 : decode cX2_in 11 = .ok (.goto 4, 3) := dk_167 0 4 (dk_at dksX2_in_0 11 rfl rfl)
theorem dX2_in_14 : decode cX2_in 14 = .ok (.iconst 0, 1) := dk_3 (dk_at dksX2_in_0 14 rfl rfl)
theorem dX2_in_15 : decode cX2_in 15 = .ok (.ireturn, 1) := dk_172 (dk_at dksX2_in_0 15 rfl rfl)
abbrev cX2_fails : ByteArray := prog_7_method_6_code
def yX2_fails : MethodName := ⟨RX2, "fails", "(I)I"⟩
def dkwX2_fails_0 : List UInt8 := [42, 27, 181, 0, 37, 3, 172]
abbrev dktX2_fails_0 : List UInt8 := dkwX2_fails_0 ++ []
theorem dksX2_fails_0 : cX2_fails.data.toList.drop 0 = dktX2_fails_0 := by decide +kernel
theorem dX2_fails_0 : decode cX2_fails 0 = .ok (.aload_n 0, 1) := dk_42 (dk_at dksX2_fails_0 0 rfl rfl)
theorem dX2_fails_1 : decode cX2_fails 1 = .ok (.iload_n 1, 1) := dk_27 (dk_at dksX2_fails_0 1 rfl rfl)
theorem dX2_fails_2 : decode cX2_fails 2 = .ok (.putfield 37, 3) := dk_181 0 37 (dk_at dksX2_fails_0 2 rfl rfl)
theorem dX2_fails_5 : decode cX2_fails 5 = .ok (.iconst 0, 1) := dk_3 (dk_at dksX2_fails_0 5 rfl rfl)
theorem dX2_fails_6 : decode cX2_fails 6 = .ok (.ireturn, 1) := dk_172 (dk_at dksX2_fails_0 6 rfl rfl)
abbrev cX2_tells : ByteArray := prog_7_method_7_code
def yX2_tells : MethodName := ⟨RX2, "tells", "(I)I"⟩
def dkwX2_tells_0 : List UInt8 := [42, 3, 181, 0, 37, 27, 172]
abbrev dktX2_tells_0 : List UInt8 := dkwX2_tells_0 ++ []
theorem dksX2_tells_0 : cX2_tells.data.toList.drop 0 = dktX2_tells_0 := by decide +kernel
theorem dX2_tells_0 : decode cX2_tells 0 = .ok (.aload_n 0, 1) := dk_42 (dk_at dksX2_tells_0 0 rfl rfl)
theorem dX2_tells_1 : decode cX2_tells 1 = .ok (.iconst 0, 1) := dk_3 (dk_at dksX2_tells_0 1 rfl rfl)
theorem dX2_tells_2 : decode cX2_tells 2 = .ok (.putfield 37, 3) := dk_181 0 37 (dk_at dksX2_tells_0 2 rfl rfl)
theorem dX2_tells_5 : decode cX2_tells 5 = .ok (.iload_n 1, 1) := dk_27 (dk_at dksX2_tells_0 5 rfl rfl)
theorem dX2_tells_6 : decode cX2_tells 6 = .ok (.ireturn, 1) := dk_172 (dk_at dksX2_tells_0 6 rfl rfl)
abbrev cX2_pupil : ByteArray := prog_7_method_10_code
def yX2_pupil : MethodName := ⟨RX2, "pupil", "(I)I"⟩
def dkwX2_pupil_2 : List UInt8 := [181, 0, 16, 42, 42, 180, 0, 16, 4, 100, 182, 0, 126, 172]
abbrev dktX2_pupil_2 : List UInt8 := dkwX2_pupil_2 ++ []
def dkwX2_pupil_1 : List UInt8 := [5, 182, 0, 122, 172, 42, 180, 0, 44, 42, 180, 0, 16, 27, 79, 42, 89, 180, 0, 16, 4, 96]
abbrev dktX2_pupil_1 : List UInt8 := dkwX2_pupil_1 ++ dktX2_pupil_2
def dkwX2_pupil_0 : List UInt8 := [42, 27, 182, 0, 129, 154, 0, 9, 42, 4, 182, 0, 122, 172, 42, 180, 0, 16, 16, 12, 160, 0, 9, 42]
abbrev dktX2_pupil_0 : List UInt8 := dkwX2_pupil_0 ++ dktX2_pupil_1
theorem dksX2_pupil_0 : cX2_pupil.data.toList.drop 0 = dktX2_pupil_0 := by decide +kernel
theorem dksX2_pupil_1 : cX2_pupil.data.toList.drop 24 = dktX2_pupil_1 := dk_seg dksX2_pupil_0 24 rfl rfl
theorem dksX2_pupil_2 : cX2_pupil.data.toList.drop 46 = dktX2_pupil_2 := dk_seg dksX2_pupil_1 22 rfl rfl
theorem dX2_pupil_0 : decode cX2_pupil 0 = .ok (.aload_n 0, 1) := dk_42 (dk_at dksX2_pupil_0 0 rfl rfl)
theorem dX2_pupil_1 : decode cX2_pupil 1 = .ok (.iload_n 1, 1) := dk_27 (dk_at dksX2_pupil_0 1 rfl rfl)
theorem dX2_pupil_2 : decode cX2_pupil 2 = .ok (.invokevirtual 129, 3) := dk_182 0 129 (dk_at dksX2_pupil_0 2 rfl rfl)
theorem dX2_pupil_5 : decode cX2_pupil 5 = .ok (.ifCond .ne 9, 3) := dk_154 0 9 (dk_at dksX2_pupil_0 5 rfl rfl)
theorem dX2_pupil_8 : decode cX2_pupil 8 = .ok (.aload_n 0, 1) := dk_42 (dk_at dksX2_pupil_0 8 rfl rfl)
theorem dX2_pupil_9 : decode cX2_pupil 9 = .ok (.iconst 1, 1) := dk_4 (dk_at dksX2_pupil_0 9 rfl rfl)
theorem dX2_pupil_10 : decode cX2_pupil 10 = .ok (.invokevirtual 122, 3) := dk_182 0 122 (dk_at dksX2_pupil_0 10 rfl rfl)
theorem dX2_pupil_13 : decode cX2_pupil 13 = .ok (.ireturn, 1) := dk_172 (dk_at dksX2_pupil_0 13 rfl rfl)
theorem dX2_pupil_14 : decode cX2_pupil 14 = .ok (.aload_n 0, 1) := dk_42 (dk_at dksX2_pupil_0 14 rfl rfl)
theorem dX2_pupil_15 : decode cX2_pupil 15 = .ok (.getfield 16, 3) := dk_180 0 16 (dk_at dksX2_pupil_0 15 rfl rfl)
theorem dX2_pupil_18 : decode cX2_pupil 18 = .ok (.bipush 12, 2) := dk_16 12 (dk_at dksX2_pupil_0 18 rfl rfl)
theorem dX2_pupil_20 : decode cX2_pupil 20 = .ok (.if_icmp .ne 9, 3) := dk_160 0 9 (dk_at dksX2_pupil_0 20 rfl rfl)
theorem dX2_pupil_23 : decode cX2_pupil 23 = .ok (.aload_n 0, 1) := dk_42 (dk_at dksX2_pupil_0 23 rfl rfl)
theorem dX2_pupil_24 : decode cX2_pupil 24 = .ok (.iconst 2, 1) := dk_5 (dk_at dksX2_pupil_1 0 rfl rfl)
theorem dX2_pupil_25 : decode cX2_pupil 25 = .ok (.invokevirtual 122, 3) := dk_182 0 122 (dk_at dksX2_pupil_1 1 rfl rfl)
theorem dX2_pupil_28 : decode cX2_pupil 28 = .ok (.ireturn, 1) := dk_172 (dk_at dksX2_pupil_1 4 rfl rfl)
theorem dX2_pupil_29 : decode cX2_pupil 29 = .ok (.aload_n 0, 1) := dk_42 (dk_at dksX2_pupil_1 5 rfl rfl)
theorem dX2_pupil_30 : decode cX2_pupil 30 = .ok (.getfield 44, 3) := dk_180 0 44 (dk_at dksX2_pupil_1 6 rfl rfl)
theorem dX2_pupil_33 : decode cX2_pupil 33 = .ok (.aload_n 0, 1) := dk_42 (dk_at dksX2_pupil_1 9 rfl rfl)
theorem dX2_pupil_34 : decode cX2_pupil 34 = .ok (.getfield 16, 3) := dk_180 0 16 (dk_at dksX2_pupil_1 10 rfl rfl)
theorem dX2_pupil_37 : decode cX2_pupil 37 = .ok (.iload_n 1, 1) := dk_27 (dk_at dksX2_pupil_1 13 rfl rfl)
theorem dX2_pupil_38 : decode cX2_pupil 38 = .ok (.iastore, 1) := dk_79 (dk_at dksX2_pupil_1 14 rfl rfl)
theorem dX2_pupil_39 : decode cX2_pupil 39 = .ok (.aload_n 0, 1) := dk_42 (dk_at dksX2_pupil_1 15 rfl rfl)
theorem dX2_pupil_40 : decode cX2_pupil 40 = .ok (.dup, 1) := dk_89 (dk_at dksX2_pupil_1 16 rfl rfl)
theorem dX2_pupil_41 : decode cX2_pupil 41 = .ok (.getfield 16, 3) := dk_180 0 16 (dk_at dksX2_pupil_1 17 rfl rfl)
theorem dX2_pupil_44 : decode cX2_pupil 44 = .ok (.iconst 1, 1) := dk_4 (dk_at dksX2_pupil_1 20 rfl rfl)
theorem dX2_pupil_45 : decode cX2_pupil 45 = .ok (.iadd, 1) := dk_96 (dk_at dksX2_pupil_1 21 rfl rfl)
theorem dX2_pupil_46 : decode cX2_pupil 46 = .ok (.putfield 16, 3) := dk_181 0 16 (dk_at dksX2_pupil_2 0 rfl rfl)
theorem dX2_pupil_49 : decode cX2_pupil 49 = .ok (.aload_n 0, 1) := dk_42 (dk_at dksX2_pupil_2 3 rfl rfl)
theorem dX2_pupil_50 : decode cX2_pupil 50 = .ok (.aload_n 0, 1) := dk_42 (dk_at dksX2_pupil_2 4 rfl rfl)
theorem dX2_pupil_51 : decode cX2_pupil 51 = .ok (.getfield 16, 3) := dk_180 0 16 (dk_at dksX2_pupil_2 5 rfl rfl)
theorem dX2_pupil_54 : decode cX2_pupil 54 = .ok (.iconst 1, 1) := dk_4 (dk_at dksX2_pupil_2 8 rfl rfl)
theorem dX2_pupil_55 : decode cX2_pupil 55 = .ok (.isub, 1) := dk_100 (dk_at dksX2_pupil_2 9 rfl rfl)
theorem dX2_pupil_56 : decode cX2_pupil 56 = .ok (.invokevirtual 126, 3) := dk_182 0 126 (dk_at dksX2_pupil_2 10 rfl rfl)
theorem dX2_pupil_59 : decode cX2_pupil 59 = .ok (.ireturn, 1) := dk_172 (dk_at dksX2_pupil_2 13 rfl rfl)
abbrev cX2_isClass : ByteArray := prog_7_method_9_code
def yX2_isClass : MethodName := ⟨RX2, "isClass", "(I)Z"⟩
def dkwX2_isClass_0 : List UInt8 := [27, 3, 42, 180, 0, 13, 4, 100, 184, 0, 118, 172]
abbrev dktX2_isClass_0 : List UInt8 := dkwX2_isClass_0 ++ []
theorem dksX2_isClass_0 : cX2_isClass.data.toList.drop 0 = dktX2_isClass_0 := by decide +kernel
theorem dX2_isClass_0 : decode cX2_isClass 0 = .ok (.iload_n 1, 1) := dk_27 (dk_at dksX2_isClass_0 0 rfl rfl)
theorem dX2_isClass_1 : decode cX2_isClass 1 = .ok (.iconst 0, 1) := dk_3 (dk_at dksX2_isClass_0 1 rfl rfl)
theorem dX2_isClass_2 : decode cX2_isClass 2 = .ok (.aload_n 0, 1) := dk_42 (dk_at dksX2_isClass_0 2 rfl rfl)
theorem dX2_isClass_3 : decode cX2_isClass 3 = .ok (.getfield 13, 3) := dk_180 0 13 (dk_at dksX2_isClass_0 3 rfl rfl)
theorem dX2_isClass_6 : decode cX2_isClass 6 = .ok (.iconst 1, 1) := dk_4 (dk_at dksX2_isClass_0 6 rfl rfl)
theorem dX2_isClass_7 : decode cX2_isClass 7 = .ok (.isub, 1) := dk_100 (dk_at dksX2_isClass_0 7 rfl rfl)
theorem dX2_isClass_8 : decode cX2_isClass 8 = .ok (.invokestatic 118, 3) := dk_184 0 118 (dk_at dksX2_isClass_0 8 rfl rfl)
theorem dX2_isClass_11 : decode cX2_isClass 11 = .ok (.ireturn, 1) := dk_172 (dk_at dksX2_isClass_0 11 rfl rfl)
abbrev cX2_task : ByteArray := prog_7_method_11_code
def yX2_task : MethodName := ⟨RX2, "task", "(IIICI)I"⟩
def dkwX2_task_7 : List UInt8 := [181, 0, 19, 42, 42, 180, 0, 19, 4, 100, 182, 0, 126, 172]
abbrev dktX2_task_7 : List UInt8 := dkwX2_task_7 ++ []
def dkwX2_task_6 : List UInt8 := [180, 0, 19, 21, 4, 85, 42, 180, 0, 56, 42, 180, 0, 19, 21, 5, 79, 42, 89, 180, 0, 19, 4, 96]
abbrev dktX2_task_6 : List UInt8 := dkwX2_task_6 ++ dktX2_task_7
def dkwX2_task_5 : List UInt8 := [180, 0, 50, 42, 180, 0, 19, 28, 79, 42, 180, 0, 53, 42, 180, 0, 19, 29, 79, 42, 180, 0, 59, 42]
abbrev dktX2_task_5 : List UInt8 := dkwX2_task_5 ++ dktX2_task_6
def dkwX2_task_4 : List UInt8 := [16, 10, 160, 0, 9, 42, 6, 182, 0, 122, 172, 42, 180, 0, 47, 42, 180, 0, 19, 27, 79, 42]
abbrev dktX2_task_4 : List UInt8 := dkwX2_task_4 ++ dktX2_task_5
def dkwX2_task_3 : List UInt8 := [153, 0, 14, 21, 5, 3, 16, 100, 184, 0, 118, 154, 0, 9, 42, 5, 182, 0, 122, 172, 42, 180, 0, 19]
abbrev dktX2_task_3 : List UInt8 := dkwX2_task_3 ++ dktX2_task_4
def dkwX2_task_2 : List UInt8 := [54, 6, 28, 3, 18, 133, 184, 0, 118, 153, 0, 29, 29, 4, 16, 100, 184, 0, 118, 153, 0, 19, 21, 6]
abbrev dktX2_task_2 : List UInt8 := dkwX2_task_2 ++ dktX2_task_3
def dkwX2_task_1 : List UInt8 := [16, 100, 159, 0, 17, 21, 4, 16, 103, 159, 0, 10, 21, 4, 16, 115, 160, 0, 7, 4, 167, 0, 4, 3]
abbrev dktX2_task_1 : List UInt8 := dkwX2_task_1 ++ dktX2_task_2
def dkwX2_task_0 : List UInt8 := [42, 27, 182, 0, 129, 154, 0, 9, 42, 4, 182, 0, 122, 172, 21, 4, 16, 104, 159, 0, 24, 21, 4]
abbrev dktX2_task_0 : List UInt8 := dkwX2_task_0 ++ dktX2_task_1
theorem dksX2_task_0 : cX2_task.data.toList.drop 0 = dktX2_task_0 := by decide +kernel
theorem dksX2_task_1 : cX2_task.data.toList.drop 23 = dktX2_task_1 := dk_seg dksX2_task_0 23 rfl rfl
theorem dksX2_task_2 : cX2_task.data.toList.drop 47 = dktX2_task_2 := dk_seg dksX2_task_1 24 rfl rfl
theorem dksX2_task_3 : cX2_task.data.toList.drop 71 = dktX2_task_3 := dk_seg dksX2_task_2 24 rfl rfl
theorem dksX2_task_4 : cX2_task.data.toList.drop 95 = dktX2_task_4 := dk_seg dksX2_task_3 24 rfl rfl
theorem dksX2_task_5 : cX2_task.data.toList.drop 117 = dktX2_task_5 := dk_seg dksX2_task_4 22 rfl rfl
theorem dksX2_task_6 : cX2_task.data.toList.drop 141 = dktX2_task_6 := dk_seg dksX2_task_5 24 rfl rfl
theorem dksX2_task_7 : cX2_task.data.toList.drop 165 = dktX2_task_7 := dk_seg dksX2_task_6 24 rfl rfl
theorem dX2_task_0 : decode cX2_task 0 = .ok (.aload_n 0, 1) := dk_42 (dk_at dksX2_task_0 0 rfl rfl)
theorem dX2_task_1 : decode cX2_task 1 = .ok (.iload_n 1, 1) := dk_27 (dk_at dksX2_task_0 1 rfl rfl)
theorem dX2_task_2 : decode cX2_task 2 = .ok (.invokevirtual 129, 3) := dk_182 0 129 (dk_at dksX2_task_0 2 rfl rfl)
theorem dX2_task_5 : decode cX2_task 5 = .ok (.ifCond .ne 9, 3) := dk_154 0 9 (dk_at dksX2_task_0 5 rfl rfl)
theorem dX2_task_8 : decode cX2_task 8 = .ok (.aload_n 0, 1) := dk_42 (dk_at dksX2_task_0 8 rfl rfl)
theorem dX2_task_9 : decode cX2_task 9 = .ok (.iconst 1, 1) := dk_4 (dk_at dksX2_task_0 9 rfl rfl)
theorem dX2_task_10 : decode cX2_task 10 = .ok (.invokevirtual 122, 3) := dk_182 0 122 (dk_at dksX2_task_0 10 rfl rfl)
theorem dX2_task_13 : decode cX2_task 13 = .ok (.ireturn, 1) := dk_172 (dk_at dksX2_task_0 13 rfl rfl)
theorem dX2_task_14 : decode cX2_task 14 = .ok (.iload 4, 2) := dk_21 4 (dk_at dksX2_task_0 14 rfl rfl)
theorem dX2_task_16 : decode cX2_task 16 = .ok (.bipush 104, 2) := dk_16 104 (dk_at dksX2_task_0 16 rfl rfl)
theorem dX2_task_18 : decode cX2_task 18 = .ok (.if_icmp .eq 24, 3) := dk_159 0 24 (dk_at dksX2_task_0 18 rfl rfl)
theorem dX2_task_21 : decode cX2_task 21 = .ok (.iload 4, 2) := dk_21 4 (dk_at dksX2_task_0 21 rfl rfl)
theorem dX2_task_23 : decode cX2_task 23 = .ok (.bipush 100, 2) := dk_16 100 (dk_at dksX2_task_1 0 rfl rfl)
theorem dX2_task_25 : decode cX2_task 25 = .ok (.if_icmp .eq 17, 3) := dk_159 0 17 (dk_at dksX2_task_1 2 rfl rfl)
theorem dX2_task_28 : decode cX2_task 28 = .ok (.iload 4, 2) := dk_21 4 (dk_at dksX2_task_1 5 rfl rfl)
theorem dX2_task_30 : decode cX2_task 30 = .ok (.bipush 103, 2) := dk_16 103 (dk_at dksX2_task_1 7 rfl rfl)
theorem dX2_task_32 : decode cX2_task 32 = .ok (.if_icmp .eq 10, 3) := dk_159 0 10 (dk_at dksX2_task_1 9 rfl rfl)
theorem dX2_task_35 : decode cX2_task 35 = .ok (.iload 4, 2) := dk_21 4 (dk_at dksX2_task_1 12 rfl rfl)
theorem dX2_task_37 : decode cX2_task 37 = .ok (.bipush 115, 2) := dk_16 115 (dk_at dksX2_task_1 14 rfl rfl)
theorem dX2_task_39 : decode cX2_task 39 = .ok (.if_icmp .ne 7, 3) := dk_160 0 7 (dk_at dksX2_task_1 16 rfl rfl)
theorem dX2_task_42 : decode cX2_task 42 = .ok (.iconst 1, 1) := dk_4 (dk_at dksX2_task_1 19 rfl rfl)
theorem dX2_task_43 : decode cX2_task 43 = .ok (.goto 4, 3) := dk_167 0 4 (dk_at dksX2_task_1 20 rfl rfl)
theorem dX2_task_46 : decode cX2_task 46 = .ok (.iconst 0, 1) := dk_3 (dk_at dksX2_task_1 23 rfl rfl)
theorem dX2_task_47 : decode cX2_task 47 = .ok (.istore 6, 2) := dk_54 6 (dk_at dksX2_task_2 0 rfl rfl)
theorem dX2_task_49 : decode cX2_task 49 = .ok (.iload_n 2, 1) := dk_28 (dk_at dksX2_task_2 2 rfl rfl)
theorem dX2_task_50 : decode cX2_task 50 = .ok (.iconst 0, 1) := dk_3 (dk_at dksX2_task_2 3 rfl rfl)
theorem dX2_task_51 : decode cX2_task 51 = .ok (.ldc 133, 2) := dk_18 133 (dk_at dksX2_task_2 4 rfl rfl)
theorem dX2_task_53 : decode cX2_task 53 = .ok (.invokestatic 118, 3) := dk_184 0 118 (dk_at dksX2_task_2 6 rfl rfl)
theorem dX2_task_56 : decode cX2_task 56 = .ok (.ifCond .eq 29, 3) := dk_153 0 29 (dk_at dksX2_task_2 9 rfl rfl)
theorem dX2_task_59 : decode cX2_task 59 = .ok (.iload_n 3, 1) := dk_29 (dk_at dksX2_task_2 12 rfl rfl)
theorem dX2_task_60 : decode cX2_task 60 = .ok (.iconst 1, 1) := dk_4 (dk_at dksX2_task_2 13 rfl rfl)
theorem dX2_task_61 : decode cX2_task 61 = .ok (.bipush 100, 2) := dk_16 100 (dk_at dksX2_task_2 14 rfl rfl)
theorem dX2_task_63 : decode cX2_task 63 = .ok (.invokestatic 118, 3) := dk_184 0 118 (dk_at dksX2_task_2 16 rfl rfl)
theorem dX2_task_66 : decode cX2_task 66 = .ok (.ifCond .eq 19, 3) := dk_153 0 19 (dk_at dksX2_task_2 19 rfl rfl)
theorem dX2_task_69 : decode cX2_task 69 = .ok (.iload 6, 2) := dk_21 6 (dk_at dksX2_task_2 22 rfl rfl)
theorem dX2_task_71 : decode cX2_task 71 = .ok (.ifCond .eq 14, 3) := dk_153 0 14 (dk_at dksX2_task_3 0 rfl rfl)
theorem dX2_task_74 : decode cX2_task 74 = .ok (.iload 5, 2) := dk_21 5 (dk_at dksX2_task_3 3 rfl rfl)
theorem dX2_task_76 : decode cX2_task 76 = .ok (.iconst 0, 1) := dk_3 (dk_at dksX2_task_3 5 rfl rfl)
theorem dX2_task_77 : decode cX2_task 77 = .ok (.bipush 100, 2) := dk_16 100 (dk_at dksX2_task_3 6 rfl rfl)
theorem dX2_task_79 : decode cX2_task 79 = .ok (.invokestatic 118, 3) := dk_184 0 118 (dk_at dksX2_task_3 8 rfl rfl)
theorem dX2_task_82 : decode cX2_task 82 = .ok (.ifCond .ne 9, 3) := dk_154 0 9 (dk_at dksX2_task_3 11 rfl rfl)
theorem dX2_task_85 : decode cX2_task 85 = .ok (.aload_n 0, 1) := dk_42 (dk_at dksX2_task_3 14 rfl rfl)
theorem dX2_task_86 : decode cX2_task 86 = .ok (.iconst 2, 1) := dk_5 (dk_at dksX2_task_3 15 rfl rfl)
theorem dX2_task_87 : decode cX2_task 87 = .ok (.invokevirtual 122, 3) := dk_182 0 122 (dk_at dksX2_task_3 16 rfl rfl)
theorem dX2_task_90 : decode cX2_task 90 = .ok (.ireturn, 1) := dk_172 (dk_at dksX2_task_3 19 rfl rfl)
theorem dX2_task_91 : decode cX2_task 91 = .ok (.aload_n 0, 1) := dk_42 (dk_at dksX2_task_3 20 rfl rfl)
theorem dX2_task_92 : decode cX2_task 92 = .ok (.getfield 19, 3) := dk_180 0 19 (dk_at dksX2_task_3 21 rfl rfl)
theorem dX2_task_95 : decode cX2_task 95 = .ok (.bipush 10, 2) := dk_16 10 (dk_at dksX2_task_4 0 rfl rfl)
theorem dX2_task_97 : decode cX2_task 97 = .ok (.if_icmp .ne 9, 3) := dk_160 0 9 (dk_at dksX2_task_4 2 rfl rfl)
theorem dX2_task_100 : decode cX2_task 100 = .ok (.aload_n 0, 1) := dk_42 (dk_at dksX2_task_4 5 rfl rfl)
theorem dX2_task_101 : decode cX2_task 101 = .ok (.iconst 3, 1) := dk_6 (dk_at dksX2_task_4 6 rfl rfl)
theorem dX2_task_102 : decode cX2_task 102 = .ok (.invokevirtual 122, 3) := dk_182 0 122 (dk_at dksX2_task_4 7 rfl rfl)
theorem dX2_task_105 : decode cX2_task 105 = .ok (.ireturn, 1) := dk_172 (dk_at dksX2_task_4 10 rfl rfl)
theorem dX2_task_106 : decode cX2_task 106 = .ok (.aload_n 0, 1) := dk_42 (dk_at dksX2_task_4 11 rfl rfl)
theorem dX2_task_107 : decode cX2_task 107 = .ok (.getfield 47, 3) := dk_180 0 47 (dk_at dksX2_task_4 12 rfl rfl)
theorem dX2_task_110 : decode cX2_task 110 = .ok (.aload_n 0, 1) := dk_42 (dk_at dksX2_task_4 15 rfl rfl)
theorem dX2_task_111 : decode cX2_task 111 = .ok (.getfield 19, 3) := dk_180 0 19 (dk_at dksX2_task_4 16 rfl rfl)
theorem dX2_task_114 : decode cX2_task 114 = .ok (.iload_n 1, 1) := dk_27 (dk_at dksX2_task_4 19 rfl rfl)
theorem dX2_task_115 : decode cX2_task 115 = .ok (.iastore, 1) := dk_79 (dk_at dksX2_task_4 20 rfl rfl)
theorem dX2_task_116 : decode cX2_task 116 = .ok (.aload_n 0, 1) := dk_42 (dk_at dksX2_task_4 21 rfl rfl)
theorem dX2_task_117 : decode cX2_task 117 = .ok (.getfield 50, 3) := dk_180 0 50 (dk_at dksX2_task_5 0 rfl rfl)
theorem dX2_task_120 : decode cX2_task 120 = .ok (.aload_n 0, 1) := dk_42 (dk_at dksX2_task_5 3 rfl rfl)
theorem dX2_task_121 : decode cX2_task 121 = .ok (.getfield 19, 3) := dk_180 0 19 (dk_at dksX2_task_5 4 rfl rfl)
theorem dX2_task_124 : decode cX2_task 124 = .ok (.iload_n 2, 1) := dk_28 (dk_at dksX2_task_5 7 rfl rfl)
theorem dX2_task_125 : decode cX2_task 125 = .ok (.iastore, 1) := dk_79 (dk_at dksX2_task_5 8 rfl rfl)
theorem dX2_task_126 : decode cX2_task 126 = .ok (.aload_n 0, 1) := dk_42 (dk_at dksX2_task_5 9 rfl rfl)
theorem dX2_task_127 : decode cX2_task 127 = .ok (.getfield 53, 3) := dk_180 0 53 (dk_at dksX2_task_5 10 rfl rfl)
theorem dX2_task_130 : decode cX2_task 130 = .ok (.aload_n 0, 1) := dk_42 (dk_at dksX2_task_5 13 rfl rfl)
theorem dX2_task_131 : decode cX2_task 131 = .ok (.getfield 19, 3) := dk_180 0 19 (dk_at dksX2_task_5 14 rfl rfl)
theorem dX2_task_134 : decode cX2_task 134 = .ok (.iload_n 3, 1) := dk_29 (dk_at dksX2_task_5 17 rfl rfl)
theorem dX2_task_135 : decode cX2_task 135 = .ok (.iastore, 1) := dk_79 (dk_at dksX2_task_5 18 rfl rfl)
theorem dX2_task_136 : decode cX2_task 136 = .ok (.aload_n 0, 1) := dk_42 (dk_at dksX2_task_5 19 rfl rfl)
theorem dX2_task_137 : decode cX2_task 137 = .ok (.getfield 59, 3) := dk_180 0 59 (dk_at dksX2_task_5 20 rfl rfl)
theorem dX2_task_140 : decode cX2_task 140 = .ok (.aload_n 0, 1) := dk_42 (dk_at dksX2_task_5 23 rfl rfl)
theorem dX2_task_141 : decode cX2_task 141 = .ok (.getfield 19, 3) := dk_180 0 19 (dk_at dksX2_task_6 0 rfl rfl)
theorem dX2_task_144 : decode cX2_task 144 = .ok (.iload 4, 2) := dk_21 4 (dk_at dksX2_task_6 3 rfl rfl)
theorem dX2_task_146 : decode cX2_task 146 = .ok (.castore, 1) := dk_85 (dk_at dksX2_task_6 5 rfl rfl)
theorem dX2_task_147 : decode cX2_task 147 = .ok (.aload_n 0, 1) := dk_42 (dk_at dksX2_task_6 6 rfl rfl)
theorem dX2_task_148 : decode cX2_task 148 = .ok (.getfield 56, 3) := dk_180 0 56 (dk_at dksX2_task_6 7 rfl rfl)
theorem dX2_task_151 : decode cX2_task 151 = .ok (.aload_n 0, 1) := dk_42 (dk_at dksX2_task_6 10 rfl rfl)
theorem dX2_task_152 : decode cX2_task 152 = .ok (.getfield 19, 3) := dk_180 0 19 (dk_at dksX2_task_6 11 rfl rfl)
theorem dX2_task_155 : decode cX2_task 155 = .ok (.iload 5, 2) := dk_21 5 (dk_at dksX2_task_6 14 rfl rfl)
theorem dX2_task_157 : decode cX2_task 157 = .ok (.iastore, 1) := dk_79 (dk_at dksX2_task_6 16 rfl rfl)
theorem dX2_task_158 : decode cX2_task 158 = .ok (.aload_n 0, 1) := dk_42 (dk_at dksX2_task_6 17 rfl rfl)
theorem dX2_task_159 : decode cX2_task 159 = .ok (.dup, 1) := dk_89 (dk_at dksX2_task_6 18 rfl rfl)
theorem dX2_task_160 : decode cX2_task 160 = .ok (.getfield 19, 3) := dk_180 0 19 (dk_at dksX2_task_6 19 rfl rfl)
theorem dX2_task_163 : decode cX2_task 163 = .ok (.iconst 1, 1) := dk_4 (dk_at dksX2_task_6 22 rfl rfl)
theorem dX2_task_164 : decode cX2_task 164 = .ok (.iadd, 1) := dk_96 (dk_at dksX2_task_6 23 rfl rfl)
theorem dX2_task_165 : decode cX2_task 165 = .ok (.putfield 19, 3) := dk_181 0 19 (dk_at dksX2_task_7 0 rfl rfl)
theorem dX2_task_168 : decode cX2_task 168 = .ok (.aload_n 0, 1) := dk_42 (dk_at dksX2_task_7 3 rfl rfl)
theorem dX2_task_169 : decode cX2_task 169 = .ok (.aload_n 0, 1) := dk_42 (dk_at dksX2_task_7 4 rfl rfl)
theorem dX2_task_170 : decode cX2_task 170 = .ok (.getfield 19, 3) := dk_180 0 19 (dk_at dksX2_task_7 5 rfl rfl)
theorem dX2_task_173 : decode cX2_task 173 = .ok (.iconst 1, 1) := dk_4 (dk_at dksX2_task_7 8 rfl rfl)
theorem dX2_task_174 : decode cX2_task 174 = .ok (.isub, 1) := dk_100 (dk_at dksX2_task_7 9 rfl rfl)
theorem dX2_task_175 : decode cX2_task 175 = .ok (.invokevirtual 126, 3) := dk_182 0 126 (dk_at dksX2_task_7 10 rfl rfl)
theorem dX2_task_178 : decode cX2_task 178 = .ok (.ireturn, 1) := dk_172 (dk_at dksX2_task_7 13 rfl rfl)
abbrev cX2_pass : ByteArray := prog_7_method_12_code
def yX2_pass : MethodName := ⟨RX2, "pass", "(I)I"⟩
def dkwX2_pass_2 : List UInt8 := [182, 0, 126, 172]
abbrev dktX2_pass_2 : List UInt8 := dkwX2_pass_2 ++ []
def dkwX2_pass_1 : List UInt8 := [164, 0, 9, 42, 5, 182, 0, 122, 172, 42, 89, 180, 0, 7, 27, 96, 181, 0, 7, 42, 42, 180, 0, 7]
abbrev dktX2_pass_1 : List UInt8 := dkwX2_pass_1 ++ dktX2_pass_2
def dkwX2_pass_0 : List UInt8 := [27, 4, 18, 134, 184, 0, 118, 154, 0, 9, 42, 4, 182, 0, 122, 172, 42, 180, 0, 7, 27, 96, 18, 133]
abbrev dktX2_pass_0 : List UInt8 := dkwX2_pass_0 ++ dktX2_pass_1
theorem dksX2_pass_0 : cX2_pass.data.toList.drop 0 = dktX2_pass_0 := by decide +kernel
theorem dksX2_pass_1 : cX2_pass.data.toList.drop 24 = dktX2_pass_1 := dk_seg dksX2_pass_0 24 rfl rfl
theorem dksX2_pass_2 : cX2_pass.data.toList.drop 48 = dktX2_pass_2 := dk_seg dksX2_pass_1 24 rfl rfl
theorem dX2_pass_0 : decode cX2_pass 0 = .ok (.iload_n 1, 1) := dk_27 (dk_at dksX2_pass_0 0 rfl rfl)
theorem dX2_pass_1 : decode cX2_pass 1 = .ok (.iconst 1, 1) := dk_4 (dk_at dksX2_pass_0 1 rfl rfl)
theorem dX2_pass_2 : decode cX2_pass 2 = .ok (.ldc 134, 2) := dk_18 134 (dk_at dksX2_pass_0 2 rfl rfl)
theorem dX2_pass_4 : decode cX2_pass 4 = .ok (.invokestatic 118, 3) := dk_184 0 118 (dk_at dksX2_pass_0 4 rfl rfl)
theorem dX2_pass_7 : decode cX2_pass 7 = .ok (.ifCond .ne 9, 3) := dk_154 0 9 (dk_at dksX2_pass_0 7 rfl rfl)
theorem dX2_pass_10 : decode cX2_pass 10 = .ok (.aload_n 0, 1) := dk_42 (dk_at dksX2_pass_0 10 rfl rfl)
theorem dX2_pass_11 : decode cX2_pass 11 = .ok (.iconst 1, 1) := dk_4 (dk_at dksX2_pass_0 11 rfl rfl)
theorem dX2_pass_12 : decode cX2_pass 12 = .ok (.invokevirtual 122, 3) := dk_182 0 122 (dk_at dksX2_pass_0 12 rfl rfl)
theorem dX2_pass_15 : decode cX2_pass 15 = .ok (.ireturn, 1) := dk_172 (dk_at dksX2_pass_0 15 rfl rfl)
theorem dX2_pass_16 : decode cX2_pass 16 = .ok (.aload_n 0, 1) := dk_42 (dk_at dksX2_pass_0 16 rfl rfl)
theorem dX2_pass_17 : decode cX2_pass 17 = .ok (.getfield 7, 3) := dk_180 0 7 (dk_at dksX2_pass_0 17 rfl rfl)
theorem dX2_pass_20 : decode cX2_pass 20 = .ok (.iload_n 1, 1) := dk_27 (dk_at dksX2_pass_0 20 rfl rfl)
theorem dX2_pass_21 : decode cX2_pass 21 = .ok (.iadd, 1) := dk_96 (dk_at dksX2_pass_0 21 rfl rfl)
theorem dX2_pass_22 : decode cX2_pass 22 = .ok (.ldc 133, 2) := dk_18 133 (dk_at dksX2_pass_0 22 rfl rfl)
theorem dX2_pass_24 : decode cX2_pass 24 = .ok (.if_icmp .le 9, 3) := dk_164 0 9 (dk_at dksX2_pass_1 0 rfl rfl)
theorem dX2_pass_27 : decode cX2_pass 27 = .ok (.aload_n 0, 1) := dk_42 (dk_at dksX2_pass_1 3 rfl rfl)
theorem dX2_pass_28 : decode cX2_pass 28 = .ok (.iconst 2, 1) := dk_5 (dk_at dksX2_pass_1 4 rfl rfl)
theorem dX2_pass_29 : decode cX2_pass 29 = .ok (.invokevirtual 122, 3) := dk_182 0 122 (dk_at dksX2_pass_1 5 rfl rfl)
theorem dX2_pass_32 : decode cX2_pass 32 = .ok (.ireturn, 1) := dk_172 (dk_at dksX2_pass_1 8 rfl rfl)
theorem dX2_pass_33 : decode cX2_pass 33 = .ok (.aload_n 0, 1) := dk_42 (dk_at dksX2_pass_1 9 rfl rfl)
theorem dX2_pass_34 : decode cX2_pass 34 = .ok (.dup, 1) := dk_89 (dk_at dksX2_pass_1 10 rfl rfl)
theorem dX2_pass_35 : decode cX2_pass 35 = .ok (.getfield 7, 3) := dk_180 0 7 (dk_at dksX2_pass_1 11 rfl rfl)
theorem dX2_pass_38 : decode cX2_pass 38 = .ok (.iload_n 1, 1) := dk_27 (dk_at dksX2_pass_1 14 rfl rfl)
theorem dX2_pass_39 : decode cX2_pass 39 = .ok (.iadd, 1) := dk_96 (dk_at dksX2_pass_1 15 rfl rfl)
theorem dX2_pass_40 : decode cX2_pass 40 = .ok (.putfield 7, 3) := dk_181 0 7 (dk_at dksX2_pass_1 16 rfl rfl)
theorem dX2_pass_43 : decode cX2_pass 43 = .ok (.aload_n 0, 1) := dk_42 (dk_at dksX2_pass_1 19 rfl rfl)
theorem dX2_pass_44 : decode cX2_pass 44 = .ok (.aload_n 0, 1) := dk_42 (dk_at dksX2_pass_1 20 rfl rfl)
theorem dX2_pass_45 : decode cX2_pass 45 = .ok (.getfield 7, 3) := dk_180 0 7 (dk_at dksX2_pass_1 21 rfl rfl)
theorem dX2_pass_48 : decode cX2_pass 48 = .ok (.invokevirtual 126, 3) := dk_182 0 126 (dk_at dksX2_pass_2 0 rfl rfl)
theorem dX2_pass_51 : decode cX2_pass 51 = .ok (.ireturn, 1) := dk_172 (dk_at dksX2_pass_2 3 rfl rfl)
abbrev cX2_clock : ByteArray := prog_7_method_13_code
def yX2_clock : MethodName := ⟨RX2, "clock", "(I)I"⟩
def dkwX2_clock_1 : List UInt8 := [167, 0, 8, 42, 4, 182, 0, 122, 172]
abbrev dktX2_clock_1 : List UInt8 := dkwX2_clock_1 ++ []
def dkwX2_clock_0 : List UInt8 := [42, 27, 182, 0, 129, 153, 0, 21, 42, 42, 180, 0, 7, 42, 180, 0, 40, 27, 46, 96, 182, 0, 126]
abbrev dktX2_clock_0 : List UInt8 := dkwX2_clock_0 ++ dktX2_clock_1
theorem dksX2_clock_0 : cX2_clock.data.toList.drop 0 = dktX2_clock_0 := by decide +kernel
theorem dksX2_clock_1 : cX2_clock.data.toList.drop 23 = dktX2_clock_1 := dk_seg dksX2_clock_0 23 rfl rfl
theorem dX2_clock_0 : decode cX2_clock 0 = .ok (.aload_n 0, 1) := dk_42 (dk_at dksX2_clock_0 0 rfl rfl)
theorem dX2_clock_1 : decode cX2_clock 1 = .ok (.iload_n 1, 1) := dk_27 (dk_at dksX2_clock_0 1 rfl rfl)
theorem dX2_clock_2 : decode cX2_clock 2 = .ok (.invokevirtual 129, 3) := dk_182 0 129 (dk_at dksX2_clock_0 2 rfl rfl)
theorem dX2_clock_5 : decode cX2_clock 5 = .ok (.ifCond .eq 21, 3) := dk_153 0 21 (dk_at dksX2_clock_0 5 rfl rfl)
theorem dX2_clock_8 : decode cX2_clock 8 = .ok (.aload_n 0, 1) := dk_42 (dk_at dksX2_clock_0 8 rfl rfl)
theorem dX2_clock_9 : decode cX2_clock 9 = .ok (.aload_n 0, 1) := dk_42 (dk_at dksX2_clock_0 9 rfl rfl)
theorem dX2_clock_10 : decode cX2_clock 10 = .ok (.getfield 7, 3) := dk_180 0 7 (dk_at dksX2_clock_0 10 rfl rfl)
theorem dX2_clock_13 : decode cX2_clock 13 = .ok (.aload_n 0, 1) := dk_42 (dk_at dksX2_clock_0 13 rfl rfl)
theorem dX2_clock_14 : decode cX2_clock 14 = .ok (.getfield 40, 3) := dk_180 0 40 (dk_at dksX2_clock_0 14 rfl rfl)
theorem dX2_clock_17 : decode cX2_clock 17 = .ok (.iload_n 1, 1) := dk_27 (dk_at dksX2_clock_0 17 rfl rfl)
theorem dX2_clock_18 : decode cX2_clock 18 = .ok (.iaload, 1) := dk_46 (dk_at dksX2_clock_0 18 rfl rfl)
theorem dX2_clock_19 : decode cX2_clock 19 = .ok (.iadd, 1) := dk_96 (dk_at dksX2_clock_0 19 rfl rfl)
theorem dX2_clock_20 : decode cX2_clock 20 = .ok (.invokevirtual 126, 3) := dk_182 0 126 (dk_at dksX2_clock_0 20 rfl rfl)
theorem dX2_clock_23 : decode cX2_clock 23 = .ok (.goto 8, 3) := dk_167 0 8 (dk_at dksX2_clock_1 0 rfl rfl)
theorem dX2_clock_26 : decode cX2_clock 26 = .ok (.aload_n 0, 1) := dk_42 (dk_at dksX2_clock_1 3 rfl rfl)
theorem dX2_clock_27 : decode cX2_clock 27 = .ok (.iconst 1, 1) := dk_4 (dk_at dksX2_clock_1 4 rfl rfl)
theorem dX2_clock_28 : decode cX2_clock 28 = .ok (.invokevirtual 122, 3) := dk_182 0 122 (dk_at dksX2_clock_1 5 rfl rfl)
theorem dX2_clock_31 : decode cX2_clock 31 = .ok (.ireturn, 1) := dk_172 (dk_at dksX2_clock_1 8 rfl rfl)
abbrev cX2_type : ByteArray := prog_7_method_17_code
def yX2_type : MethodName := ⟨RX2, "type", "(I)I"⟩
def dkwX2_type_2 : List UInt8 := [42, 42, 180, 0, 25, 182, 0, 126, 172]
abbrev dktX2_type_2 : List UInt8 := dkwX2_type_2 ++ []
def dkwX2_type_1 : List UInt8 := [182, 0, 122, 172, 42, 180, 0, 63, 42, 180, 0, 25, 27, 79, 42, 89, 180, 0, 25, 4, 96, 181, 0, 25]
abbrev dktX2_type_1 : List UInt8 := dkwX2_type_1 ++ dktX2_type_2
def dkwX2_type_0 : List UInt8 := [27, 184, 0, 141, 154, 0, 9, 42, 4, 182, 0, 122, 172, 42, 180, 0, 25, 16, 40, 160, 0, 9, 42, 5]
abbrev dktX2_type_0 : List UInt8 := dkwX2_type_0 ++ dktX2_type_1
theorem dksX2_type_0 : cX2_type.data.toList.drop 0 = dktX2_type_0 := by decide +kernel
theorem dksX2_type_1 : cX2_type.data.toList.drop 24 = dktX2_type_1 := dk_seg dksX2_type_0 24 rfl rfl
theorem dksX2_type_2 : cX2_type.data.toList.drop 48 = dktX2_type_2 := dk_seg dksX2_type_1 24 rfl rfl
theorem dX2_type_0 : decode cX2_type 0 = .ok (.iload_n 1, 1) := dk_27 (dk_at dksX2_type_0 0 rfl rfl)
theorem dX2_type_1 : decode cX2_type 1 = .ok (.invokestatic 141, 3) := dk_184 0 141 (dk_at dksX2_type_0 1 rfl rfl)
theorem dX2_type_4 : decode cX2_type 4 = .ok (.ifCond .ne 9, 3) := dk_154 0 9 (dk_at dksX2_type_0 4 rfl rfl)
theorem dX2_type_7 : decode cX2_type 7 = .ok (.aload_n 0, 1) := dk_42 (dk_at dksX2_type_0 7 rfl rfl)
theorem dX2_type_8 : decode cX2_type 8 = .ok (.iconst 1, 1) := dk_4 (dk_at dksX2_type_0 8 rfl rfl)
theorem dX2_type_9 : decode cX2_type 9 = .ok (.invokevirtual 122, 3) := dk_182 0 122 (dk_at dksX2_type_0 9 rfl rfl)
theorem dX2_type_12 : decode cX2_type 12 = .ok (.ireturn, 1) := dk_172 (dk_at dksX2_type_0 12 rfl rfl)
theorem dX2_type_13 : decode cX2_type 13 = .ok (.aload_n 0, 1) := dk_42 (dk_at dksX2_type_0 13 rfl rfl)
theorem dX2_type_14 : decode cX2_type 14 = .ok (.getfield 25, 3) := dk_180 0 25 (dk_at dksX2_type_0 14 rfl rfl)
theorem dX2_type_17 : decode cX2_type 17 = .ok (.bipush 40, 2) := dk_16 40 (dk_at dksX2_type_0 17 rfl rfl)
theorem dX2_type_19 : decode cX2_type 19 = .ok (.if_icmp .ne 9, 3) := dk_160 0 9 (dk_at dksX2_type_0 19 rfl rfl)
theorem dX2_type_22 : decode cX2_type 22 = .ok (.aload_n 0, 1) := dk_42 (dk_at dksX2_type_0 22 rfl rfl)
theorem dX2_type_23 : decode cX2_type 23 = .ok (.iconst 2, 1) := dk_5 (dk_at dksX2_type_0 23 rfl rfl)
theorem dX2_type_24 : decode cX2_type 24 = .ok (.invokevirtual 122, 3) := dk_182 0 122 (dk_at dksX2_type_1 0 rfl rfl)
theorem dX2_type_27 : decode cX2_type 27 = .ok (.ireturn, 1) := dk_172 (dk_at dksX2_type_1 3 rfl rfl)
theorem dX2_type_28 : decode cX2_type 28 = .ok (.aload_n 0, 1) := dk_42 (dk_at dksX2_type_1 4 rfl rfl)
theorem dX2_type_29 : decode cX2_type 29 = .ok (.getfield 63, 3) := dk_180 0 63 (dk_at dksX2_type_1 5 rfl rfl)
theorem dX2_type_32 : decode cX2_type 32 = .ok (.aload_n 0, 1) := dk_42 (dk_at dksX2_type_1 8 rfl rfl)
theorem dX2_type_33 : decode cX2_type 33 = .ok (.getfield 25, 3) := dk_180 0 25 (dk_at dksX2_type_1 9 rfl rfl)
theorem dX2_type_36 : decode cX2_type 36 = .ok (.iload_n 1, 1) := dk_27 (dk_at dksX2_type_1 12 rfl rfl)
theorem dX2_type_37 : decode cX2_type 37 = .ok (.iastore, 1) := dk_79 (dk_at dksX2_type_1 13 rfl rfl)
theorem dX2_type_38 : decode cX2_type 38 = .ok (.aload_n 0, 1) := dk_42 (dk_at dksX2_type_1 14 rfl rfl)
theorem dX2_type_39 : decode cX2_type 39 = .ok (.dup, 1) := dk_89 (dk_at dksX2_type_1 15 rfl rfl)
theorem dX2_type_40 : decode cX2_type 40 = .ok (.getfield 25, 3) := dk_180 0 25 (dk_at dksX2_type_1 16 rfl rfl)
theorem dX2_type_43 : decode cX2_type 43 = .ok (.iconst 1, 1) := dk_4 (dk_at dksX2_type_1 19 rfl rfl)
theorem dX2_type_44 : decode cX2_type 44 = .ok (.iadd, 1) := dk_96 (dk_at dksX2_type_1 20 rfl rfl)
theorem dX2_type_45 : decode cX2_type 45 = .ok (.putfield 25, 3) := dk_181 0 25 (dk_at dksX2_type_1 21 rfl rfl)
theorem dX2_type_48 : decode cX2_type 48 = .ok (.aload_n 0, 1) := dk_42 (dk_at dksX2_type_2 0 rfl rfl)
theorem dX2_type_49 : decode cX2_type 49 = .ok (.aload_n 0, 1) := dk_42 (dk_at dksX2_type_2 1 rfl rfl)
theorem dX2_type_50 : decode cX2_type 50 = .ok (.getfield 25, 3) := dk_180 0 25 (dk_at dksX2_type_2 2 rfl rfl)
theorem dX2_type_53 : decode cX2_type 53 = .ok (.invokevirtual 126, 3) := dk_182 0 126 (dk_at dksX2_type_2 5 rfl rfl)
theorem dX2_type_56 : decode cX2_type 56 = .ok (.ireturn, 1) := dk_172 (dk_at dksX2_type_2 8 rfl rfl)
abbrev cX2_isSign : ByteArray := prog_7_method_14_code
def yX2_isSign : MethodName := ⟨RX2, "isSign", "(I)Z"⟩
def dkwX2_isSign_1 : List UInt8 := [184, 0, 118, 153, 0, 7, 4, 167, 0, 4, 3, 172]
abbrev dktX2_isSign_1 : List UInt8 := dkwX2_isSign_1 ++ []
def dkwX2_isSign_0 : List UInt8 := [26, 16, 97, 16, 122, 184, 0, 118, 154, 0, 20, 26, 16, 32, 159, 0, 14, 26, 18, 135, 18, 136]
abbrev dktX2_isSign_0 : List UInt8 := dkwX2_isSign_0 ++ dktX2_isSign_1
theorem dksX2_isSign_0 : cX2_isSign.data.toList.drop 0 = dktX2_isSign_0 := by decide +kernel
theorem dksX2_isSign_1 : cX2_isSign.data.toList.drop 22 = dktX2_isSign_1 := dk_seg dksX2_isSign_0 22 rfl rfl
theorem dX2_isSign_0 : decode cX2_isSign 0 = .ok (.iload_n 0, 1) := dk_26 (dk_at dksX2_isSign_0 0 rfl rfl)
theorem dX2_isSign_1 : decode cX2_isSign 1 = .ok (.bipush 97, 2) := dk_16 97 (dk_at dksX2_isSign_0 1 rfl rfl)
theorem dX2_isSign_3 : decode cX2_isSign 3 = .ok (.bipush 122, 2) := dk_16 122 (dk_at dksX2_isSign_0 3 rfl rfl)
theorem dX2_isSign_5 : decode cX2_isSign 5 = .ok (.invokestatic 118, 3) := dk_184 0 118 (dk_at dksX2_isSign_0 5 rfl rfl)
theorem dX2_isSign_8 : decode cX2_isSign 8 = .ok (.ifCond .ne 20, 3) := dk_154 0 20 (dk_at dksX2_isSign_0 8 rfl rfl)
theorem dX2_isSign_11 : decode cX2_isSign 11 = .ok (.iload_n 0, 1) := dk_26 (dk_at dksX2_isSign_0 11 rfl rfl)
theorem dX2_isSign_12 : decode cX2_isSign 12 = .ok (.bipush 32, 2) := dk_16 32 (dk_at dksX2_isSign_0 12 rfl rfl)
theorem dX2_isSign_14 : decode cX2_isSign 14 = .ok (.if_icmp .eq 14, 3) := dk_159 0 14 (dk_at dksX2_isSign_0 14 rfl rfl)
theorem dX2_isSign_17 : decode cX2_isSign 17 = .ok (.iload_n 0, 1) := dk_26 (dk_at dksX2_isSign_0 17 rfl rfl)
theorem dX2_isSign_18 : decode cX2_isSign 18 = .ok (.ldc 135, 2) := dk_18 135 (dk_at dksX2_isSign_0 18 rfl rfl)
theorem dX2_isSign_20 : decode cX2_isSign 20 = .ok (.ldc 136, 2) := dk_18 136 (dk_at dksX2_isSign_0 20 rfl rfl)
theorem dX2_isSign_22 : decode cX2_isSign 22 = .ok (.invokestatic 118, 3) := dk_184 0 118 (dk_at dksX2_isSign_1 0 rfl rfl)
theorem dX2_isSign_25 : decode cX2_isSign 25 = .ok (.ifCond .eq 7, 3) := dk_153 0 7 (dk_at dksX2_isSign_1 3 rfl rfl)
theorem dX2_isSign_28 : decode cX2_isSign 28 = .ok (.iconst 1, 1) := dk_4 (dk_at dksX2_isSign_1 6 rfl rfl)
theorem dX2_isSign_29 : decode cX2_isSign 29 = .ok (.goto 4, 3) := dk_167 0 4 (dk_at dksX2_isSign_1 7 rfl rfl)
theorem dX2_isSign_32 : decode cX2_isSign 32 = .ok (.iconst 0, 1) := dk_3 (dk_at dksX2_isSign_1 10 rfl rfl)
theorem dX2_isSign_33 : decode cX2_isSign 33 = .ok (.ireturn, 1) := dk_172 (dk_at dksX2_isSign_1 11 rfl rfl)
abbrev cX2_insert : ByteArray := prog_7_method_18_code
def yX2_insert : MethodName := ⟨RX2, "insert", "(II)I"⟩
def dkwX2_insert_4 : List UInt8 := [42, 182, 0, 144, 182, 0, 126, 172]
abbrev dktX2_insert_4 : List UInt8 := dkwX2_insert_4 ++ []
def dkwX2_insert_3 : List UInt8 := [132, 3, 255, 167, 255, 234, 42, 180, 0, 63, 27, 28, 79, 42, 89, 180, 0, 25, 4, 96, 181, 0, 25, 42]
abbrev dktX2_insert_3 : List UInt8 := dkwX2_insert_3 ++ dktX2_insert_4
def dkwX2_insert_2 : List UInt8 := [42, 180, 0, 25, 62, 29, 27, 164, 0, 23, 42, 180, 0, 63, 29, 42, 180, 0, 63, 29, 4, 100, 46, 79]
abbrev dktX2_insert_2 : List UInt8 := dkwX2_insert_2 ++ dktX2_insert_3
def dkwX2_insert_1 : List UInt8 := [154, 0, 9, 42, 5, 182, 0, 122, 172, 42, 180, 0, 25, 16, 40, 160, 0, 9, 42, 6, 182, 0, 122, 172]
abbrev dktX2_insert_1 : List UInt8 := dkwX2_insert_1 ++ dktX2_insert_2
def dkwX2_insert_0 : List UInt8 := [27, 3, 42, 180, 0, 25, 184, 0, 118, 154, 0, 9, 42, 4, 182, 0, 122, 172, 28, 184, 0, 141]
abbrev dktX2_insert_0 : List UInt8 := dkwX2_insert_0 ++ dktX2_insert_1
theorem dksX2_insert_0 : cX2_insert.data.toList.drop 0 = dktX2_insert_0 := by decide +kernel
theorem dksX2_insert_1 : cX2_insert.data.toList.drop 22 = dktX2_insert_1 := dk_seg dksX2_insert_0 22 rfl rfl
theorem dksX2_insert_2 : cX2_insert.data.toList.drop 46 = dktX2_insert_2 := dk_seg dksX2_insert_1 24 rfl rfl
theorem dksX2_insert_3 : cX2_insert.data.toList.drop 70 = dktX2_insert_3 := dk_seg dksX2_insert_2 24 rfl rfl
theorem dksX2_insert_4 : cX2_insert.data.toList.drop 94 = dktX2_insert_4 := dk_seg dksX2_insert_3 24 rfl rfl
theorem dX2_insert_0 : decode cX2_insert 0 = .ok (.iload_n 1, 1) := dk_27 (dk_at dksX2_insert_0 0 rfl rfl)
theorem dX2_insert_1 : decode cX2_insert 1 = .ok (.iconst 0, 1) := dk_3 (dk_at dksX2_insert_0 1 rfl rfl)
theorem dX2_insert_2 : decode cX2_insert 2 = .ok (.aload_n 0, 1) := dk_42 (dk_at dksX2_insert_0 2 rfl rfl)
theorem dX2_insert_3 : decode cX2_insert 3 = .ok (.getfield 25, 3) := dk_180 0 25 (dk_at dksX2_insert_0 3 rfl rfl)
theorem dX2_insert_6 : decode cX2_insert 6 = .ok (.invokestatic 118, 3) := dk_184 0 118 (dk_at dksX2_insert_0 6 rfl rfl)
theorem dX2_insert_9 : decode cX2_insert 9 = .ok (.ifCond .ne 9, 3) := dk_154 0 9 (dk_at dksX2_insert_0 9 rfl rfl)
theorem dX2_insert_12 : decode cX2_insert 12 = .ok (.aload_n 0, 1) := dk_42 (dk_at dksX2_insert_0 12 rfl rfl)
theorem dX2_insert_13 : decode cX2_insert 13 = .ok (.iconst 1, 1) := dk_4 (dk_at dksX2_insert_0 13 rfl rfl)
theorem dX2_insert_14 : decode cX2_insert 14 = .ok (.invokevirtual 122, 3) := dk_182 0 122 (dk_at dksX2_insert_0 14 rfl rfl)
theorem dX2_insert_17 : decode cX2_insert 17 = .ok (.ireturn, 1) := dk_172 (dk_at dksX2_insert_0 17 rfl rfl)
theorem dX2_insert_18 : decode cX2_insert 18 = .ok (.iload_n 2, 1) := dk_28 (dk_at dksX2_insert_0 18 rfl rfl)
theorem dX2_insert_19 : decode cX2_insert 19 = .ok (.invokestatic 141, 3) := dk_184 0 141 (dk_at dksX2_insert_0 19 rfl rfl)
theorem dX2_insert_22 : decode cX2_insert 22 = .ok (.ifCond .ne 9, 3) := dk_154 0 9 (dk_at dksX2_insert_1 0 rfl rfl)
theorem dX2_insert_25 : decode cX2_insert 25 = .ok (.aload_n 0, 1) := dk_42 (dk_at dksX2_insert_1 3 rfl rfl)
theorem dX2_insert_26 : decode cX2_insert 26 = .ok (.iconst 2, 1) := dk_5 (dk_at dksX2_insert_1 4 rfl rfl)
theorem dX2_insert_27 : decode cX2_insert 27 = .ok (.invokevirtual 122, 3) := dk_182 0 122 (dk_at dksX2_insert_1 5 rfl rfl)
theorem dX2_insert_30 : decode cX2_insert 30 = .ok (.ireturn, 1) := dk_172 (dk_at dksX2_insert_1 8 rfl rfl)
theorem dX2_insert_31 : decode cX2_insert 31 = .ok (.aload_n 0, 1) := dk_42 (dk_at dksX2_insert_1 9 rfl rfl)
theorem dX2_insert_32 : decode cX2_insert 32 = .ok (.getfield 25, 3) := dk_180 0 25 (dk_at dksX2_insert_1 10 rfl rfl)
theorem dX2_insert_35 : decode cX2_insert 35 = .ok (.bipush 40, 2) := dk_16 40 (dk_at dksX2_insert_1 13 rfl rfl)
theorem dX2_insert_37 : decode cX2_insert 37 = .ok (.if_icmp .ne 9, 3) := dk_160 0 9 (dk_at dksX2_insert_1 15 rfl rfl)
theorem dX2_insert_40 : decode cX2_insert 40 = .ok (.aload_n 0, 1) := dk_42 (dk_at dksX2_insert_1 18 rfl rfl)
theorem dX2_insert_41 : decode cX2_insert 41 = .ok (.iconst 3, 1) := dk_6 (dk_at dksX2_insert_1 19 rfl rfl)
theorem dX2_insert_42 : decode cX2_insert 42 = .ok (.invokevirtual 122, 3) := dk_182 0 122 (dk_at dksX2_insert_1 20 rfl rfl)
theorem dX2_insert_45 : decode cX2_insert 45 = .ok (.ireturn, 1) := dk_172 (dk_at dksX2_insert_1 23 rfl rfl)
theorem dX2_insert_46 : decode cX2_insert 46 = .ok (.aload_n 0, 1) := dk_42 (dk_at dksX2_insert_2 0 rfl rfl)
theorem dX2_insert_47 : decode cX2_insert 47 = .ok (.getfield 25, 3) := dk_180 0 25 (dk_at dksX2_insert_2 1 rfl rfl)
theorem dX2_insert_50 : decode cX2_insert 50 = .ok (.istore_n 3, 1) := dk_62 (dk_at dksX2_insert_2 4 rfl rfl)
theorem dX2_insert_51 : decode cX2_insert 51 = .ok (.iload_n 3, 1) := dk_29 (dk_at dksX2_insert_2 5 rfl rfl)
theorem dX2_insert_52 : decode cX2_insert 52 = .ok (.iload_n 1, 1) := dk_27 (dk_at dksX2_insert_2 6 rfl rfl)
theorem dX2_insert_53 : decode cX2_insert 53 = .ok (.if_icmp .le 23, 3) := dk_164 0 23 (dk_at dksX2_insert_2 7 rfl rfl)
theorem dX2_insert_56 : decode cX2_insert 56 = .ok (.aload_n 0, 1) := dk_42 (dk_at dksX2_insert_2 10 rfl rfl)
theorem dX2_insert_57 : decode cX2_insert 57 = .ok (.getfield 63, 3) := dk_180 0 63 (dk_at dksX2_insert_2 11 rfl rfl)
theorem dX2_insert_60 : decode cX2_insert 60 = .ok (.iload_n 3, 1) := dk_29 (dk_at dksX2_insert_2 14 rfl rfl)
theorem dX2_insert_61 : decode cX2_insert 61 = .ok (.aload_n 0, 1) := dk_42 (dk_at dksX2_insert_2 15 rfl rfl)
theorem dX2_insert_62 : decode cX2_insert 62 = .ok (.getfield 63, 3) := dk_180 0 63 (dk_at dksX2_insert_2 16 rfl rfl)
theorem dX2_insert_65 : decode cX2_insert 65 = .ok (.iload_n 3, 1) := dk_29 (dk_at dksX2_insert_2 19 rfl rfl)
theorem dX2_insert_66 : decode cX2_insert 66 = .ok (.iconst 1, 1) := dk_4 (dk_at dksX2_insert_2 20 rfl rfl)
theorem dX2_insert_67 : decode cX2_insert 67 = .ok (.isub, 1) := dk_100 (dk_at dksX2_insert_2 21 rfl rfl)
theorem dX2_insert_68 : decode cX2_insert 68 = .ok (.iaload, 1) := dk_46 (dk_at dksX2_insert_2 22 rfl rfl)
theorem dX2_insert_69 : decode cX2_insert 69 = .ok (.iastore, 1) := dk_79 (dk_at dksX2_insert_2 23 rfl rfl)
theorem dX2_insert_70 : decode cX2_insert 70 = .ok (.iinc 3 (-1), 3) := dk_132 3 255 (dk_at dksX2_insert_3 0 rfl rfl)
theorem dX2_insert_73 : decode cX2_insert 73 = .ok (.goto (-22), 3) := dk_167 255 234 (dk_at dksX2_insert_3 3 rfl rfl)
theorem dX2_insert_76 : decode cX2_insert 76 = .ok (.aload_n 0, 1) := dk_42 (dk_at dksX2_insert_3 6 rfl rfl)
theorem dX2_insert_77 : decode cX2_insert 77 = .ok (.getfield 63, 3) := dk_180 0 63 (dk_at dksX2_insert_3 7 rfl rfl)
theorem dX2_insert_80 : decode cX2_insert 80 = .ok (.iload_n 1, 1) := dk_27 (dk_at dksX2_insert_3 10 rfl rfl)
theorem dX2_insert_81 : decode cX2_insert 81 = .ok (.iload_n 2, 1) := dk_28 (dk_at dksX2_insert_3 11 rfl rfl)
theorem dX2_insert_82 : decode cX2_insert 82 = .ok (.iastore, 1) := dk_79 (dk_at dksX2_insert_3 12 rfl rfl)
theorem dX2_insert_83 : decode cX2_insert 83 = .ok (.aload_n 0, 1) := dk_42 (dk_at dksX2_insert_3 13 rfl rfl)
theorem dX2_insert_84 : decode cX2_insert 84 = .ok (.dup, 1) := dk_89 (dk_at dksX2_insert_3 14 rfl rfl)
theorem dX2_insert_85 : decode cX2_insert 85 = .ok (.getfield 25, 3) := dk_180 0 25 (dk_at dksX2_insert_3 15 rfl rfl)
theorem dX2_insert_88 : decode cX2_insert 88 = .ok (.iconst 1, 1) := dk_4 (dk_at dksX2_insert_3 18 rfl rfl)
theorem dX2_insert_89 : decode cX2_insert 89 = .ok (.iadd, 1) := dk_96 (dk_at dksX2_insert_3 19 rfl rfl)
theorem dX2_insert_90 : decode cX2_insert 90 = .ok (.putfield 25, 3) := dk_181 0 25 (dk_at dksX2_insert_3 20 rfl rfl)
theorem dX2_insert_93 : decode cX2_insert 93 = .ok (.aload_n 0, 1) := dk_42 (dk_at dksX2_insert_3 23 rfl rfl)
theorem dX2_insert_94 : decode cX2_insert 94 = .ok (.aload_n 0, 1) := dk_42 (dk_at dksX2_insert_4 0 rfl rfl)
theorem dX2_insert_95 : decode cX2_insert 95 = .ok (.invokevirtual 144, 3) := dk_182 0 144 (dk_at dksX2_insert_4 1 rfl rfl)
theorem dX2_insert_98 : decode cX2_insert 98 = .ok (.invokevirtual 126, 3) := dk_182 0 126 (dk_at dksX2_insert_4 4 rfl rfl)
theorem dX2_insert_101 : decode cX2_insert 101 = .ok (.ireturn, 1) := dk_172 (dk_at dksX2_insert_4 7 rfl rfl)
abbrev cX2_chars : ByteArray := prog_7_method_16_code
def yX2_chars : MethodName := ⟨RX2, "chars", "()I"⟩
def dkwX2_chars_1 : List UInt8 := [132, 2, 1, 167, 255, 233, 27, 172]
abbrev dktX2_chars_1 : List UInt8 := dkwX2_chars_1 ++ []
def dkwX2_chars_0 : List UInt8 := [3, 60, 3, 61, 28, 42, 180, 0, 25, 162, 0, 21, 27, 42, 180, 0, 63, 28, 46, 184, 0, 138, 96, 60]
abbrev dktX2_chars_0 : List UInt8 := dkwX2_chars_0 ++ dktX2_chars_1
theorem dksX2_chars_0 : cX2_chars.data.toList.drop 0 = dktX2_chars_0 := by decide +kernel
theorem dksX2_chars_1 : cX2_chars.data.toList.drop 24 = dktX2_chars_1 := dk_seg dksX2_chars_0 24 rfl rfl
theorem dX2_chars_0 : decode cX2_chars 0 = .ok (.iconst 0, 1) := dk_3 (dk_at dksX2_chars_0 0 rfl rfl)
theorem dX2_chars_1 : decode cX2_chars 1 = .ok (.istore_n 1, 1) := dk_60 (dk_at dksX2_chars_0 1 rfl rfl)
theorem dX2_chars_2 : decode cX2_chars 2 = .ok (.iconst 0, 1) := dk_3 (dk_at dksX2_chars_0 2 rfl rfl)
theorem dX2_chars_3 : decode cX2_chars 3 = .ok (.istore_n 2, 1) := dk_61 (dk_at dksX2_chars_0 3 rfl rfl)
theorem dX2_chars_4 : decode cX2_chars 4 = .ok (.iload_n 2, 1) := dk_28 (dk_at dksX2_chars_0 4 rfl rfl)
theorem dX2_chars_5 : decode cX2_chars 5 = .ok (.aload_n 0, 1) := dk_42 (dk_at dksX2_chars_0 5 rfl rfl)
theorem dX2_chars_6 : decode cX2_chars 6 = .ok (.getfield 25, 3) := dk_180 0 25 (dk_at dksX2_chars_0 6 rfl rfl)
theorem dX2_chars_9 : decode cX2_chars 9 = .ok (.if_icmp .ge 21, 3) := dk_162 0 21 (dk_at dksX2_chars_0 9 rfl rfl)
theorem dX2_chars_12 : decode cX2_chars 12 = .ok (.iload_n 1, 1) := dk_27 (dk_at dksX2_chars_0 12 rfl rfl)
theorem dX2_chars_13 : decode cX2_chars 13 = .ok (.aload_n 0, 1) := dk_42 (dk_at dksX2_chars_0 13 rfl rfl)
theorem dX2_chars_14 : decode cX2_chars 14 = .ok (.getfield 63, 3) := dk_180 0 63 (dk_at dksX2_chars_0 14 rfl rfl)
theorem dX2_chars_17 : decode cX2_chars 17 = .ok (.iload_n 2, 1) := dk_28 (dk_at dksX2_chars_0 17 rfl rfl)
theorem dX2_chars_18 : decode cX2_chars 18 = .ok (.iaload, 1) := dk_46 (dk_at dksX2_chars_0 18 rfl rfl)
theorem dX2_chars_19 : decode cX2_chars 19 = .ok (.invokestatic 138, 3) := dk_184 0 138 (dk_at dksX2_chars_0 19 rfl rfl)
theorem dX2_chars_22 : decode cX2_chars 22 = .ok (.iadd, 1) := dk_96 (dk_at dksX2_chars_0 22 rfl rfl)
theorem dX2_chars_23 : decode cX2_chars 23 = .ok (.istore_n 1, 1) := dk_60 (dk_at dksX2_chars_0 23 rfl rfl)
theorem dX2_chars_24 : decode cX2_chars 24 = .ok (.iinc 2 1, 3) := dk_132 2 1 (dk_at dksX2_chars_1 0 rfl rfl)
theorem dX2_chars_27 : decode cX2_chars 27 = .ok (.goto (-23), 3) := dk_167 255 233 (dk_at dksX2_chars_1 3 rfl rfl)
theorem dX2_chars_30 : decode cX2_chars 30 = .ok (.iload_n 1, 1) := dk_27 (dk_at dksX2_chars_1 6 rfl rfl)
theorem dX2_chars_31 : decode cX2_chars 31 = .ok (.ireturn, 1) := dk_172 (dk_at dksX2_chars_1 7 rfl rfl)
abbrev cX2_charsOf : ByteArray := prog_7_method_15_code
def yX2_charsOf : MethodName := ⟨RX2, "charsOf", "(I)I"⟩
def dkwX2_charsOf_0 : List UInt8 := [26, 18, 137, 164, 0, 7, 5, 167, 0, 4, 4, 172]
abbrev dktX2_charsOf_0 : List UInt8 := dkwX2_charsOf_0 ++ []
theorem dksX2_charsOf_0 : cX2_charsOf.data.toList.drop 0 = dktX2_charsOf_0 := by decide +kernel
theorem dX2_charsOf_0 : decode cX2_charsOf 0 = .ok (.iload_n 0, 1) := dk_26 (dk_at dksX2_charsOf_0 0 rfl rfl)
theorem dX2_charsOf_1 : decode cX2_charsOf 1 = .ok (.ldc 137, 2) := dk_18 137 (dk_at dksX2_charsOf_0 1 rfl rfl)
theorem dX2_charsOf_3 : decode cX2_charsOf 3 = .ok (.if_icmp .le 7, 3) := dk_164 0 7 (dk_at dksX2_charsOf_0 3 rfl rfl)
theorem dX2_charsOf_6 : decode cX2_charsOf 6 = .ok (.iconst 2, 1) := dk_5 (dk_at dksX2_charsOf_0 6 rfl rfl)
theorem dX2_charsOf_7 : decode cX2_charsOf 7 = .ok (.goto 4, 3) := dk_167 0 4 (dk_at dksX2_charsOf_0 7 rfl rfl)
theorem dX2_charsOf_10 : decode cX2_charsOf 10 = .ok (.iconst 1, 1) := dk_4 (dk_at dksX2_charsOf_0 10 rfl rfl)
theorem dX2_charsOf_11 : decode cX2_charsOf 11 = .ok (.ireturn, 1) := dk_172 (dk_at dksX2_charsOf_0 11 rfl rfl)
abbrev cX2_reverse : ByteArray := prog_7_method_19_code
def yX2_reverse : MethodName := ⟨RX2, "reverse", "()I"⟩
def dkwX2_reverse_3 : List UInt8 := [180, 0, 63, 3, 46, 182, 0, 126, 172]
abbrev dktX2_reverse_3 : List UInt8 := dkwX2_reverse_3 ++ []
def dkwX2_reverse_2 : List UInt8 := [27, 100, 28, 79, 132, 1, 1, 167, 255, 203, 42, 42, 180, 0, 25, 154, 0, 7, 3, 167, 0, 9, 42]
abbrev dktX2_reverse_2 : List UInt8 := dkwX2_reverse_2 ++ dktX2_reverse_3
def dkwX2_reverse_1 : List UInt8 := [42, 180, 0, 63, 42, 180, 0, 25, 4, 100, 27, 100, 46, 79, 42, 180, 0, 63, 42, 180, 0, 25, 4, 100]
abbrev dktX2_reverse_1 : List UInt8 := dkwX2_reverse_1 ++ dktX2_reverse_2
def dkwX2_reverse_0 : List UInt8 := [3, 60, 27, 42, 180, 0, 25, 5, 108, 162, 0, 49, 42, 180, 0, 63, 27, 46, 61, 42, 180, 0, 63, 27]
abbrev dktX2_reverse_0 : List UInt8 := dkwX2_reverse_0 ++ dktX2_reverse_1
theorem dksX2_reverse_0 : cX2_reverse.data.toList.drop 0 = dktX2_reverse_0 := by decide +kernel
theorem dksX2_reverse_1 : cX2_reverse.data.toList.drop 24 = dktX2_reverse_1 := dk_seg dksX2_reverse_0 24 rfl rfl
theorem dksX2_reverse_2 : cX2_reverse.data.toList.drop 48 = dktX2_reverse_2 := dk_seg dksX2_reverse_1 24 rfl rfl
theorem dksX2_reverse_3 : cX2_reverse.data.toList.drop 71 = dktX2_reverse_3 := dk_seg dksX2_reverse_2 23 rfl rfl
theorem dX2_reverse_0 : decode cX2_reverse 0 = .ok (.iconst 0, 1) := dk_3 (dk_at dksX2_reverse_0 0 rfl rfl)
theorem dX2_reverse_1 : decode cX2_reverse 1 = .ok (.istore_n 1, 1) := dk_60 (dk_at dksX2_reverse_0 1 rfl rfl)
theorem dX2_reverse_2 : decode cX2_reverse 2 = .ok (.iload_n 1, 1) := dk_27 (dk_at dksX2_reverse_0 2 rfl rfl)
theorem dX2_reverse_3 : decode cX2_reverse 3 = .ok (.aload_n 0, 1) := dk_42 (dk_at dksX2_reverse_0 3 rfl rfl)
theorem dX2_reverse_4 : decode cX2_reverse 4 = .ok (.getfield 25, 3) := dk_180 0 25 (dk_at dksX2_reverse_0 4 rfl rfl)
theorem dX2_reverse_7 : decode cX2_reverse 7 = .ok (.iconst 2, 1) := dk_5 (dk_at dksX2_reverse_0 7 rfl rfl)
theorem dX2_reverse_8 : decode cX2_reverse 8 = .ok (.idiv, 1) := dk_108 (dk_at dksX2_reverse_0 8 rfl rfl)
theorem dX2_reverse_9 : decode cX2_reverse 9 = .ok (.if_icmp .ge 49, 3) := dk_162 0 49 (dk_at dksX2_reverse_0 9 rfl rfl)
theorem dX2_reverse_12 : decode cX2_reverse 12 = .ok (.aload_n 0, 1) := dk_42 (dk_at dksX2_reverse_0 12 rfl rfl)
theorem dX2_reverse_13 : decode cX2_reverse 13 = .ok (.getfield 63, 3) := dk_180 0 63 (dk_at dksX2_reverse_0 13 rfl rfl)
theorem dX2_reverse_16 : decode cX2_reverse 16 = .ok (.iload_n 1, 1) := dk_27 (dk_at dksX2_reverse_0 16 rfl rfl)
theorem dX2_reverse_17 : decode cX2_reverse 17 = .ok (.iaload, 1) := dk_46 (dk_at dksX2_reverse_0 17 rfl rfl)
theorem dX2_reverse_18 : decode cX2_reverse 18 = .ok (.istore_n 2, 1) := dk_61 (dk_at dksX2_reverse_0 18 rfl rfl)
theorem dX2_reverse_19 : decode cX2_reverse 19 = .ok (.aload_n 0, 1) := dk_42 (dk_at dksX2_reverse_0 19 rfl rfl)
theorem dX2_reverse_20 : decode cX2_reverse 20 = .ok (.getfield 63, 3) := dk_180 0 63 (dk_at dksX2_reverse_0 20 rfl rfl)
theorem dX2_reverse_23 : decode cX2_reverse 23 = .ok (.iload_n 1, 1) := dk_27 (dk_at dksX2_reverse_0 23 rfl rfl)
theorem dX2_reverse_24 : decode cX2_reverse 24 = .ok (.aload_n 0, 1) := dk_42 (dk_at dksX2_reverse_1 0 rfl rfl)
theorem dX2_reverse_25 : decode cX2_reverse 25 = .ok (.getfield 63, 3) := dk_180 0 63 (dk_at dksX2_reverse_1 1 rfl rfl)
theorem dX2_reverse_28 : decode cX2_reverse 28 = .ok (.aload_n 0, 1) := dk_42 (dk_at dksX2_reverse_1 4 rfl rfl)
theorem dX2_reverse_29 : decode cX2_reverse 29 = .ok (.getfield 25, 3) := dk_180 0 25 (dk_at dksX2_reverse_1 5 rfl rfl)
theorem dX2_reverse_32 : decode cX2_reverse 32 = .ok (.iconst 1, 1) := dk_4 (dk_at dksX2_reverse_1 8 rfl rfl)
theorem dX2_reverse_33 : decode cX2_reverse 33 = .ok (.isub, 1) := dk_100 (dk_at dksX2_reverse_1 9 rfl rfl)
theorem dX2_reverse_34 : decode cX2_reverse 34 = .ok (.iload_n 1, 1) := dk_27 (dk_at dksX2_reverse_1 10 rfl rfl)
theorem dX2_reverse_35 : decode cX2_reverse 35 = .ok (.isub, 1) := dk_100 (dk_at dksX2_reverse_1 11 rfl rfl)
theorem dX2_reverse_36 : decode cX2_reverse 36 = .ok (.iaload, 1) := dk_46 (dk_at dksX2_reverse_1 12 rfl rfl)
theorem dX2_reverse_37 : decode cX2_reverse 37 = .ok (.iastore, 1) := dk_79 (dk_at dksX2_reverse_1 13 rfl rfl)
theorem dX2_reverse_38 : decode cX2_reverse 38 = .ok (.aload_n 0, 1) := dk_42 (dk_at dksX2_reverse_1 14 rfl rfl)
theorem dX2_reverse_39 : decode cX2_reverse 39 = .ok (.getfield 63, 3) := dk_180 0 63 (dk_at dksX2_reverse_1 15 rfl rfl)
theorem dX2_reverse_42 : decode cX2_reverse 42 = .ok (.aload_n 0, 1) := dk_42 (dk_at dksX2_reverse_1 18 rfl rfl)
theorem dX2_reverse_43 : decode cX2_reverse 43 = .ok (.getfield 25, 3) := dk_180 0 25 (dk_at dksX2_reverse_1 19 rfl rfl)
theorem dX2_reverse_46 : decode cX2_reverse 46 = .ok (.iconst 1, 1) := dk_4 (dk_at dksX2_reverse_1 22 rfl rfl)
theorem dX2_reverse_47 : decode cX2_reverse 47 = .ok (.isub, 1) := dk_100 (dk_at dksX2_reverse_1 23 rfl rfl)
theorem dX2_reverse_48 : decode cX2_reverse 48 = .ok (.iload_n 1, 1) := dk_27 (dk_at dksX2_reverse_2 0 rfl rfl)
theorem dX2_reverse_49 : decode cX2_reverse 49 = .ok (.isub, 1) := dk_100 (dk_at dksX2_reverse_2 1 rfl rfl)
theorem dX2_reverse_50 : decode cX2_reverse 50 = .ok (.iload_n 2, 1) := dk_28 (dk_at dksX2_reverse_2 2 rfl rfl)
theorem dX2_reverse_51 : decode cX2_reverse 51 = .ok (.iastore, 1) := dk_79 (dk_at dksX2_reverse_2 3 rfl rfl)
theorem dX2_reverse_52 : decode cX2_reverse 52 = .ok (.iinc 1 1, 3) := dk_132 1 1 (dk_at dksX2_reverse_2 4 rfl rfl)
theorem dX2_reverse_55 : decode cX2_reverse 55 = .ok (.goto (-53), 3) := dk_167 255 203 (dk_at dksX2_reverse_2 7 rfl rfl)
theorem dX2_reverse_58 : decode cX2_reverse 58 = .ok (.aload_n 0, 1) := dk_42 (dk_at dksX2_reverse_2 10 rfl rfl)
theorem dX2_reverse_59 : decode cX2_reverse 59 = .ok (.aload_n 0, 1) := dk_42 (dk_at dksX2_reverse_2 11 rfl rfl)
theorem dX2_reverse_60 : decode cX2_reverse 60 = .ok (.getfield 25, 3) := dk_180 0 25 (dk_at dksX2_reverse_2 12 rfl rfl)
theorem dX2_reverse_63 : decode cX2_reverse 63 = .ok (.ifCond .ne 7, 3) := dk_154 0 7 (dk_at dksX2_reverse_2 15 rfl rfl)
theorem dX2_reverse_66 : decode cX2_reverse 66 = .ok (.iconst 0, 1) := dk_3 (dk_at dksX2_reverse_2 18 rfl rfl)
theorem dX2_reverse_67 : decode cX2_reverse 67 = .ok (.goto 9, 3) := dk_167 0 9 (dk_at dksX2_reverse_2 19 rfl rfl)
theorem dX2_reverse_70 : decode cX2_reverse 70 = .ok (.aload_n 0, 1) := dk_42 (dk_at dksX2_reverse_2 22 rfl rfl)
theorem dX2_reverse_71 : decode cX2_reverse 71 = .ok (.getfield 63, 3) := dk_180 0 63 (dk_at dksX2_reverse_3 0 rfl rfl)
theorem dX2_reverse_74 : decode cX2_reverse 74 = .ok (.iconst 0, 1) := dk_3 (dk_at dksX2_reverse_3 3 rfl rfl)
theorem dX2_reverse_75 : decode cX2_reverse 75 = .ok (.iaload, 1) := dk_46 (dk_at dksX2_reverse_3 4 rfl rfl)
theorem dX2_reverse_76 : decode cX2_reverse 76 = .ok (.invokevirtual 126, 3) := dk_182 0 126 (dk_at dksX2_reverse_3 5 rfl rfl)
theorem dX2_reverse_79 : decode cX2_reverse 79 = .ok (.ireturn, 1) := dk_172 (dk_at dksX2_reverse_3 8 rfl rfl)
abbrev cX2_wipe : ByteArray := prog_7_method_20_code
def yX2_wipe : MethodName := ⟨RX2, "wipe", "()I"⟩
def dkwX2_wipe_0 : List UInt8 := [42, 180, 0, 25, 60, 42, 3, 181, 0, 25, 42, 27, 182, 0, 126, 172]
abbrev dktX2_wipe_0 : List UInt8 := dkwX2_wipe_0 ++ []
theorem dksX2_wipe_0 : cX2_wipe.data.toList.drop 0 = dktX2_wipe_0 := by decide +kernel
theorem dX2_wipe_0 : decode cX2_wipe 0 = .ok (.aload_n 0, 1) := dk_42 (dk_at dksX2_wipe_0 0 rfl rfl)
theorem dX2_wipe_1 : decode cX2_wipe 1 = .ok (.getfield 25, 3) := dk_180 0 25 (dk_at dksX2_wipe_0 1 rfl rfl)
theorem dX2_wipe_4 : decode cX2_wipe 4 = .ok (.istore_n 1, 1) := dk_60 (dk_at dksX2_wipe_0 4 rfl rfl)
theorem dX2_wipe_5 : decode cX2_wipe 5 = .ok (.aload_n 0, 1) := dk_42 (dk_at dksX2_wipe_0 5 rfl rfl)
theorem dX2_wipe_6 : decode cX2_wipe 6 = .ok (.iconst 0, 1) := dk_3 (dk_at dksX2_wipe_0 6 rfl rfl)
theorem dX2_wipe_7 : decode cX2_wipe 7 = .ok (.putfield 25, 3) := dk_181 0 25 (dk_at dksX2_wipe_0 7 rfl rfl)
theorem dX2_wipe_10 : decode cX2_wipe 10 = .ok (.aload_n 0, 1) := dk_42 (dk_at dksX2_wipe_0 10 rfl rfl)
theorem dX2_wipe_11 : decode cX2_wipe 11 = .ok (.iload_n 1, 1) := dk_27 (dk_at dksX2_wipe_0 11 rfl rfl)
theorem dX2_wipe_12 : decode cX2_wipe 12 = .ok (.invokevirtual 126, 3) := dk_182 0 126 (dk_at dksX2_wipe_0 12 rfl rfl)
theorem dX2_wipe_15 : decode cX2_wipe 15 = .ok (.ireturn, 1) := dk_172 (dk_at dksX2_wipe_0 15 rfl rfl)
abbrev cX2_charAt : ByteArray := prog_7_method_22_code
def yX2_charAt : MethodName := ⟨RX2, "charAt", "(I)C"⟩
def dkwX2_charAt_2 : List UInt8 := [42, 180, 0, 63, 29, 46, 184, 0, 138, 100, 61, 132, 3, 1, 167, 255, 199, 42, 4, 181, 0, 37, 3, 172]
abbrev dktX2_charAt_2 : List UInt8 := dkwX2_charAt_2 ++ []
def dkwX2_charAt_1 : List UInt8 := [184, 0, 138, 162, 0, 20, 42, 3, 181, 0, 37, 42, 180, 0, 63, 29, 46, 28, 184, 0, 151, 146, 172, 28]
abbrev dktX2_charAt_1 : List UInt8 := dkwX2_charAt_1 ++ dktX2_charAt_2
def dkwX2_charAt_0 : List UInt8 := [27, 61, 3, 62, 29, 42, 180, 0, 25, 162, 0, 55, 28, 155, 0, 51, 28, 42, 180, 0, 63, 29, 46]
abbrev dktX2_charAt_0 : List UInt8 := dkwX2_charAt_0 ++ dktX2_charAt_1
theorem dksX2_charAt_0 : cX2_charAt.data.toList.drop 0 = dktX2_charAt_0 := by decide +kernel
theorem dksX2_charAt_1 : cX2_charAt.data.toList.drop 23 = dktX2_charAt_1 := dk_seg dksX2_charAt_0 23 rfl rfl
theorem dksX2_charAt_2 : cX2_charAt.data.toList.drop 47 = dktX2_charAt_2 := dk_seg dksX2_charAt_1 24 rfl rfl
theorem dX2_charAt_0 : decode cX2_charAt 0 = .ok (.iload_n 1, 1) := dk_27 (dk_at dksX2_charAt_0 0 rfl rfl)
theorem dX2_charAt_1 : decode cX2_charAt 1 = .ok (.istore_n 2, 1) := dk_61 (dk_at dksX2_charAt_0 1 rfl rfl)
theorem dX2_charAt_2 : decode cX2_charAt 2 = .ok (.iconst 0, 1) := dk_3 (dk_at dksX2_charAt_0 2 rfl rfl)
theorem dX2_charAt_3 : decode cX2_charAt 3 = .ok (.istore_n 3, 1) := dk_62 (dk_at dksX2_charAt_0 3 rfl rfl)
theorem dX2_charAt_4 : decode cX2_charAt 4 = .ok (.iload_n 3, 1) := dk_29 (dk_at dksX2_charAt_0 4 rfl rfl)
theorem dX2_charAt_5 : decode cX2_charAt 5 = .ok (.aload_n 0, 1) := dk_42 (dk_at dksX2_charAt_0 5 rfl rfl)
theorem dX2_charAt_6 : decode cX2_charAt 6 = .ok (.getfield 25, 3) := dk_180 0 25 (dk_at dksX2_charAt_0 6 rfl rfl)
theorem dX2_charAt_9 : decode cX2_charAt 9 = .ok (.if_icmp .ge 55, 3) := dk_162 0 55 (dk_at dksX2_charAt_0 9 rfl rfl)
theorem dX2_charAt_12 : decode cX2_charAt 12 = .ok (.iload_n 2, 1) := dk_28 (dk_at dksX2_charAt_0 12 rfl rfl)
theorem dX2_charAt_13 : decode cX2_charAt 13 = .ok (.ifCond .lt 51, 3) := dk_155 0 51 (dk_at dksX2_charAt_0 13 rfl rfl)
theorem dX2_charAt_16 : decode cX2_charAt 16 = .ok (.iload_n 2, 1) := dk_28 (dk_at dksX2_charAt_0 16 rfl rfl)
theorem dX2_charAt_17 : decode cX2_charAt 17 = .ok (.aload_n 0, 1) := dk_42 (dk_at dksX2_charAt_0 17 rfl rfl)
theorem dX2_charAt_18 : decode cX2_charAt 18 = .ok (.getfield 63, 3) := dk_180 0 63 (dk_at dksX2_charAt_0 18 rfl rfl)
theorem dX2_charAt_21 : decode cX2_charAt 21 = .ok (.iload_n 3, 1) := dk_29 (dk_at dksX2_charAt_0 21 rfl rfl)
theorem dX2_charAt_22 : decode cX2_charAt 22 = .ok (.iaload, 1) := dk_46 (dk_at dksX2_charAt_0 22 rfl rfl)
theorem dX2_charAt_23 : decode cX2_charAt 23 = .ok (.invokestatic 138, 3) := dk_184 0 138 (dk_at dksX2_charAt_1 0 rfl rfl)
theorem dX2_charAt_26 : decode cX2_charAt 26 = .ok (.if_icmp .ge 20, 3) := dk_162 0 20 (dk_at dksX2_charAt_1 3 rfl rfl)
theorem dX2_charAt_29 : decode cX2_charAt 29 = .ok (.aload_n 0, 1) := dk_42 (dk_at dksX2_charAt_1 6 rfl rfl)
theorem dX2_charAt_30 : decode cX2_charAt 30 = .ok (.iconst 0, 1) := dk_3 (dk_at dksX2_charAt_1 7 rfl rfl)
theorem dX2_charAt_31 : decode cX2_charAt 31 = .ok (.putfield 37, 3) := dk_181 0 37 (dk_at dksX2_charAt_1 8 rfl rfl)
theorem dX2_charAt_34 : decode cX2_charAt 34 = .ok (.aload_n 0, 1) := dk_42 (dk_at dksX2_charAt_1 11 rfl rfl)
theorem dX2_charAt_35 : decode cX2_charAt 35 = .ok (.getfield 63, 3) := dk_180 0 63 (dk_at dksX2_charAt_1 12 rfl rfl)
theorem dX2_charAt_38 : decode cX2_charAt 38 = .ok (.iload_n 3, 1) := dk_29 (dk_at dksX2_charAt_1 15 rfl rfl)
theorem dX2_charAt_39 : decode cX2_charAt 39 = .ok (.iaload, 1) := dk_46 (dk_at dksX2_charAt_1 16 rfl rfl)
theorem dX2_charAt_40 : decode cX2_charAt 40 = .ok (.iload_n 2, 1) := dk_28 (dk_at dksX2_charAt_1 17 rfl rfl)
theorem dX2_charAt_41 : decode cX2_charAt 41 = .ok (.invokestatic 151, 3) := dk_184 0 151 (dk_at dksX2_charAt_1 18 rfl rfl)
theorem dX2_charAt_44 : decode cX2_charAt 44 = .ok (.i2c, 1) := dk_146 (dk_at dksX2_charAt_1 21 rfl rfl)
theorem dX2_charAt_45 : decode cX2_charAt 45 = .ok (.ireturn, 1) := dk_172 (dk_at dksX2_charAt_1 22 rfl rfl)
theorem dX2_charAt_46 : decode cX2_charAt 46 = .ok (.iload_n 2, 1) := dk_28 (dk_at dksX2_charAt_1 23 rfl rfl)
theorem dX2_charAt_47 : decode cX2_charAt 47 = .ok (.aload_n 0, 1) := dk_42 (dk_at dksX2_charAt_2 0 rfl rfl)
theorem dX2_charAt_48 : decode cX2_charAt 48 = .ok (.getfield 63, 3) := dk_180 0 63 (dk_at dksX2_charAt_2 1 rfl rfl)
theorem dX2_charAt_51 : decode cX2_charAt 51 = .ok (.iload_n 3, 1) := dk_29 (dk_at dksX2_charAt_2 4 rfl rfl)
theorem dX2_charAt_52 : decode cX2_charAt 52 = .ok (.iaload, 1) := dk_46 (dk_at dksX2_charAt_2 5 rfl rfl)
theorem dX2_charAt_53 : decode cX2_charAt 53 = .ok (.invokestatic 138, 3) := dk_184 0 138 (dk_at dksX2_charAt_2 6 rfl rfl)
theorem dX2_charAt_56 : decode cX2_charAt 56 = .ok (.isub, 1) := dk_100 (dk_at dksX2_charAt_2 9 rfl rfl)
theorem dX2_charAt_57 : decode cX2_charAt 57 = .ok (.istore_n 2, 1) := dk_61 (dk_at dksX2_charAt_2 10 rfl rfl)
theorem dX2_charAt_58 : decode cX2_charAt 58 = .ok (.iinc 3 1, 3) := dk_132 3 1 (dk_at dksX2_charAt_2 11 rfl rfl)
theorem dX2_charAt_61 : decode cX2_charAt 61 = .ok (.goto (-57), 3) := dk_167 255 199 (dk_at dksX2_charAt_2 14 rfl rfl)
theorem dX2_charAt_64 : decode cX2_charAt 64 = .ok (.aload_n 0, 1) := dk_42 (dk_at dksX2_charAt_2 17 rfl rfl)
theorem dX2_charAt_65 : decode cX2_charAt 65 = .ok (.iconst 1, 1) := dk_4 (dk_at dksX2_charAt_2 18 rfl rfl)
theorem dX2_charAt_66 : decode cX2_charAt 66 = .ok (.putfield 37, 3) := dk_181 0 37 (dk_at dksX2_charAt_2 19 rfl rfl)
theorem dX2_charAt_69 : decode cX2_charAt 69 = .ok (.iconst 0, 1) := dk_3 (dk_at dksX2_charAt_2 22 rfl rfl)
theorem dX2_charAt_70 : decode cX2_charAt 70 = .ok (.ireturn, 1) := dk_172 (dk_at dksX2_charAt_2 23 rfl rfl)
abbrev cX2_charOf : ByteArray := prog_7_method_21_code
def yX2_charOf : MethodName := ⟨RX2, "charOf", "(II)I"⟩
def dkwX2_charOf_1 : List UInt8 := [96, 167, 0, 11, 18, 150, 28, 17, 4, 0, 112, 96, 172]
abbrev dktX2_charOf_1 : List UInt8 := dkwX2_charOf_1 ++ []
def dkwX2_charOf_0 : List UInt8 := [26, 18, 137, 163, 0, 5, 26, 172, 26, 18, 148, 100, 61, 27, 154, 0, 14, 18, 149, 28, 17, 4, 0, 108]
abbrev dktX2_charOf_0 : List UInt8 := dkwX2_charOf_0 ++ dktX2_charOf_1
theorem dksX2_charOf_0 : cX2_charOf.data.toList.drop 0 = dktX2_charOf_0 := by decide +kernel
theorem dksX2_charOf_1 : cX2_charOf.data.toList.drop 24 = dktX2_charOf_1 := dk_seg dksX2_charOf_0 24 rfl rfl
theorem dX2_charOf_0 : decode cX2_charOf 0 = .ok (.iload_n 0, 1) := dk_26 (dk_at dksX2_charOf_0 0 rfl rfl)
theorem dX2_charOf_1 : decode cX2_charOf 1 = .ok (.ldc 137, 2) := dk_18 137 (dk_at dksX2_charOf_0 1 rfl rfl)
theorem dX2_charOf_3 : decode cX2_charOf 3 = .ok (.if_icmp .gt 5, 3) := dk_163 0 5 (dk_at dksX2_charOf_0 3 rfl rfl)
theorem dX2_charOf_6 : decode cX2_charOf 6 = .ok (.iload_n 0, 1) := dk_26 (dk_at dksX2_charOf_0 6 rfl rfl)
theorem dX2_charOf_7 : decode cX2_charOf 7 = .ok (.ireturn, 1) := dk_172 (dk_at dksX2_charOf_0 7 rfl rfl)
theorem dX2_charOf_8 : decode cX2_charOf 8 = .ok (.iload_n 0, 1) := dk_26 (dk_at dksX2_charOf_0 8 rfl rfl)
theorem dX2_charOf_9 : decode cX2_charOf 9 = .ok (.ldc 148, 2) := dk_18 148 (dk_at dksX2_charOf_0 9 rfl rfl)
theorem dX2_charOf_11 : decode cX2_charOf 11 = .ok (.isub, 1) := dk_100 (dk_at dksX2_charOf_0 11 rfl rfl)
theorem dX2_charOf_12 : decode cX2_charOf 12 = .ok (.istore_n 2, 1) := dk_61 (dk_at dksX2_charOf_0 12 rfl rfl)
theorem dX2_charOf_13 : decode cX2_charOf 13 = .ok (.iload_n 1, 1) := dk_27 (dk_at dksX2_charOf_0 13 rfl rfl)
theorem dX2_charOf_14 : decode cX2_charOf 14 = .ok (.ifCond .ne 14, 3) := dk_154 0 14 (dk_at dksX2_charOf_0 14 rfl rfl)
theorem dX2_charOf_17 : decode cX2_charOf 17 = .ok (.ldc 149, 2) := dk_18 149 (dk_at dksX2_charOf_0 17 rfl rfl)
theorem dX2_charOf_19 : decode cX2_charOf 19 = .ok (.iload_n 2, 1) := dk_28 (dk_at dksX2_charOf_0 19 rfl rfl)
theorem dX2_charOf_20 : decode cX2_charOf 20 = .ok (.sipush 1024, 3) := dk_17 4 0 (dk_at dksX2_charOf_0 20 rfl rfl)
theorem dX2_charOf_23 : decode cX2_charOf 23 = .ok (.idiv, 1) := dk_108 (dk_at dksX2_charOf_0 23 rfl rfl)
theorem dX2_charOf_24 : decode cX2_charOf 24 = .ok (.iadd, 1) := dk_96 (dk_at dksX2_charOf_1 0 rfl rfl)
theorem dX2_charOf_25 : decode cX2_charOf 25 = .ok (.goto 11, 3) := dk_167 0 11 (dk_at dksX2_charOf_1 1 rfl rfl)
theorem dX2_charOf_28 : decode cX2_charOf 28 = .ok (.ldc 150, 2) := dk_18 150 (dk_at dksX2_charOf_1 4 rfl rfl)
theorem dX2_charOf_30 : decode cX2_charOf 30 = .ok (.iload_n 2, 1) := dk_28 (dk_at dksX2_charOf_1 6 rfl rfl)
theorem dX2_charOf_31 : decode cX2_charOf 31 = .ok (.sipush 1024, 3) := dk_17 4 0 (dk_at dksX2_charOf_1 7 rfl rfl)
theorem dX2_charOf_34 : decode cX2_charOf 34 = .ok (.irem, 1) := dk_112 (dk_at dksX2_charOf_1 10 rfl rfl)
theorem dX2_charOf_35 : decode cX2_charOf 35 = .ok (.iadd, 1) := dk_96 (dk_at dksX2_charOf_1 11 rfl rfl)
theorem dX2_charOf_36 : decode cX2_charOf 36 = .ok (.ireturn, 1) := dk_172 (dk_at dksX2_charOf_1 12 rfl rfl)
abbrev cX2_save : ByteArray := prog_7_method_28_code
def yX2_save : MethodName := ⟨RX2, "save", "(IIII)I"⟩
def dkwX2_save_12 : List UInt8 := [182, 0, 126, 172]
abbrev dktX2_save_12 : List UInt8 := dkwX2_save_12 ++ []
def dkwX2_save_11 : List UInt8 := [21, 6, 182, 0, 168, 42, 89, 180, 0, 22, 4, 96, 181, 0, 22, 42, 3, 181, 0, 25, 42, 21, 6]
abbrev dktX2_save_11 : List UInt8 := dkwX2_save_11 ++ dktX2_save_12
def dkwX2_save_10 : List UInt8 := [16, 40, 21, 6, 104, 21, 7, 96, 42, 180, 0, 63, 21, 7, 46, 79, 132, 7, 1, 167, 255, 224, 42]
abbrev dktX2_save_10 : List UInt8 := dkwX2_save_10 ++ dktX2_save_11
def dkwX2_save_9 : List UInt8 := [42, 180, 0, 84, 21, 6, 2, 79, 3, 54, 7, 21, 7, 42, 180, 0, 25, 162, 0, 29, 42, 180, 0, 93]
abbrev dktX2_save_9 : List UInt8 := dkwX2_save_9 ++ dktX2_save_10
def dkwX2_save_8 : List UInt8 := [180, 0, 75, 21, 6, 42, 180, 0, 7, 21, 4, 100, 79, 42, 180, 0, 78, 21, 6, 42, 180, 0, 25, 79]
abbrev dktX2_save_8 : List UInt8 := dkwX2_save_8 ++ dktX2_save_9
def dkwX2_save_7 : List UInt8 := [180, 0, 66, 21, 6, 27, 79, 42, 180, 0, 69, 21, 6, 28, 79, 42, 180, 0, 72, 21, 6, 29, 79, 42]
abbrev dktX2_save_7 : List UInt8 := dkwX2_save_7 ++ dktX2_save_8
def dkwX2_save_6 : List UInt8 := [42, 180, 0, 22, 16, 60, 160, 0, 9, 42, 7, 182, 0, 122, 172, 42, 180, 0, 22, 54, 6, 42]
abbrev dktX2_save_6 : List UInt8 := dkwX2_save_6 ++ dktX2_save_7
def dkwX2_save_5 : List UInt8 := [21, 4, 100, 164, 0, 7, 4, 167, 0, 4, 3, 54, 5, 21, 5, 153, 0, 9, 42, 6, 182, 0, 122, 172]
abbrev dktX2_save_5 : List UInt8 := dkwX2_save_5 ++ dktX2_save_6
def dkwX2_save_4 : List UInt8 := [160, 0, 29, 42, 180, 0, 69, 29, 46, 28, 160, 0, 19, 42, 180, 0, 75, 29, 46, 42, 180, 0, 7]
abbrev dktX2_save_4 : List UInt8 := dkwX2_save_4 ++ dktX2_save_5
def dkwX2_save_3 : List UInt8 := [4, 167, 0, 4, 3, 54, 5, 29, 2, 159, 0, 51, 21, 5, 154, 0, 39, 42, 180, 0, 66, 29, 46, 27]
abbrev dktX2_save_3 : List UInt8 := dkwX2_save_3 ++ dktX2_save_4
def dkwX2_save_2 : List UInt8 := [154, 0, 9, 42, 5, 182, 0, 122, 172, 42, 180, 0, 47, 28, 46, 42, 180, 0, 44, 27, 46, 159, 0, 7]
abbrev dktX2_save_2 : List UInt8 := dkwX2_save_2 ++ dktX2_save_3
def dkwX2_save_1 : List UInt8 := [182, 0, 165, 154, 0, 9, 42, 4, 182, 0, 122, 172, 21, 4, 3, 42, 180, 0, 7, 184, 0, 118]
abbrev dktX2_save_1 : List UInt8 := dkwX2_save_1 ++ dktX2_save_2
def dkwX2_save_0 : List UInt8 := [42, 27, 182, 0, 159, 153, 0, 24, 42, 28, 182, 0, 162, 153, 0, 16, 29, 2, 159, 0, 17, 42, 29]
abbrev dktX2_save_0 : List UInt8 := dkwX2_save_0 ++ dktX2_save_1
theorem dksX2_save_0 : cX2_save.data.toList.drop 0 = dktX2_save_0 := by decide +kernel
theorem dksX2_save_1 : cX2_save.data.toList.drop 23 = dktX2_save_1 := dk_seg dksX2_save_0 23 rfl rfl
theorem dksX2_save_2 : cX2_save.data.toList.drop 45 = dktX2_save_2 := dk_seg dksX2_save_1 22 rfl rfl
theorem dksX2_save_3 : cX2_save.data.toList.drop 69 = dktX2_save_3 := dk_seg dksX2_save_2 24 rfl rfl
theorem dksX2_save_4 : cX2_save.data.toList.drop 93 = dktX2_save_4 := dk_seg dksX2_save_3 24 rfl rfl
theorem dksX2_save_5 : cX2_save.data.toList.drop 116 = dktX2_save_5 := dk_seg dksX2_save_4 23 rfl rfl
theorem dksX2_save_6 : cX2_save.data.toList.drop 140 = dktX2_save_6 := dk_seg dksX2_save_5 24 rfl rfl
theorem dksX2_save_7 : cX2_save.data.toList.drop 162 = dktX2_save_7 := dk_seg dksX2_save_6 22 rfl rfl
theorem dksX2_save_8 : cX2_save.data.toList.drop 186 = dktX2_save_8 := dk_seg dksX2_save_7 24 rfl rfl
theorem dksX2_save_9 : cX2_save.data.toList.drop 210 = dktX2_save_9 := dk_seg dksX2_save_8 24 rfl rfl
theorem dksX2_save_10 : cX2_save.data.toList.drop 234 = dktX2_save_10 := dk_seg dksX2_save_9 24 rfl rfl
theorem dksX2_save_11 : cX2_save.data.toList.drop 257 = dktX2_save_11 := dk_seg dksX2_save_10 23 rfl rfl
theorem dksX2_save_12 : cX2_save.data.toList.drop 280 = dktX2_save_12 := dk_seg dksX2_save_11 23 rfl rfl
theorem dX2_save_0 : decode cX2_save 0 = .ok (.aload_n 0, 1) := dk_42 (dk_at dksX2_save_0 0 rfl rfl)
theorem dX2_save_1 : decode cX2_save 1 = .ok (.iload_n 1, 1) := dk_27 (dk_at dksX2_save_0 1 rfl rfl)
theorem dX2_save_2 : decode cX2_save 2 = .ok (.invokevirtual 159, 3) := dk_182 0 159 (dk_at dksX2_save_0 2 rfl rfl)
theorem dX2_save_5 : decode cX2_save 5 = .ok (.ifCond .eq 24, 3) := dk_153 0 24 (dk_at dksX2_save_0 5 rfl rfl)
theorem dX2_save_8 : decode cX2_save 8 = .ok (.aload_n 0, 1) := dk_42 (dk_at dksX2_save_0 8 rfl rfl)
theorem dX2_save_9 : decode cX2_save 9 = .ok (.iload_n 2, 1) := dk_28 (dk_at dksX2_save_0 9 rfl rfl)
theorem dX2_save_10 : decode cX2_save 10 = .ok (.invokevirtual 162, 3) := dk_182 0 162 (dk_at dksX2_save_0 10 rfl rfl)
theorem dX2_save_13 : decode cX2_save 13 = .ok (.ifCond .eq 16, 3) := dk_153 0 16 (dk_at dksX2_save_0 13 rfl rfl)
theorem dX2_save_16 : decode cX2_save 16 = .ok (.iload_n 3, 1) := dk_29 (dk_at dksX2_save_0 16 rfl rfl)
theorem dX2_save_17 : decode cX2_save 17 = .ok (.iconst (-1), 1) := dk_2 (dk_at dksX2_save_0 17 rfl rfl)
theorem dX2_save_18 : decode cX2_save 18 = .ok (.if_icmp .eq 17, 3) := dk_159 0 17 (dk_at dksX2_save_0 18 rfl rfl)
theorem dX2_save_21 : decode cX2_save 21 = .ok (.aload_n 0, 1) := dk_42 (dk_at dksX2_save_0 21 rfl rfl)
theorem dX2_save_22 : decode cX2_save 22 = .ok (.iload_n 3, 1) := dk_29 (dk_at dksX2_save_0 22 rfl rfl)
theorem dX2_save_23 : decode cX2_save 23 = .ok (.invokevirtual 165, 3) := dk_182 0 165 (dk_at dksX2_save_1 0 rfl rfl)
theorem dX2_save_26 : decode cX2_save 26 = .ok (.ifCond .ne 9, 3) := dk_154 0 9 (dk_at dksX2_save_1 3 rfl rfl)
theorem dX2_save_29 : decode cX2_save 29 = .ok (.aload_n 0, 1) := dk_42 (dk_at dksX2_save_1 6 rfl rfl)
theorem dX2_save_30 : decode cX2_save 30 = .ok (.iconst 1, 1) := dk_4 (dk_at dksX2_save_1 7 rfl rfl)
theorem dX2_save_31 : decode cX2_save 31 = .ok (.invokevirtual 122, 3) := dk_182 0 122 (dk_at dksX2_save_1 8 rfl rfl)
theorem dX2_save_34 : decode cX2_save 34 = .ok (.ireturn, 1) := dk_172 (dk_at dksX2_save_1 11 rfl rfl)
theorem dX2_save_35 : decode cX2_save 35 = .ok (.iload 4, 2) := dk_21 4 (dk_at dksX2_save_1 12 rfl rfl)
theorem dX2_save_37 : decode cX2_save 37 = .ok (.iconst 0, 1) := dk_3 (dk_at dksX2_save_1 14 rfl rfl)
theorem dX2_save_38 : decode cX2_save 38 = .ok (.aload_n 0, 1) := dk_42 (dk_at dksX2_save_1 15 rfl rfl)
theorem dX2_save_39 : decode cX2_save 39 = .ok (.getfield 7, 3) := dk_180 0 7 (dk_at dksX2_save_1 16 rfl rfl)
theorem dX2_save_42 : decode cX2_save 42 = .ok (.invokestatic 118, 3) := dk_184 0 118 (dk_at dksX2_save_1 19 rfl rfl)
theorem dX2_save_45 : decode cX2_save 45 = .ok (.ifCond .ne 9, 3) := dk_154 0 9 (dk_at dksX2_save_2 0 rfl rfl)
theorem dX2_save_48 : decode cX2_save 48 = .ok (.aload_n 0, 1) := dk_42 (dk_at dksX2_save_2 3 rfl rfl)
theorem dX2_save_49 : decode cX2_save 49 = .ok (.iconst 2, 1) := dk_5 (dk_at dksX2_save_2 4 rfl rfl)
theorem dX2_save_50 : decode cX2_save 50 = .ok (.invokevirtual 122, 3) := dk_182 0 122 (dk_at dksX2_save_2 5 rfl rfl)
theorem dX2_save_53 : decode cX2_save 53 = .ok (.ireturn, 1) := dk_172 (dk_at dksX2_save_2 8 rfl rfl)
theorem dX2_save_54 : decode cX2_save 54 = .ok (.aload_n 0, 1) := dk_42 (dk_at dksX2_save_2 9 rfl rfl)
theorem dX2_save_55 : decode cX2_save 55 = .ok (.getfield 47, 3) := dk_180 0 47 (dk_at dksX2_save_2 10 rfl rfl)
theorem dX2_save_58 : decode cX2_save 58 = .ok (.iload_n 2, 1) := dk_28 (dk_at dksX2_save_2 13 rfl rfl)
theorem dX2_save_59 : decode cX2_save 59 = .ok (.iaload, 1) := dk_46 (dk_at dksX2_save_2 14 rfl rfl)
theorem dX2_save_60 : decode cX2_save 60 = .ok (.aload_n 0, 1) := dk_42 (dk_at dksX2_save_2 15 rfl rfl)
theorem dX2_save_61 : decode cX2_save 61 = .ok (.getfield 44, 3) := dk_180 0 44 (dk_at dksX2_save_2 16 rfl rfl)
theorem dX2_save_64 : decode cX2_save 64 = .ok (.iload_n 1, 1) := dk_27 (dk_at dksX2_save_2 19 rfl rfl)
theorem dX2_save_65 : decode cX2_save 65 = .ok (.iaload, 1) := dk_46 (dk_at dksX2_save_2 20 rfl rfl)
theorem dX2_save_66 : decode cX2_save 66 = .ok (.if_icmp .eq 7, 3) := dk_159 0 7 (dk_at dksX2_save_2 21 rfl rfl)
theorem dX2_save_69 : decode cX2_save 69 = .ok (.iconst 1, 1) := dk_4 (dk_at dksX2_save_3 0 rfl rfl)
theorem dX2_save_70 : decode cX2_save 70 = .ok (.goto 4, 3) := dk_167 0 4 (dk_at dksX2_save_3 1 rfl rfl)
theorem dX2_save_73 : decode cX2_save 73 = .ok (.iconst 0, 1) := dk_3 (dk_at dksX2_save_3 4 rfl rfl)
theorem dX2_save_74 : decode cX2_save 74 = .ok (.istore 5, 2) := dk_54 5 (dk_at dksX2_save_3 5 rfl rfl)
theorem dX2_save_76 : decode cX2_save 76 = .ok (.iload_n 3, 1) := dk_29 (dk_at dksX2_save_3 7 rfl rfl)
theorem dX2_save_77 : decode cX2_save 77 = .ok (.iconst (-1), 1) := dk_2 (dk_at dksX2_save_3 8 rfl rfl)
theorem dX2_save_78 : decode cX2_save 78 = .ok (.if_icmp .eq 51, 3) := dk_159 0 51 (dk_at dksX2_save_3 9 rfl rfl)
theorem dX2_save_81 : decode cX2_save 81 = .ok (.iload 5, 2) := dk_21 5 (dk_at dksX2_save_3 12 rfl rfl)
theorem dX2_save_83 : decode cX2_save 83 = .ok (.ifCond .ne 39, 3) := dk_154 0 39 (dk_at dksX2_save_3 14 rfl rfl)
theorem dX2_save_86 : decode cX2_save 86 = .ok (.aload_n 0, 1) := dk_42 (dk_at dksX2_save_3 17 rfl rfl)
theorem dX2_save_87 : decode cX2_save 87 = .ok (.getfield 66, 3) := dk_180 0 66 (dk_at dksX2_save_3 18 rfl rfl)
theorem dX2_save_90 : decode cX2_save 90 = .ok (.iload_n 3, 1) := dk_29 (dk_at dksX2_save_3 21 rfl rfl)
theorem dX2_save_91 : decode cX2_save 91 = .ok (.iaload, 1) := dk_46 (dk_at dksX2_save_3 22 rfl rfl)
theorem dX2_save_92 : decode cX2_save 92 = .ok (.iload_n 1, 1) := dk_27 (dk_at dksX2_save_3 23 rfl rfl)
theorem dX2_save_93 : decode cX2_save 93 = .ok (.if_icmp .ne 29, 3) := dk_160 0 29 (dk_at dksX2_save_4 0 rfl rfl)
theorem dX2_save_96 : decode cX2_save 96 = .ok (.aload_n 0, 1) := dk_42 (dk_at dksX2_save_4 3 rfl rfl)
theorem dX2_save_97 : decode cX2_save 97 = .ok (.getfield 69, 3) := dk_180 0 69 (dk_at dksX2_save_4 4 rfl rfl)
theorem dX2_save_100 : decode cX2_save 100 = .ok (.iload_n 3, 1) := dk_29 (dk_at dksX2_save_4 7 rfl rfl)
theorem dX2_save_101 : decode cX2_save 101 = .ok (.iaload, 1) := dk_46 (dk_at dksX2_save_4 8 rfl rfl)
theorem dX2_save_102 : decode cX2_save 102 = .ok (.iload_n 2, 1) := dk_28 (dk_at dksX2_save_4 9 rfl rfl)
theorem dX2_save_103 : decode cX2_save 103 = .ok (.if_icmp .ne 19, 3) := dk_160 0 19 (dk_at dksX2_save_4 10 rfl rfl)
theorem dX2_save_106 : decode cX2_save 106 = .ok (.aload_n 0, 1) := dk_42 (dk_at dksX2_save_4 13 rfl rfl)
theorem dX2_save_107 : decode cX2_save 107 = .ok (.getfield 75, 3) := dk_180 0 75 (dk_at dksX2_save_4 14 rfl rfl)
theorem dX2_save_110 : decode cX2_save 110 = .ok (.iload_n 3, 1) := dk_29 (dk_at dksX2_save_4 17 rfl rfl)
theorem dX2_save_111 : decode cX2_save 111 = .ok (.iaload, 1) := dk_46 (dk_at dksX2_save_4 18 rfl rfl)
theorem dX2_save_112 : decode cX2_save 112 = .ok (.aload_n 0, 1) := dk_42 (dk_at dksX2_save_4 19 rfl rfl)
theorem dX2_save_113 : decode cX2_save 113 = .ok (.getfield 7, 3) := dk_180 0 7 (dk_at dksX2_save_4 20 rfl rfl)
theorem dX2_save_116 : decode cX2_save 116 = .ok (.iload 4, 2) := dk_21 4 (dk_at dksX2_save_5 0 rfl rfl)
theorem dX2_save_118 : decode cX2_save 118 = .ok (.isub, 1) := dk_100 (dk_at dksX2_save_5 2 rfl rfl)
theorem dX2_save_119 : decode cX2_save 119 = .ok (.if_icmp .le 7, 3) := dk_164 0 7 (dk_at dksX2_save_5 3 rfl rfl)
theorem dX2_save_122 : decode cX2_save 122 = .ok (.iconst 1, 1) := dk_4 (dk_at dksX2_save_5 6 rfl rfl)
theorem dX2_save_123 : decode cX2_save 123 = .ok (.goto 4, 3) := dk_167 0 4 (dk_at dksX2_save_5 7 rfl rfl)
theorem dX2_save_126 : decode cX2_save 126 = .ok (.iconst 0, 1) := dk_3 (dk_at dksX2_save_5 10 rfl rfl)
theorem dX2_save_127 : decode cX2_save 127 = .ok (.istore 5, 2) := dk_54 5 (dk_at dksX2_save_5 11 rfl rfl)
theorem dX2_save_129 : decode cX2_save 129 = .ok (.iload 5, 2) := dk_21 5 (dk_at dksX2_save_5 13 rfl rfl)
theorem dX2_save_131 : decode cX2_save 131 = .ok (.ifCond .eq 9, 3) := dk_153 0 9 (dk_at dksX2_save_5 15 rfl rfl)
theorem dX2_save_134 : decode cX2_save 134 = .ok (.aload_n 0, 1) := dk_42 (dk_at dksX2_save_5 18 rfl rfl)
theorem dX2_save_135 : decode cX2_save 135 = .ok (.iconst 3, 1) := dk_6 (dk_at dksX2_save_5 19 rfl rfl)
theorem dX2_save_136 : decode cX2_save 136 = .ok (.invokevirtual 122, 3) := dk_182 0 122 (dk_at dksX2_save_5 20 rfl rfl)
theorem dX2_save_139 : decode cX2_save 139 = .ok (.ireturn, 1) := dk_172 (dk_at dksX2_save_5 23 rfl rfl)
theorem dX2_save_140 : decode cX2_save 140 = .ok (.aload_n 0, 1) := dk_42 (dk_at dksX2_save_6 0 rfl rfl)
theorem dX2_save_141 : decode cX2_save 141 = .ok (.getfield 22, 3) := dk_180 0 22 (dk_at dksX2_save_6 1 rfl rfl)
theorem dX2_save_144 : decode cX2_save 144 = .ok (.bipush 60, 2) := dk_16 60 (dk_at dksX2_save_6 4 rfl rfl)
theorem dX2_save_146 : decode cX2_save 146 = .ok (.if_icmp .ne 9, 3) := dk_160 0 9 (dk_at dksX2_save_6 6 rfl rfl)
theorem dX2_save_149 : decode cX2_save 149 = .ok (.aload_n 0, 1) := dk_42 (dk_at dksX2_save_6 9 rfl rfl)
theorem dX2_save_150 : decode cX2_save 150 = .ok (.iconst 4, 1) := dk_7 (dk_at dksX2_save_6 10 rfl rfl)
theorem dX2_save_151 : decode cX2_save 151 = .ok (.invokevirtual 122, 3) := dk_182 0 122 (dk_at dksX2_save_6 11 rfl rfl)
theorem dX2_save_154 : decode cX2_save 154 = .ok (.ireturn, 1) := dk_172 (dk_at dksX2_save_6 14 rfl rfl)
theorem dX2_save_155 : decode cX2_save 155 = .ok (.aload_n 0, 1) := dk_42 (dk_at dksX2_save_6 15 rfl rfl)
theorem dX2_save_156 : decode cX2_save 156 = .ok (.getfield 22, 3) := dk_180 0 22 (dk_at dksX2_save_6 16 rfl rfl)
theorem dX2_save_159 : decode cX2_save 159 = .ok (.istore 6, 2) := dk_54 6 (dk_at dksX2_save_6 19 rfl rfl)
theorem dX2_save_161 : decode cX2_save 161 = .ok (.aload_n 0, 1) := dk_42 (dk_at dksX2_save_6 21 rfl rfl)
theorem dX2_save_162 : decode cX2_save 162 = .ok (.getfield 66, 3) := dk_180 0 66 (dk_at dksX2_save_7 0 rfl rfl)
theorem dX2_save_165 : decode cX2_save 165 = .ok (.iload 6, 2) := dk_21 6 (dk_at dksX2_save_7 3 rfl rfl)
theorem dX2_save_167 : decode cX2_save 167 = .ok (.iload_n 1, 1) := dk_27 (dk_at dksX2_save_7 5 rfl rfl)
theorem dX2_save_168 : decode cX2_save 168 = .ok (.iastore, 1) := dk_79 (dk_at dksX2_save_7 6 rfl rfl)
theorem dX2_save_169 : decode cX2_save 169 = .ok (.aload_n 0, 1) := dk_42 (dk_at dksX2_save_7 7 rfl rfl)
theorem dX2_save_170 : decode cX2_save 170 = .ok (.getfield 69, 3) := dk_180 0 69 (dk_at dksX2_save_7 8 rfl rfl)
theorem dX2_save_173 : decode cX2_save 173 = .ok (.iload 6, 2) := dk_21 6 (dk_at dksX2_save_7 11 rfl rfl)
theorem dX2_save_175 : decode cX2_save 175 = .ok (.iload_n 2, 1) := dk_28 (dk_at dksX2_save_7 13 rfl rfl)
theorem dX2_save_176 : decode cX2_save 176 = .ok (.iastore, 1) := dk_79 (dk_at dksX2_save_7 14 rfl rfl)
theorem dX2_save_177 : decode cX2_save 177 = .ok (.aload_n 0, 1) := dk_42 (dk_at dksX2_save_7 15 rfl rfl)
theorem dX2_save_178 : decode cX2_save 178 = .ok (.getfield 72, 3) := dk_180 0 72 (dk_at dksX2_save_7 16 rfl rfl)
theorem dX2_save_181 : decode cX2_save 181 = .ok (.iload 6, 2) := dk_21 6 (dk_at dksX2_save_7 19 rfl rfl)
theorem dX2_save_183 : decode cX2_save 183 = .ok (.iload_n 3, 1) := dk_29 (dk_at dksX2_save_7 21 rfl rfl)
theorem dX2_save_184 : decode cX2_save 184 = .ok (.iastore, 1) := dk_79 (dk_at dksX2_save_7 22 rfl rfl)
theorem dX2_save_185 : decode cX2_save 185 = .ok (.aload_n 0, 1) := dk_42 (dk_at dksX2_save_7 23 rfl rfl)
theorem dX2_save_186 : decode cX2_save 186 = .ok (.getfield 75, 3) := dk_180 0 75 (dk_at dksX2_save_8 0 rfl rfl)
theorem dX2_save_189 : decode cX2_save 189 = .ok (.iload 6, 2) := dk_21 6 (dk_at dksX2_save_8 3 rfl rfl)
theorem dX2_save_191 : decode cX2_save 191 = .ok (.aload_n 0, 1) := dk_42 (dk_at dksX2_save_8 5 rfl rfl)
theorem dX2_save_192 : decode cX2_save 192 = .ok (.getfield 7, 3) := dk_180 0 7 (dk_at dksX2_save_8 6 rfl rfl)
theorem dX2_save_195 : decode cX2_save 195 = .ok (.iload 4, 2) := dk_21 4 (dk_at dksX2_save_8 9 rfl rfl)
theorem dX2_save_197 : decode cX2_save 197 = .ok (.isub, 1) := dk_100 (dk_at dksX2_save_8 11 rfl rfl)
theorem dX2_save_198 : decode cX2_save 198 = .ok (.iastore, 1) := dk_79 (dk_at dksX2_save_8 12 rfl rfl)
theorem dX2_save_199 : decode cX2_save 199 = .ok (.aload_n 0, 1) := dk_42 (dk_at dksX2_save_8 13 rfl rfl)
theorem dX2_save_200 : decode cX2_save 200 = .ok (.getfield 78, 3) := dk_180 0 78 (dk_at dksX2_save_8 14 rfl rfl)
theorem dX2_save_203 : decode cX2_save 203 = .ok (.iload 6, 2) := dk_21 6 (dk_at dksX2_save_8 17 rfl rfl)
theorem dX2_save_205 : decode cX2_save 205 = .ok (.aload_n 0, 1) := dk_42 (dk_at dksX2_save_8 19 rfl rfl)
theorem dX2_save_206 : decode cX2_save 206 = .ok (.getfield 25, 3) := dk_180 0 25 (dk_at dksX2_save_8 20 rfl rfl)
theorem dX2_save_209 : decode cX2_save 209 = .ok (.iastore, 1) := dk_79 (dk_at dksX2_save_8 23 rfl rfl)
theorem dX2_save_210 : decode cX2_save 210 = .ok (.aload_n 0, 1) := dk_42 (dk_at dksX2_save_9 0 rfl rfl)
theorem dX2_save_211 : decode cX2_save 211 = .ok (.getfield 84, 3) := dk_180 0 84 (dk_at dksX2_save_9 1 rfl rfl)
theorem dX2_save_214 : decode cX2_save 214 = .ok (.iload 6, 2) := dk_21 6 (dk_at dksX2_save_9 4 rfl rfl)
theorem dX2_save_216 : decode cX2_save 216 = .ok (.iconst (-1), 1) := dk_2 (dk_at dksX2_save_9 6 rfl rfl)
theorem dX2_save_217 : decode cX2_save 217 = .ok (.iastore, 1) := dk_79 (dk_at dksX2_save_9 7 rfl rfl)
theorem dX2_save_218 : decode cX2_save 218 = .ok (.iconst 0, 1) := dk_3 (dk_at dksX2_save_9 8 rfl rfl)
theorem dX2_save_219 : decode cX2_save 219 = .ok (.istore 7, 2) := dk_54 7 (dk_at dksX2_save_9 9 rfl rfl)
theorem dX2_save_221 : decode cX2_save 221 = .ok (.iload 7, 2) := dk_21 7 (dk_at dksX2_save_9 11 rfl rfl)
theorem dX2_save_223 : decode cX2_save 223 = .ok (.aload_n 0, 1) := dk_42 (dk_at dksX2_save_9 13 rfl rfl)
theorem dX2_save_224 : decode cX2_save 224 = .ok (.getfield 25, 3) := dk_180 0 25 (dk_at dksX2_save_9 14 rfl rfl)
theorem dX2_save_227 : decode cX2_save 227 = .ok (.if_icmp .ge 29, 3) := dk_162 0 29 (dk_at dksX2_save_9 17 rfl rfl)
theorem dX2_save_230 : decode cX2_save 230 = .ok (.aload_n 0, 1) := dk_42 (dk_at dksX2_save_9 20 rfl rfl)
theorem dX2_save_231 : decode cX2_save 231 = .ok (.getfield 93, 3) := dk_180 0 93 (dk_at dksX2_save_9 21 rfl rfl)
theorem dX2_save_234 : decode cX2_save 234 = .ok (.bipush 40, 2) := dk_16 40 (dk_at dksX2_save_10 0 rfl rfl)
theorem dX2_save_236 : decode cX2_save 236 = .ok (.iload 6, 2) := dk_21 6 (dk_at dksX2_save_10 2 rfl rfl)
theorem dX2_save_238 : decode cX2_save 238 = .ok (.imul, 1) := dk_104 (dk_at dksX2_save_10 4 rfl rfl)
theorem dX2_save_239 : decode cX2_save 239 = .ok (.iload 7, 2) := dk_21 7 (dk_at dksX2_save_10 5 rfl rfl)
theorem dX2_save_241 : decode cX2_save 241 = .ok (.iadd, 1) := dk_96 (dk_at dksX2_save_10 7 rfl rfl)
theorem dX2_save_242 : decode cX2_save 242 = .ok (.aload_n 0, 1) := dk_42 (dk_at dksX2_save_10 8 rfl rfl)
theorem dX2_save_243 : decode cX2_save 243 = .ok (.getfield 63, 3) := dk_180 0 63 (dk_at dksX2_save_10 9 rfl rfl)
theorem dX2_save_246 : decode cX2_save 246 = .ok (.iload 7, 2) := dk_21 7 (dk_at dksX2_save_10 12 rfl rfl)
theorem dX2_save_248 : decode cX2_save 248 = .ok (.iaload, 1) := dk_46 (dk_at dksX2_save_10 14 rfl rfl)
theorem dX2_save_249 : decode cX2_save 249 = .ok (.iastore, 1) := dk_79 (dk_at dksX2_save_10 15 rfl rfl)
theorem dX2_save_250 : decode cX2_save 250 = .ok (.iinc 7 1, 3) := dk_132 7 1 (dk_at dksX2_save_10 16 rfl rfl)
theorem dX2_save_253 : decode cX2_save 253 = .ok (.goto (-32), 3) := dk_167 255 224 (dk_at dksX2_save_10 19 rfl rfl)
theorem dX2_save_256 : decode cX2_save 256 = .ok (.aload_n 0, 1) := dk_42 (dk_at dksX2_save_10 22 rfl rfl)
theorem dX2_save_257 : decode cX2_save 257 = .ok (.iload 6, 2) := dk_21 6 (dk_at dksX2_save_11 0 rfl rfl)
theorem dX2_save_259 : decode cX2_save 259 = .ok (.invokevirtual 168, 3) := dk_182 0 168 (dk_at dksX2_save_11 2 rfl rfl)
theorem dX2_save_262 : decode cX2_save 262 = .ok (.aload_n 0, 1) := dk_42 (dk_at dksX2_save_11 5 rfl rfl)
theorem dX2_save_263 : decode cX2_save 263 = .ok (.dup, 1) := dk_89 (dk_at dksX2_save_11 6 rfl rfl)
theorem dX2_save_264 : decode cX2_save 264 = .ok (.getfield 22, 3) := dk_180 0 22 (dk_at dksX2_save_11 7 rfl rfl)
theorem dX2_save_267 : decode cX2_save 267 = .ok (.iconst 1, 1) := dk_4 (dk_at dksX2_save_11 10 rfl rfl)
theorem dX2_save_268 : decode cX2_save 268 = .ok (.iadd, 1) := dk_96 (dk_at dksX2_save_11 11 rfl rfl)
theorem dX2_save_269 : decode cX2_save 269 = .ok (.putfield 22, 3) := dk_181 0 22 (dk_at dksX2_save_11 12 rfl rfl)
theorem dX2_save_272 : decode cX2_save 272 = .ok (.aload_n 0, 1) := dk_42 (dk_at dksX2_save_11 15 rfl rfl)
theorem dX2_save_273 : decode cX2_save 273 = .ok (.iconst 0, 1) := dk_3 (dk_at dksX2_save_11 16 rfl rfl)
theorem dX2_save_274 : decode cX2_save 274 = .ok (.putfield 25, 3) := dk_181 0 25 (dk_at dksX2_save_11 17 rfl rfl)
theorem dX2_save_277 : decode cX2_save 277 = .ok (.aload_n 0, 1) := dk_42 (dk_at dksX2_save_11 20 rfl rfl)
theorem dX2_save_278 : decode cX2_save 278 = .ok (.iload 6, 2) := dk_21 6 (dk_at dksX2_save_11 21 rfl rfl)
theorem dX2_save_280 : decode cX2_save 280 = .ok (.invokevirtual 126, 3) := dk_182 0 126 (dk_at dksX2_save_12 0 rfl rfl)
theorem dX2_save_283 : decode cX2_save 283 = .ok (.ireturn, 1) := dk_172 (dk_at dksX2_save_12 3 rfl rfl)
abbrev cX2_isPupil : ByteArray := prog_7_method_23_code
def yX2_isPupil : MethodName := ⟨RX2, "isPupil", "(I)Z"⟩
def dkwX2_isPupil_0 : List UInt8 := [27, 3, 42, 180, 0, 16, 4, 100, 184, 0, 118, 172]
abbrev dktX2_isPupil_0 : List UInt8 := dkwX2_isPupil_0 ++ []
theorem dksX2_isPupil_0 : cX2_isPupil.data.toList.drop 0 = dktX2_isPupil_0 := by decide +kernel
theorem dX2_isPupil_0 : decode cX2_isPupil 0 = .ok (.iload_n 1, 1) := dk_27 (dk_at dksX2_isPupil_0 0 rfl rfl)
theorem dX2_isPupil_1 : decode cX2_isPupil 1 = .ok (.iconst 0, 1) := dk_3 (dk_at dksX2_isPupil_0 1 rfl rfl)
theorem dX2_isPupil_2 : decode cX2_isPupil 2 = .ok (.aload_n 0, 1) := dk_42 (dk_at dksX2_isPupil_0 2 rfl rfl)
theorem dX2_isPupil_3 : decode cX2_isPupil 3 = .ok (.getfield 16, 3) := dk_180 0 16 (dk_at dksX2_isPupil_0 3 rfl rfl)
theorem dX2_isPupil_6 : decode cX2_isPupil 6 = .ok (.iconst 1, 1) := dk_4 (dk_at dksX2_isPupil_0 6 rfl rfl)
theorem dX2_isPupil_7 : decode cX2_isPupil 7 = .ok (.isub, 1) := dk_100 (dk_at dksX2_isPupil_0 7 rfl rfl)
theorem dX2_isPupil_8 : decode cX2_isPupil 8 = .ok (.invokestatic 118, 3) := dk_184 0 118 (dk_at dksX2_isPupil_0 8 rfl rfl)
theorem dX2_isPupil_11 : decode cX2_isPupil 11 = .ok (.ireturn, 1) := dk_172 (dk_at dksX2_isPupil_0 11 rfl rfl)
abbrev cX2_isTask : ByteArray := prog_7_method_24_code
def yX2_isTask : MethodName := ⟨RX2, "isTask", "(I)Z"⟩
def dkwX2_isTask_0 : List UInt8 := [27, 3, 42, 180, 0, 19, 4, 100, 184, 0, 118, 172]
abbrev dktX2_isTask_0 : List UInt8 := dkwX2_isTask_0 ++ []
theorem dksX2_isTask_0 : cX2_isTask.data.toList.drop 0 = dktX2_isTask_0 := by decide +kernel
theorem dX2_isTask_0 : decode cX2_isTask 0 = .ok (.iload_n 1, 1) := dk_27 (dk_at dksX2_isTask_0 0 rfl rfl)
theorem dX2_isTask_1 : decode cX2_isTask 1 = .ok (.iconst 0, 1) := dk_3 (dk_at dksX2_isTask_0 1 rfl rfl)
theorem dX2_isTask_2 : decode cX2_isTask 2 = .ok (.aload_n 0, 1) := dk_42 (dk_at dksX2_isTask_0 2 rfl rfl)
theorem dX2_isTask_3 : decode cX2_isTask 3 = .ok (.getfield 19, 3) := dk_180 0 19 (dk_at dksX2_isTask_0 3 rfl rfl)
theorem dX2_isTask_6 : decode cX2_isTask 6 = .ok (.iconst 1, 1) := dk_4 (dk_at dksX2_isTask_0 6 rfl rfl)
theorem dX2_isTask_7 : decode cX2_isTask 7 = .ok (.isub, 1) := dk_100 (dk_at dksX2_isTask_0 7 rfl rfl)
theorem dX2_isTask_8 : decode cX2_isTask 8 = .ok (.invokestatic 118, 3) := dk_184 0 118 (dk_at dksX2_isTask_0 8 rfl rfl)
theorem dX2_isTask_11 : decode cX2_isTask 11 = .ok (.ireturn, 1) := dk_172 (dk_at dksX2_isTask_0 11 rfl rfl)
abbrev cX2_isVersion : ByteArray := prog_7_method_25_code
def yX2_isVersion : MethodName := ⟨RX2, "isVersion", "(I)Z"⟩
def dkwX2_isVersion_0 : List UInt8 := [27, 3, 42, 180, 0, 22, 4, 100, 184, 0, 118, 172]
abbrev dktX2_isVersion_0 : List UInt8 := dkwX2_isVersion_0 ++ []
theorem dksX2_isVersion_0 : cX2_isVersion.data.toList.drop 0 = dktX2_isVersion_0 := by decide +kernel
theorem dX2_isVersion_0 : decode cX2_isVersion 0 = .ok (.iload_n 1, 1) := dk_27 (dk_at dksX2_isVersion_0 0 rfl rfl)
theorem dX2_isVersion_1 : decode cX2_isVersion 1 = .ok (.iconst 0, 1) := dk_3 (dk_at dksX2_isVersion_0 1 rfl rfl)
theorem dX2_isVersion_2 : decode cX2_isVersion 2 = .ok (.aload_n 0, 1) := dk_42 (dk_at dksX2_isVersion_0 2 rfl rfl)
theorem dX2_isVersion_3 : decode cX2_isVersion 3 = .ok (.getfield 22, 3) := dk_180 0 22 (dk_at dksX2_isVersion_0 3 rfl rfl)
theorem dX2_isVersion_6 : decode cX2_isVersion 6 = .ok (.iconst 1, 1) := dk_4 (dk_at dksX2_isVersion_0 6 rfl rfl)
theorem dX2_isVersion_7 : decode cX2_isVersion 7 = .ok (.isub, 1) := dk_100 (dk_at dksX2_isVersion_0 7 rfl rfl)
theorem dX2_isVersion_8 : decode cX2_isVersion 8 = .ok (.invokestatic 118, 3) := dk_184 0 118 (dk_at dksX2_isVersion_0 8 rfl rfl)
theorem dX2_isVersion_11 : decode cX2_isVersion 11 = .ok (.ireturn, 1) := dk_172 (dk_at dksX2_isVersion_0 11 rfl rfl)
abbrev cX2_finds : ByteArray := prog_7_method_27_code
def yX2_finds : MethodName := ⟨RX2, "finds", "(I)V"⟩
def dkwX2_finds_7 : List UInt8 := [96, 21, 5, 79, 132, 3, 1, 132, 4, 1, 167, 255, 93, 42, 180, 0, 99, 27, 29, 79, 177]
abbrev dktX2_finds_7 : List UInt8 := dkwX2_finds_7 ++ []
def dkwX2_finds_6 : List UInt8 := [180, 0, 96, 28, 21, 7, 96, 4, 100, 46, 79, 132, 7, 255, 167, 255, 226, 42, 180, 0, 96, 28, 21, 6]
abbrev dktX2_finds_6 : List UInt8 := dkwX2_finds_6 ++ dktX2_finds_7
def dkwX2_finds_5 : List UInt8 := [167, 0, 53, 29, 54, 7, 21, 7, 21, 6, 164, 0, 29, 42, 180, 0, 96, 28, 21, 7, 96, 42]
abbrev dktX2_finds_5 : List UInt8 := dkwX2_finds_5 ++ dktX2_finds_6
def dkwX2_finds_4 : List UInt8 := [167, 255, 233, 21, 6, 29, 162, 0, 20, 42, 180, 0, 96, 28, 21, 6, 96, 46, 21, 5, 160, 0, 6]
abbrev dktX2_finds_4 : List UInt8 := dkwX2_finds_4 ++ dktX2_finds_5
def dkwX2_finds_3 : List UInt8 := [21, 6, 29, 162, 0, 23, 42, 180, 0, 96, 28, 21, 6, 96, 46, 21, 5, 162, 0, 9, 132, 6, 1]
abbrev dktX2_finds_3 : List UInt8 := dkwX2_finds_3 ++ dktX2_finds_4
def dkwX2_finds_2 : List UInt8 := [21, 6, 96, 46, 130, 54, 5, 132, 6, 1, 167, 255, 227, 21, 5, 18, 158, 126, 54, 5, 3, 54, 6]
abbrev dktX2_finds_2 : List UInt8 := dkwX2_finds_2 ++ dktX2_finds_3
def dkwX2_finds_1 : List UInt8 := [54, 5, 3, 54, 6, 21, 6, 7, 162, 0, 29, 21, 5, 184, 0, 155, 42, 180, 0, 93, 28, 21, 4, 96]
abbrev dktX2_finds_1 : List UInt8 := dkwX2_finds_1 ++ dktX2_finds_2
def dkwX2_finds_0 : List UInt8 := [16, 40, 27, 104, 61, 3, 62, 3, 54, 4, 21, 4, 7, 96, 42, 180, 0, 78, 27, 46, 163, 0, 156, 3]
abbrev dktX2_finds_0 : List UInt8 := dkwX2_finds_0 ++ dktX2_finds_1
theorem dksX2_finds_0 : cX2_finds.data.toList.drop 0 = dktX2_finds_0 := by decide +kernel
theorem dksX2_finds_1 : cX2_finds.data.toList.drop 24 = dktX2_finds_1 := dk_seg dksX2_finds_0 24 rfl rfl
theorem dksX2_finds_2 : cX2_finds.data.toList.drop 48 = dktX2_finds_2 := dk_seg dksX2_finds_1 24 rfl rfl
theorem dksX2_finds_3 : cX2_finds.data.toList.drop 71 = dktX2_finds_3 := dk_seg dksX2_finds_2 23 rfl rfl
theorem dksX2_finds_4 : cX2_finds.data.toList.drop 94 = dktX2_finds_4 := dk_seg dksX2_finds_3 23 rfl rfl
theorem dksX2_finds_5 : cX2_finds.data.toList.drop 117 = dktX2_finds_5 := dk_seg dksX2_finds_4 23 rfl rfl
theorem dksX2_finds_6 : cX2_finds.data.toList.drop 139 = dktX2_finds_6 := dk_seg dksX2_finds_5 22 rfl rfl
theorem dksX2_finds_7 : cX2_finds.data.toList.drop 163 = dktX2_finds_7 := dk_seg dksX2_finds_6 24 rfl rfl
theorem dX2_finds_0 : decode cX2_finds 0 = .ok (.bipush 40, 2) := dk_16 40 (dk_at dksX2_finds_0 0 rfl rfl)
theorem dX2_finds_2 : decode cX2_finds 2 = .ok (.iload_n 1, 1) := dk_27 (dk_at dksX2_finds_0 2 rfl rfl)
theorem dX2_finds_3 : decode cX2_finds 3 = .ok (.imul, 1) := dk_104 (dk_at dksX2_finds_0 3 rfl rfl)
theorem dX2_finds_4 : decode cX2_finds 4 = .ok (.istore_n 2, 1) := dk_61 (dk_at dksX2_finds_0 4 rfl rfl)
theorem dX2_finds_5 : decode cX2_finds 5 = .ok (.iconst 0, 1) := dk_3 (dk_at dksX2_finds_0 5 rfl rfl)
theorem dX2_finds_6 : decode cX2_finds 6 = .ok (.istore_n 3, 1) := dk_62 (dk_at dksX2_finds_0 6 rfl rfl)
theorem dX2_finds_7 : decode cX2_finds 7 = .ok (.iconst 0, 1) := dk_3 (dk_at dksX2_finds_0 7 rfl rfl)
theorem dX2_finds_8 : decode cX2_finds 8 = .ok (.istore 4, 2) := dk_54 4 (dk_at dksX2_finds_0 8 rfl rfl)
theorem dX2_finds_10 : decode cX2_finds 10 = .ok (.iload 4, 2) := dk_21 4 (dk_at dksX2_finds_0 10 rfl rfl)
theorem dX2_finds_12 : decode cX2_finds 12 = .ok (.iconst 4, 1) := dk_7 (dk_at dksX2_finds_0 12 rfl rfl)
theorem dX2_finds_13 : decode cX2_finds 13 = .ok (.iadd, 1) := dk_96 (dk_at dksX2_finds_0 13 rfl rfl)
theorem dX2_finds_14 : decode cX2_finds 14 = .ok (.aload_n 0, 1) := dk_42 (dk_at dksX2_finds_0 14 rfl rfl)
theorem dX2_finds_15 : decode cX2_finds 15 = .ok (.getfield 78, 3) := dk_180 0 78 (dk_at dksX2_finds_0 15 rfl rfl)
theorem dX2_finds_18 : decode cX2_finds 18 = .ok (.iload_n 1, 1) := dk_27 (dk_at dksX2_finds_0 18 rfl rfl)
theorem dX2_finds_19 : decode cX2_finds 19 = .ok (.iaload, 1) := dk_46 (dk_at dksX2_finds_0 19 rfl rfl)
theorem dX2_finds_20 : decode cX2_finds 20 = .ok (.if_icmp .gt 156, 3) := dk_163 0 156 (dk_at dksX2_finds_0 20 rfl rfl)
theorem dX2_finds_23 : decode cX2_finds 23 = .ok (.iconst 0, 1) := dk_3 (dk_at dksX2_finds_0 23 rfl rfl)
theorem dX2_finds_24 : decode cX2_finds 24 = .ok (.istore 5, 2) := dk_54 5 (dk_at dksX2_finds_1 0 rfl rfl)
theorem dX2_finds_26 : decode cX2_finds 26 = .ok (.iconst 0, 1) := dk_3 (dk_at dksX2_finds_1 2 rfl rfl)
theorem dX2_finds_27 : decode cX2_finds 27 = .ok (.istore 6, 2) := dk_54 6 (dk_at dksX2_finds_1 3 rfl rfl)
theorem dX2_finds_29 : decode cX2_finds 29 = .ok (.iload 6, 2) := dk_21 6 (dk_at dksX2_finds_1 5 rfl rfl)
theorem dX2_finds_31 : decode cX2_finds 31 = .ok (.iconst 4, 1) := dk_7 (dk_at dksX2_finds_1 7 rfl rfl)
theorem dX2_finds_32 : decode cX2_finds 32 = .ok (.if_icmp .ge 29, 3) := dk_162 0 29 (dk_at dksX2_finds_1 8 rfl rfl)
theorem dX2_finds_35 : decode cX2_finds 35 = .ok (.iload 5, 2) := dk_21 5 (dk_at dksX2_finds_1 11 rfl rfl)
theorem dX2_finds_37 : decode cX2_finds 37 = .ok (.invokestatic 155, 3) := dk_184 0 155 (dk_at dksX2_finds_1 13 rfl rfl)
theorem dX2_finds_40 : decode cX2_finds 40 = .ok (.aload_n 0, 1) := dk_42 (dk_at dksX2_finds_1 16 rfl rfl)
theorem dX2_finds_41 : decode cX2_finds 41 = .ok (.getfield 93, 3) := dk_180 0 93 (dk_at dksX2_finds_1 17 rfl rfl)
theorem dX2_finds_44 : decode cX2_finds 44 = .ok (.iload_n 2, 1) := dk_28 (dk_at dksX2_finds_1 20 rfl rfl)
theorem dX2_finds_45 : decode cX2_finds 45 = .ok (.iload 4, 2) := dk_21 4 (dk_at dksX2_finds_1 21 rfl rfl)
theorem dX2_finds_47 : decode cX2_finds 47 = .ok (.iadd, 1) := dk_96 (dk_at dksX2_finds_1 23 rfl rfl)
theorem dX2_finds_48 : decode cX2_finds 48 = .ok (.iload 6, 2) := dk_21 6 (dk_at dksX2_finds_2 0 rfl rfl)
theorem dX2_finds_50 : decode cX2_finds 50 = .ok (.iadd, 1) := dk_96 (dk_at dksX2_finds_2 2 rfl rfl)
theorem dX2_finds_51 : decode cX2_finds 51 = .ok (.iaload, 1) := dk_46 (dk_at dksX2_finds_2 3 rfl rfl)
theorem dX2_finds_52 : decode cX2_finds 52 = .ok (.ixor, 1) := dk_130 (dk_at dksX2_finds_2 4 rfl rfl)
theorem dX2_finds_53 : decode cX2_finds 53 = .ok (.istore 5, 2) := dk_54 5 (dk_at dksX2_finds_2 5 rfl rfl)
theorem dX2_finds_55 : decode cX2_finds 55 = .ok (.iinc 6 1, 3) := dk_132 6 1 (dk_at dksX2_finds_2 7 rfl rfl)
theorem dX2_finds_58 : decode cX2_finds 58 = .ok (.goto (-29), 3) := dk_167 255 227 (dk_at dksX2_finds_2 10 rfl rfl)
theorem dX2_finds_61 : decode cX2_finds 61 = .ok (.iload 5, 2) := dk_21 5 (dk_at dksX2_finds_2 13 rfl rfl)
theorem dX2_finds_63 : decode cX2_finds 63 = .ok (.ldc 158, 2) := dk_18 158 (dk_at dksX2_finds_2 15 rfl rfl)
theorem dX2_finds_65 : decode cX2_finds 65 = .ok (.iand, 1) := dk_126 (dk_at dksX2_finds_2 17 rfl rfl)
theorem dX2_finds_66 : decode cX2_finds 66 = .ok (.istore 5, 2) := dk_54 5 (dk_at dksX2_finds_2 18 rfl rfl)
theorem dX2_finds_68 : decode cX2_finds 68 = .ok (.iconst 0, 1) := dk_3 (dk_at dksX2_finds_2 20 rfl rfl)
theorem dX2_finds_69 : decode cX2_finds 69 = .ok (.istore 6, 2) := dk_54 6 (dk_at dksX2_finds_2 21 rfl rfl)
theorem dX2_finds_71 : decode cX2_finds 71 = .ok (.iload 6, 2) := dk_21 6 (dk_at dksX2_finds_3 0 rfl rfl)
theorem dX2_finds_73 : decode cX2_finds 73 = .ok (.iload_n 3, 1) := dk_29 (dk_at dksX2_finds_3 2 rfl rfl)
theorem dX2_finds_74 : decode cX2_finds 74 = .ok (.if_icmp .ge 23, 3) := dk_162 0 23 (dk_at dksX2_finds_3 3 rfl rfl)
theorem dX2_finds_77 : decode cX2_finds 77 = .ok (.aload_n 0, 1) := dk_42 (dk_at dksX2_finds_3 6 rfl rfl)
theorem dX2_finds_78 : decode cX2_finds 78 = .ok (.getfield 96, 3) := dk_180 0 96 (dk_at dksX2_finds_3 7 rfl rfl)
theorem dX2_finds_81 : decode cX2_finds 81 = .ok (.iload_n 2, 1) := dk_28 (dk_at dksX2_finds_3 10 rfl rfl)
theorem dX2_finds_82 : decode cX2_finds 82 = .ok (.iload 6, 2) := dk_21 6 (dk_at dksX2_finds_3 11 rfl rfl)
theorem dX2_finds_84 : decode cX2_finds 84 = .ok (.iadd, 1) := dk_96 (dk_at dksX2_finds_3 13 rfl rfl)
theorem dX2_finds_85 : decode cX2_finds 85 = .ok (.iaload, 1) := dk_46 (dk_at dksX2_finds_3 14 rfl rfl)
theorem dX2_finds_86 : decode cX2_finds 86 = .ok (.iload 5, 2) := dk_21 5 (dk_at dksX2_finds_3 15 rfl rfl)
theorem dX2_finds_88 : decode cX2_finds 88 = .ok (.if_icmp .ge 9, 3) := dk_162 0 9 (dk_at dksX2_finds_3 17 rfl rfl)
theorem dX2_finds_91 : decode cX2_finds 91 = .ok (.iinc 6 1, 3) := dk_132 6 1 (dk_at dksX2_finds_3 20 rfl rfl)
theorem dX2_finds_94 : decode cX2_finds 94 = .ok (.goto (-23), 3) := dk_167 255 233 (dk_at dksX2_finds_4 0 rfl rfl)
theorem dX2_finds_97 : decode cX2_finds 97 = .ok (.iload 6, 2) := dk_21 6 (dk_at dksX2_finds_4 3 rfl rfl)
theorem dX2_finds_99 : decode cX2_finds 99 = .ok (.iload_n 3, 1) := dk_29 (dk_at dksX2_finds_4 5 rfl rfl)
theorem dX2_finds_100 : decode cX2_finds 100 = .ok (.if_icmp .ge 20, 3) := dk_162 0 20 (dk_at dksX2_finds_4 6 rfl rfl)
theorem dX2_finds_103 : decode cX2_finds 103 = .ok (.aload_n 0, 1) := dk_42 (dk_at dksX2_finds_4 9 rfl rfl)
theorem dX2_finds_104 : decode cX2_finds 104 = .ok (.getfield 96, 3) := dk_180 0 96 (dk_at dksX2_finds_4 10 rfl rfl)
theorem dX2_finds_107 : decode cX2_finds 107 = .ok (.iload_n 2, 1) := dk_28 (dk_at dksX2_finds_4 13 rfl rfl)
theorem dX2_finds_108 : decode cX2_finds 108 = .ok (.iload 6, 2) := dk_21 6 (dk_at dksX2_finds_4 14 rfl rfl)
theorem dX2_finds_110 : decode cX2_finds 110 = .ok (.iadd, 1) := dk_96 (dk_at dksX2_finds_4 16 rfl rfl)
theorem dX2_finds_111 : decode cX2_finds 111 = .ok (.iaload, 1) := dk_46 (dk_at dksX2_finds_4 17 rfl rfl)
theorem dX2_finds_112 : decode cX2_finds 112 = .ok (.iload 5, 2) := dk_21 5 (dk_at dksX2_finds_4 18 rfl rfl)
theorem dX2_finds_114 : decode cX2_finds 114 = .ok (.if_icmp .ne 6, 3) := dk_160 0 6 (dk_at dksX2_finds_4 20 rfl rfl)
theorem dX2_finds_117 : decode cX2_finds 117 = .ok (.goto 53, 3) := dk_167 0 53 (dk_at dksX2_finds_5 0 rfl rfl)
theorem dX2_finds_120 : decode cX2_finds 120 = .ok (.iload_n 3, 1) := dk_29 (dk_at dksX2_finds_5 3 rfl rfl)
theorem dX2_finds_121 : decode cX2_finds 121 = .ok (.istore 7, 2) := dk_54 7 (dk_at dksX2_finds_5 4 rfl rfl)
theorem dX2_finds_123 : decode cX2_finds 123 = .ok (.iload 7, 2) := dk_21 7 (dk_at dksX2_finds_5 6 rfl rfl)
theorem dX2_finds_125 : decode cX2_finds 125 = .ok (.iload 6, 2) := dk_21 6 (dk_at dksX2_finds_5 8 rfl rfl)
theorem dX2_finds_127 : decode cX2_finds 127 = .ok (.if_icmp .le 29, 3) := dk_164 0 29 (dk_at dksX2_finds_5 10 rfl rfl)
theorem dX2_finds_130 : decode cX2_finds 130 = .ok (.aload_n 0, 1) := dk_42 (dk_at dksX2_finds_5 13 rfl rfl)
theorem dX2_finds_131 : decode cX2_finds 131 = .ok (.getfield 96, 3) := dk_180 0 96 (dk_at dksX2_finds_5 14 rfl rfl)
theorem dX2_finds_134 : decode cX2_finds 134 = .ok (.iload_n 2, 1) := dk_28 (dk_at dksX2_finds_5 17 rfl rfl)
theorem dX2_finds_135 : decode cX2_finds 135 = .ok (.iload 7, 2) := dk_21 7 (dk_at dksX2_finds_5 18 rfl rfl)
theorem dX2_finds_137 : decode cX2_finds 137 = .ok (.iadd, 1) := dk_96 (dk_at dksX2_finds_5 20 rfl rfl)
theorem dX2_finds_138 : decode cX2_finds 138 = .ok (.aload_n 0, 1) := dk_42 (dk_at dksX2_finds_5 21 rfl rfl)
theorem dX2_finds_139 : decode cX2_finds 139 = .ok (.getfield 96, 3) := dk_180 0 96 (dk_at dksX2_finds_6 0 rfl rfl)
theorem dX2_finds_142 : decode cX2_finds 142 = .ok (.iload_n 2, 1) := dk_28 (dk_at dksX2_finds_6 3 rfl rfl)
theorem dX2_finds_143 : decode cX2_finds 143 = .ok (.iload 7, 2) := dk_21 7 (dk_at dksX2_finds_6 4 rfl rfl)
theorem dX2_finds_145 : decode cX2_finds 145 = .ok (.iadd, 1) := dk_96 (dk_at dksX2_finds_6 6 rfl rfl)
theorem dX2_finds_146 : decode cX2_finds 146 = .ok (.iconst 1, 1) := dk_4 (dk_at dksX2_finds_6 7 rfl rfl)
theorem dX2_finds_147 : decode cX2_finds 147 = .ok (.isub, 1) := dk_100 (dk_at dksX2_finds_6 8 rfl rfl)
theorem dX2_finds_148 : decode cX2_finds 148 = .ok (.iaload, 1) := dk_46 (dk_at dksX2_finds_6 9 rfl rfl)
theorem dX2_finds_149 : decode cX2_finds 149 = .ok (.iastore, 1) := dk_79 (dk_at dksX2_finds_6 10 rfl rfl)
theorem dX2_finds_150 : decode cX2_finds 150 = .ok (.iinc 7 (-1), 3) := dk_132 7 255 (dk_at dksX2_finds_6 11 rfl rfl)
theorem dX2_finds_153 : decode cX2_finds 153 = .ok (.goto (-30), 3) := dk_167 255 226 (dk_at dksX2_finds_6 14 rfl rfl)
theorem dX2_finds_156 : decode cX2_finds 156 = .ok (.aload_n 0, 1) := dk_42 (dk_at dksX2_finds_6 17 rfl rfl)
theorem dX2_finds_157 : decode cX2_finds 157 = .ok (.getfield 96, 3) := dk_180 0 96 (dk_at dksX2_finds_6 18 rfl rfl)
theorem dX2_finds_160 : decode cX2_finds 160 = .ok (.iload_n 2, 1) := dk_28 (dk_at dksX2_finds_6 21 rfl rfl)
theorem dX2_finds_161 : decode cX2_finds 161 = .ok (.iload 6, 2) := dk_21 6 (dk_at dksX2_finds_6 22 rfl rfl)
theorem dX2_finds_163 : decode cX2_finds 163 = .ok (.iadd, 1) := dk_96 (dk_at dksX2_finds_7 0 rfl rfl)
theorem dX2_finds_164 : decode cX2_finds 164 = .ok (.iload 5, 2) := dk_21 5 (dk_at dksX2_finds_7 1 rfl rfl)
theorem dX2_finds_166 : decode cX2_finds 166 = .ok (.iastore, 1) := dk_79 (dk_at dksX2_finds_7 3 rfl rfl)
theorem dX2_finds_167 : decode cX2_finds 167 = .ok (.iinc 3 1, 3) := dk_132 3 1 (dk_at dksX2_finds_7 4 rfl rfl)
theorem dX2_finds_170 : decode cX2_finds 170 = .ok (.iinc 4 1, 3) := dk_132 4 1 (dk_at dksX2_finds_7 7 rfl rfl)
theorem dX2_finds_173 : decode cX2_finds 173 = .ok (.goto (-163), 3) := dk_167 255 93 (dk_at dksX2_finds_7 10 rfl rfl)
theorem dX2_finds_176 : decode cX2_finds 176 = .ok (.aload_n 0, 1) := dk_42 (dk_at dksX2_finds_7 13 rfl rfl)
theorem dX2_finds_177 : decode cX2_finds 177 = .ok (.getfield 99, 3) := dk_180 0 99 (dk_at dksX2_finds_7 14 rfl rfl)
theorem dX2_finds_180 : decode cX2_finds 180 = .ok (.iload_n 1, 1) := dk_27 (dk_at dksX2_finds_7 17 rfl rfl)
theorem dX2_finds_181 : decode cX2_finds 181 = .ok (.iload_n 3, 1) := dk_29 (dk_at dksX2_finds_7 18 rfl rfl)
theorem dX2_finds_182 : decode cX2_finds 182 = .ok (.iastore, 1) := dk_79 (dk_at dksX2_finds_7 19 rfl rfl)
theorem dX2_finds_183 : decode cX2_finds 183 = .ok (.return_, 1) := dk_177 (dk_at dksX2_finds_7 20 rfl rfl)
abbrev cX2_turned : ByteArray := prog_7_method_26_code
def yX2_turned : MethodName := ⟨RX2, "turned", "(I)I"⟩
def dkwX2_turned_0 : List UInt8 := [26, 8, 120, 26, 16, 27, 124, 128, 172]
abbrev dktX2_turned_0 : List UInt8 := dkwX2_turned_0 ++ []
theorem dksX2_turned_0 : cX2_turned.data.toList.drop 0 = dktX2_turned_0 := by decide +kernel
theorem dX2_turned_0 : decode cX2_turned 0 = .ok (.iload_n 0, 1) := dk_26 (dk_at dksX2_turned_0 0 rfl rfl)
theorem dX2_turned_1 : decode cX2_turned 1 = .ok (.iconst 5, 1) := dk_8 (dk_at dksX2_turned_0 1 rfl rfl)
theorem dX2_turned_2 : decode cX2_turned 2 = .ok (.ishl, 1) := dk_120 (dk_at dksX2_turned_0 2 rfl rfl)
theorem dX2_turned_3 : decode cX2_turned 3 = .ok (.iload_n 0, 1) := dk_26 (dk_at dksX2_turned_0 3 rfl rfl)
theorem dX2_turned_4 : decode cX2_turned 4 = .ok (.bipush 27, 2) := dk_16 27 (dk_at dksX2_turned_0 4 rfl rfl)
theorem dX2_turned_6 : decode cX2_turned 6 = .ok (.iushr, 1) := dk_124 (dk_at dksX2_turned_0 6 rfl rfl)
theorem dX2_turned_7 : decode cX2_turned 7 = .ok (.ior, 1) := dk_128 (dk_at dksX2_turned_0 7 rfl rfl)
theorem dX2_turned_8 : decode cX2_turned 8 = .ok (.ireturn, 1) := dk_172 (dk_at dksX2_turned_0 8 rfl rfl)
abbrev cX2_of : ByteArray := prog_7_method_30_code
def yX2_of : MethodName := ⟨RX2, "of", "(IC)I"⟩
def dkwX2_of_5 : List UInt8 := [46, 182, 0, 126, 172, 42, 5, 182, 0, 122, 172]
abbrev dktX2_of_5 : List UInt8 := dkwX2_of_5 ++ []
def dkwX2_of_4 : List UInt8 := [182, 0, 172, 182, 0, 126, 172, 42, 42, 180, 0, 99, 27, 46, 182, 0, 126, 172, 42, 42, 180, 0, 90, 27]
abbrev dktX2_of_4 : List UInt8 := dkwX2_of_4 ++ dktX2_of_5
def dkwX2_of_3 : List UInt8 := [180, 0, 84, 27, 46, 182, 0, 126, 172, 42, 42, 180, 0, 78, 27, 46, 182, 0, 126, 172, 42, 42, 27]
abbrev dktX2_of_3 : List UInt8 := dkwX2_of_3 ++ dktX2_of_4
def dkwX2_of_2 : List UInt8 := [42, 42, 180, 0, 72, 27, 46, 182, 0, 126, 172, 42, 42, 180, 0, 75, 27, 46, 182, 0, 126, 172, 42, 42]
abbrev dktX2_of_2 : List UInt8 := dkwX2_of_2 ++ dktX2_of_3
def dkwX2_of_1 : List UInt8 := [170, 0, 0, 0, 165, 0, 0, 0, 99, 0, 0, 0, 117, 0, 0, 0, 133, 0, 0, 0, 165, 0, 0, 0, 165, 0, 0, 0, 165, 0, 0, 0, 154, 0, 0, 0, 111, 0, 0, 0, 165, 0, 0, 0, 165, 0, 0, 0, 165, 0, 0, 0, 165, 0, 0, 0, 165, 0, 0, 0, 122, 0, 0, 0, 165, 0, 0, 0, 89, 0, 0, 0, 165, 0, 0, 0, 165, 0, 0, 0, 100, 0, 0, 0, 165, 0, 0, 0, 143]
abbrev dktX2_of_1 : List UInt8 := dkwX2_of_1 ++ dktX2_of_2
def dkwX2_of_0 : List UInt8 := [42, 27, 182, 0, 165, 154, 0, 9, 42, 4, 182, 0, 122, 172, 28]
abbrev dktX2_of_0 : List UInt8 := dkwX2_of_0 ++ dktX2_of_1
theorem dksX2_of_0 : cX2_of.data.toList.drop 0 = dktX2_of_0 := by decide +kernel
theorem dksX2_of_1 : cX2_of.data.toList.drop 15 = dktX2_of_1 := dk_seg dksX2_of_0 15 rfl rfl
theorem dksX2_of_2 : cX2_of.data.toList.drop 104 = dktX2_of_2 := dk_seg dksX2_of_1 89 rfl rfl
theorem dksX2_of_3 : cX2_of.data.toList.drop 128 = dktX2_of_3 := dk_seg dksX2_of_2 24 rfl rfl
theorem dksX2_of_4 : cX2_of.data.toList.drop 151 = dktX2_of_4 := dk_seg dksX2_of_3 23 rfl rfl
theorem dksX2_of_5 : cX2_of.data.toList.drop 175 = dktX2_of_5 := dk_seg dksX2_of_4 24 rfl rfl
theorem dX2_of_0 : decode cX2_of 0 = .ok (.aload_n 0, 1) := dk_42 (dk_at dksX2_of_0 0 rfl rfl)
theorem dX2_of_1 : decode cX2_of 1 = .ok (.iload_n 1, 1) := dk_27 (dk_at dksX2_of_0 1 rfl rfl)
theorem dX2_of_2 : decode cX2_of 2 = .ok (.invokevirtual 165, 3) := dk_182 0 165 (dk_at dksX2_of_0 2 rfl rfl)
theorem dX2_of_5 : decode cX2_of 5 = .ok (.ifCond .ne 9, 3) := dk_154 0 9 (dk_at dksX2_of_0 5 rfl rfl)
theorem dX2_of_8 : decode cX2_of 8 = .ok (.aload_n 0, 1) := dk_42 (dk_at dksX2_of_0 8 rfl rfl)
theorem dX2_of_9 : decode cX2_of 9 = .ok (.iconst 1, 1) := dk_4 (dk_at dksX2_of_0 9 rfl rfl)
theorem dX2_of_10 : decode cX2_of 10 = .ok (.invokevirtual 122, 3) := dk_182 0 122 (dk_at dksX2_of_0 10 rfl rfl)
theorem dX2_of_13 : decode cX2_of 13 = .ok (.ireturn, 1) := dk_172 (dk_at dksX2_of_0 13 rfl rfl)
theorem dX2_of_14 : decode cX2_of 14 = .ok (.iload_n 2, 1) := dk_28 (dk_at dksX2_of_0 14 rfl rfl)
theorem dX2_of_15 : decode cX2_of 15 = .ok (.tableswitch 165 99 117 #[133, 165, 165, 165, 154, 111, 165, 165, 165, 165, 165, 122, 165, 89, 165, 165, 100, 165, 143], 89) := by decide +kernel
theorem dX2_of_104 : decode cX2_of 104 = .ok (.aload_n 0, 1) := dk_42 (dk_at dksX2_of_2 0 rfl rfl)
theorem dX2_of_105 : decode cX2_of 105 = .ok (.aload_n 0, 1) := dk_42 (dk_at dksX2_of_2 1 rfl rfl)
theorem dX2_of_106 : decode cX2_of 106 = .ok (.getfield 72, 3) := dk_180 0 72 (dk_at dksX2_of_2 2 rfl rfl)
theorem dX2_of_109 : decode cX2_of 109 = .ok (.iload_n 1, 1) := dk_27 (dk_at dksX2_of_2 5 rfl rfl)
theorem dX2_of_110 : decode cX2_of 110 = .ok (.iaload, 1) := dk_46 (dk_at dksX2_of_2 6 rfl rfl)
theorem dX2_of_111 : decode cX2_of 111 = .ok (.invokevirtual 126, 3) := dk_182 0 126 (dk_at dksX2_of_2 7 rfl rfl)
theorem dX2_of_114 : decode cX2_of 114 = .ok (.ireturn, 1) := dk_172 (dk_at dksX2_of_2 10 rfl rfl)
theorem dX2_of_115 : decode cX2_of 115 = .ok (.aload_n 0, 1) := dk_42 (dk_at dksX2_of_2 11 rfl rfl)
theorem dX2_of_116 : decode cX2_of 116 = .ok (.aload_n 0, 1) := dk_42 (dk_at dksX2_of_2 12 rfl rfl)
theorem dX2_of_117 : decode cX2_of 117 = .ok (.getfield 75, 3) := dk_180 0 75 (dk_at dksX2_of_2 13 rfl rfl)
theorem dX2_of_120 : decode cX2_of 120 = .ok (.iload_n 1, 1) := dk_27 (dk_at dksX2_of_2 16 rfl rfl)
theorem dX2_of_121 : decode cX2_of 121 = .ok (.iaload, 1) := dk_46 (dk_at dksX2_of_2 17 rfl rfl)
theorem dX2_of_122 : decode cX2_of 122 = .ok (.invokevirtual 126, 3) := dk_182 0 126 (dk_at dksX2_of_2 18 rfl rfl)
theorem dX2_of_125 : decode cX2_of 125 = .ok (.ireturn, 1) := dk_172 (dk_at dksX2_of_2 21 rfl rfl)
theorem dX2_of_126 : decode cX2_of 126 = .ok (.aload_n 0, 1) := dk_42 (dk_at dksX2_of_2 22 rfl rfl)
theorem dX2_of_127 : decode cX2_of 127 = .ok (.aload_n 0, 1) := dk_42 (dk_at dksX2_of_2 23 rfl rfl)
theorem dX2_of_128 : decode cX2_of 128 = .ok (.getfield 84, 3) := dk_180 0 84 (dk_at dksX2_of_3 0 rfl rfl)
theorem dX2_of_131 : decode cX2_of 131 = .ok (.iload_n 1, 1) := dk_27 (dk_at dksX2_of_3 3 rfl rfl)
theorem dX2_of_132 : decode cX2_of 132 = .ok (.iaload, 1) := dk_46 (dk_at dksX2_of_3 4 rfl rfl)
theorem dX2_of_133 : decode cX2_of 133 = .ok (.invokevirtual 126, 3) := dk_182 0 126 (dk_at dksX2_of_3 5 rfl rfl)
theorem dX2_of_136 : decode cX2_of 136 = .ok (.ireturn, 1) := dk_172 (dk_at dksX2_of_3 8 rfl rfl)
theorem dX2_of_137 : decode cX2_of 137 = .ok (.aload_n 0, 1) := dk_42 (dk_at dksX2_of_3 9 rfl rfl)
theorem dX2_of_138 : decode cX2_of 138 = .ok (.aload_n 0, 1) := dk_42 (dk_at dksX2_of_3 10 rfl rfl)
theorem dX2_of_139 : decode cX2_of 139 = .ok (.getfield 78, 3) := dk_180 0 78 (dk_at dksX2_of_3 11 rfl rfl)
theorem dX2_of_142 : decode cX2_of 142 = .ok (.iload_n 1, 1) := dk_27 (dk_at dksX2_of_3 14 rfl rfl)
theorem dX2_of_143 : decode cX2_of 143 = .ok (.iaload, 1) := dk_46 (dk_at dksX2_of_3 15 rfl rfl)
theorem dX2_of_144 : decode cX2_of 144 = .ok (.invokevirtual 126, 3) := dk_182 0 126 (dk_at dksX2_of_3 16 rfl rfl)
theorem dX2_of_147 : decode cX2_of 147 = .ok (.ireturn, 1) := dk_172 (dk_at dksX2_of_3 19 rfl rfl)
theorem dX2_of_148 : decode cX2_of 148 = .ok (.aload_n 0, 1) := dk_42 (dk_at dksX2_of_3 20 rfl rfl)
theorem dX2_of_149 : decode cX2_of 149 = .ok (.aload_n 0, 1) := dk_42 (dk_at dksX2_of_3 21 rfl rfl)
theorem dX2_of_150 : decode cX2_of 150 = .ok (.iload_n 1, 1) := dk_27 (dk_at dksX2_of_3 22 rfl rfl)
theorem dX2_of_151 : decode cX2_of 151 = .ok (.invokevirtual 172, 3) := dk_182 0 172 (dk_at dksX2_of_4 0 rfl rfl)
theorem dX2_of_154 : decode cX2_of 154 = .ok (.invokevirtual 126, 3) := dk_182 0 126 (dk_at dksX2_of_4 3 rfl rfl)
theorem dX2_of_157 : decode cX2_of 157 = .ok (.ireturn, 1) := dk_172 (dk_at dksX2_of_4 6 rfl rfl)
theorem dX2_of_158 : decode cX2_of 158 = .ok (.aload_n 0, 1) := dk_42 (dk_at dksX2_of_4 7 rfl rfl)
theorem dX2_of_159 : decode cX2_of 159 = .ok (.aload_n 0, 1) := dk_42 (dk_at dksX2_of_4 8 rfl rfl)
theorem dX2_of_160 : decode cX2_of 160 = .ok (.getfield 99, 3) := dk_180 0 99 (dk_at dksX2_of_4 9 rfl rfl)
theorem dX2_of_163 : decode cX2_of 163 = .ok (.iload_n 1, 1) := dk_27 (dk_at dksX2_of_4 12 rfl rfl)
theorem dX2_of_164 : decode cX2_of 164 = .ok (.iaload, 1) := dk_46 (dk_at dksX2_of_4 13 rfl rfl)
theorem dX2_of_165 : decode cX2_of 165 = .ok (.invokevirtual 126, 3) := dk_182 0 126 (dk_at dksX2_of_4 14 rfl rfl)
theorem dX2_of_168 : decode cX2_of 168 = .ok (.ireturn, 1) := dk_172 (dk_at dksX2_of_4 17 rfl rfl)
theorem dX2_of_169 : decode cX2_of 169 = .ok (.aload_n 0, 1) := dk_42 (dk_at dksX2_of_4 18 rfl rfl)
theorem dX2_of_170 : decode cX2_of 170 = .ok (.aload_n 0, 1) := dk_42 (dk_at dksX2_of_4 19 rfl rfl)
theorem dX2_of_171 : decode cX2_of 171 = .ok (.getfield 90, 3) := dk_180 0 90 (dk_at dksX2_of_4 20 rfl rfl)
theorem dX2_of_174 : decode cX2_of 174 = .ok (.iload_n 1, 1) := dk_27 (dk_at dksX2_of_4 23 rfl rfl)
theorem dX2_of_175 : decode cX2_of 175 = .ok (.iaload, 1) := dk_46 (dk_at dksX2_of_5 0 rfl rfl)
theorem dX2_of_176 : decode cX2_of 176 = .ok (.invokevirtual 126, 3) := dk_182 0 126 (dk_at dksX2_of_5 1 rfl rfl)
theorem dX2_of_179 : decode cX2_of 179 = .ok (.ireturn, 1) := dk_172 (dk_at dksX2_of_5 4 rfl rfl)
theorem dX2_of_180 : decode cX2_of 180 = .ok (.aload_n 0, 1) := dk_42 (dk_at dksX2_of_5 5 rfl rfl)
theorem dX2_of_181 : decode cX2_of 181 = .ok (.iconst 2, 1) := dk_5 (dk_at dksX2_of_5 6 rfl rfl)
theorem dX2_of_182 : decode cX2_of 182 = .ok (.invokevirtual 122, 3) := dk_182 0 122 (dk_at dksX2_of_5 7 rfl rfl)
theorem dX2_of_185 : decode cX2_of 185 = .ok (.ireturn, 1) := dk_172 (dk_at dksX2_of_5 10 rfl rfl)
abbrev cX2_charsOfVersion : ByteArray := prog_7_method_29_code
def yX2_charsOfVersion : MethodName := ⟨RX2, "charsOfVersion", "(I)I"⟩
def dkwX2_charsOfVersion_1 : List UInt8 := [96, 46, 184, 0, 138, 96, 61, 132, 3, 1, 167, 255, 226, 28, 172]
abbrev dktX2_charsOfVersion_1 : List UInt8 := dkwX2_charsOfVersion_1 ++ []
def dkwX2_charsOfVersion_0 : List UInt8 := [3, 61, 3, 62, 29, 42, 180, 0, 78, 27, 46, 162, 0, 26, 28, 42, 180, 0, 93, 16, 40, 27, 104, 29]
abbrev dktX2_charsOfVersion_0 : List UInt8 := dkwX2_charsOfVersion_0 ++ dktX2_charsOfVersion_1
theorem dksX2_charsOfVersion_0 : cX2_charsOfVersion.data.toList.drop 0 = dktX2_charsOfVersion_0 := by decide +kernel
theorem dksX2_charsOfVersion_1 : cX2_charsOfVersion.data.toList.drop 24 = dktX2_charsOfVersion_1 := dk_seg dksX2_charsOfVersion_0 24 rfl rfl
theorem dX2_charsOfVersion_0 : decode cX2_charsOfVersion 0 = .ok (.iconst 0, 1) := dk_3 (dk_at dksX2_charsOfVersion_0 0 rfl rfl)
theorem dX2_charsOfVersion_1 : decode cX2_charsOfVersion 1 = .ok (.istore_n 2, 1) := dk_61 (dk_at dksX2_charsOfVersion_0 1 rfl rfl)
theorem dX2_charsOfVersion_2 : decode cX2_charsOfVersion 2 = .ok (.iconst 0, 1) := dk_3 (dk_at dksX2_charsOfVersion_0 2 rfl rfl)
theorem dX2_charsOfVersion_3 : decode cX2_charsOfVersion 3 = .ok (.istore_n 3, 1) := dk_62 (dk_at dksX2_charsOfVersion_0 3 rfl rfl)
theorem dX2_charsOfVersion_4 : decode cX2_charsOfVersion 4 = .ok (.iload_n 3, 1) := dk_29 (dk_at dksX2_charsOfVersion_0 4 rfl rfl)
theorem dX2_charsOfVersion_5 : decode cX2_charsOfVersion 5 = .ok (.aload_n 0, 1) := dk_42 (dk_at dksX2_charsOfVersion_0 5 rfl rfl)
theorem dX2_charsOfVersion_6 : decode cX2_charsOfVersion 6 = .ok (.getfield 78, 3) := dk_180 0 78 (dk_at dksX2_charsOfVersion_0 6 rfl rfl)
theorem dX2_charsOfVersion_9 : decode cX2_charsOfVersion 9 = .ok (.iload_n 1, 1) := dk_27 (dk_at dksX2_charsOfVersion_0 9 rfl rfl)
theorem dX2_charsOfVersion_10 : decode cX2_charsOfVersion 10 = .ok (.iaload, 1) := dk_46 (dk_at dksX2_charsOfVersion_0 10 rfl rfl)
theorem dX2_charsOfVersion_11 : decode cX2_charsOfVersion 11 = .ok (.if_icmp .ge 26, 3) := dk_162 0 26 (dk_at dksX2_charsOfVersion_0 11 rfl rfl)
theorem dX2_charsOfVersion_14 : decode cX2_charsOfVersion 14 = .ok (.iload_n 2, 1) := dk_28 (dk_at dksX2_charsOfVersion_0 14 rfl rfl)
theorem dX2_charsOfVersion_15 : decode cX2_charsOfVersion 15 = .ok (.aload_n 0, 1) := dk_42 (dk_at dksX2_charsOfVersion_0 15 rfl rfl)
theorem dX2_charsOfVersion_16 : decode cX2_charsOfVersion 16 = .ok (.getfield 93, 3) := dk_180 0 93 (dk_at dksX2_charsOfVersion_0 16 rfl rfl)
theorem dX2_charsOfVersion_19 : decode cX2_charsOfVersion 19 = .ok (.bipush 40, 2) := dk_16 40 (dk_at dksX2_charsOfVersion_0 19 rfl rfl)
theorem dX2_charsOfVersion_21 : decode cX2_charsOfVersion 21 = .ok (.iload_n 1, 1) := dk_27 (dk_at dksX2_charsOfVersion_0 21 rfl rfl)
theorem dX2_charsOfVersion_22 : decode cX2_charsOfVersion 22 = .ok (.imul, 1) := dk_104 (dk_at dksX2_charsOfVersion_0 22 rfl rfl)
theorem dX2_charsOfVersion_23 : decode cX2_charsOfVersion 23 = .ok (.iload_n 3, 1) := dk_29 (dk_at dksX2_charsOfVersion_0 23 rfl rfl)
theorem dX2_charsOfVersion_24 : decode cX2_charsOfVersion 24 = .ok (.iadd, 1) := dk_96 (dk_at dksX2_charsOfVersion_1 0 rfl rfl)
theorem dX2_charsOfVersion_25 : decode cX2_charsOfVersion 25 = .ok (.iaload, 1) := dk_46 (dk_at dksX2_charsOfVersion_1 1 rfl rfl)
theorem dX2_charsOfVersion_26 : decode cX2_charsOfVersion 26 = .ok (.invokestatic 138, 3) := dk_184 0 138 (dk_at dksX2_charsOfVersion_1 2 rfl rfl)
theorem dX2_charsOfVersion_29 : decode cX2_charsOfVersion 29 = .ok (.iadd, 1) := dk_96 (dk_at dksX2_charsOfVersion_1 5 rfl rfl)
theorem dX2_charsOfVersion_30 : decode cX2_charsOfVersion 30 = .ok (.istore_n 2, 1) := dk_61 (dk_at dksX2_charsOfVersion_1 6 rfl rfl)
theorem dX2_charsOfVersion_31 : decode cX2_charsOfVersion 31 = .ok (.iinc 3 1, 3) := dk_132 3 1 (dk_at dksX2_charsOfVersion_1 7 rfl rfl)
theorem dX2_charsOfVersion_34 : decode cX2_charsOfVersion 34 = .ok (.goto (-30), 3) := dk_167 255 226 (dk_at dksX2_charsOfVersion_1 10 rfl rfl)
theorem dX2_charsOfVersion_37 : decode cX2_charsOfVersion 37 = .ok (.iload_n 2, 1) := dk_28 (dk_at dksX2_charsOfVersion_1 13 rfl rfl)
theorem dX2_charsOfVersion_38 : decode cX2_charsOfVersion 38 = .ok (.ireturn, 1) := dk_172 (dk_at dksX2_charsOfVersion_1 14 rfl rfl)
abbrev cX2_forks : ByteArray := prog_7_method_31_code
def yX2_forks : MethodName := ⟨RX2, "forks", "(I)I"⟩
def dkwX2_forks_4 : List UInt8 := [61, 132, 3, 1, 167, 255, 175, 42, 28, 182, 0, 126, 172]
abbrev dktX2_forks_4 : List UInt8 := dkwX2_forks_4 ++ []
def dkwX2_forks_3 : List UInt8 := [4, 167, 0, 4, 3, 54, 4, 28, 21, 4, 153, 0, 12, 29, 27, 159, 0, 7, 4, 167, 0, 4, 3, 96]
abbrev dktX2_forks_3 : List UInt8 := dkwX2_forks_3 ++ dktX2_forks_4
def dkwX2_forks_2 : List UInt8 := [42, 180, 0, 69, 27, 46, 160, 0, 22, 42, 180, 0, 72, 29, 46, 42, 180, 0, 72, 27, 46, 160, 0, 7]
abbrev dktX2_forks_2 : List UInt8 := dkwX2_forks_2 ++ dktX2_forks_3
def dkwX2_forks_1 : List UInt8 := [162, 0, 79, 42, 180, 0, 66, 29, 46, 42, 180, 0, 66, 27, 46, 160, 0, 37, 42, 180, 0, 69, 29, 46]
abbrev dktX2_forks_1 : List UInt8 := dkwX2_forks_1 ++ dktX2_forks_2
def dkwX2_forks_0 : List UInt8 := [42, 27, 182, 0, 165, 154, 0, 9, 42, 4, 182, 0, 122, 172, 3, 61, 3, 62, 29, 42, 180, 0, 22]
abbrev dktX2_forks_0 : List UInt8 := dkwX2_forks_0 ++ dktX2_forks_1
theorem dksX2_forks_0 : cX2_forks.data.toList.drop 0 = dktX2_forks_0 := by decide +kernel
theorem dksX2_forks_1 : cX2_forks.data.toList.drop 23 = dktX2_forks_1 := dk_seg dksX2_forks_0 23 rfl rfl
theorem dksX2_forks_2 : cX2_forks.data.toList.drop 47 = dktX2_forks_2 := dk_seg dksX2_forks_1 24 rfl rfl
theorem dksX2_forks_3 : cX2_forks.data.toList.drop 71 = dktX2_forks_3 := dk_seg dksX2_forks_2 24 rfl rfl
theorem dksX2_forks_4 : cX2_forks.data.toList.drop 95 = dktX2_forks_4 := dk_seg dksX2_forks_3 24 rfl rfl
theorem dX2_forks_0 : decode cX2_forks 0 = .ok (.aload_n 0, 1) := dk_42 (dk_at dksX2_forks_0 0 rfl rfl)
theorem dX2_forks_1 : decode cX2_forks 1 = .ok (.iload_n 1, 1) := dk_27 (dk_at dksX2_forks_0 1 rfl rfl)
theorem dX2_forks_2 : decode cX2_forks 2 = .ok (.invokevirtual 165, 3) := dk_182 0 165 (dk_at dksX2_forks_0 2 rfl rfl)
theorem dX2_forks_5 : decode cX2_forks 5 = .ok (.ifCond .ne 9, 3) := dk_154 0 9 (dk_at dksX2_forks_0 5 rfl rfl)
theorem dX2_forks_8 : decode cX2_forks 8 = .ok (.aload_n 0, 1) := dk_42 (dk_at dksX2_forks_0 8 rfl rfl)
theorem dX2_forks_9 : decode cX2_forks 9 = .ok (.iconst 1, 1) := dk_4 (dk_at dksX2_forks_0 9 rfl rfl)
theorem dX2_forks_10 : decode cX2_forks 10 = .ok (.invokevirtual 122, 3) := dk_182 0 122 (dk_at dksX2_forks_0 10 rfl rfl)
theorem dX2_forks_13 : decode cX2_forks 13 = .ok (.ireturn, 1) := dk_172 (dk_at dksX2_forks_0 13 rfl rfl)
theorem dX2_forks_14 : decode cX2_forks 14 = .ok (.iconst 0, 1) := dk_3 (dk_at dksX2_forks_0 14 rfl rfl)
theorem dX2_forks_15 : decode cX2_forks 15 = .ok (.istore_n 2, 1) := dk_61 (dk_at dksX2_forks_0 15 rfl rfl)
theorem dX2_forks_16 : decode cX2_forks 16 = .ok (.iconst 0, 1) := dk_3 (dk_at dksX2_forks_0 16 rfl rfl)
theorem dX2_forks_17 : decode cX2_forks 17 = .ok (.istore_n 3, 1) := dk_62 (dk_at dksX2_forks_0 17 rfl rfl)
theorem dX2_forks_18 : decode cX2_forks 18 = .ok (.iload_n 3, 1) := dk_29 (dk_at dksX2_forks_0 18 rfl rfl)
theorem dX2_forks_19 : decode cX2_forks 19 = .ok (.aload_n 0, 1) := dk_42 (dk_at dksX2_forks_0 19 rfl rfl)
theorem dX2_forks_20 : decode cX2_forks 20 = .ok (.getfield 22, 3) := dk_180 0 22 (dk_at dksX2_forks_0 20 rfl rfl)
theorem dX2_forks_23 : decode cX2_forks 23 = .ok (.if_icmp .ge 79, 3) := dk_162 0 79 (dk_at dksX2_forks_1 0 rfl rfl)
theorem dX2_forks_26 : decode cX2_forks 26 = .ok (.aload_n 0, 1) := dk_42 (dk_at dksX2_forks_1 3 rfl rfl)
theorem dX2_forks_27 : decode cX2_forks 27 = .ok (.getfield 66, 3) := dk_180 0 66 (dk_at dksX2_forks_1 4 rfl rfl)
theorem dX2_forks_30 : decode cX2_forks 30 = .ok (.iload_n 3, 1) := dk_29 (dk_at dksX2_forks_1 7 rfl rfl)
theorem dX2_forks_31 : decode cX2_forks 31 = .ok (.iaload, 1) := dk_46 (dk_at dksX2_forks_1 8 rfl rfl)
theorem dX2_forks_32 : decode cX2_forks 32 = .ok (.aload_n 0, 1) := dk_42 (dk_at dksX2_forks_1 9 rfl rfl)
theorem dX2_forks_33 : decode cX2_forks 33 = .ok (.getfield 66, 3) := dk_180 0 66 (dk_at dksX2_forks_1 10 rfl rfl)
theorem dX2_forks_36 : decode cX2_forks 36 = .ok (.iload_n 1, 1) := dk_27 (dk_at dksX2_forks_1 13 rfl rfl)
theorem dX2_forks_37 : decode cX2_forks 37 = .ok (.iaload, 1) := dk_46 (dk_at dksX2_forks_1 14 rfl rfl)
theorem dX2_forks_38 : decode cX2_forks 38 = .ok (.if_icmp .ne 37, 3) := dk_160 0 37 (dk_at dksX2_forks_1 15 rfl rfl)
theorem dX2_forks_41 : decode cX2_forks 41 = .ok (.aload_n 0, 1) := dk_42 (dk_at dksX2_forks_1 18 rfl rfl)
theorem dX2_forks_42 : decode cX2_forks 42 = .ok (.getfield 69, 3) := dk_180 0 69 (dk_at dksX2_forks_1 19 rfl rfl)
theorem dX2_forks_45 : decode cX2_forks 45 = .ok (.iload_n 3, 1) := dk_29 (dk_at dksX2_forks_1 22 rfl rfl)
theorem dX2_forks_46 : decode cX2_forks 46 = .ok (.iaload, 1) := dk_46 (dk_at dksX2_forks_1 23 rfl rfl)
theorem dX2_forks_47 : decode cX2_forks 47 = .ok (.aload_n 0, 1) := dk_42 (dk_at dksX2_forks_2 0 rfl rfl)
theorem dX2_forks_48 : decode cX2_forks 48 = .ok (.getfield 69, 3) := dk_180 0 69 (dk_at dksX2_forks_2 1 rfl rfl)
theorem dX2_forks_51 : decode cX2_forks 51 = .ok (.iload_n 1, 1) := dk_27 (dk_at dksX2_forks_2 4 rfl rfl)
theorem dX2_forks_52 : decode cX2_forks 52 = .ok (.iaload, 1) := dk_46 (dk_at dksX2_forks_2 5 rfl rfl)
theorem dX2_forks_53 : decode cX2_forks 53 = .ok (.if_icmp .ne 22, 3) := dk_160 0 22 (dk_at dksX2_forks_2 6 rfl rfl)
theorem dX2_forks_56 : decode cX2_forks 56 = .ok (.aload_n 0, 1) := dk_42 (dk_at dksX2_forks_2 9 rfl rfl)
theorem dX2_forks_57 : decode cX2_forks 57 = .ok (.getfield 72, 3) := dk_180 0 72 (dk_at dksX2_forks_2 10 rfl rfl)
theorem dX2_forks_60 : decode cX2_forks 60 = .ok (.iload_n 3, 1) := dk_29 (dk_at dksX2_forks_2 13 rfl rfl)
theorem dX2_forks_61 : decode cX2_forks 61 = .ok (.iaload, 1) := dk_46 (dk_at dksX2_forks_2 14 rfl rfl)
theorem dX2_forks_62 : decode cX2_forks 62 = .ok (.aload_n 0, 1) := dk_42 (dk_at dksX2_forks_2 15 rfl rfl)
theorem dX2_forks_63 : decode cX2_forks 63 = .ok (.getfield 72, 3) := dk_180 0 72 (dk_at dksX2_forks_2 16 rfl rfl)
theorem dX2_forks_66 : decode cX2_forks 66 = .ok (.iload_n 1, 1) := dk_27 (dk_at dksX2_forks_2 19 rfl rfl)
theorem dX2_forks_67 : decode cX2_forks 67 = .ok (.iaload, 1) := dk_46 (dk_at dksX2_forks_2 20 rfl rfl)
theorem dX2_forks_68 : decode cX2_forks 68 = .ok (.if_icmp .ne 7, 3) := dk_160 0 7 (dk_at dksX2_forks_2 21 rfl rfl)
theorem dX2_forks_71 : decode cX2_forks 71 = .ok (.iconst 1, 1) := dk_4 (dk_at dksX2_forks_3 0 rfl rfl)
theorem dX2_forks_72 : decode cX2_forks 72 = .ok (.goto 4, 3) := dk_167 0 4 (dk_at dksX2_forks_3 1 rfl rfl)
theorem dX2_forks_75 : decode cX2_forks 75 = .ok (.iconst 0, 1) := dk_3 (dk_at dksX2_forks_3 4 rfl rfl)
theorem dX2_forks_76 : decode cX2_forks 76 = .ok (.istore 4, 2) := dk_54 4 (dk_at dksX2_forks_3 5 rfl rfl)
theorem dX2_forks_78 : decode cX2_forks 78 = .ok (.iload_n 2, 1) := dk_28 (dk_at dksX2_forks_3 7 rfl rfl)
theorem dX2_forks_79 : decode cX2_forks 79 = .ok (.iload 4, 2) := dk_21 4 (dk_at dksX2_forks_3 8 rfl rfl)
theorem dX2_forks_81 : decode cX2_forks 81 = .ok (.ifCond .eq 12, 3) := dk_153 0 12 (dk_at dksX2_forks_3 10 rfl rfl)
theorem dX2_forks_84 : decode cX2_forks 84 = .ok (.iload_n 3, 1) := dk_29 (dk_at dksX2_forks_3 13 rfl rfl)
theorem dX2_forks_85 : decode cX2_forks 85 = .ok (.iload_n 1, 1) := dk_27 (dk_at dksX2_forks_3 14 rfl rfl)
theorem dX2_forks_86 : decode cX2_forks 86 = .ok (.if_icmp .eq 7, 3) := dk_159 0 7 (dk_at dksX2_forks_3 15 rfl rfl)
theorem dX2_forks_89 : decode cX2_forks 89 = .ok (.iconst 1, 1) := dk_4 (dk_at dksX2_forks_3 18 rfl rfl)
theorem dX2_forks_90 : decode cX2_forks 90 = .ok (.goto 4, 3) := dk_167 0 4 (dk_at dksX2_forks_3 19 rfl rfl)
theorem dX2_forks_93 : decode cX2_forks 93 = .ok (.iconst 0, 1) := dk_3 (dk_at dksX2_forks_3 22 rfl rfl)
theorem dX2_forks_94 : decode cX2_forks 94 = .ok (.iadd, 1) := dk_96 (dk_at dksX2_forks_3 23 rfl rfl)
theorem dX2_forks_95 : decode cX2_forks 95 = .ok (.istore_n 2, 1) := dk_61 (dk_at dksX2_forks_4 0 rfl rfl)
theorem dX2_forks_96 : decode cX2_forks 96 = .ok (.iinc 3 1, 3) := dk_132 3 1 (dk_at dksX2_forks_4 1 rfl rfl)
theorem dX2_forks_99 : decode cX2_forks 99 = .ok (.goto (-81), 3) := dk_167 255 175 (dk_at dksX2_forks_4 4 rfl rfl)
theorem dX2_forks_102 : decode cX2_forks 102 = .ok (.aload_n 0, 1) := dk_42 (dk_at dksX2_forks_4 7 rfl rfl)
theorem dX2_forks_103 : decode cX2_forks 103 = .ok (.iload_n 2, 1) := dk_28 (dk_at dksX2_forks_4 8 rfl rfl)
theorem dX2_forks_104 : decode cX2_forks 104 = .ok (.invokevirtual 126, 3) := dk_182 0 126 (dk_at dksX2_forks_4 9 rfl rfl)
theorem dX2_forks_107 : decode cX2_forks 107 = .ok (.ireturn, 1) := dk_172 (dk_at dksX2_forks_4 12 rfl rfl)
abbrev cX2_heads : ByteArray := prog_7_method_32_code
def yX2_heads : MethodName := ⟨RX2, "heads", "(II)I"⟩
def dkwX2_heads_5 : List UInt8 := [167, 0, 4, 3, 96, 62, 132, 4, 1, 167, 255, 157, 42, 29, 182, 0, 126, 172]
abbrev dktX2_heads_5 : List UInt8 := dkwX2_heads_5 ++ []
def dkwX2_heads_4 : List UInt8 := [159, 0, 7, 4, 167, 0, 4, 3, 54, 5, 132, 6, 1, 167, 255, 220, 29, 21, 5, 153, 0, 7, 4]
abbrev dktX2_heads_4 : List UInt8 := dkwX2_heads_4 ++ dktX2_heads_5
def dkwX2_heads_3 : List UInt8 := [21, 6, 42, 180, 0, 22, 162, 0, 33, 21, 5, 153, 0, 19, 42, 180, 0, 72, 21, 6, 46, 21, 4]
abbrev dktX2_heads_3 : List UInt8 := dkwX2_heads_3 ++ dktX2_heads_4
def dkwX2_heads_2 : List UInt8 := [180, 0, 69, 21, 4, 46, 28, 160, 0, 7, 4, 167, 0, 4, 3, 54, 5, 21, 4, 4, 96, 54, 6]
abbrev dktX2_heads_2 : List UInt8 := dkwX2_heads_2 ++ dktX2_heads_3
def dkwX2_heads_1 : List UInt8 := [3, 54, 4, 21, 4, 42, 180, 0, 22, 162, 0, 96, 42, 180, 0, 66, 21, 4, 46, 27, 160, 0, 18, 42]
abbrev dktX2_heads_1 : List UInt8 := dkwX2_heads_1 ++ dktX2_heads_2
def dkwX2_heads_0 : List UInt8 := [42, 27, 182, 0, 159, 153, 0, 11, 42, 28, 182, 0, 162, 154, 0, 9, 42, 4, 182, 0, 122, 172, 3, 62]
abbrev dktX2_heads_0 : List UInt8 := dkwX2_heads_0 ++ dktX2_heads_1
theorem dksX2_heads_0 : cX2_heads.data.toList.drop 0 = dktX2_heads_0 := by decide +kernel
theorem dksX2_heads_1 : cX2_heads.data.toList.drop 24 = dktX2_heads_1 := dk_seg dksX2_heads_0 24 rfl rfl
theorem dksX2_heads_2 : cX2_heads.data.toList.drop 48 = dktX2_heads_2 := dk_seg dksX2_heads_1 24 rfl rfl
theorem dksX2_heads_3 : cX2_heads.data.toList.drop 71 = dktX2_heads_3 := dk_seg dksX2_heads_2 23 rfl rfl
theorem dksX2_heads_4 : cX2_heads.data.toList.drop 94 = dktX2_heads_4 := dk_seg dksX2_heads_3 23 rfl rfl
theorem dksX2_heads_5 : cX2_heads.data.toList.drop 117 = dktX2_heads_5 := dk_seg dksX2_heads_4 23 rfl rfl
theorem dX2_heads_0 : decode cX2_heads 0 = .ok (.aload_n 0, 1) := dk_42 (dk_at dksX2_heads_0 0 rfl rfl)
theorem dX2_heads_1 : decode cX2_heads 1 = .ok (.iload_n 1, 1) := dk_27 (dk_at dksX2_heads_0 1 rfl rfl)
theorem dX2_heads_2 : decode cX2_heads 2 = .ok (.invokevirtual 159, 3) := dk_182 0 159 (dk_at dksX2_heads_0 2 rfl rfl)
theorem dX2_heads_5 : decode cX2_heads 5 = .ok (.ifCond .eq 11, 3) := dk_153 0 11 (dk_at dksX2_heads_0 5 rfl rfl)
theorem dX2_heads_8 : decode cX2_heads 8 = .ok (.aload_n 0, 1) := dk_42 (dk_at dksX2_heads_0 8 rfl rfl)
theorem dX2_heads_9 : decode cX2_heads 9 = .ok (.iload_n 2, 1) := dk_28 (dk_at dksX2_heads_0 9 rfl rfl)
theorem dX2_heads_10 : decode cX2_heads 10 = .ok (.invokevirtual 162, 3) := dk_182 0 162 (dk_at dksX2_heads_0 10 rfl rfl)
theorem dX2_heads_13 : decode cX2_heads 13 = .ok (.ifCond .ne 9, 3) := dk_154 0 9 (dk_at dksX2_heads_0 13 rfl rfl)
theorem dX2_heads_16 : decode cX2_heads 16 = .ok (.aload_n 0, 1) := dk_42 (dk_at dksX2_heads_0 16 rfl rfl)
theorem dX2_heads_17 : decode cX2_heads 17 = .ok (.iconst 1, 1) := dk_4 (dk_at dksX2_heads_0 17 rfl rfl)
theorem dX2_heads_18 : decode cX2_heads 18 = .ok (.invokevirtual 122, 3) := dk_182 0 122 (dk_at dksX2_heads_0 18 rfl rfl)
theorem dX2_heads_21 : decode cX2_heads 21 = .ok (.ireturn, 1) := dk_172 (dk_at dksX2_heads_0 21 rfl rfl)
theorem dX2_heads_22 : decode cX2_heads 22 = .ok (.iconst 0, 1) := dk_3 (dk_at dksX2_heads_0 22 rfl rfl)
theorem dX2_heads_23 : decode cX2_heads 23 = .ok (.istore_n 3, 1) := dk_62 (dk_at dksX2_heads_0 23 rfl rfl)
theorem dX2_heads_24 : decode cX2_heads 24 = .ok (.iconst 0, 1) := dk_3 (dk_at dksX2_heads_1 0 rfl rfl)
theorem dX2_heads_25 : decode cX2_heads 25 = .ok (.istore 4, 2) := dk_54 4 (dk_at dksX2_heads_1 1 rfl rfl)
theorem dX2_heads_27 : decode cX2_heads 27 = .ok (.iload 4, 2) := dk_21 4 (dk_at dksX2_heads_1 3 rfl rfl)
theorem dX2_heads_29 : decode cX2_heads 29 = .ok (.aload_n 0, 1) := dk_42 (dk_at dksX2_heads_1 5 rfl rfl)
theorem dX2_heads_30 : decode cX2_heads 30 = .ok (.getfield 22, 3) := dk_180 0 22 (dk_at dksX2_heads_1 6 rfl rfl)
theorem dX2_heads_33 : decode cX2_heads 33 = .ok (.if_icmp .ge 96, 3) := dk_162 0 96 (dk_at dksX2_heads_1 9 rfl rfl)
theorem dX2_heads_36 : decode cX2_heads 36 = .ok (.aload_n 0, 1) := dk_42 (dk_at dksX2_heads_1 12 rfl rfl)
theorem dX2_heads_37 : decode cX2_heads 37 = .ok (.getfield 66, 3) := dk_180 0 66 (dk_at dksX2_heads_1 13 rfl rfl)
theorem dX2_heads_40 : decode cX2_heads 40 = .ok (.iload 4, 2) := dk_21 4 (dk_at dksX2_heads_1 16 rfl rfl)
theorem dX2_heads_42 : decode cX2_heads 42 = .ok (.iaload, 1) := dk_46 (dk_at dksX2_heads_1 18 rfl rfl)
theorem dX2_heads_43 : decode cX2_heads 43 = .ok (.iload_n 1, 1) := dk_27 (dk_at dksX2_heads_1 19 rfl rfl)
theorem dX2_heads_44 : decode cX2_heads 44 = .ok (.if_icmp .ne 18, 3) := dk_160 0 18 (dk_at dksX2_heads_1 20 rfl rfl)
theorem dX2_heads_47 : decode cX2_heads 47 = .ok (.aload_n 0, 1) := dk_42 (dk_at dksX2_heads_1 23 rfl rfl)
theorem dX2_heads_48 : decode cX2_heads 48 = .ok (.getfield 69, 3) := dk_180 0 69 (dk_at dksX2_heads_2 0 rfl rfl)
theorem dX2_heads_51 : decode cX2_heads 51 = .ok (.iload 4, 2) := dk_21 4 (dk_at dksX2_heads_2 3 rfl rfl)
theorem dX2_heads_53 : decode cX2_heads 53 = .ok (.iaload, 1) := dk_46 (dk_at dksX2_heads_2 5 rfl rfl)
theorem dX2_heads_54 : decode cX2_heads 54 = .ok (.iload_n 2, 1) := dk_28 (dk_at dksX2_heads_2 6 rfl rfl)
theorem dX2_heads_55 : decode cX2_heads 55 = .ok (.if_icmp .ne 7, 3) := dk_160 0 7 (dk_at dksX2_heads_2 7 rfl rfl)
theorem dX2_heads_58 : decode cX2_heads 58 = .ok (.iconst 1, 1) := dk_4 (dk_at dksX2_heads_2 10 rfl rfl)
theorem dX2_heads_59 : decode cX2_heads 59 = .ok (.goto 4, 3) := dk_167 0 4 (dk_at dksX2_heads_2 11 rfl rfl)
theorem dX2_heads_62 : decode cX2_heads 62 = .ok (.iconst 0, 1) := dk_3 (dk_at dksX2_heads_2 14 rfl rfl)
theorem dX2_heads_63 : decode cX2_heads 63 = .ok (.istore 5, 2) := dk_54 5 (dk_at dksX2_heads_2 15 rfl rfl)
theorem dX2_heads_65 : decode cX2_heads 65 = .ok (.iload 4, 2) := dk_21 4 (dk_at dksX2_heads_2 17 rfl rfl)
theorem dX2_heads_67 : decode cX2_heads 67 = .ok (.iconst 1, 1) := dk_4 (dk_at dksX2_heads_2 19 rfl rfl)
theorem dX2_heads_68 : decode cX2_heads 68 = .ok (.iadd, 1) := dk_96 (dk_at dksX2_heads_2 20 rfl rfl)
theorem dX2_heads_69 : decode cX2_heads 69 = .ok (.istore 6, 2) := dk_54 6 (dk_at dksX2_heads_2 21 rfl rfl)
theorem dX2_heads_71 : decode cX2_heads 71 = .ok (.iload 6, 2) := dk_21 6 (dk_at dksX2_heads_3 0 rfl rfl)
theorem dX2_heads_73 : decode cX2_heads 73 = .ok (.aload_n 0, 1) := dk_42 (dk_at dksX2_heads_3 2 rfl rfl)
theorem dX2_heads_74 : decode cX2_heads 74 = .ok (.getfield 22, 3) := dk_180 0 22 (dk_at dksX2_heads_3 3 rfl rfl)
theorem dX2_heads_77 : decode cX2_heads 77 = .ok (.if_icmp .ge 33, 3) := dk_162 0 33 (dk_at dksX2_heads_3 6 rfl rfl)
theorem dX2_heads_80 : decode cX2_heads 80 = .ok (.iload 5, 2) := dk_21 5 (dk_at dksX2_heads_3 9 rfl rfl)
theorem dX2_heads_82 : decode cX2_heads 82 = .ok (.ifCond .eq 19, 3) := dk_153 0 19 (dk_at dksX2_heads_3 11 rfl rfl)
theorem dX2_heads_85 : decode cX2_heads 85 = .ok (.aload_n 0, 1) := dk_42 (dk_at dksX2_heads_3 14 rfl rfl)
theorem dX2_heads_86 : decode cX2_heads 86 = .ok (.getfield 72, 3) := dk_180 0 72 (dk_at dksX2_heads_3 15 rfl rfl)
theorem dX2_heads_89 : decode cX2_heads 89 = .ok (.iload 6, 2) := dk_21 6 (dk_at dksX2_heads_3 18 rfl rfl)
theorem dX2_heads_91 : decode cX2_heads 91 = .ok (.iaload, 1) := dk_46 (dk_at dksX2_heads_3 20 rfl rfl)
theorem dX2_heads_92 : decode cX2_heads 92 = .ok (.iload 4, 2) := dk_21 4 (dk_at dksX2_heads_3 21 rfl rfl)
theorem dX2_heads_94 : decode cX2_heads 94 = .ok (.if_icmp .eq 7, 3) := dk_159 0 7 (dk_at dksX2_heads_4 0 rfl rfl)
theorem dX2_heads_97 : decode cX2_heads 97 = .ok (.iconst 1, 1) := dk_4 (dk_at dksX2_heads_4 3 rfl rfl)
theorem dX2_heads_98 : decode cX2_heads 98 = .ok (.goto 4, 3) := dk_167 0 4 (dk_at dksX2_heads_4 4 rfl rfl)
theorem dX2_heads_101 : decode cX2_heads 101 = .ok (.iconst 0, 1) := dk_3 (dk_at dksX2_heads_4 7 rfl rfl)
theorem dX2_heads_102 : decode cX2_heads 102 = .ok (.istore 5, 2) := dk_54 5 (dk_at dksX2_heads_4 8 rfl rfl)
theorem dX2_heads_104 : decode cX2_heads 104 = .ok (.iinc 6 1, 3) := dk_132 6 1 (dk_at dksX2_heads_4 10 rfl rfl)
theorem dX2_heads_107 : decode cX2_heads 107 = .ok (.goto (-36), 3) := dk_167 255 220 (dk_at dksX2_heads_4 13 rfl rfl)
theorem dX2_heads_110 : decode cX2_heads 110 = .ok (.iload_n 3, 1) := dk_29 (dk_at dksX2_heads_4 16 rfl rfl)
theorem dX2_heads_111 : decode cX2_heads 111 = .ok (.iload 5, 2) := dk_21 5 (dk_at dksX2_heads_4 17 rfl rfl)
theorem dX2_heads_113 : decode cX2_heads 113 = .ok (.ifCond .eq 7, 3) := dk_153 0 7 (dk_at dksX2_heads_4 19 rfl rfl)
theorem dX2_heads_116 : decode cX2_heads 116 = .ok (.iconst 1, 1) := dk_4 (dk_at dksX2_heads_4 22 rfl rfl)
theorem dX2_heads_117 : decode cX2_heads 117 = .ok (.goto 4, 3) := dk_167 0 4 (dk_at dksX2_heads_5 0 rfl rfl)
theorem dX2_heads_120 : decode cX2_heads 120 = .ok (.iconst 0, 1) := dk_3 (dk_at dksX2_heads_5 3 rfl rfl)
theorem dX2_heads_121 : decode cX2_heads 121 = .ok (.iadd, 1) := dk_96 (dk_at dksX2_heads_5 4 rfl rfl)
theorem dX2_heads_122 : decode cX2_heads 122 = .ok (.istore_n 3, 1) := dk_62 (dk_at dksX2_heads_5 5 rfl rfl)
theorem dX2_heads_123 : decode cX2_heads 123 = .ok (.iinc 4 1, 3) := dk_132 4 1 (dk_at dksX2_heads_5 6 rfl rfl)
theorem dX2_heads_126 : decode cX2_heads 126 = .ok (.goto (-99), 3) := dk_167 255 157 (dk_at dksX2_heads_5 9 rfl rfl)
theorem dX2_heads_129 : decode cX2_heads 129 = .ok (.aload_n 0, 1) := dk_42 (dk_at dksX2_heads_5 12 rfl rfl)
theorem dX2_heads_130 : decode cX2_heads 130 = .ok (.iload_n 3, 1) := dk_29 (dk_at dksX2_heads_5 13 rfl rfl)
theorem dX2_heads_131 : decode cX2_heads 131 = .ok (.invokevirtual 126, 3) := dk_182 0 126 (dk_at dksX2_heads_5 14 rfl rfl)
theorem dX2_heads_134 : decode cX2_heads 134 = .ok (.ireturn, 1) := dk_172 (dk_at dksX2_heads_5 17 rfl rfl)
abbrev cX2_hand : ByteArray := prog_7_method_34_code
def yX2_hand : MethodName := ⟨RX2, "hand", "(I)I"⟩
def dkwX2_hand_8 : List UInt8 := [181, 0, 31, 42, 180, 0, 87, 27, 42, 180, 0, 31, 79, 42, 28, 182, 0, 126, 172]
abbrev dktX2_hand_8 : List UInt8 := dkwX2_hand_8 ++ []
def dkwX2_hand_7 : List UInt8 := [180, 0, 81, 27, 4, 79, 42, 180, 0, 84, 27, 42, 180, 0, 7, 79, 42, 89, 180, 0, 31, 4, 96]
abbrev dktX2_hand_7 : List UInt8 := dkwX2_hand_7 ++ dktX2_hand_8
def dkwX2_hand_6 : List UInt8 := [180, 0, 28, 2, 79, 42, 89, 180, 0, 28, 4, 96, 181, 0, 28, 132, 3, 1, 167, 255, 181, 42]
abbrev dktX2_hand_6 : List UInt8 := dkwX2_hand_6 ++ dktX2_hand_7
def dkwX2_hand_5 : List UInt8 := [29, 79, 42, 180, 0, 108, 42, 180, 0, 28, 42, 27, 29, 182, 0, 179, 79, 42, 180, 0, 111, 42]
abbrev dktX2_hand_5 : List UInt8 := dkwX2_hand_5 ++ dktX2_hand_6
def dkwX2_hand_4 : List UInt8 := [182, 0, 175, 153, 0, 58, 42, 180, 0, 102, 42, 180, 0, 28, 27, 79, 42, 180, 0, 105, 42, 180, 0, 28]
abbrev dktX2_hand_4 : List UInt8 := dkwX2_hand_4 ++ dktX2_hand_5
def dkwX2_hand_3 : List UInt8 := [164, 0, 9, 42, 6, 182, 0, 122, 172, 3, 62, 29, 42, 180, 0, 22, 162, 0, 73, 42, 27, 29]
abbrev dktX2_hand_3 : List UInt8 := dkwX2_hand_3 ++ dktX2_hand_4
def dkwX2_hand_2 : List UInt8 := [153, 0, 7, 4, 167, 0, 4, 3, 96, 61, 132, 3, 1, 167, 255, 228, 42, 180, 0, 28, 28, 96, 16, 40]
abbrev dktX2_hand_2 : List UInt8 := dkwX2_hand_2 ++ dktX2_hand_3
def dkwX2_hand_1 : List UInt8 := [5, 182, 0, 122, 172, 3, 61, 3, 62, 29, 42, 180, 0, 22, 162, 0, 26, 28, 42, 27, 29, 182, 0, 175]
abbrev dktX2_hand_1 : List UInt8 := dkwX2_hand_1 ++ dktX2_hand_2
def dkwX2_hand_0 : List UInt8 := [42, 27, 182, 0, 165, 154, 0, 9, 42, 4, 182, 0, 122, 172, 42, 180, 0, 81, 27, 46, 153, 0, 9, 42]
abbrev dktX2_hand_0 : List UInt8 := dkwX2_hand_0 ++ dktX2_hand_1
theorem dksX2_hand_0 : cX2_hand.data.toList.drop 0 = dktX2_hand_0 := by decide +kernel
theorem dksX2_hand_1 : cX2_hand.data.toList.drop 24 = dktX2_hand_1 := dk_seg dksX2_hand_0 24 rfl rfl
theorem dksX2_hand_2 : cX2_hand.data.toList.drop 48 = dktX2_hand_2 := dk_seg dksX2_hand_1 24 rfl rfl
theorem dksX2_hand_3 : cX2_hand.data.toList.drop 72 = dktX2_hand_3 := dk_seg dksX2_hand_2 24 rfl rfl
theorem dksX2_hand_4 : cX2_hand.data.toList.drop 94 = dktX2_hand_4 := dk_seg dksX2_hand_3 22 rfl rfl
theorem dksX2_hand_5 : cX2_hand.data.toList.drop 118 = dktX2_hand_5 := dk_seg dksX2_hand_4 24 rfl rfl
theorem dksX2_hand_6 : cX2_hand.data.toList.drop 140 = dktX2_hand_6 := dk_seg dksX2_hand_5 22 rfl rfl
theorem dksX2_hand_7 : cX2_hand.data.toList.drop 162 = dktX2_hand_7 := dk_seg dksX2_hand_6 22 rfl rfl
theorem dksX2_hand_8 : cX2_hand.data.toList.drop 185 = dktX2_hand_8 := dk_seg dksX2_hand_7 23 rfl rfl
theorem dX2_hand_0 : decode cX2_hand 0 = .ok (.aload_n 0, 1) := dk_42 (dk_at dksX2_hand_0 0 rfl rfl)
theorem dX2_hand_1 : decode cX2_hand 1 = .ok (.iload_n 1, 1) := dk_27 (dk_at dksX2_hand_0 1 rfl rfl)
theorem dX2_hand_2 : decode cX2_hand 2 = .ok (.invokevirtual 165, 3) := dk_182 0 165 (dk_at dksX2_hand_0 2 rfl rfl)
theorem dX2_hand_5 : decode cX2_hand 5 = .ok (.ifCond .ne 9, 3) := dk_154 0 9 (dk_at dksX2_hand_0 5 rfl rfl)
theorem dX2_hand_8 : decode cX2_hand 8 = .ok (.aload_n 0, 1) := dk_42 (dk_at dksX2_hand_0 8 rfl rfl)
theorem dX2_hand_9 : decode cX2_hand 9 = .ok (.iconst 1, 1) := dk_4 (dk_at dksX2_hand_0 9 rfl rfl)
theorem dX2_hand_10 : decode cX2_hand 10 = .ok (.invokevirtual 122, 3) := dk_182 0 122 (dk_at dksX2_hand_0 10 rfl rfl)
theorem dX2_hand_13 : decode cX2_hand 13 = .ok (.ireturn, 1) := dk_172 (dk_at dksX2_hand_0 13 rfl rfl)
theorem dX2_hand_14 : decode cX2_hand 14 = .ok (.aload_n 0, 1) := dk_42 (dk_at dksX2_hand_0 14 rfl rfl)
theorem dX2_hand_15 : decode cX2_hand 15 = .ok (.getfield 81, 3) := dk_180 0 81 (dk_at dksX2_hand_0 15 rfl rfl)
theorem dX2_hand_18 : decode cX2_hand 18 = .ok (.iload_n 1, 1) := dk_27 (dk_at dksX2_hand_0 18 rfl rfl)
theorem dX2_hand_19 : decode cX2_hand 19 = .ok (.iaload, 1) := dk_46 (dk_at dksX2_hand_0 19 rfl rfl)
theorem dX2_hand_20 : decode cX2_hand 20 = .ok (.ifCond .eq 9, 3) := dk_153 0 9 (dk_at dksX2_hand_0 20 rfl rfl)
theorem dX2_hand_23 : decode cX2_hand 23 = .ok (.aload_n 0, 1) := dk_42 (dk_at dksX2_hand_0 23 rfl rfl)
theorem dX2_hand_24 : decode cX2_hand 24 = .ok (.iconst 2, 1) := dk_5 (dk_at dksX2_hand_1 0 rfl rfl)
theorem dX2_hand_25 : decode cX2_hand 25 = .ok (.invokevirtual 122, 3) := dk_182 0 122 (dk_at dksX2_hand_1 1 rfl rfl)
theorem dX2_hand_28 : decode cX2_hand 28 = .ok (.ireturn, 1) := dk_172 (dk_at dksX2_hand_1 4 rfl rfl)
theorem dX2_hand_29 : decode cX2_hand 29 = .ok (.iconst 0, 1) := dk_3 (dk_at dksX2_hand_1 5 rfl rfl)
theorem dX2_hand_30 : decode cX2_hand 30 = .ok (.istore_n 2, 1) := dk_61 (dk_at dksX2_hand_1 6 rfl rfl)
theorem dX2_hand_31 : decode cX2_hand 31 = .ok (.iconst 0, 1) := dk_3 (dk_at dksX2_hand_1 7 rfl rfl)
theorem dX2_hand_32 : decode cX2_hand 32 = .ok (.istore_n 3, 1) := dk_62 (dk_at dksX2_hand_1 8 rfl rfl)
theorem dX2_hand_33 : decode cX2_hand 33 = .ok (.iload_n 3, 1) := dk_29 (dk_at dksX2_hand_1 9 rfl rfl)
theorem dX2_hand_34 : decode cX2_hand 34 = .ok (.aload_n 0, 1) := dk_42 (dk_at dksX2_hand_1 10 rfl rfl)
theorem dX2_hand_35 : decode cX2_hand 35 = .ok (.getfield 22, 3) := dk_180 0 22 (dk_at dksX2_hand_1 11 rfl rfl)
theorem dX2_hand_38 : decode cX2_hand 38 = .ok (.if_icmp .ge 26, 3) := dk_162 0 26 (dk_at dksX2_hand_1 14 rfl rfl)
theorem dX2_hand_41 : decode cX2_hand 41 = .ok (.iload_n 2, 1) := dk_28 (dk_at dksX2_hand_1 17 rfl rfl)
theorem dX2_hand_42 : decode cX2_hand 42 = .ok (.aload_n 0, 1) := dk_42 (dk_at dksX2_hand_1 18 rfl rfl)
theorem dX2_hand_43 : decode cX2_hand 43 = .ok (.iload_n 1, 1) := dk_27 (dk_at dksX2_hand_1 19 rfl rfl)
theorem dX2_hand_44 : decode cX2_hand 44 = .ok (.iload_n 3, 1) := dk_29 (dk_at dksX2_hand_1 20 rfl rfl)
theorem dX2_hand_45 : decode cX2_hand 45 = .ok (.invokevirtual 175, 3) := dk_182 0 175 (dk_at dksX2_hand_1 21 rfl rfl)
theorem dX2_hand_48 : decode cX2_hand 48 = .ok (.ifCond .eq 7, 3) := dk_153 0 7 (dk_at dksX2_hand_2 0 rfl rfl)
theorem dX2_hand_51 : decode cX2_hand 51 = .ok (.iconst 1, 1) := dk_4 (dk_at dksX2_hand_2 3 rfl rfl)
theorem dX2_hand_52 : decode cX2_hand 52 = .ok (.goto 4, 3) := dk_167 0 4 (dk_at dksX2_hand_2 4 rfl rfl)
theorem dX2_hand_55 : decode cX2_hand 55 = .ok (.iconst 0, 1) := dk_3 (dk_at dksX2_hand_2 7 rfl rfl)
theorem dX2_hand_56 : decode cX2_hand 56 = .ok (.iadd, 1) := dk_96 (dk_at dksX2_hand_2 8 rfl rfl)
theorem dX2_hand_57 : decode cX2_hand 57 = .ok (.istore_n 2, 1) := dk_61 (dk_at dksX2_hand_2 9 rfl rfl)
theorem dX2_hand_58 : decode cX2_hand 58 = .ok (.iinc 3 1, 3) := dk_132 3 1 (dk_at dksX2_hand_2 10 rfl rfl)
theorem dX2_hand_61 : decode cX2_hand 61 = .ok (.goto (-28), 3) := dk_167 255 228 (dk_at dksX2_hand_2 13 rfl rfl)
theorem dX2_hand_64 : decode cX2_hand 64 = .ok (.aload_n 0, 1) := dk_42 (dk_at dksX2_hand_2 16 rfl rfl)
theorem dX2_hand_65 : decode cX2_hand 65 = .ok (.getfield 28, 3) := dk_180 0 28 (dk_at dksX2_hand_2 17 rfl rfl)
theorem dX2_hand_68 : decode cX2_hand 68 = .ok (.iload_n 2, 1) := dk_28 (dk_at dksX2_hand_2 20 rfl rfl)
theorem dX2_hand_69 : decode cX2_hand 69 = .ok (.iadd, 1) := dk_96 (dk_at dksX2_hand_2 21 rfl rfl)
theorem dX2_hand_70 : decode cX2_hand 70 = .ok (.bipush 40, 2) := dk_16 40 (dk_at dksX2_hand_2 22 rfl rfl)
theorem dX2_hand_72 : decode cX2_hand 72 = .ok (.if_icmp .le 9, 3) := dk_164 0 9 (dk_at dksX2_hand_3 0 rfl rfl)
theorem dX2_hand_75 : decode cX2_hand 75 = .ok (.aload_n 0, 1) := dk_42 (dk_at dksX2_hand_3 3 rfl rfl)
theorem dX2_hand_76 : decode cX2_hand 76 = .ok (.iconst 3, 1) := dk_6 (dk_at dksX2_hand_3 4 rfl rfl)
theorem dX2_hand_77 : decode cX2_hand 77 = .ok (.invokevirtual 122, 3) := dk_182 0 122 (dk_at dksX2_hand_3 5 rfl rfl)
theorem dX2_hand_80 : decode cX2_hand 80 = .ok (.ireturn, 1) := dk_172 (dk_at dksX2_hand_3 8 rfl rfl)
theorem dX2_hand_81 : decode cX2_hand 81 = .ok (.iconst 0, 1) := dk_3 (dk_at dksX2_hand_3 9 rfl rfl)
theorem dX2_hand_82 : decode cX2_hand 82 = .ok (.istore_n 3, 1) := dk_62 (dk_at dksX2_hand_3 10 rfl rfl)
theorem dX2_hand_83 : decode cX2_hand 83 = .ok (.iload_n 3, 1) := dk_29 (dk_at dksX2_hand_3 11 rfl rfl)
theorem dX2_hand_84 : decode cX2_hand 84 = .ok (.aload_n 0, 1) := dk_42 (dk_at dksX2_hand_3 12 rfl rfl)
theorem dX2_hand_85 : decode cX2_hand 85 = .ok (.getfield 22, 3) := dk_180 0 22 (dk_at dksX2_hand_3 13 rfl rfl)
theorem dX2_hand_88 : decode cX2_hand 88 = .ok (.if_icmp .ge 73, 3) := dk_162 0 73 (dk_at dksX2_hand_3 16 rfl rfl)
theorem dX2_hand_91 : decode cX2_hand 91 = .ok (.aload_n 0, 1) := dk_42 (dk_at dksX2_hand_3 19 rfl rfl)
theorem dX2_hand_92 : decode cX2_hand 92 = .ok (.iload_n 1, 1) := dk_27 (dk_at dksX2_hand_3 20 rfl rfl)
theorem dX2_hand_93 : decode cX2_hand 93 = .ok (.iload_n 3, 1) := dk_29 (dk_at dksX2_hand_3 21 rfl rfl)
theorem dX2_hand_94 : decode cX2_hand 94 = .ok (.invokevirtual 175, 3) := dk_182 0 175 (dk_at dksX2_hand_4 0 rfl rfl)
theorem dX2_hand_97 : decode cX2_hand 97 = .ok (.ifCond .eq 58, 3) := dk_153 0 58 (dk_at dksX2_hand_4 3 rfl rfl)
theorem dX2_hand_100 : decode cX2_hand 100 = .ok (.aload_n 0, 1) := dk_42 (dk_at dksX2_hand_4 6 rfl rfl)
theorem dX2_hand_101 : decode cX2_hand 101 = .ok (.getfield 102, 3) := dk_180 0 102 (dk_at dksX2_hand_4 7 rfl rfl)
theorem dX2_hand_104 : decode cX2_hand 104 = .ok (.aload_n 0, 1) := dk_42 (dk_at dksX2_hand_4 10 rfl rfl)
theorem dX2_hand_105 : decode cX2_hand 105 = .ok (.getfield 28, 3) := dk_180 0 28 (dk_at dksX2_hand_4 11 rfl rfl)
theorem dX2_hand_108 : decode cX2_hand 108 = .ok (.iload_n 1, 1) := dk_27 (dk_at dksX2_hand_4 14 rfl rfl)
theorem dX2_hand_109 : decode cX2_hand 109 = .ok (.iastore, 1) := dk_79 (dk_at dksX2_hand_4 15 rfl rfl)
theorem dX2_hand_110 : decode cX2_hand 110 = .ok (.aload_n 0, 1) := dk_42 (dk_at dksX2_hand_4 16 rfl rfl)
theorem dX2_hand_111 : decode cX2_hand 111 = .ok (.getfield 105, 3) := dk_180 0 105 (dk_at dksX2_hand_4 17 rfl rfl)
theorem dX2_hand_114 : decode cX2_hand 114 = .ok (.aload_n 0, 1) := dk_42 (dk_at dksX2_hand_4 20 rfl rfl)
theorem dX2_hand_115 : decode cX2_hand 115 = .ok (.getfield 28, 3) := dk_180 0 28 (dk_at dksX2_hand_4 21 rfl rfl)
theorem dX2_hand_118 : decode cX2_hand 118 = .ok (.iload_n 3, 1) := dk_29 (dk_at dksX2_hand_5 0 rfl rfl)
theorem dX2_hand_119 : decode cX2_hand 119 = .ok (.iastore, 1) := dk_79 (dk_at dksX2_hand_5 1 rfl rfl)
theorem dX2_hand_120 : decode cX2_hand 120 = .ok (.aload_n 0, 1) := dk_42 (dk_at dksX2_hand_5 2 rfl rfl)
theorem dX2_hand_121 : decode cX2_hand 121 = .ok (.getfield 108, 3) := dk_180 0 108 (dk_at dksX2_hand_5 3 rfl rfl)
theorem dX2_hand_124 : decode cX2_hand 124 = .ok (.aload_n 0, 1) := dk_42 (dk_at dksX2_hand_5 6 rfl rfl)
theorem dX2_hand_125 : decode cX2_hand 125 = .ok (.getfield 28, 3) := dk_180 0 28 (dk_at dksX2_hand_5 7 rfl rfl)
theorem dX2_hand_128 : decode cX2_hand 128 = .ok (.aload_n 0, 1) := dk_42 (dk_at dksX2_hand_5 10 rfl rfl)
theorem dX2_hand_129 : decode cX2_hand 129 = .ok (.iload_n 1, 1) := dk_27 (dk_at dksX2_hand_5 11 rfl rfl)
theorem dX2_hand_130 : decode cX2_hand 130 = .ok (.iload_n 3, 1) := dk_29 (dk_at dksX2_hand_5 12 rfl rfl)
theorem dX2_hand_131 : decode cX2_hand 131 = .ok (.invokevirtual 179, 3) := dk_182 0 179 (dk_at dksX2_hand_5 13 rfl rfl)
theorem dX2_hand_134 : decode cX2_hand 134 = .ok (.iastore, 1) := dk_79 (dk_at dksX2_hand_5 16 rfl rfl)
theorem dX2_hand_135 : decode cX2_hand 135 = .ok (.aload_n 0, 1) := dk_42 (dk_at dksX2_hand_5 17 rfl rfl)
theorem dX2_hand_136 : decode cX2_hand 136 = .ok (.getfield 111, 3) := dk_180 0 111 (dk_at dksX2_hand_5 18 rfl rfl)
theorem dX2_hand_139 : decode cX2_hand 139 = .ok (.aload_n 0, 1) := dk_42 (dk_at dksX2_hand_5 21 rfl rfl)
theorem dX2_hand_140 : decode cX2_hand 140 = .ok (.getfield 28, 3) := dk_180 0 28 (dk_at dksX2_hand_6 0 rfl rfl)
theorem dX2_hand_143 : decode cX2_hand 143 = .ok (.iconst (-1), 1) := dk_2 (dk_at dksX2_hand_6 3 rfl rfl)
theorem dX2_hand_144 : decode cX2_hand 144 = .ok (.iastore, 1) := dk_79 (dk_at dksX2_hand_6 4 rfl rfl)
theorem dX2_hand_145 : decode cX2_hand 145 = .ok (.aload_n 0, 1) := dk_42 (dk_at dksX2_hand_6 5 rfl rfl)
theorem dX2_hand_146 : decode cX2_hand 146 = .ok (.dup, 1) := dk_89 (dk_at dksX2_hand_6 6 rfl rfl)
theorem dX2_hand_147 : decode cX2_hand 147 = .ok (.getfield 28, 3) := dk_180 0 28 (dk_at dksX2_hand_6 7 rfl rfl)
theorem dX2_hand_150 : decode cX2_hand 150 = .ok (.iconst 1, 1) := dk_4 (dk_at dksX2_hand_6 10 rfl rfl)
theorem dX2_hand_151 : decode cX2_hand 151 = .ok (.iadd, 1) := dk_96 (dk_at dksX2_hand_6 11 rfl rfl)
theorem dX2_hand_152 : decode cX2_hand 152 = .ok (.putfield 28, 3) := dk_181 0 28 (dk_at dksX2_hand_6 12 rfl rfl)
theorem dX2_hand_155 : decode cX2_hand 155 = .ok (.iinc 3 1, 3) := dk_132 3 1 (dk_at dksX2_hand_6 15 rfl rfl)
theorem dX2_hand_158 : decode cX2_hand 158 = .ok (.goto (-75), 3) := dk_167 255 181 (dk_at dksX2_hand_6 18 rfl rfl)
theorem dX2_hand_161 : decode cX2_hand 161 = .ok (.aload_n 0, 1) := dk_42 (dk_at dksX2_hand_6 21 rfl rfl)
theorem dX2_hand_162 : decode cX2_hand 162 = .ok (.getfield 81, 3) := dk_180 0 81 (dk_at dksX2_hand_7 0 rfl rfl)
theorem dX2_hand_165 : decode cX2_hand 165 = .ok (.iload_n 1, 1) := dk_27 (dk_at dksX2_hand_7 3 rfl rfl)
theorem dX2_hand_166 : decode cX2_hand 166 = .ok (.iconst 1, 1) := dk_4 (dk_at dksX2_hand_7 4 rfl rfl)
theorem dX2_hand_167 : decode cX2_hand 167 = .ok (.iastore, 1) := dk_79 (dk_at dksX2_hand_7 5 rfl rfl)
theorem dX2_hand_168 : decode cX2_hand 168 = .ok (.aload_n 0, 1) := dk_42 (dk_at dksX2_hand_7 6 rfl rfl)
theorem dX2_hand_169 : decode cX2_hand 169 = .ok (.getfield 84, 3) := dk_180 0 84 (dk_at dksX2_hand_7 7 rfl rfl)
theorem dX2_hand_172 : decode cX2_hand 172 = .ok (.iload_n 1, 1) := dk_27 (dk_at dksX2_hand_7 10 rfl rfl)
theorem dX2_hand_173 : decode cX2_hand 173 = .ok (.aload_n 0, 1) := dk_42 (dk_at dksX2_hand_7 11 rfl rfl)
theorem dX2_hand_174 : decode cX2_hand 174 = .ok (.getfield 7, 3) := dk_180 0 7 (dk_at dksX2_hand_7 12 rfl rfl)
theorem dX2_hand_177 : decode cX2_hand 177 = .ok (.iastore, 1) := dk_79 (dk_at dksX2_hand_7 15 rfl rfl)
theorem dX2_hand_178 : decode cX2_hand 178 = .ok (.aload_n 0, 1) := dk_42 (dk_at dksX2_hand_7 16 rfl rfl)
theorem dX2_hand_179 : decode cX2_hand 179 = .ok (.dup, 1) := dk_89 (dk_at dksX2_hand_7 17 rfl rfl)
theorem dX2_hand_180 : decode cX2_hand 180 = .ok (.getfield 31, 3) := dk_180 0 31 (dk_at dksX2_hand_7 18 rfl rfl)
theorem dX2_hand_183 : decode cX2_hand 183 = .ok (.iconst 1, 1) := dk_4 (dk_at dksX2_hand_7 21 rfl rfl)
theorem dX2_hand_184 : decode cX2_hand 184 = .ok (.iadd, 1) := dk_96 (dk_at dksX2_hand_7 22 rfl rfl)
theorem dX2_hand_185 : decode cX2_hand 185 = .ok (.putfield 31, 3) := dk_181 0 31 (dk_at dksX2_hand_8 0 rfl rfl)
theorem dX2_hand_188 : decode cX2_hand 188 = .ok (.aload_n 0, 1) := dk_42 (dk_at dksX2_hand_8 3 rfl rfl)
theorem dX2_hand_189 : decode cX2_hand 189 = .ok (.getfield 87, 3) := dk_180 0 87 (dk_at dksX2_hand_8 4 rfl rfl)
theorem dX2_hand_192 : decode cX2_hand 192 = .ok (.iload_n 1, 1) := dk_27 (dk_at dksX2_hand_8 7 rfl rfl)
theorem dX2_hand_193 : decode cX2_hand 193 = .ok (.aload_n 0, 1) := dk_42 (dk_at dksX2_hand_8 8 rfl rfl)
theorem dX2_hand_194 : decode cX2_hand 194 = .ok (.getfield 31, 3) := dk_180 0 31 (dk_at dksX2_hand_8 9 rfl rfl)
theorem dX2_hand_197 : decode cX2_hand 197 = .ok (.iastore, 1) := dk_79 (dk_at dksX2_hand_8 12 rfl rfl)
theorem dX2_hand_198 : decode cX2_hand 198 = .ok (.aload_n 0, 1) := dk_42 (dk_at dksX2_hand_8 13 rfl rfl)
theorem dX2_hand_199 : decode cX2_hand 199 = .ok (.iload_n 2, 1) := dk_28 (dk_at dksX2_hand_8 14 rfl rfl)
theorem dX2_hand_200 : decode cX2_hand 200 = .ok (.invokevirtual 126, 3) := dk_182 0 126 (dk_at dksX2_hand_8 15 rfl rfl)
theorem dX2_hand_203 : decode cX2_hand 203 = .ok (.ireturn, 1) := dk_172 (dk_at dksX2_hand_8 18 rfl rfl)
abbrev cX2_isHit : ByteArray := prog_7_method_35_code
def yX2_isHit : MethodName := ⟨RX2, "isHit", "(II)Z"⟩
def dkwX2_isHit_1 : List UInt8 := [159, 0, 20, 42, 27, 28, 182, 0, 179, 42, 180, 0, 34, 161, 0, 7, 4, 167, 0, 4, 3, 172]
abbrev dktX2_isHit_1 : List UInt8 := dkwX2_isHit_1 ++ []
def dkwX2_isHit_0 : List UInt8 := [42, 180, 0, 81, 28, 46, 4, 160, 0, 35, 42, 180, 0, 66, 28, 46, 42, 180, 0, 66, 27, 46]
abbrev dktX2_isHit_0 : List UInt8 := dkwX2_isHit_0 ++ dktX2_isHit_1
theorem dksX2_isHit_0 : cX2_isHit.data.toList.drop 0 = dktX2_isHit_0 := by decide +kernel
theorem dksX2_isHit_1 : cX2_isHit.data.toList.drop 22 = dktX2_isHit_1 := dk_seg dksX2_isHit_0 22 rfl rfl
theorem dX2_isHit_0 : decode cX2_isHit 0 = .ok (.aload_n 0, 1) := dk_42 (dk_at dksX2_isHit_0 0 rfl rfl)
theorem dX2_isHit_1 : decode cX2_isHit 1 = .ok (.getfield 81, 3) := dk_180 0 81 (dk_at dksX2_isHit_0 1 rfl rfl)
theorem dX2_isHit_4 : decode cX2_isHit 4 = .ok (.iload_n 2, 1) := dk_28 (dk_at dksX2_isHit_0 4 rfl rfl)
theorem dX2_isHit_5 : decode cX2_isHit 5 = .ok (.iaload, 1) := dk_46 (dk_at dksX2_isHit_0 5 rfl rfl)
theorem dX2_isHit_6 : decode cX2_isHit 6 = .ok (.iconst 1, 1) := dk_4 (dk_at dksX2_isHit_0 6 rfl rfl)
theorem dX2_isHit_7 : decode cX2_isHit 7 = .ok (.if_icmp .ne 35, 3) := dk_160 0 35 (dk_at dksX2_isHit_0 7 rfl rfl)
theorem dX2_isHit_10 : decode cX2_isHit 10 = .ok (.aload_n 0, 1) := dk_42 (dk_at dksX2_isHit_0 10 rfl rfl)
theorem dX2_isHit_11 : decode cX2_isHit 11 = .ok (.getfield 66, 3) := dk_180 0 66 (dk_at dksX2_isHit_0 11 rfl rfl)
theorem dX2_isHit_14 : decode cX2_isHit 14 = .ok (.iload_n 2, 1) := dk_28 (dk_at dksX2_isHit_0 14 rfl rfl)
theorem dX2_isHit_15 : decode cX2_isHit 15 = .ok (.iaload, 1) := dk_46 (dk_at dksX2_isHit_0 15 rfl rfl)
theorem dX2_isHit_16 : decode cX2_isHit 16 = .ok (.aload_n 0, 1) := dk_42 (dk_at dksX2_isHit_0 16 rfl rfl)
theorem dX2_isHit_17 : decode cX2_isHit 17 = .ok (.getfield 66, 3) := dk_180 0 66 (dk_at dksX2_isHit_0 17 rfl rfl)
theorem dX2_isHit_20 : decode cX2_isHit 20 = .ok (.iload_n 1, 1) := dk_27 (dk_at dksX2_isHit_0 20 rfl rfl)
theorem dX2_isHit_21 : decode cX2_isHit 21 = .ok (.iaload, 1) := dk_46 (dk_at dksX2_isHit_0 21 rfl rfl)
theorem dX2_isHit_22 : decode cX2_isHit 22 = .ok (.if_icmp .eq 20, 3) := dk_159 0 20 (dk_at dksX2_isHit_1 0 rfl rfl)
theorem dX2_isHit_25 : decode cX2_isHit 25 = .ok (.aload_n 0, 1) := dk_42 (dk_at dksX2_isHit_1 3 rfl rfl)
theorem dX2_isHit_26 : decode cX2_isHit 26 = .ok (.iload_n 1, 1) := dk_27 (dk_at dksX2_isHit_1 4 rfl rfl)
theorem dX2_isHit_27 : decode cX2_isHit 27 = .ok (.iload_n 2, 1) := dk_28 (dk_at dksX2_isHit_1 5 rfl rfl)
theorem dX2_isHit_28 : decode cX2_isHit 28 = .ok (.invokevirtual 179, 3) := dk_182 0 179 (dk_at dksX2_isHit_1 6 rfl rfl)
theorem dX2_isHit_31 : decode cX2_isHit 31 = .ok (.aload_n 0, 1) := dk_42 (dk_at dksX2_isHit_1 9 rfl rfl)
theorem dX2_isHit_32 : decode cX2_isHit 32 = .ok (.getfield 34, 3) := dk_180 0 34 (dk_at dksX2_isHit_1 10 rfl rfl)
theorem dX2_isHit_35 : decode cX2_isHit 35 = .ok (.if_icmp .lt 7, 3) := dk_161 0 7 (dk_at dksX2_isHit_1 13 rfl rfl)
theorem dX2_isHit_38 : decode cX2_isHit 38 = .ok (.iconst 1, 1) := dk_4 (dk_at dksX2_isHit_1 16 rfl rfl)
theorem dX2_isHit_39 : decode cX2_isHit 39 = .ok (.goto 4, 3) := dk_167 0 4 (dk_at dksX2_isHit_1 17 rfl rfl)
theorem dX2_isHit_42 : decode cX2_isHit 42 = .ok (.iconst 0, 1) := dk_3 (dk_at dksX2_isHit_1 20 rfl rfl)
theorem dX2_isHit_43 : decode cX2_isHit 43 = .ok (.ireturn, 1) := dk_172 (dk_at dksX2_isHit_1 21 rfl rfl)
abbrev cX2_common : ByteArray := prog_7_method_33_code
def yX2_common : MethodName := ⟨RX2, "common", "(II)I"⟩
def dkwX2_common_3 : List UInt8 := [167, 255, 207, 132, 4, 1, 167, 255, 187, 29, 172]
abbrev dktX2_common_3 : List UInt8 := dkwX2_common_3 ++ []
def dkwX2_common_2 : List UInt8 := [180, 0, 96, 16, 40, 28, 104, 21, 5, 96, 46, 160, 0, 7, 4, 167, 0, 4, 3, 96, 62, 132, 5, 1]
abbrev dktX2_common_2 : List UInt8 := dkwX2_common_2 ++ dktX2_common_3
def dkwX2_common_1 : List UInt8 := [180, 0, 99, 28, 46, 162, 0, 44, 29, 42, 180, 0, 96, 16, 40, 27, 104, 21, 4, 96, 46, 42]
abbrev dktX2_common_1 : List UInt8 := dkwX2_common_1 ++ dktX2_common_2
def dkwX2_common_0 : List UInt8 := [3, 62, 3, 54, 4, 21, 4, 42, 180, 0, 99, 27, 46, 162, 0, 64, 3, 54, 5, 21, 5, 42]
abbrev dktX2_common_0 : List UInt8 := dkwX2_common_0 ++ dktX2_common_1
theorem dksX2_common_0 : cX2_common.data.toList.drop 0 = dktX2_common_0 := by decide +kernel
theorem dksX2_common_1 : cX2_common.data.toList.drop 22 = dktX2_common_1 := dk_seg dksX2_common_0 22 rfl rfl
theorem dksX2_common_2 : cX2_common.data.toList.drop 44 = dktX2_common_2 := dk_seg dksX2_common_1 22 rfl rfl
theorem dksX2_common_3 : cX2_common.data.toList.drop 68 = dktX2_common_3 := dk_seg dksX2_common_2 24 rfl rfl
theorem dX2_common_0 : decode cX2_common 0 = .ok (.iconst 0, 1) := dk_3 (dk_at dksX2_common_0 0 rfl rfl)
theorem dX2_common_1 : decode cX2_common 1 = .ok (.istore_n 3, 1) := dk_62 (dk_at dksX2_common_0 1 rfl rfl)
theorem dX2_common_2 : decode cX2_common 2 = .ok (.iconst 0, 1) := dk_3 (dk_at dksX2_common_0 2 rfl rfl)
theorem dX2_common_3 : decode cX2_common 3 = .ok (.istore 4, 2) := dk_54 4 (dk_at dksX2_common_0 3 rfl rfl)
theorem dX2_common_5 : decode cX2_common 5 = .ok (.iload 4, 2) := dk_21 4 (dk_at dksX2_common_0 5 rfl rfl)
theorem dX2_common_7 : decode cX2_common 7 = .ok (.aload_n 0, 1) := dk_42 (dk_at dksX2_common_0 7 rfl rfl)
theorem dX2_common_8 : decode cX2_common 8 = .ok (.getfield 99, 3) := dk_180 0 99 (dk_at dksX2_common_0 8 rfl rfl)
theorem dX2_common_11 : decode cX2_common 11 = .ok (.iload_n 1, 1) := dk_27 (dk_at dksX2_common_0 11 rfl rfl)
theorem dX2_common_12 : decode cX2_common 12 = .ok (.iaload, 1) := dk_46 (dk_at dksX2_common_0 12 rfl rfl)
theorem dX2_common_13 : decode cX2_common 13 = .ok (.if_icmp .ge 64, 3) := dk_162 0 64 (dk_at dksX2_common_0 13 rfl rfl)
theorem dX2_common_16 : decode cX2_common 16 = .ok (.iconst 0, 1) := dk_3 (dk_at dksX2_common_0 16 rfl rfl)
theorem dX2_common_17 : decode cX2_common 17 = .ok (.istore 5, 2) := dk_54 5 (dk_at dksX2_common_0 17 rfl rfl)
theorem dX2_common_19 : decode cX2_common 19 = .ok (.iload 5, 2) := dk_21 5 (dk_at dksX2_common_0 19 rfl rfl)
theorem dX2_common_21 : decode cX2_common 21 = .ok (.aload_n 0, 1) := dk_42 (dk_at dksX2_common_0 21 rfl rfl)
theorem dX2_common_22 : decode cX2_common 22 = .ok (.getfield 99, 3) := dk_180 0 99 (dk_at dksX2_common_1 0 rfl rfl)
theorem dX2_common_25 : decode cX2_common 25 = .ok (.iload_n 2, 1) := dk_28 (dk_at dksX2_common_1 3 rfl rfl)
theorem dX2_common_26 : decode cX2_common 26 = .ok (.iaload, 1) := dk_46 (dk_at dksX2_common_1 4 rfl rfl)
theorem dX2_common_27 : decode cX2_common 27 = .ok (.if_icmp .ge 44, 3) := dk_162 0 44 (dk_at dksX2_common_1 5 rfl rfl)
theorem dX2_common_30 : decode cX2_common 30 = .ok (.iload_n 3, 1) := dk_29 (dk_at dksX2_common_1 8 rfl rfl)
theorem dX2_common_31 : decode cX2_common 31 = .ok (.aload_n 0, 1) := dk_42 (dk_at dksX2_common_1 9 rfl rfl)
theorem dX2_common_32 : decode cX2_common 32 = .ok (.getfield 96, 3) := dk_180 0 96 (dk_at dksX2_common_1 10 rfl rfl)
theorem dX2_common_35 : decode cX2_common 35 = .ok (.bipush 40, 2) := dk_16 40 (dk_at dksX2_common_1 13 rfl rfl)
theorem dX2_common_37 : decode cX2_common 37 = .ok (.iload_n 1, 1) := dk_27 (dk_at dksX2_common_1 15 rfl rfl)
theorem dX2_common_38 : decode cX2_common 38 = .ok (.imul, 1) := dk_104 (dk_at dksX2_common_1 16 rfl rfl)
theorem dX2_common_39 : decode cX2_common 39 = .ok (.iload 4, 2) := dk_21 4 (dk_at dksX2_common_1 17 rfl rfl)
theorem dX2_common_41 : decode cX2_common 41 = .ok (.iadd, 1) := dk_96 (dk_at dksX2_common_1 19 rfl rfl)
theorem dX2_common_42 : decode cX2_common 42 = .ok (.iaload, 1) := dk_46 (dk_at dksX2_common_1 20 rfl rfl)
theorem dX2_common_43 : decode cX2_common 43 = .ok (.aload_n 0, 1) := dk_42 (dk_at dksX2_common_1 21 rfl rfl)
theorem dX2_common_44 : decode cX2_common 44 = .ok (.getfield 96, 3) := dk_180 0 96 (dk_at dksX2_common_2 0 rfl rfl)
theorem dX2_common_47 : decode cX2_common 47 = .ok (.bipush 40, 2) := dk_16 40 (dk_at dksX2_common_2 3 rfl rfl)
theorem dX2_common_49 : decode cX2_common 49 = .ok (.iload_n 2, 1) := dk_28 (dk_at dksX2_common_2 5 rfl rfl)
theorem dX2_common_50 : decode cX2_common 50 = .ok (.imul, 1) := dk_104 (dk_at dksX2_common_2 6 rfl rfl)
theorem dX2_common_51 : decode cX2_common 51 = .ok (.iload 5, 2) := dk_21 5 (dk_at dksX2_common_2 7 rfl rfl)
theorem dX2_common_53 : decode cX2_common 53 = .ok (.iadd, 1) := dk_96 (dk_at dksX2_common_2 9 rfl rfl)
theorem dX2_common_54 : decode cX2_common 54 = .ok (.iaload, 1) := dk_46 (dk_at dksX2_common_2 10 rfl rfl)
theorem dX2_common_55 : decode cX2_common 55 = .ok (.if_icmp .ne 7, 3) := dk_160 0 7 (dk_at dksX2_common_2 11 rfl rfl)
theorem dX2_common_58 : decode cX2_common 58 = .ok (.iconst 1, 1) := dk_4 (dk_at dksX2_common_2 14 rfl rfl)
theorem dX2_common_59 : decode cX2_common 59 = .ok (.goto 4, 3) := dk_167 0 4 (dk_at dksX2_common_2 15 rfl rfl)
theorem dX2_common_62 : decode cX2_common 62 = .ok (.iconst 0, 1) := dk_3 (dk_at dksX2_common_2 18 rfl rfl)
theorem dX2_common_63 : decode cX2_common 63 = .ok (.iadd, 1) := dk_96 (dk_at dksX2_common_2 19 rfl rfl)
theorem dX2_common_64 : decode cX2_common 64 = .ok (.istore_n 3, 1) := dk_62 (dk_at dksX2_common_2 20 rfl rfl)
theorem dX2_common_65 : decode cX2_common 65 = .ok (.iinc 5 1, 3) := dk_132 5 1 (dk_at dksX2_common_2 21 rfl rfl)
theorem dX2_common_68 : decode cX2_common 68 = .ok (.goto (-49), 3) := dk_167 255 207 (dk_at dksX2_common_3 0 rfl rfl)
theorem dX2_common_71 : decode cX2_common 71 = .ok (.iinc 4 1, 3) := dk_132 4 1 (dk_at dksX2_common_3 3 rfl rfl)
theorem dX2_common_74 : decode cX2_common 74 = .ok (.goto (-69), 3) := dk_167 255 187 (dk_at dksX2_common_3 6 rfl rfl)
theorem dX2_common_77 : decode cX2_common 77 = .ok (.iload_n 3, 1) := dk_29 (dk_at dksX2_common_3 9 rfl rfl)
theorem dX2_common_78 : decode cX2_common 78 = .ok (.ireturn, 1) := dk_172 (dk_at dksX2_common_3 10 rfl rfl)
abbrev cX2_withdraw : ByteArray := prog_7_method_38_code
def yX2_withdraw : MethodName := ⟨RX2, "withdraw", "(I)Z"⟩
def dkwX2_withdraw_4 : List UInt8 := [172]
abbrev dktX2_withdraw_4 : List UInt8 := dkwX2_withdraw_4 ++ []
def dkwX2_withdraw_3 : List UInt8 := [42, 180, 0, 66, 27, 46, 42, 180, 0, 69, 27, 46, 182, 0, 185, 2, 159, 0, 7, 4, 167, 0, 4, 3]
abbrev dktX2_withdraw_3 : List UInt8 := dkwX2_withdraw_3 ++ dktX2_withdraw_4
def dkwX2_withdraw_2 : List UInt8 := [167, 0, 4, 3, 181, 0, 37, 42, 180, 0, 37, 158, 0, 5, 3, 172, 42, 180, 0, 81, 27, 5, 79, 42]
abbrev dktX2_withdraw_2 : List UInt8 := dkwX2_withdraw_2 ++ dktX2_withdraw_3
def dkwX2_withdraw_1 : List UInt8 := [42, 180, 0, 69, 27, 46, 182, 0, 182, 42, 180, 0, 50, 42, 180, 0, 69, 27, 46, 46, 164, 0, 7, 5]
abbrev dktX2_withdraw_1 : List UInt8 := dkwX2_withdraw_1 ++ dktX2_withdraw_2
def dkwX2_withdraw_0 : List UInt8 := [42, 42, 27, 182, 0, 165, 154, 0, 7, 4, 167, 0, 42, 42, 180, 0, 81, 27, 46, 4, 160, 0, 27, 42]
abbrev dktX2_withdraw_0 : List UInt8 := dkwX2_withdraw_0 ++ dktX2_withdraw_1
theorem dksX2_withdraw_0 : cX2_withdraw.data.toList.drop 0 = dktX2_withdraw_0 := by decide +kernel
theorem dksX2_withdraw_1 : cX2_withdraw.data.toList.drop 24 = dktX2_withdraw_1 := dk_seg dksX2_withdraw_0 24 rfl rfl
theorem dksX2_withdraw_2 : cX2_withdraw.data.toList.drop 48 = dktX2_withdraw_2 := dk_seg dksX2_withdraw_1 24 rfl rfl
theorem dksX2_withdraw_3 : cX2_withdraw.data.toList.drop 72 = dktX2_withdraw_3 := dk_seg dksX2_withdraw_2 24 rfl rfl
theorem dksX2_withdraw_4 : cX2_withdraw.data.toList.drop 96 = dktX2_withdraw_4 := dk_seg dksX2_withdraw_3 24 rfl rfl
theorem dX2_withdraw_0 : decode cX2_withdraw 0 = .ok (.aload_n 0, 1) := dk_42 (dk_at dksX2_withdraw_0 0 rfl rfl)
theorem dX2_withdraw_1 : decode cX2_withdraw 1 = .ok (.aload_n 0, 1) := dk_42 (dk_at dksX2_withdraw_0 1 rfl rfl)
theorem dX2_withdraw_2 : decode cX2_withdraw 2 = .ok (.iload_n 1, 1) := dk_27 (dk_at dksX2_withdraw_0 2 rfl rfl)
theorem dX2_withdraw_3 : decode cX2_withdraw 3 = .ok (.invokevirtual 165, 3) := dk_182 0 165 (dk_at dksX2_withdraw_0 3 rfl rfl)
theorem dX2_withdraw_6 : decode cX2_withdraw 6 = .ok (.ifCond .ne 7, 3) := dk_154 0 7 (dk_at dksX2_withdraw_0 6 rfl rfl)
theorem dX2_withdraw_9 : decode cX2_withdraw 9 = .ok (.iconst 1, 1) := dk_4 (dk_at dksX2_withdraw_0 9 rfl rfl)
theorem dX2_withdraw_10 : decode cX2_withdraw 10 = .ok (.goto 42, 3) := dk_167 0 42 (dk_at dksX2_withdraw_0 10 rfl rfl)
theorem dX2_withdraw_13 : decode cX2_withdraw 13 = .ok (.aload_n 0, 1) := dk_42 (dk_at dksX2_withdraw_0 13 rfl rfl)
theorem dX2_withdraw_14 : decode cX2_withdraw 14 = .ok (.getfield 81, 3) := dk_180 0 81 (dk_at dksX2_withdraw_0 14 rfl rfl)
theorem dX2_withdraw_17 : decode cX2_withdraw 17 = .ok (.iload_n 1, 1) := dk_27 (dk_at dksX2_withdraw_0 17 rfl rfl)
theorem dX2_withdraw_18 : decode cX2_withdraw 18 = .ok (.iaload, 1) := dk_46 (dk_at dksX2_withdraw_0 18 rfl rfl)
theorem dX2_withdraw_19 : decode cX2_withdraw 19 = .ok (.iconst 1, 1) := dk_4 (dk_at dksX2_withdraw_0 19 rfl rfl)
theorem dX2_withdraw_20 : decode cX2_withdraw 20 = .ok (.if_icmp .ne 27, 3) := dk_160 0 27 (dk_at dksX2_withdraw_0 20 rfl rfl)
theorem dX2_withdraw_23 : decode cX2_withdraw 23 = .ok (.aload_n 0, 1) := dk_42 (dk_at dksX2_withdraw_0 23 rfl rfl)
theorem dX2_withdraw_24 : decode cX2_withdraw 24 = .ok (.aload_n 0, 1) := dk_42 (dk_at dksX2_withdraw_1 0 rfl rfl)
theorem dX2_withdraw_25 : decode cX2_withdraw 25 = .ok (.getfield 69, 3) := dk_180 0 69 (dk_at dksX2_withdraw_1 1 rfl rfl)
theorem dX2_withdraw_28 : decode cX2_withdraw 28 = .ok (.iload_n 1, 1) := dk_27 (dk_at dksX2_withdraw_1 4 rfl rfl)
theorem dX2_withdraw_29 : decode cX2_withdraw 29 = .ok (.iaload, 1) := dk_46 (dk_at dksX2_withdraw_1 5 rfl rfl)
theorem dX2_withdraw_30 : decode cX2_withdraw 30 = .ok (.invokevirtual 182, 3) := dk_182 0 182 (dk_at dksX2_withdraw_1 6 rfl rfl)
theorem dX2_withdraw_33 : decode cX2_withdraw 33 = .ok (.aload_n 0, 1) := dk_42 (dk_at dksX2_withdraw_1 9 rfl rfl)
theorem dX2_withdraw_34 : decode cX2_withdraw 34 = .ok (.getfield 50, 3) := dk_180 0 50 (dk_at dksX2_withdraw_1 10 rfl rfl)
theorem dX2_withdraw_37 : decode cX2_withdraw 37 = .ok (.aload_n 0, 1) := dk_42 (dk_at dksX2_withdraw_1 13 rfl rfl)
theorem dX2_withdraw_38 : decode cX2_withdraw 38 = .ok (.getfield 69, 3) := dk_180 0 69 (dk_at dksX2_withdraw_1 14 rfl rfl)
theorem dX2_withdraw_41 : decode cX2_withdraw 41 = .ok (.iload_n 1, 1) := dk_27 (dk_at dksX2_withdraw_1 17 rfl rfl)
theorem dX2_withdraw_42 : decode cX2_withdraw 42 = .ok (.iaload, 1) := dk_46 (dk_at dksX2_withdraw_1 18 rfl rfl)
theorem dX2_withdraw_43 : decode cX2_withdraw 43 = .ok (.iaload, 1) := dk_46 (dk_at dksX2_withdraw_1 19 rfl rfl)
theorem dX2_withdraw_44 : decode cX2_withdraw 44 = .ok (.if_icmp .le 7, 3) := dk_164 0 7 (dk_at dksX2_withdraw_1 20 rfl rfl)
theorem dX2_withdraw_47 : decode cX2_withdraw 47 = .ok (.iconst 2, 1) := dk_5 (dk_at dksX2_withdraw_1 23 rfl rfl)
theorem dX2_withdraw_48 : decode cX2_withdraw 48 = .ok (.goto 4, 3) := dk_167 0 4 (dk_at dksX2_withdraw_2 0 rfl rfl)
theorem dX2_withdraw_51 : decode cX2_withdraw 51 = .ok (.iconst 0, 1) := dk_3 (dk_at dksX2_withdraw_2 3 rfl rfl)
theorem dX2_withdraw_52 : decode cX2_withdraw 52 = .ok (.putfield 37, 3) := dk_181 0 37 (dk_at dksX2_withdraw_2 4 rfl rfl)
theorem dX2_withdraw_55 : decode cX2_withdraw 55 = .ok (.aload_n 0, 1) := dk_42 (dk_at dksX2_withdraw_2 7 rfl rfl)
theorem dX2_withdraw_56 : decode cX2_withdraw 56 = .ok (.getfield 37, 3) := dk_180 0 37 (dk_at dksX2_withdraw_2 8 rfl rfl)
theorem dX2_withdraw_59 : decode cX2_withdraw 59 = .ok (.ifCond .le 5, 3) := dk_158 0 5 (dk_at dksX2_withdraw_2 11 rfl rfl)
theorem dX2_withdraw_62 : decode cX2_withdraw 62 = .ok (.iconst 0, 1) := dk_3 (dk_at dksX2_withdraw_2 14 rfl rfl)
theorem dX2_withdraw_63 : decode cX2_withdraw 63 = .ok (.ireturn, 1) := dk_172 (dk_at dksX2_withdraw_2 15 rfl rfl)
theorem dX2_withdraw_64 : decode cX2_withdraw 64 = .ok (.aload_n 0, 1) := dk_42 (dk_at dksX2_withdraw_2 16 rfl rfl)
theorem dX2_withdraw_65 : decode cX2_withdraw 65 = .ok (.getfield 81, 3) := dk_180 0 81 (dk_at dksX2_withdraw_2 17 rfl rfl)
theorem dX2_withdraw_68 : decode cX2_withdraw 68 = .ok (.iload_n 1, 1) := dk_27 (dk_at dksX2_withdraw_2 20 rfl rfl)
theorem dX2_withdraw_69 : decode cX2_withdraw 69 = .ok (.iconst 2, 1) := dk_5 (dk_at dksX2_withdraw_2 21 rfl rfl)
theorem dX2_withdraw_70 : decode cX2_withdraw 70 = .ok (.iastore, 1) := dk_79 (dk_at dksX2_withdraw_2 22 rfl rfl)
theorem dX2_withdraw_71 : decode cX2_withdraw 71 = .ok (.aload_n 0, 1) := dk_42 (dk_at dksX2_withdraw_2 23 rfl rfl)
theorem dX2_withdraw_72 : decode cX2_withdraw 72 = .ok (.aload_n 0, 1) := dk_42 (dk_at dksX2_withdraw_3 0 rfl rfl)
theorem dX2_withdraw_73 : decode cX2_withdraw 73 = .ok (.getfield 66, 3) := dk_180 0 66 (dk_at dksX2_withdraw_3 1 rfl rfl)
theorem dX2_withdraw_76 : decode cX2_withdraw 76 = .ok (.iload_n 1, 1) := dk_27 (dk_at dksX2_withdraw_3 4 rfl rfl)
theorem dX2_withdraw_77 : decode cX2_withdraw 77 = .ok (.iaload, 1) := dk_46 (dk_at dksX2_withdraw_3 5 rfl rfl)
theorem dX2_withdraw_78 : decode cX2_withdraw 78 = .ok (.aload_n 0, 1) := dk_42 (dk_at dksX2_withdraw_3 6 rfl rfl)
theorem dX2_withdraw_79 : decode cX2_withdraw 79 = .ok (.getfield 69, 3) := dk_180 0 69 (dk_at dksX2_withdraw_3 7 rfl rfl)
theorem dX2_withdraw_82 : decode cX2_withdraw 82 = .ok (.iload_n 1, 1) := dk_27 (dk_at dksX2_withdraw_3 10 rfl rfl)
theorem dX2_withdraw_83 : decode cX2_withdraw 83 = .ok (.iaload, 1) := dk_46 (dk_at dksX2_withdraw_3 11 rfl rfl)
theorem dX2_withdraw_84 : decode cX2_withdraw 84 = .ok (.invokevirtual 185, 3) := dk_182 0 185 (dk_at dksX2_withdraw_3 12 rfl rfl)
theorem dX2_withdraw_87 : decode cX2_withdraw 87 = .ok (.iconst (-1), 1) := dk_2 (dk_at dksX2_withdraw_3 15 rfl rfl)
theorem dX2_withdraw_88 : decode cX2_withdraw 88 = .ok (.if_icmp .eq 7, 3) := dk_159 0 7 (dk_at dksX2_withdraw_3 16 rfl rfl)
theorem dX2_withdraw_91 : decode cX2_withdraw 91 = .ok (.iconst 1, 1) := dk_4 (dk_at dksX2_withdraw_3 19 rfl rfl)
theorem dX2_withdraw_92 : decode cX2_withdraw 92 = .ok (.goto 4, 3) := dk_167 0 4 (dk_at dksX2_withdraw_3 20 rfl rfl)
theorem dX2_withdraw_95 : decode cX2_withdraw 95 = .ok (.iconst 0, 1) := dk_3 (dk_at dksX2_withdraw_3 23 rfl rfl)
theorem dX2_withdraw_96 : decode cX2_withdraw 96 = .ok (.ireturn, 1) := dk_172 (dk_at dksX2_withdraw_4 0 rfl rfl)
abbrev cX2_clockOf : ByteArray := prog_7_method_36_code
def yX2_clockOf : MethodName := ⟨RX2, "clockOf", "(I)I"⟩
def dkwX2_clockOf_0 : List UInt8 := [42, 180, 0, 7, 42, 180, 0, 40, 42, 180, 0, 47, 27, 46, 46, 96, 172]
abbrev dktX2_clockOf_0 : List UInt8 := dkwX2_clockOf_0 ++ []
theorem dksX2_clockOf_0 : cX2_clockOf.data.toList.drop 0 = dktX2_clockOf_0 := by decide +kernel
theorem dX2_clockOf_0 : decode cX2_clockOf 0 = .ok (.aload_n 0, 1) := dk_42 (dk_at dksX2_clockOf_0 0 rfl rfl)
theorem dX2_clockOf_1 : decode cX2_clockOf 1 = .ok (.getfield 7, 3) := dk_180 0 7 (dk_at dksX2_clockOf_0 1 rfl rfl)
theorem dX2_clockOf_4 : decode cX2_clockOf 4 = .ok (.aload_n 0, 1) := dk_42 (dk_at dksX2_clockOf_0 4 rfl rfl)
theorem dX2_clockOf_5 : decode cX2_clockOf 5 = .ok (.getfield 40, 3) := dk_180 0 40 (dk_at dksX2_clockOf_0 5 rfl rfl)
theorem dX2_clockOf_8 : decode cX2_clockOf 8 = .ok (.aload_n 0, 1) := dk_42 (dk_at dksX2_clockOf_0 8 rfl rfl)
theorem dX2_clockOf_9 : decode cX2_clockOf 9 = .ok (.getfield 47, 3) := dk_180 0 47 (dk_at dksX2_clockOf_0 9 rfl rfl)
theorem dX2_clockOf_12 : decode cX2_clockOf 12 = .ok (.iload_n 1, 1) := dk_27 (dk_at dksX2_clockOf_0 12 rfl rfl)
theorem dX2_clockOf_13 : decode cX2_clockOf 13 = .ok (.iaload, 1) := dk_46 (dk_at dksX2_clockOf_0 13 rfl rfl)
theorem dX2_clockOf_14 : decode cX2_clockOf 14 = .ok (.iaload, 1) := dk_46 (dk_at dksX2_clockOf_0 14 rfl rfl)
theorem dX2_clockOf_15 : decode cX2_clockOf 15 = .ok (.iadd, 1) := dk_96 (dk_at dksX2_clockOf_0 15 rfl rfl)
theorem dX2_clockOf_16 : decode cX2_clockOf 16 = .ok (.ireturn, 1) := dk_172 (dk_at dksX2_clockOf_0 16 rfl rfl)
abbrev cX2_countingOf : ByteArray := prog_7_method_37_code
def yX2_countingOf : MethodName := ⟨RX2, "countingOf", "(II)I"⟩
def dkwX2_countingOf_4 : List UInt8 := [167, 255, 171, 29, 172]
abbrev dktX2_countingOf_4 : List UInt8 := dkwX2_countingOf_4 ++ []
def dkwX2_countingOf_3 : List UInt8 := [21, 4, 46, 42, 180, 0, 87, 29, 46, 164, 0, 8, 21, 4, 167, 0, 4, 29, 62, 132, 4, 1]
abbrev dktX2_countingOf_3 : List UInt8 := dkwX2_countingOf_3 ++ dktX2_countingOf_4
def dkwX2_countingOf_2 : List UInt8 := [160, 0, 7, 4, 167, 0, 4, 3, 54, 5, 21, 5, 153, 0, 29, 29, 2, 159, 0, 19, 42, 180, 0, 87]
abbrev dktX2_countingOf_2 : List UInt8 := dkwX2_countingOf_2 ++ dktX2_countingOf_3
def dkwX2_countingOf_1 : List UInt8 := [160, 0, 29, 42, 180, 0, 66, 21, 4, 46, 27, 160, 0, 18, 42, 180, 0, 69, 21, 4, 46, 28]
abbrev dktX2_countingOf_1 : List UInt8 := dkwX2_countingOf_1 ++ dktX2_countingOf_2
def dkwX2_countingOf_0 : List UInt8 := [2, 62, 3, 54, 4, 21, 4, 42, 180, 0, 22, 162, 0, 82, 42, 180, 0, 81, 21, 4, 46, 4]
abbrev dktX2_countingOf_0 : List UInt8 := dkwX2_countingOf_0 ++ dktX2_countingOf_1
theorem dksX2_countingOf_0 : cX2_countingOf.data.toList.drop 0 = dktX2_countingOf_0 := by decide +kernel
theorem dksX2_countingOf_1 : cX2_countingOf.data.toList.drop 22 = dktX2_countingOf_1 := dk_seg dksX2_countingOf_0 22 rfl rfl
theorem dksX2_countingOf_2 : cX2_countingOf.data.toList.drop 44 = dktX2_countingOf_2 := dk_seg dksX2_countingOf_1 22 rfl rfl
theorem dksX2_countingOf_3 : cX2_countingOf.data.toList.drop 68 = dktX2_countingOf_3 := dk_seg dksX2_countingOf_2 24 rfl rfl
theorem dksX2_countingOf_4 : cX2_countingOf.data.toList.drop 90 = dktX2_countingOf_4 := dk_seg dksX2_countingOf_3 22 rfl rfl
theorem dX2_countingOf_0 : decode cX2_countingOf 0 = .ok (.iconst (-1), 1) := dk_2 (dk_at dksX2_countingOf_0 0 rfl rfl)
theorem dX2_countingOf_1 : decode cX2_countingOf 1 = .ok (.istore_n 3, 1) := dk_62 (dk_at dksX2_countingOf_0 1 rfl rfl)
theorem dX2_countingOf_2 : decode cX2_countingOf 2 = .ok (.iconst 0, 1) := dk_3 (dk_at dksX2_countingOf_0 2 rfl rfl)
theorem dX2_countingOf_3 : decode cX2_countingOf 3 = .ok (.istore 4, 2) := dk_54 4 (dk_at dksX2_countingOf_0 3 rfl rfl)
theorem dX2_countingOf_5 : decode cX2_countingOf 5 = .ok (.iload 4, 2) := dk_21 4 (dk_at dksX2_countingOf_0 5 rfl rfl)
theorem dX2_countingOf_7 : decode cX2_countingOf 7 = .ok (.aload_n 0, 1) := dk_42 (dk_at dksX2_countingOf_0 7 rfl rfl)
theorem dX2_countingOf_8 : decode cX2_countingOf 8 = .ok (.getfield 22, 3) := dk_180 0 22 (dk_at dksX2_countingOf_0 8 rfl rfl)
theorem dX2_countingOf_11 : decode cX2_countingOf 11 = .ok (.if_icmp .ge 82, 3) := dk_162 0 82 (dk_at dksX2_countingOf_0 11 rfl rfl)
theorem dX2_countingOf_14 : decode cX2_countingOf 14 = .ok (.aload_n 0, 1) := dk_42 (dk_at dksX2_countingOf_0 14 rfl rfl)
theorem dX2_countingOf_15 : decode cX2_countingOf 15 = .ok (.getfield 81, 3) := dk_180 0 81 (dk_at dksX2_countingOf_0 15 rfl rfl)
theorem dX2_countingOf_18 : decode cX2_countingOf 18 = .ok (.iload 4, 2) := dk_21 4 (dk_at dksX2_countingOf_0 18 rfl rfl)
theorem dX2_countingOf_20 : decode cX2_countingOf 20 = .ok (.iaload, 1) := dk_46 (dk_at dksX2_countingOf_0 20 rfl rfl)
theorem dX2_countingOf_21 : decode cX2_countingOf 21 = .ok (.iconst 1, 1) := dk_4 (dk_at dksX2_countingOf_0 21 rfl rfl)
theorem dX2_countingOf_22 : decode cX2_countingOf 22 = .ok (.if_icmp .ne 29, 3) := dk_160 0 29 (dk_at dksX2_countingOf_1 0 rfl rfl)
theorem dX2_countingOf_25 : decode cX2_countingOf 25 = .ok (.aload_n 0, 1) := dk_42 (dk_at dksX2_countingOf_1 3 rfl rfl)
theorem dX2_countingOf_26 : decode cX2_countingOf 26 = .ok (.getfield 66, 3) := dk_180 0 66 (dk_at dksX2_countingOf_1 4 rfl rfl)
theorem dX2_countingOf_29 : decode cX2_countingOf 29 = .ok (.iload 4, 2) := dk_21 4 (dk_at dksX2_countingOf_1 7 rfl rfl)
theorem dX2_countingOf_31 : decode cX2_countingOf 31 = .ok (.iaload, 1) := dk_46 (dk_at dksX2_countingOf_1 9 rfl rfl)
theorem dX2_countingOf_32 : decode cX2_countingOf 32 = .ok (.iload_n 1, 1) := dk_27 (dk_at dksX2_countingOf_1 10 rfl rfl)
theorem dX2_countingOf_33 : decode cX2_countingOf 33 = .ok (.if_icmp .ne 18, 3) := dk_160 0 18 (dk_at dksX2_countingOf_1 11 rfl rfl)
theorem dX2_countingOf_36 : decode cX2_countingOf 36 = .ok (.aload_n 0, 1) := dk_42 (dk_at dksX2_countingOf_1 14 rfl rfl)
theorem dX2_countingOf_37 : decode cX2_countingOf 37 = .ok (.getfield 69, 3) := dk_180 0 69 (dk_at dksX2_countingOf_1 15 rfl rfl)
theorem dX2_countingOf_40 : decode cX2_countingOf 40 = .ok (.iload 4, 2) := dk_21 4 (dk_at dksX2_countingOf_1 18 rfl rfl)
theorem dX2_countingOf_42 : decode cX2_countingOf 42 = .ok (.iaload, 1) := dk_46 (dk_at dksX2_countingOf_1 20 rfl rfl)
theorem dX2_countingOf_43 : decode cX2_countingOf 43 = .ok (.iload_n 2, 1) := dk_28 (dk_at dksX2_countingOf_1 21 rfl rfl)
theorem dX2_countingOf_44 : decode cX2_countingOf 44 = .ok (.if_icmp .ne 7, 3) := dk_160 0 7 (dk_at dksX2_countingOf_2 0 rfl rfl)
theorem dX2_countingOf_47 : decode cX2_countingOf 47 = .ok (.iconst 1, 1) := dk_4 (dk_at dksX2_countingOf_2 3 rfl rfl)
theorem dX2_countingOf_48 : decode cX2_countingOf 48 = .ok (.goto 4, 3) := dk_167 0 4 (dk_at dksX2_countingOf_2 4 rfl rfl)
theorem dX2_countingOf_51 : decode cX2_countingOf 51 = .ok (.iconst 0, 1) := dk_3 (dk_at dksX2_countingOf_2 7 rfl rfl)
theorem dX2_countingOf_52 : decode cX2_countingOf 52 = .ok (.istore 5, 2) := dk_54 5 (dk_at dksX2_countingOf_2 8 rfl rfl)
theorem dX2_countingOf_54 : decode cX2_countingOf 54 = .ok (.iload 5, 2) := dk_21 5 (dk_at dksX2_countingOf_2 10 rfl rfl)
theorem dX2_countingOf_56 : decode cX2_countingOf 56 = .ok (.ifCond .eq 29, 3) := dk_153 0 29 (dk_at dksX2_countingOf_2 12 rfl rfl)
theorem dX2_countingOf_59 : decode cX2_countingOf 59 = .ok (.iload_n 3, 1) := dk_29 (dk_at dksX2_countingOf_2 15 rfl rfl)
theorem dX2_countingOf_60 : decode cX2_countingOf 60 = .ok (.iconst (-1), 1) := dk_2 (dk_at dksX2_countingOf_2 16 rfl rfl)
theorem dX2_countingOf_61 : decode cX2_countingOf 61 = .ok (.if_icmp .eq 19, 3) := dk_159 0 19 (dk_at dksX2_countingOf_2 17 rfl rfl)
theorem dX2_countingOf_64 : decode cX2_countingOf 64 = .ok (.aload_n 0, 1) := dk_42 (dk_at dksX2_countingOf_2 20 rfl rfl)
theorem dX2_countingOf_65 : decode cX2_countingOf 65 = .ok (.getfield 87, 3) := dk_180 0 87 (dk_at dksX2_countingOf_2 21 rfl rfl)
theorem dX2_countingOf_68 : decode cX2_countingOf 68 = .ok (.iload 4, 2) := dk_21 4 (dk_at dksX2_countingOf_3 0 rfl rfl)
theorem dX2_countingOf_70 : decode cX2_countingOf 70 = .ok (.iaload, 1) := dk_46 (dk_at dksX2_countingOf_3 2 rfl rfl)
theorem dX2_countingOf_71 : decode cX2_countingOf 71 = .ok (.aload_n 0, 1) := dk_42 (dk_at dksX2_countingOf_3 3 rfl rfl)
theorem dX2_countingOf_72 : decode cX2_countingOf 72 = .ok (.getfield 87, 3) := dk_180 0 87 (dk_at dksX2_countingOf_3 4 rfl rfl)
theorem dX2_countingOf_75 : decode cX2_countingOf 75 = .ok (.iload_n 3, 1) := dk_29 (dk_at dksX2_countingOf_3 7 rfl rfl)
theorem dX2_countingOf_76 : decode cX2_countingOf 76 = .ok (.iaload, 1) := dk_46 (dk_at dksX2_countingOf_3 8 rfl rfl)
theorem dX2_countingOf_77 : decode cX2_countingOf 77 = .ok (.if_icmp .le 8, 3) := dk_164 0 8 (dk_at dksX2_countingOf_3 9 rfl rfl)
theorem dX2_countingOf_80 : decode cX2_countingOf 80 = .ok (.iload 4, 2) := dk_21 4 (dk_at dksX2_countingOf_3 12 rfl rfl)
theorem dX2_countingOf_82 : decode cX2_countingOf 82 = .ok (.goto 4, 3) := dk_167 0 4 (dk_at dksX2_countingOf_3 14 rfl rfl)
theorem dX2_countingOf_85 : decode cX2_countingOf 85 = .ok (.iload_n 3, 1) := dk_29 (dk_at dksX2_countingOf_3 17 rfl rfl)
theorem dX2_countingOf_86 : decode cX2_countingOf 86 = .ok (.istore_n 3, 1) := dk_62 (dk_at dksX2_countingOf_3 18 rfl rfl)
theorem dX2_countingOf_87 : decode cX2_countingOf 87 = .ok (.iinc 4 1, 3) := dk_132 4 1 (dk_at dksX2_countingOf_3 19 rfl rfl)
theorem dX2_countingOf_90 : decode cX2_countingOf 90 = .ok (.goto (-85), 3) := dk_167 255 171 (dk_at dksX2_countingOf_4 0 rfl rfl)
theorem dX2_countingOf_93 : decode cX2_countingOf 93 = .ok (.iload_n 3, 1) := dk_29 (dk_at dksX2_countingOf_4 3 rfl rfl)
theorem dX2_countingOf_94 : decode cX2_countingOf 94 = .ok (.ireturn, 1) := dk_172 (dk_at dksX2_countingOf_4 4 rfl rfl)
abbrev cX2_isIn : ByteArray := prog_7_method_39_code
def yX2_isIn : MethodName := ⟨RX2, "isIn", "(I)Z"⟩
def dkwX2_isIn_1 : List UInt8 := [42, 180, 0, 81, 27, 46, 4, 160, 0, 7, 4, 167, 0, 4, 3, 172]
abbrev dktX2_isIn_1 : List UInt8 := dkwX2_isIn_1 ++ []
def dkwX2_isIn_0 : List UInt8 := [42, 42, 27, 182, 0, 165, 153, 0, 7, 3, 167, 0, 4, 4, 181, 0, 37, 42, 180, 0, 37, 154, 0, 17]
abbrev dktX2_isIn_0 : List UInt8 := dkwX2_isIn_0 ++ dktX2_isIn_1
theorem dksX2_isIn_0 : cX2_isIn.data.toList.drop 0 = dktX2_isIn_0 := by decide +kernel
theorem dksX2_isIn_1 : cX2_isIn.data.toList.drop 24 = dktX2_isIn_1 := dk_seg dksX2_isIn_0 24 rfl rfl
theorem dX2_isIn_0 : decode cX2_isIn 0 = .ok (.aload_n 0, 1) := dk_42 (dk_at dksX2_isIn_0 0 rfl rfl)
theorem dX2_isIn_1 : decode cX2_isIn 1 = .ok (.aload_n 0, 1) := dk_42 (dk_at dksX2_isIn_0 1 rfl rfl)
theorem dX2_isIn_2 : decode cX2_isIn 2 = .ok (.iload_n 1, 1) := dk_27 (dk_at dksX2_isIn_0 2 rfl rfl)
theorem dX2_isIn_3 : decode cX2_isIn 3 = .ok (.invokevirtual 165, 3) := dk_182 0 165 (dk_at dksX2_isIn_0 3 rfl rfl)
theorem dX2_isIn_6 : decode cX2_isIn 6 = .ok (.ifCond .eq 7, 3) := dk_153 0 7 (dk_at dksX2_isIn_0 6 rfl rfl)
theorem dX2_isIn_9 : decode cX2_isIn 9 = .ok (.iconst 0, 1) := dk_3 (dk_at dksX2_isIn_0 9 rfl rfl)
theorem dX2_isIn_10 : decode cX2_isIn 10 = .ok (.goto 4, 3) := dk_167 0 4 (dk_at dksX2_isIn_0 10 rfl rfl)
theorem dX2_isIn_13 : decode cX2_isIn 13 = .ok (.iconst 1, 1) := dk_4 (dk_at dksX2_isIn_0 13 rfl rfl)
theorem dX2_isIn_14 : decode cX2_isIn 14 = .ok (.putfield 37, 3) := dk_181 0 37 (dk_at dksX2_isIn_0 14 rfl rfl)
theorem dX2_isIn_17 : decode cX2_isIn 17 = .ok (.aload_n 0, 1) := dk_42 (dk_at dksX2_isIn_0 17 rfl rfl)
theorem dX2_isIn_18 : decode cX2_isIn 18 = .ok (.getfield 37, 3) := dk_180 0 37 (dk_at dksX2_isIn_0 18 rfl rfl)
theorem dX2_isIn_21 : decode cX2_isIn 21 = .ok (.ifCond .ne 17, 3) := dk_154 0 17 (dk_at dksX2_isIn_0 21 rfl rfl)
theorem dX2_isIn_24 : decode cX2_isIn 24 = .ok (.aload_n 0, 1) := dk_42 (dk_at dksX2_isIn_1 0 rfl rfl)
theorem dX2_isIn_25 : decode cX2_isIn 25 = .ok (.getfield 81, 3) := dk_180 0 81 (dk_at dksX2_isIn_1 1 rfl rfl)
theorem dX2_isIn_28 : decode cX2_isIn 28 = .ok (.iload_n 1, 1) := dk_27 (dk_at dksX2_isIn_1 4 rfl rfl)
theorem dX2_isIn_29 : decode cX2_isIn 29 = .ok (.iaload, 1) := dk_46 (dk_at dksX2_isIn_1 5 rfl rfl)
theorem dX2_isIn_30 : decode cX2_isIn 30 = .ok (.iconst 1, 1) := dk_4 (dk_at dksX2_isIn_1 6 rfl rfl)
theorem dX2_isIn_31 : decode cX2_isIn 31 = .ok (.if_icmp .ne 7, 3) := dk_160 0 7 (dk_at dksX2_isIn_1 7 rfl rfl)
theorem dX2_isIn_34 : decode cX2_isIn 34 = .ok (.iconst 1, 1) := dk_4 (dk_at dksX2_isIn_1 10 rfl rfl)
theorem dX2_isIn_35 : decode cX2_isIn 35 = .ok (.goto 4, 3) := dk_167 0 4 (dk_at dksX2_isIn_1 11 rfl rfl)
theorem dX2_isIn_38 : decode cX2_isIn 38 = .ok (.iconst 0, 1) := dk_3 (dk_at dksX2_isIn_1 14 rfl rfl)
theorem dX2_isIn_39 : decode cX2_isIn 39 = .ok (.ireturn, 1) := dk_172 (dk_at dksX2_isIn_1 15 rfl rfl)
abbrev cX2_late : ByteArray := prog_7_method_42_code
def yX2_late : MethodName := ⟨RX2, "late", "(I)I"⟩
def dkwX2_late_1 : List UInt8 := [42, 42, 27, 182, 0, 197, 182, 0, 126, 167, 0, 8, 42, 5, 182, 0, 122, 172]
abbrev dktX2_late_1 : List UInt8 := dkwX2_late_1 ++ []
def dkwX2_late_0 : List UInt8 := [42, 27, 182, 0, 165, 154, 0, 9, 42, 4, 182, 0, 122, 172, 42, 180, 0, 81, 27, 46, 4, 160, 0, 15]
abbrev dktX2_late_0 : List UInt8 := dkwX2_late_0 ++ dktX2_late_1
theorem dksX2_late_0 : cX2_late.data.toList.drop 0 = dktX2_late_0 := by decide +kernel
theorem dksX2_late_1 : cX2_late.data.toList.drop 24 = dktX2_late_1 := dk_seg dksX2_late_0 24 rfl rfl
theorem dX2_late_0 : decode cX2_late 0 = .ok (.aload_n 0, 1) := dk_42 (dk_at dksX2_late_0 0 rfl rfl)
theorem dX2_late_1 : decode cX2_late 1 = .ok (.iload_n 1, 1) := dk_27 (dk_at dksX2_late_0 1 rfl rfl)
theorem dX2_late_2 : decode cX2_late 2 = .ok (.invokevirtual 165, 3) := dk_182 0 165 (dk_at dksX2_late_0 2 rfl rfl)
theorem dX2_late_5 : decode cX2_late 5 = .ok (.ifCond .ne 9, 3) := dk_154 0 9 (dk_at dksX2_late_0 5 rfl rfl)
theorem dX2_late_8 : decode cX2_late 8 = .ok (.aload_n 0, 1) := dk_42 (dk_at dksX2_late_0 8 rfl rfl)
theorem dX2_late_9 : decode cX2_late 9 = .ok (.iconst 1, 1) := dk_4 (dk_at dksX2_late_0 9 rfl rfl)
theorem dX2_late_10 : decode cX2_late 10 = .ok (.invokevirtual 122, 3) := dk_182 0 122 (dk_at dksX2_late_0 10 rfl rfl)
theorem dX2_late_13 : decode cX2_late 13 = .ok (.ireturn, 1) := dk_172 (dk_at dksX2_late_0 13 rfl rfl)
theorem dX2_late_14 : decode cX2_late 14 = .ok (.aload_n 0, 1) := dk_42 (dk_at dksX2_late_0 14 rfl rfl)
theorem dX2_late_15 : decode cX2_late 15 = .ok (.getfield 81, 3) := dk_180 0 81 (dk_at dksX2_late_0 15 rfl rfl)
theorem dX2_late_18 : decode cX2_late 18 = .ok (.iload_n 1, 1) := dk_27 (dk_at dksX2_late_0 18 rfl rfl)
theorem dX2_late_19 : decode cX2_late 19 = .ok (.iaload, 1) := dk_46 (dk_at dksX2_late_0 19 rfl rfl)
theorem dX2_late_20 : decode cX2_late 20 = .ok (.iconst 1, 1) := dk_4 (dk_at dksX2_late_0 20 rfl rfl)
theorem dX2_late_21 : decode cX2_late 21 = .ok (.if_icmp .ne 15, 3) := dk_160 0 15 (dk_at dksX2_late_0 21 rfl rfl)
theorem dX2_late_24 : decode cX2_late 24 = .ok (.aload_n 0, 1) := dk_42 (dk_at dksX2_late_1 0 rfl rfl)
theorem dX2_late_25 : decode cX2_late 25 = .ok (.aload_n 0, 1) := dk_42 (dk_at dksX2_late_1 1 rfl rfl)
theorem dX2_late_26 : decode cX2_late 26 = .ok (.iload_n 1, 1) := dk_27 (dk_at dksX2_late_1 2 rfl rfl)
theorem dX2_late_27 : decode cX2_late 27 = .ok (.invokevirtual 197, 3) := dk_182 0 197 (dk_at dksX2_late_1 3 rfl rfl)
theorem dX2_late_30 : decode cX2_late 30 = .ok (.invokevirtual 126, 3) := dk_182 0 126 (dk_at dksX2_late_1 6 rfl rfl)
theorem dX2_late_33 : decode cX2_late 33 = .ok (.goto 8, 3) := dk_167 0 8 (dk_at dksX2_late_1 9 rfl rfl)
theorem dX2_late_36 : decode cX2_late 36 = .ok (.aload_n 0, 1) := dk_42 (dk_at dksX2_late_1 12 rfl rfl)
theorem dX2_late_37 : decode cX2_late 37 = .ok (.iconst 2, 1) := dk_5 (dk_at dksX2_late_1 13 rfl rfl)
theorem dX2_late_38 : decode cX2_late 38 = .ok (.invokevirtual 122, 3) := dk_182 0 122 (dk_at dksX2_late_1 14 rfl rfl)
theorem dX2_late_41 : decode cX2_late 41 = .ok (.ireturn, 1) := dk_172 (dk_at dksX2_late_1 17 rfl rfl)
abbrev cX2_lateOf : ByteArray := prog_7_method_41_code
def yX2_lateOf : MethodName := ⟨RX2, "lateOf", "(I)I"⟩
def dkwX2_lateOf_2 : List UInt8 := [182, 0, 191, 184, 0, 194, 61, 42, 180, 0, 72, 29, 46, 62, 167, 255, 207, 28, 172]
abbrev dktX2_lateOf_2 : List UInt8 := dkwX2_lateOf_2 ++ []
def dkwX2_lateOf_1 : List UInt8 := [4, 160, 0, 30, 42, 27, 29, 182, 0, 179, 42, 180, 0, 99, 27, 46, 5, 108, 161, 0, 13, 28, 42, 29]
abbrev dktX2_lateOf_1 : List UInt8 := dkwX2_lateOf_1 ++ dktX2_lateOf_2
def dkwX2_lateOf_0 : List UInt8 := [42, 27, 182, 0, 191, 61, 42, 180, 0, 72, 27, 46, 62, 29, 2, 159, 0, 50, 42, 180, 0, 81, 29, 46]
abbrev dktX2_lateOf_0 : List UInt8 := dkwX2_lateOf_0 ++ dktX2_lateOf_1
theorem dksX2_lateOf_0 : cX2_lateOf.data.toList.drop 0 = dktX2_lateOf_0 := by decide +kernel
theorem dksX2_lateOf_1 : cX2_lateOf.data.toList.drop 24 = dktX2_lateOf_1 := dk_seg dksX2_lateOf_0 24 rfl rfl
theorem dksX2_lateOf_2 : cX2_lateOf.data.toList.drop 48 = dktX2_lateOf_2 := dk_seg dksX2_lateOf_1 24 rfl rfl
theorem dX2_lateOf_0 : decode cX2_lateOf 0 = .ok (.aload_n 0, 1) := dk_42 (dk_at dksX2_lateOf_0 0 rfl rfl)
theorem dX2_lateOf_1 : decode cX2_lateOf 1 = .ok (.iload_n 1, 1) := dk_27 (dk_at dksX2_lateOf_0 1 rfl rfl)
theorem dX2_lateOf_2 : decode cX2_lateOf 2 = .ok (.invokevirtual 191, 3) := dk_182 0 191 (dk_at dksX2_lateOf_0 2 rfl rfl)
theorem dX2_lateOf_5 : decode cX2_lateOf 5 = .ok (.istore_n 2, 1) := dk_61 (dk_at dksX2_lateOf_0 5 rfl rfl)
theorem dX2_lateOf_6 : decode cX2_lateOf 6 = .ok (.aload_n 0, 1) := dk_42 (dk_at dksX2_lateOf_0 6 rfl rfl)
theorem dX2_lateOf_7 : decode cX2_lateOf 7 = .ok (.getfield 72, 3) := dk_180 0 72 (dk_at dksX2_lateOf_0 7 rfl rfl)
theorem dX2_lateOf_10 : decode cX2_lateOf 10 = .ok (.iload_n 1, 1) := dk_27 (dk_at dksX2_lateOf_0 10 rfl rfl)
theorem dX2_lateOf_11 : decode cX2_lateOf 11 = .ok (.iaload, 1) := dk_46 (dk_at dksX2_lateOf_0 11 rfl rfl)
theorem dX2_lateOf_12 : decode cX2_lateOf 12 = .ok (.istore_n 3, 1) := dk_62 (dk_at dksX2_lateOf_0 12 rfl rfl)
theorem dX2_lateOf_13 : decode cX2_lateOf 13 = .ok (.iload_n 3, 1) := dk_29 (dk_at dksX2_lateOf_0 13 rfl rfl)
theorem dX2_lateOf_14 : decode cX2_lateOf 14 = .ok (.iconst (-1), 1) := dk_2 (dk_at dksX2_lateOf_0 14 rfl rfl)
theorem dX2_lateOf_15 : decode cX2_lateOf 15 = .ok (.if_icmp .eq 50, 3) := dk_159 0 50 (dk_at dksX2_lateOf_0 15 rfl rfl)
theorem dX2_lateOf_18 : decode cX2_lateOf 18 = .ok (.aload_n 0, 1) := dk_42 (dk_at dksX2_lateOf_0 18 rfl rfl)
theorem dX2_lateOf_19 : decode cX2_lateOf 19 = .ok (.getfield 81, 3) := dk_180 0 81 (dk_at dksX2_lateOf_0 19 rfl rfl)
theorem dX2_lateOf_22 : decode cX2_lateOf 22 = .ok (.iload_n 3, 1) := dk_29 (dk_at dksX2_lateOf_0 22 rfl rfl)
theorem dX2_lateOf_23 : decode cX2_lateOf 23 = .ok (.iaload, 1) := dk_46 (dk_at dksX2_lateOf_0 23 rfl rfl)
theorem dX2_lateOf_24 : decode cX2_lateOf 24 = .ok (.iconst 1, 1) := dk_4 (dk_at dksX2_lateOf_1 0 rfl rfl)
theorem dX2_lateOf_25 : decode cX2_lateOf 25 = .ok (.if_icmp .ne 30, 3) := dk_160 0 30 (dk_at dksX2_lateOf_1 1 rfl rfl)
theorem dX2_lateOf_28 : decode cX2_lateOf 28 = .ok (.aload_n 0, 1) := dk_42 (dk_at dksX2_lateOf_1 4 rfl rfl)
theorem dX2_lateOf_29 : decode cX2_lateOf 29 = .ok (.iload_n 1, 1) := dk_27 (dk_at dksX2_lateOf_1 5 rfl rfl)
theorem dX2_lateOf_30 : decode cX2_lateOf 30 = .ok (.iload_n 3, 1) := dk_29 (dk_at dksX2_lateOf_1 6 rfl rfl)
theorem dX2_lateOf_31 : decode cX2_lateOf 31 = .ok (.invokevirtual 179, 3) := dk_182 0 179 (dk_at dksX2_lateOf_1 7 rfl rfl)
theorem dX2_lateOf_34 : decode cX2_lateOf 34 = .ok (.aload_n 0, 1) := dk_42 (dk_at dksX2_lateOf_1 10 rfl rfl)
theorem dX2_lateOf_35 : decode cX2_lateOf 35 = .ok (.getfield 99, 3) := dk_180 0 99 (dk_at dksX2_lateOf_1 11 rfl rfl)
theorem dX2_lateOf_38 : decode cX2_lateOf 38 = .ok (.iload_n 1, 1) := dk_27 (dk_at dksX2_lateOf_1 14 rfl rfl)
theorem dX2_lateOf_39 : decode cX2_lateOf 39 = .ok (.iaload, 1) := dk_46 (dk_at dksX2_lateOf_1 15 rfl rfl)
theorem dX2_lateOf_40 : decode cX2_lateOf 40 = .ok (.iconst 2, 1) := dk_5 (dk_at dksX2_lateOf_1 16 rfl rfl)
theorem dX2_lateOf_41 : decode cX2_lateOf 41 = .ok (.idiv, 1) := dk_108 (dk_at dksX2_lateOf_1 17 rfl rfl)
theorem dX2_lateOf_42 : decode cX2_lateOf 42 = .ok (.if_icmp .lt 13, 3) := dk_161 0 13 (dk_at dksX2_lateOf_1 18 rfl rfl)
theorem dX2_lateOf_45 : decode cX2_lateOf 45 = .ok (.iload_n 2, 1) := dk_28 (dk_at dksX2_lateOf_1 21 rfl rfl)
theorem dX2_lateOf_46 : decode cX2_lateOf 46 = .ok (.aload_n 0, 1) := dk_42 (dk_at dksX2_lateOf_1 22 rfl rfl)
theorem dX2_lateOf_47 : decode cX2_lateOf 47 = .ok (.iload_n 3, 1) := dk_29 (dk_at dksX2_lateOf_1 23 rfl rfl)
theorem dX2_lateOf_48 : decode cX2_lateOf 48 = .ok (.invokevirtual 191, 3) := dk_182 0 191 (dk_at dksX2_lateOf_2 0 rfl rfl)
theorem dX2_lateOf_51 : decode cX2_lateOf 51 = .ok (.invokestatic 194, 3) := dk_184 0 194 (dk_at dksX2_lateOf_2 3 rfl rfl)
theorem dX2_lateOf_54 : decode cX2_lateOf 54 = .ok (.istore_n 2, 1) := dk_61 (dk_at dksX2_lateOf_2 6 rfl rfl)
theorem dX2_lateOf_55 : decode cX2_lateOf 55 = .ok (.aload_n 0, 1) := dk_42 (dk_at dksX2_lateOf_2 7 rfl rfl)
theorem dX2_lateOf_56 : decode cX2_lateOf 56 = .ok (.getfield 72, 3) := dk_180 0 72 (dk_at dksX2_lateOf_2 8 rfl rfl)
theorem dX2_lateOf_59 : decode cX2_lateOf 59 = .ok (.iload_n 3, 1) := dk_29 (dk_at dksX2_lateOf_2 11 rfl rfl)
theorem dX2_lateOf_60 : decode cX2_lateOf 60 = .ok (.iaload, 1) := dk_46 (dk_at dksX2_lateOf_2 12 rfl rfl)
theorem dX2_lateOf_61 : decode cX2_lateOf 61 = .ok (.istore_n 3, 1) := dk_62 (dk_at dksX2_lateOf_2 13 rfl rfl)
theorem dX2_lateOf_62 : decode cX2_lateOf 62 = .ok (.goto (-49), 3) := dk_167 255 207 (dk_at dksX2_lateOf_2 14 rfl rfl)
theorem dX2_lateOf_65 : decode cX2_lateOf 65 = .ok (.iload_n 2, 1) := dk_28 (dk_at dksX2_lateOf_2 17 rfl rfl)
theorem dX2_lateOf_66 : decode cX2_lateOf 66 = .ok (.ireturn, 1) := dk_172 (dk_at dksX2_lateOf_2 18 rfl rfl)
abbrev cX2_ownLate : ByteArray := prog_7_method_40_code
def yX2_ownLate : MethodName := ⟨RX2, "ownLate", "(I)I"⟩
def dkwX2_ownLate_1 : List UInt8 := [42, 180, 0, 50, 42, 180, 0, 69, 27, 46, 46, 100, 184, 0, 188, 172]
abbrev dktX2_ownLate_1 : List UInt8 := dkwX2_ownLate_1 ++ []
def dkwX2_ownLate_0 : List UInt8 := [3, 42, 180, 0, 84, 27, 46, 42, 180, 0, 40, 42, 180, 0, 47, 42, 180, 0, 69, 27, 46, 46, 46, 96]
abbrev dktX2_ownLate_0 : List UInt8 := dkwX2_ownLate_0 ++ dktX2_ownLate_1
theorem dksX2_ownLate_0 : cX2_ownLate.data.toList.drop 0 = dktX2_ownLate_0 := by decide +kernel
theorem dksX2_ownLate_1 : cX2_ownLate.data.toList.drop 24 = dktX2_ownLate_1 := dk_seg dksX2_ownLate_0 24 rfl rfl
theorem dX2_ownLate_0 : decode cX2_ownLate 0 = .ok (.iconst 0, 1) := dk_3 (dk_at dksX2_ownLate_0 0 rfl rfl)
theorem dX2_ownLate_1 : decode cX2_ownLate 1 = .ok (.aload_n 0, 1) := dk_42 (dk_at dksX2_ownLate_0 1 rfl rfl)
theorem dX2_ownLate_2 : decode cX2_ownLate 2 = .ok (.getfield 84, 3) := dk_180 0 84 (dk_at dksX2_ownLate_0 2 rfl rfl)
theorem dX2_ownLate_5 : decode cX2_ownLate 5 = .ok (.iload_n 1, 1) := dk_27 (dk_at dksX2_ownLate_0 5 rfl rfl)
theorem dX2_ownLate_6 : decode cX2_ownLate 6 = .ok (.iaload, 1) := dk_46 (dk_at dksX2_ownLate_0 6 rfl rfl)
theorem dX2_ownLate_7 : decode cX2_ownLate 7 = .ok (.aload_n 0, 1) := dk_42 (dk_at dksX2_ownLate_0 7 rfl rfl)
theorem dX2_ownLate_8 : decode cX2_ownLate 8 = .ok (.getfield 40, 3) := dk_180 0 40 (dk_at dksX2_ownLate_0 8 rfl rfl)
theorem dX2_ownLate_11 : decode cX2_ownLate 11 = .ok (.aload_n 0, 1) := dk_42 (dk_at dksX2_ownLate_0 11 rfl rfl)
theorem dX2_ownLate_12 : decode cX2_ownLate 12 = .ok (.getfield 47, 3) := dk_180 0 47 (dk_at dksX2_ownLate_0 12 rfl rfl)
theorem dX2_ownLate_15 : decode cX2_ownLate 15 = .ok (.aload_n 0, 1) := dk_42 (dk_at dksX2_ownLate_0 15 rfl rfl)
theorem dX2_ownLate_16 : decode cX2_ownLate 16 = .ok (.getfield 69, 3) := dk_180 0 69 (dk_at dksX2_ownLate_0 16 rfl rfl)
theorem dX2_ownLate_19 : decode cX2_ownLate 19 = .ok (.iload_n 1, 1) := dk_27 (dk_at dksX2_ownLate_0 19 rfl rfl)
theorem dX2_ownLate_20 : decode cX2_ownLate 20 = .ok (.iaload, 1) := dk_46 (dk_at dksX2_ownLate_0 20 rfl rfl)
theorem dX2_ownLate_21 : decode cX2_ownLate 21 = .ok (.iaload, 1) := dk_46 (dk_at dksX2_ownLate_0 21 rfl rfl)
theorem dX2_ownLate_22 : decode cX2_ownLate 22 = .ok (.iaload, 1) := dk_46 (dk_at dksX2_ownLate_0 22 rfl rfl)
theorem dX2_ownLate_23 : decode cX2_ownLate 23 = .ok (.iadd, 1) := dk_96 (dk_at dksX2_ownLate_0 23 rfl rfl)
theorem dX2_ownLate_24 : decode cX2_ownLate 24 = .ok (.aload_n 0, 1) := dk_42 (dk_at dksX2_ownLate_1 0 rfl rfl)
theorem dX2_ownLate_25 : decode cX2_ownLate 25 = .ok (.getfield 50, 3) := dk_180 0 50 (dk_at dksX2_ownLate_1 1 rfl rfl)
theorem dX2_ownLate_28 : decode cX2_ownLate 28 = .ok (.aload_n 0, 1) := dk_42 (dk_at dksX2_ownLate_1 4 rfl rfl)
theorem dX2_ownLate_29 : decode cX2_ownLate 29 = .ok (.getfield 69, 3) := dk_180 0 69 (dk_at dksX2_ownLate_1 5 rfl rfl)
theorem dX2_ownLate_32 : decode cX2_ownLate 32 = .ok (.iload_n 1, 1) := dk_27 (dk_at dksX2_ownLate_1 8 rfl rfl)
theorem dX2_ownLate_33 : decode cX2_ownLate 33 = .ok (.iaload, 1) := dk_46 (dk_at dksX2_ownLate_1 9 rfl rfl)
theorem dX2_ownLate_34 : decode cX2_ownLate 34 = .ok (.iaload, 1) := dk_46 (dk_at dksX2_ownLate_1 10 rfl rfl)
theorem dX2_ownLate_35 : decode cX2_ownLate 35 = .ok (.isub, 1) := dk_100 (dk_at dksX2_ownLate_1 11 rfl rfl)
theorem dX2_ownLate_36 : decode cX2_ownLate 36 = .ok (.invokestatic 188, 3) := dk_184 0 188 (dk_at dksX2_ownLate_1 12 rfl rfl)
theorem dX2_ownLate_39 : decode cX2_ownLate 39 = .ok (.ireturn, 1) := dk_172 (dk_at dksX2_ownLate_1 15 rfl rfl)
abbrev cX2_greater : ByteArray := prog_7_method_3_code
def yX2_greater : MethodName := ⟨RX2, "greater", "(II)I"⟩
def dkwX2_greater_0 : List UInt8 := [26, 27, 164, 0, 7, 26, 167, 0, 4, 27, 172]
abbrev dktX2_greater_0 : List UInt8 := dkwX2_greater_0 ++ []
theorem dksX2_greater_0 : cX2_greater.data.toList.drop 0 = dktX2_greater_0 := by decide +kernel
theorem dX2_greater_0 : decode cX2_greater 0 = .ok (.iload_n 0, 1) := dk_26 (dk_at dksX2_greater_0 0 rfl rfl)
theorem dX2_greater_1 : decode cX2_greater 1 = .ok (.iload_n 1, 1) := dk_27 (dk_at dksX2_greater_0 1 rfl rfl)
theorem dX2_greater_2 : decode cX2_greater 2 = .ok (.if_icmp .le 7, 3) := dk_164 0 7 (dk_at dksX2_greater_0 2 rfl rfl)
theorem dX2_greater_5 : decode cX2_greater 5 = .ok (.iload_n 0, 1) := dk_26 (dk_at dksX2_greater_0 5 rfl rfl)
theorem dX2_greater_6 : decode cX2_greater 6 = .ok (.goto 4, 3) := dk_167 0 4 (dk_at dksX2_greater_0 6 rfl rfl)
theorem dX2_greater_9 : decode cX2_greater 9 = .ok (.iload_n 1, 1) := dk_27 (dk_at dksX2_greater_0 9 rfl rfl)
theorem dX2_greater_10 : decode cX2_greater 10 = .ok (.ireturn, 1) := dk_172 (dk_at dksX2_greater_0 10 rfl rfl)
abbrev cX2_lesser : ByteArray := prog_7_method_4_code
def yX2_lesser : MethodName := ⟨RX2, "lesser", "(II)I"⟩
def dkwX2_lesser_0 : List UInt8 := [26, 27, 162, 0, 7, 26, 167, 0, 4, 27, 172]
abbrev dktX2_lesser_0 : List UInt8 := dkwX2_lesser_0 ++ []
theorem dksX2_lesser_0 : cX2_lesser.data.toList.drop 0 = dktX2_lesser_0 := by decide +kernel
theorem dX2_lesser_0 : decode cX2_lesser 0 = .ok (.iload_n 0, 1) := dk_26 (dk_at dksX2_lesser_0 0 rfl rfl)
theorem dX2_lesser_1 : decode cX2_lesser 1 = .ok (.iload_n 1, 1) := dk_27 (dk_at dksX2_lesser_0 1 rfl rfl)
theorem dX2_lesser_2 : decode cX2_lesser 2 = .ok (.if_icmp .ge 7, 3) := dk_162 0 7 (dk_at dksX2_lesser_0 2 rfl rfl)
theorem dX2_lesser_5 : decode cX2_lesser 5 = .ok (.iload_n 0, 1) := dk_26 (dk_at dksX2_lesser_0 5 rfl rfl)
theorem dX2_lesser_6 : decode cX2_lesser 6 = .ok (.goto 4, 3) := dk_167 0 4 (dk_at dksX2_lesser_0 6 rfl rfl)
theorem dX2_lesser_9 : decode cX2_lesser 9 = .ok (.iload_n 1, 1) := dk_27 (dk_at dksX2_lesser_0 9 rfl rfl)
theorem dX2_lesser_10 : decode cX2_lesser 10 = .ok (.ireturn, 1) := dk_172 (dk_at dksX2_lesser_0 10 rfl rfl)
abbrev cX2_off : ByteArray := prog_7_method_44_code
def yX2_off : MethodName := ⟨RX2, "off", "(II)I"⟩
def dkwX2_off_1 : List UInt8 := [42, 42, 27, 28, 182, 0, 200, 182, 0, 126, 167, 0, 8, 42, 5, 182, 0, 122, 172]
abbrev dktX2_off_1 : List UInt8 := dkwX2_off_1 ++ []
def dkwX2_off_0 : List UInt8 := [42, 27, 182, 0, 162, 154, 0, 9, 42, 4, 182, 0, 122, 172, 28, 3, 18, 133, 184, 0, 118, 153, 0, 16]
abbrev dktX2_off_0 : List UInt8 := dkwX2_off_0 ++ dktX2_off_1
theorem dksX2_off_0 : cX2_off.data.toList.drop 0 = dktX2_off_0 := by decide +kernel
theorem dksX2_off_1 : cX2_off.data.toList.drop 24 = dktX2_off_1 := dk_seg dksX2_off_0 24 rfl rfl
theorem dX2_off_0 : decode cX2_off 0 = .ok (.aload_n 0, 1) := dk_42 (dk_at dksX2_off_0 0 rfl rfl)
theorem dX2_off_1 : decode cX2_off 1 = .ok (.iload_n 1, 1) := dk_27 (dk_at dksX2_off_0 1 rfl rfl)
theorem dX2_off_2 : decode cX2_off 2 = .ok (.invokevirtual 162, 3) := dk_182 0 162 (dk_at dksX2_off_0 2 rfl rfl)
theorem dX2_off_5 : decode cX2_off 5 = .ok (.ifCond .ne 9, 3) := dk_154 0 9 (dk_at dksX2_off_0 5 rfl rfl)
theorem dX2_off_8 : decode cX2_off 8 = .ok (.aload_n 0, 1) := dk_42 (dk_at dksX2_off_0 8 rfl rfl)
theorem dX2_off_9 : decode cX2_off 9 = .ok (.iconst 1, 1) := dk_4 (dk_at dksX2_off_0 9 rfl rfl)
theorem dX2_off_10 : decode cX2_off 10 = .ok (.invokevirtual 122, 3) := dk_182 0 122 (dk_at dksX2_off_0 10 rfl rfl)
theorem dX2_off_13 : decode cX2_off 13 = .ok (.ireturn, 1) := dk_172 (dk_at dksX2_off_0 13 rfl rfl)
theorem dX2_off_14 : decode cX2_off 14 = .ok (.iload_n 2, 1) := dk_28 (dk_at dksX2_off_0 14 rfl rfl)
theorem dX2_off_15 : decode cX2_off 15 = .ok (.iconst 0, 1) := dk_3 (dk_at dksX2_off_0 15 rfl rfl)
theorem dX2_off_16 : decode cX2_off 16 = .ok (.ldc 133, 2) := dk_18 133 (dk_at dksX2_off_0 16 rfl rfl)
theorem dX2_off_18 : decode cX2_off 18 = .ok (.invokestatic 118, 3) := dk_184 0 118 (dk_at dksX2_off_0 18 rfl rfl)
theorem dX2_off_21 : decode cX2_off 21 = .ok (.ifCond .eq 16, 3) := dk_153 0 16 (dk_at dksX2_off_0 21 rfl rfl)
theorem dX2_off_24 : decode cX2_off 24 = .ok (.aload_n 0, 1) := dk_42 (dk_at dksX2_off_1 0 rfl rfl)
theorem dX2_off_25 : decode cX2_off 25 = .ok (.aload_n 0, 1) := dk_42 (dk_at dksX2_off_1 1 rfl rfl)
theorem dX2_off_26 : decode cX2_off 26 = .ok (.iload_n 1, 1) := dk_27 (dk_at dksX2_off_1 2 rfl rfl)
theorem dX2_off_27 : decode cX2_off 27 = .ok (.iload_n 2, 1) := dk_28 (dk_at dksX2_off_1 3 rfl rfl)
theorem dX2_off_28 : decode cX2_off 28 = .ok (.invokevirtual 200, 3) := dk_182 0 200 (dk_at dksX2_off_1 4 rfl rfl)
theorem dX2_off_31 : decode cX2_off 31 = .ok (.invokevirtual 126, 3) := dk_182 0 126 (dk_at dksX2_off_1 7 rfl rfl)
theorem dX2_off_34 : decode cX2_off 34 = .ok (.goto 8, 3) := dk_167 0 8 (dk_at dksX2_off_1 10 rfl rfl)
theorem dX2_off_37 : decode cX2_off 37 = .ok (.aload_n 0, 1) := dk_42 (dk_at dksX2_off_1 13 rfl rfl)
theorem dX2_off_38 : decode cX2_off 38 = .ok (.iconst 2, 1) := dk_5 (dk_at dksX2_off_1 14 rfl rfl)
theorem dX2_off_39 : decode cX2_off 39 = .ok (.invokevirtual 122, 3) := dk_182 0 122 (dk_at dksX2_off_1 15 rfl rfl)
theorem dX2_off_42 : decode cX2_off 42 = .ok (.ireturn, 1) := dk_172 (dk_at dksX2_off_1 18 rfl rfl)
abbrev cX2_offOf : ByteArray := prog_7_method_43_code
def yX2_offOf : MethodName := ⟨RX2, "offOf", "(II)I"⟩
def dkwX2_offOf_3 : List UInt8 := [164, 0, 8, 16, 10, 167, 0, 4, 3, 172, 29, 4, 16, 6, 28, 16, 60, 108, 184, 0, 194, 120, 104, 172]
abbrev dktX2_offOf_3 : List UInt8 := dkwX2_offOf_3 ++ []
def dkwX2_offOf_2 : List UInt8 := [29, 28, 16, 59, 96, 16, 60, 108, 104, 172, 29, 28, 17, 5, 159, 96, 17, 5, 160, 108, 104, 172, 28, 29]
abbrev dktX2_offOf_2 : List UInt8 := dkwX2_offOf_2 ++ dktX2_offOf_3
def dkwX2_offOf_1 : List UInt8 := [170, 0, 0, 0, 67, 0, 0, 0, 100, 0, 0, 0, 104, 0, 0, 0, 43, 0, 0, 0, 67, 0, 0, 0, 67, 0, 0, 0, 55, 0, 0, 0, 33]
abbrev dktX2_offOf_1 : List UInt8 := dkwX2_offOf_1 ++ dktX2_offOf_2
def dkwX2_offOf_0 : List UInt8 := [42, 180, 0, 56, 27, 46, 62, 28, 154, 0, 5, 3, 172, 42, 180, 0, 59, 27, 52]
abbrev dktX2_offOf_0 : List UInt8 := dkwX2_offOf_0 ++ dktX2_offOf_1
theorem dksX2_offOf_0 : cX2_offOf.data.toList.drop 0 = dktX2_offOf_0 := by decide +kernel
theorem dksX2_offOf_1 : cX2_offOf.data.toList.drop 19 = dktX2_offOf_1 := dk_seg dksX2_offOf_0 19 rfl rfl
theorem dksX2_offOf_2 : cX2_offOf.data.toList.drop 52 = dktX2_offOf_2 := dk_seg dksX2_offOf_1 33 rfl rfl
theorem dksX2_offOf_3 : cX2_offOf.data.toList.drop 76 = dktX2_offOf_3 := dk_seg dksX2_offOf_2 24 rfl rfl
theorem dX2_offOf_0 : decode cX2_offOf 0 = .ok (.aload_n 0, 1) := dk_42 (dk_at dksX2_offOf_0 0 rfl rfl)
theorem dX2_offOf_1 : decode cX2_offOf 1 = .ok (.getfield 56, 3) := dk_180 0 56 (dk_at dksX2_offOf_0 1 rfl rfl)
theorem dX2_offOf_4 : decode cX2_offOf 4 = .ok (.iload_n 1, 1) := dk_27 (dk_at dksX2_offOf_0 4 rfl rfl)
theorem dX2_offOf_5 : decode cX2_offOf 5 = .ok (.iaload, 1) := dk_46 (dk_at dksX2_offOf_0 5 rfl rfl)
theorem dX2_offOf_6 : decode cX2_offOf 6 = .ok (.istore_n 3, 1) := dk_62 (dk_at dksX2_offOf_0 6 rfl rfl)
theorem dX2_offOf_7 : decode cX2_offOf 7 = .ok (.iload_n 2, 1) := dk_28 (dk_at dksX2_offOf_0 7 rfl rfl)
theorem dX2_offOf_8 : decode cX2_offOf 8 = .ok (.ifCond .ne 5, 3) := dk_154 0 5 (dk_at dksX2_offOf_0 8 rfl rfl)
theorem dX2_offOf_11 : decode cX2_offOf 11 = .ok (.iconst 0, 1) := dk_3 (dk_at dksX2_offOf_0 11 rfl rfl)
theorem dX2_offOf_12 : decode cX2_offOf 12 = .ok (.ireturn, 1) := dk_172 (dk_at dksX2_offOf_0 12 rfl rfl)
theorem dX2_offOf_13 : decode cX2_offOf 13 = .ok (.aload_n 0, 1) := dk_42 (dk_at dksX2_offOf_0 13 rfl rfl)
theorem dX2_offOf_14 : decode cX2_offOf 14 = .ok (.getfield 59, 3) := dk_180 0 59 (dk_at dksX2_offOf_0 14 rfl rfl)
theorem dX2_offOf_17 : decode cX2_offOf 17 = .ok (.iload_n 1, 1) := dk_27 (dk_at dksX2_offOf_0 17 rfl rfl)
theorem dX2_offOf_18 : decode cX2_offOf 18 = .ok (.caload, 1) := dk_52 (dk_at dksX2_offOf_0 18 rfl rfl)
theorem dX2_offOf_19 : decode cX2_offOf 19 = .ok (.tableswitch 67 100 104 #[43, 67, 67, 55, 33], 33) := by decide +kernel
theorem dX2_offOf_52 : decode cX2_offOf 52 = .ok (.iload_n 3, 1) := dk_29 (dk_at dksX2_offOf_2 0 rfl rfl)
theorem dX2_offOf_53 : decode cX2_offOf 53 = .ok (.iload_n 2, 1) := dk_28 (dk_at dksX2_offOf_2 1 rfl rfl)
theorem dX2_offOf_54 : decode cX2_offOf 54 = .ok (.bipush 59, 2) := dk_16 59 (dk_at dksX2_offOf_2 2 rfl rfl)
theorem dX2_offOf_56 : decode cX2_offOf 56 = .ok (.iadd, 1) := dk_96 (dk_at dksX2_offOf_2 4 rfl rfl)
theorem dX2_offOf_57 : decode cX2_offOf 57 = .ok (.bipush 60, 2) := dk_16 60 (dk_at dksX2_offOf_2 5 rfl rfl)
theorem dX2_offOf_59 : decode cX2_offOf 59 = .ok (.idiv, 1) := dk_108 (dk_at dksX2_offOf_2 7 rfl rfl)
theorem dX2_offOf_60 : decode cX2_offOf 60 = .ok (.imul, 1) := dk_104 (dk_at dksX2_offOf_2 8 rfl rfl)
theorem dX2_offOf_61 : decode cX2_offOf 61 = .ok (.ireturn, 1) := dk_172 (dk_at dksX2_offOf_2 9 rfl rfl)
theorem dX2_offOf_62 : decode cX2_offOf 62 = .ok (.iload_n 3, 1) := dk_29 (dk_at dksX2_offOf_2 10 rfl rfl)
theorem dX2_offOf_63 : decode cX2_offOf 63 = .ok (.iload_n 2, 1) := dk_28 (dk_at dksX2_offOf_2 11 rfl rfl)
theorem dX2_offOf_64 : decode cX2_offOf 64 = .ok (.sipush 1439, 3) := dk_17 5 159 (dk_at dksX2_offOf_2 12 rfl rfl)
theorem dX2_offOf_67 : decode cX2_offOf 67 = .ok (.iadd, 1) := dk_96 (dk_at dksX2_offOf_2 15 rfl rfl)
theorem dX2_offOf_68 : decode cX2_offOf 68 = .ok (.sipush 1440, 3) := dk_17 5 160 (dk_at dksX2_offOf_2 16 rfl rfl)
theorem dX2_offOf_71 : decode cX2_offOf 71 = .ok (.idiv, 1) := dk_108 (dk_at dksX2_offOf_2 19 rfl rfl)
theorem dX2_offOf_72 : decode cX2_offOf 72 = .ok (.imul, 1) := dk_104 (dk_at dksX2_offOf_2 20 rfl rfl)
theorem dX2_offOf_73 : decode cX2_offOf 73 = .ok (.ireturn, 1) := dk_172 (dk_at dksX2_offOf_2 21 rfl rfl)
theorem dX2_offOf_74 : decode cX2_offOf 74 = .ok (.iload_n 2, 1) := dk_28 (dk_at dksX2_offOf_2 22 rfl rfl)
theorem dX2_offOf_75 : decode cX2_offOf 75 = .ok (.iload_n 3, 1) := dk_29 (dk_at dksX2_offOf_2 23 rfl rfl)
theorem dX2_offOf_76 : decode cX2_offOf 76 = .ok (.if_icmp .le 8, 3) := dk_164 0 8 (dk_at dksX2_offOf_3 0 rfl rfl)
theorem dX2_offOf_79 : decode cX2_offOf 79 = .ok (.bipush 10, 2) := dk_16 10 (dk_at dksX2_offOf_3 3 rfl rfl)
theorem dX2_offOf_81 : decode cX2_offOf 81 = .ok (.goto 4, 3) := dk_167 0 4 (dk_at dksX2_offOf_3 5 rfl rfl)
theorem dX2_offOf_84 : decode cX2_offOf 84 = .ok (.iconst 0, 1) := dk_3 (dk_at dksX2_offOf_3 8 rfl rfl)
theorem dX2_offOf_85 : decode cX2_offOf 85 = .ok (.ireturn, 1) := dk_172 (dk_at dksX2_offOf_3 9 rfl rfl)
theorem dX2_offOf_86 : decode cX2_offOf 86 = .ok (.iload_n 3, 1) := dk_29 (dk_at dksX2_offOf_3 10 rfl rfl)
theorem dX2_offOf_87 : decode cX2_offOf 87 = .ok (.iconst 1, 1) := dk_4 (dk_at dksX2_offOf_3 11 rfl rfl)
theorem dX2_offOf_88 : decode cX2_offOf 88 = .ok (.bipush 6, 2) := dk_16 6 (dk_at dksX2_offOf_3 12 rfl rfl)
theorem dX2_offOf_90 : decode cX2_offOf 90 = .ok (.iload_n 2, 1) := dk_28 (dk_at dksX2_offOf_3 14 rfl rfl)
theorem dX2_offOf_91 : decode cX2_offOf 91 = .ok (.bipush 60, 2) := dk_16 60 (dk_at dksX2_offOf_3 15 rfl rfl)
theorem dX2_offOf_93 : decode cX2_offOf 93 = .ok (.idiv, 1) := dk_108 (dk_at dksX2_offOf_3 17 rfl rfl)
theorem dX2_offOf_94 : decode cX2_offOf 94 = .ok (.invokestatic 194, 3) := dk_184 0 194 (dk_at dksX2_offOf_3 18 rfl rfl)
theorem dX2_offOf_97 : decode cX2_offOf 97 = .ok (.ishl, 1) := dk_120 (dk_at dksX2_offOf_3 21 rfl rfl)
theorem dX2_offOf_98 : decode cX2_offOf 98 = .ok (.imul, 1) := dk_104 (dk_at dksX2_offOf_3 22 rfl rfl)
theorem dX2_offOf_99 : decode cX2_offOf 99 = .ok (.ireturn, 1) := dk_172 (dk_at dksX2_offOf_3 23 rfl rfl)
abbrev cX2_points : ByteArray := prog_7_method_45_code
def yX2_points : MethodName := ⟨RX2, "points", "(II)I"⟩
def dkwX2_points_2 : List UInt8 := [182, 0, 126, 172]
abbrev dktX2_points_2 : List UInt8 := dkwX2_points_2 ++ []
def dkwX2_points_1 : List UInt8 := [42, 5, 182, 0, 122, 172, 42, 180, 0, 90, 27, 46, 62, 42, 180, 0, 90, 27, 28, 79, 42, 29]
abbrev dktX2_points_1 : List UInt8 := dkwX2_points_1 ++ dktX2_points_2
def dkwX2_points_0 : List UInt8 := [42, 27, 182, 0, 165, 154, 0, 9, 42, 4, 182, 0, 122, 172, 28, 3, 16, 100, 184, 0, 118, 154, 0, 9]
abbrev dktX2_points_0 : List UInt8 := dkwX2_points_0 ++ dktX2_points_1
theorem dksX2_points_0 : cX2_points.data.toList.drop 0 = dktX2_points_0 := by decide +kernel
theorem dksX2_points_1 : cX2_points.data.toList.drop 24 = dktX2_points_1 := dk_seg dksX2_points_0 24 rfl rfl
theorem dksX2_points_2 : cX2_points.data.toList.drop 46 = dktX2_points_2 := dk_seg dksX2_points_1 22 rfl rfl
theorem dX2_points_0 : decode cX2_points 0 = .ok (.aload_n 0, 1) := dk_42 (dk_at dksX2_points_0 0 rfl rfl)
theorem dX2_points_1 : decode cX2_points 1 = .ok (.iload_n 1, 1) := dk_27 (dk_at dksX2_points_0 1 rfl rfl)
theorem dX2_points_2 : decode cX2_points 2 = .ok (.invokevirtual 165, 3) := dk_182 0 165 (dk_at dksX2_points_0 2 rfl rfl)
theorem dX2_points_5 : decode cX2_points 5 = .ok (.ifCond .ne 9, 3) := dk_154 0 9 (dk_at dksX2_points_0 5 rfl rfl)
theorem dX2_points_8 : decode cX2_points 8 = .ok (.aload_n 0, 1) := dk_42 (dk_at dksX2_points_0 8 rfl rfl)
theorem dX2_points_9 : decode cX2_points 9 = .ok (.iconst 1, 1) := dk_4 (dk_at dksX2_points_0 9 rfl rfl)
theorem dX2_points_10 : decode cX2_points 10 = .ok (.invokevirtual 122, 3) := dk_182 0 122 (dk_at dksX2_points_0 10 rfl rfl)
theorem dX2_points_13 : decode cX2_points 13 = .ok (.ireturn, 1) := dk_172 (dk_at dksX2_points_0 13 rfl rfl)
theorem dX2_points_14 : decode cX2_points 14 = .ok (.iload_n 2, 1) := dk_28 (dk_at dksX2_points_0 14 rfl rfl)
theorem dX2_points_15 : decode cX2_points 15 = .ok (.iconst 0, 1) := dk_3 (dk_at dksX2_points_0 15 rfl rfl)
theorem dX2_points_16 : decode cX2_points 16 = .ok (.bipush 100, 2) := dk_16 100 (dk_at dksX2_points_0 16 rfl rfl)
theorem dX2_points_18 : decode cX2_points 18 = .ok (.invokestatic 118, 3) := dk_184 0 118 (dk_at dksX2_points_0 18 rfl rfl)
theorem dX2_points_21 : decode cX2_points 21 = .ok (.ifCond .ne 9, 3) := dk_154 0 9 (dk_at dksX2_points_0 21 rfl rfl)
theorem dX2_points_24 : decode cX2_points 24 = .ok (.aload_n 0, 1) := dk_42 (dk_at dksX2_points_1 0 rfl rfl)
theorem dX2_points_25 : decode cX2_points 25 = .ok (.iconst 2, 1) := dk_5 (dk_at dksX2_points_1 1 rfl rfl)
theorem dX2_points_26 : decode cX2_points 26 = .ok (.invokevirtual 122, 3) := dk_182 0 122 (dk_at dksX2_points_1 2 rfl rfl)
theorem dX2_points_29 : decode cX2_points 29 = .ok (.ireturn, 1) := dk_172 (dk_at dksX2_points_1 5 rfl rfl)
theorem dX2_points_30 : decode cX2_points 30 = .ok (.aload_n 0, 1) := dk_42 (dk_at dksX2_points_1 6 rfl rfl)
theorem dX2_points_31 : decode cX2_points 31 = .ok (.getfield 90, 3) := dk_180 0 90 (dk_at dksX2_points_1 7 rfl rfl)
theorem dX2_points_34 : decode cX2_points 34 = .ok (.iload_n 1, 1) := dk_27 (dk_at dksX2_points_1 10 rfl rfl)
theorem dX2_points_35 : decode cX2_points 35 = .ok (.iaload, 1) := dk_46 (dk_at dksX2_points_1 11 rfl rfl)
theorem dX2_points_36 : decode cX2_points 36 = .ok (.istore_n 3, 1) := dk_62 (dk_at dksX2_points_1 12 rfl rfl)
theorem dX2_points_37 : decode cX2_points 37 = .ok (.aload_n 0, 1) := dk_42 (dk_at dksX2_points_1 13 rfl rfl)
theorem dX2_points_38 : decode cX2_points 38 = .ok (.getfield 90, 3) := dk_180 0 90 (dk_at dksX2_points_1 14 rfl rfl)
theorem dX2_points_41 : decode cX2_points 41 = .ok (.iload_n 1, 1) := dk_27 (dk_at dksX2_points_1 17 rfl rfl)
theorem dX2_points_42 : decode cX2_points 42 = .ok (.iload_n 2, 1) := dk_28 (dk_at dksX2_points_1 18 rfl rfl)
theorem dX2_points_43 : decode cX2_points 43 = .ok (.iastore, 1) := dk_79 (dk_at dksX2_points_1 19 rfl rfl)
theorem dX2_points_44 : decode cX2_points 44 = .ok (.aload_n 0, 1) := dk_42 (dk_at dksX2_points_1 20 rfl rfl)
theorem dX2_points_45 : decode cX2_points 45 = .ok (.iload_n 3, 1) := dk_29 (dk_at dksX2_points_1 21 rfl rfl)
theorem dX2_points_46 : decode cX2_points 46 = .ok (.invokevirtual 126, 3) := dk_182 0 126 (dk_at dksX2_points_2 0 rfl rfl)
theorem dX2_points_49 : decode cX2_points 49 = .ok (.ireturn, 1) := dk_172 (dk_at dksX2_points_2 3 rfl rfl)
abbrev cX2_counting : ByteArray := prog_7_method_46_code
def yX2_counting : MethodName := ⟨RX2, "counting", "(II)I"⟩
def dkwX2_counting_1 : List UInt8 := [28, 182, 0, 185, 62, 29, 2, 160, 0, 11, 42, 5, 182, 0, 122, 167, 0, 8, 42, 29, 182, 0, 126, 172]
abbrev dktX2_counting_1 : List UInt8 := dkwX2_counting_1 ++ []
def dkwX2_counting_0 : List UInt8 := [42, 27, 182, 0, 159, 153, 0, 11, 42, 28, 182, 0, 162, 154, 0, 9, 42, 4, 182, 0, 122, 172, 42, 27]
abbrev dktX2_counting_0 : List UInt8 := dkwX2_counting_0 ++ dktX2_counting_1
theorem dksX2_counting_0 : cX2_counting.data.toList.drop 0 = dktX2_counting_0 := by decide +kernel
theorem dksX2_counting_1 : cX2_counting.data.toList.drop 24 = dktX2_counting_1 := dk_seg dksX2_counting_0 24 rfl rfl
theorem dX2_counting_0 : decode cX2_counting 0 = .ok (.aload_n 0, 1) := dk_42 (dk_at dksX2_counting_0 0 rfl rfl)
theorem dX2_counting_1 : decode cX2_counting 1 = .ok (.iload_n 1, 1) := dk_27 (dk_at dksX2_counting_0 1 rfl rfl)
theorem dX2_counting_2 : decode cX2_counting 2 = .ok (.invokevirtual 159, 3) := dk_182 0 159 (dk_at dksX2_counting_0 2 rfl rfl)
theorem dX2_counting_5 : decode cX2_counting 5 = .ok (.ifCond .eq 11, 3) := dk_153 0 11 (dk_at dksX2_counting_0 5 rfl rfl)
theorem dX2_counting_8 : decode cX2_counting 8 = .ok (.aload_n 0, 1) := dk_42 (dk_at dksX2_counting_0 8 rfl rfl)
theorem dX2_counting_9 : decode cX2_counting 9 = .ok (.iload_n 2, 1) := dk_28 (dk_at dksX2_counting_0 9 rfl rfl)
theorem dX2_counting_10 : decode cX2_counting 10 = .ok (.invokevirtual 162, 3) := dk_182 0 162 (dk_at dksX2_counting_0 10 rfl rfl)
theorem dX2_counting_13 : decode cX2_counting 13 = .ok (.ifCond .ne 9, 3) := dk_154 0 9 (dk_at dksX2_counting_0 13 rfl rfl)
theorem dX2_counting_16 : decode cX2_counting 16 = .ok (.aload_n 0, 1) := dk_42 (dk_at dksX2_counting_0 16 rfl rfl)
theorem dX2_counting_17 : decode cX2_counting 17 = .ok (.iconst 1, 1) := dk_4 (dk_at dksX2_counting_0 17 rfl rfl)
theorem dX2_counting_18 : decode cX2_counting 18 = .ok (.invokevirtual 122, 3) := dk_182 0 122 (dk_at dksX2_counting_0 18 rfl rfl)
theorem dX2_counting_21 : decode cX2_counting 21 = .ok (.ireturn, 1) := dk_172 (dk_at dksX2_counting_0 21 rfl rfl)
theorem dX2_counting_22 : decode cX2_counting 22 = .ok (.aload_n 0, 1) := dk_42 (dk_at dksX2_counting_0 22 rfl rfl)
theorem dX2_counting_23 : decode cX2_counting 23 = .ok (.iload_n 1, 1) := dk_27 (dk_at dksX2_counting_0 23 rfl rfl)
theorem dX2_counting_24 : decode cX2_counting 24 = .ok (.iload_n 2, 1) := dk_28 (dk_at dksX2_counting_1 0 rfl rfl)
theorem dX2_counting_25 : decode cX2_counting 25 = .ok (.invokevirtual 185, 3) := dk_182 0 185 (dk_at dksX2_counting_1 1 rfl rfl)
theorem dX2_counting_28 : decode cX2_counting 28 = .ok (.istore_n 3, 1) := dk_62 (dk_at dksX2_counting_1 4 rfl rfl)
theorem dX2_counting_29 : decode cX2_counting 29 = .ok (.iload_n 3, 1) := dk_29 (dk_at dksX2_counting_1 5 rfl rfl)
theorem dX2_counting_30 : decode cX2_counting 30 = .ok (.iconst (-1), 1) := dk_2 (dk_at dksX2_counting_1 6 rfl rfl)
theorem dX2_counting_31 : decode cX2_counting 31 = .ok (.if_icmp .ne 11, 3) := dk_160 0 11 (dk_at dksX2_counting_1 7 rfl rfl)
theorem dX2_counting_34 : decode cX2_counting 34 = .ok (.aload_n 0, 1) := dk_42 (dk_at dksX2_counting_1 10 rfl rfl)
theorem dX2_counting_35 : decode cX2_counting 35 = .ok (.iconst 2, 1) := dk_5 (dk_at dksX2_counting_1 11 rfl rfl)
theorem dX2_counting_36 : decode cX2_counting 36 = .ok (.invokevirtual 122, 3) := dk_182 0 122 (dk_at dksX2_counting_1 12 rfl rfl)
theorem dX2_counting_39 : decode cX2_counting 39 = .ok (.goto 8, 3) := dk_167 0 8 (dk_at dksX2_counting_1 15 rfl rfl)
theorem dX2_counting_42 : decode cX2_counting 42 = .ok (.aload_n 0, 1) := dk_42 (dk_at dksX2_counting_1 18 rfl rfl)
theorem dX2_counting_43 : decode cX2_counting 43 = .ok (.iload_n 3, 1) := dk_29 (dk_at dksX2_counting_1 19 rfl rfl)
theorem dX2_counting_44 : decode cX2_counting 44 = .ok (.invokevirtual 126, 3) := dk_182 0 126 (dk_at dksX2_counting_1 20 rfl rfl)
theorem dX2_counting_47 : decode cX2_counting 47 = .ok (.ireturn, 1) := dk_172 (dk_at dksX2_counting_1 23 rfl rfl)
abbrev cX2_mark : ByteArray := prog_7_method_49_code
def yX2_mark : MethodName := ⟨RX2, "mark", "(II)I"⟩
def dkwX2_mark_2 : List UInt8 := [182, 0, 126, 172]
abbrev dktX2_mark_2 : List UInt8 := dkwX2_mark_2 ++ []
def dkwX2_mark_1 : List UInt8 := [28, 182, 0, 203, 153, 0, 11, 42, 5, 182, 0, 122, 167, 0, 13, 42, 42, 27, 28, 182, 0, 206]
abbrev dktX2_mark_1 : List UInt8 := dkwX2_mark_1 ++ dktX2_mark_2
def dkwX2_mark_0 : List UInt8 := [42, 27, 182, 0, 159, 153, 0, 11, 42, 28, 182, 0, 162, 154, 0, 9, 42, 4, 182, 0, 122, 172, 42, 27]
abbrev dktX2_mark_0 : List UInt8 := dkwX2_mark_0 ++ dktX2_mark_1
theorem dksX2_mark_0 : cX2_mark.data.toList.drop 0 = dktX2_mark_0 := by decide +kernel
theorem dksX2_mark_1 : cX2_mark.data.toList.drop 24 = dktX2_mark_1 := dk_seg dksX2_mark_0 24 rfl rfl
theorem dksX2_mark_2 : cX2_mark.data.toList.drop 46 = dktX2_mark_2 := dk_seg dksX2_mark_1 22 rfl rfl
theorem dX2_mark_0 : decode cX2_mark 0 = .ok (.aload_n 0, 1) := dk_42 (dk_at dksX2_mark_0 0 rfl rfl)
theorem dX2_mark_1 : decode cX2_mark 1 = .ok (.iload_n 1, 1) := dk_27 (dk_at dksX2_mark_0 1 rfl rfl)
theorem dX2_mark_2 : decode cX2_mark 2 = .ok (.invokevirtual 159, 3) := dk_182 0 159 (dk_at dksX2_mark_0 2 rfl rfl)
theorem dX2_mark_5 : decode cX2_mark 5 = .ok (.ifCond .eq 11, 3) := dk_153 0 11 (dk_at dksX2_mark_0 5 rfl rfl)
theorem dX2_mark_8 : decode cX2_mark 8 = .ok (.aload_n 0, 1) := dk_42 (dk_at dksX2_mark_0 8 rfl rfl)
theorem dX2_mark_9 : decode cX2_mark 9 = .ok (.iload_n 2, 1) := dk_28 (dk_at dksX2_mark_0 9 rfl rfl)
theorem dX2_mark_10 : decode cX2_mark 10 = .ok (.invokevirtual 162, 3) := dk_182 0 162 (dk_at dksX2_mark_0 10 rfl rfl)
theorem dX2_mark_13 : decode cX2_mark 13 = .ok (.ifCond .ne 9, 3) := dk_154 0 9 (dk_at dksX2_mark_0 13 rfl rfl)
theorem dX2_mark_16 : decode cX2_mark 16 = .ok (.aload_n 0, 1) := dk_42 (dk_at dksX2_mark_0 16 rfl rfl)
theorem dX2_mark_17 : decode cX2_mark 17 = .ok (.iconst 1, 1) := dk_4 (dk_at dksX2_mark_0 17 rfl rfl)
theorem dX2_mark_18 : decode cX2_mark 18 = .ok (.invokevirtual 122, 3) := dk_182 0 122 (dk_at dksX2_mark_0 18 rfl rfl)
theorem dX2_mark_21 : decode cX2_mark 21 = .ok (.ireturn, 1) := dk_172 (dk_at dksX2_mark_0 21 rfl rfl)
theorem dX2_mark_22 : decode cX2_mark 22 = .ok (.aload_n 0, 1) := dk_42 (dk_at dksX2_mark_0 22 rfl rfl)
theorem dX2_mark_23 : decode cX2_mark 23 = .ok (.iload_n 1, 1) := dk_27 (dk_at dksX2_mark_0 23 rfl rfl)
theorem dX2_mark_24 : decode cX2_mark 24 = .ok (.iload_n 2, 1) := dk_28 (dk_at dksX2_mark_1 0 rfl rfl)
theorem dX2_mark_25 : decode cX2_mark 25 = .ok (.invokevirtual 203, 3) := dk_182 0 203 (dk_at dksX2_mark_1 1 rfl rfl)
theorem dX2_mark_28 : decode cX2_mark 28 = .ok (.ifCond .eq 11, 3) := dk_153 0 11 (dk_at dksX2_mark_1 4 rfl rfl)
theorem dX2_mark_31 : decode cX2_mark 31 = .ok (.aload_n 0, 1) := dk_42 (dk_at dksX2_mark_1 7 rfl rfl)
theorem dX2_mark_32 : decode cX2_mark 32 = .ok (.iconst 2, 1) := dk_5 (dk_at dksX2_mark_1 8 rfl rfl)
theorem dX2_mark_33 : decode cX2_mark 33 = .ok (.invokevirtual 122, 3) := dk_182 0 122 (dk_at dksX2_mark_1 9 rfl rfl)
theorem dX2_mark_36 : decode cX2_mark 36 = .ok (.goto 13, 3) := dk_167 0 13 (dk_at dksX2_mark_1 12 rfl rfl)
theorem dX2_mark_39 : decode cX2_mark 39 = .ok (.aload_n 0, 1) := dk_42 (dk_at dksX2_mark_1 15 rfl rfl)
theorem dX2_mark_40 : decode cX2_mark 40 = .ok (.aload_n 0, 1) := dk_42 (dk_at dksX2_mark_1 16 rfl rfl)
theorem dX2_mark_41 : decode cX2_mark 41 = .ok (.iload_n 1, 1) := dk_27 (dk_at dksX2_mark_1 17 rfl rfl)
theorem dX2_mark_42 : decode cX2_mark 42 = .ok (.iload_n 2, 1) := dk_28 (dk_at dksX2_mark_1 18 rfl rfl)
theorem dX2_mark_43 : decode cX2_mark 43 = .ok (.invokevirtual 206, 3) := dk_182 0 206 (dk_at dksX2_mark_1 19 rfl rfl)
theorem dX2_mark_46 : decode cX2_mark 46 = .ok (.invokevirtual 126, 3) := dk_182 0 126 (dk_at dksX2_mark_2 0 rfl rfl)
theorem dX2_mark_49 : decode cX2_mark 49 = .ok (.ireturn, 1) := dk_172 (dk_at dksX2_mark_2 3 rfl rfl)
abbrev cX2_isFrozenOf : ByteArray := prog_7_method_47_code
def yX2_isFrozenOf : MethodName := ⟨RX2, "isFrozenOf", "(II)Z"⟩
def dkwX2_isFrozenOf_5 : List UInt8 := [4, 167, 0, 4, 3, 62, 132, 4, 1, 167, 255, 135, 29, 172]
abbrev dktX2_isFrozenOf_5 : List UInt8 := dkwX2_isFrozenOf_5 ++ []
def dkwX2_isFrozenOf_4 : List UInt8 := [154, 0, 24, 42, 180, 0, 111, 21, 4, 46, 2, 160, 0, 17, 21, 5, 154, 0, 8, 21, 6, 153, 0, 7]
abbrev dktX2_isFrozenOf_4 : List UInt8 := dkwX2_isFrozenOf_4 ++ dktX2_isFrozenOf_5
def dkwX2_isFrozenOf_3 : List UInt8 := [180, 0, 69, 42, 180, 0, 105, 21, 4, 46, 46, 28, 160, 0, 7, 4, 167, 0, 4, 3, 54, 6, 29]
abbrev dktX2_isFrozenOf_3 : List UInt8 := dkwX2_isFrozenOf_3 ++ dktX2_isFrozenOf_4
def dkwX2_isFrozenOf_2 : List UInt8 := [167, 0, 4, 3, 54, 5, 42, 180, 0, 66, 42, 180, 0, 105, 21, 4, 46, 46, 27, 160, 0, 23, 42]
abbrev dktX2_isFrozenOf_2 : List UInt8 := dkwX2_isFrozenOf_2 ++ dktX2_isFrozenOf_3
def dkwX2_isFrozenOf_1 : List UInt8 := [46, 46, 27, 160, 0, 23, 42, 180, 0, 69, 42, 180, 0, 102, 21, 4, 46, 46, 28, 160, 0, 7, 4]
abbrev dktX2_isFrozenOf_1 : List UInt8 := dkwX2_isFrozenOf_1 ++ dktX2_isFrozenOf_2
def dkwX2_isFrozenOf_0 : List UInt8 := [3, 62, 3, 54, 4, 21, 4, 42, 180, 0, 28, 162, 0, 118, 42, 180, 0, 66, 42, 180, 0, 102, 21, 4]
abbrev dktX2_isFrozenOf_0 : List UInt8 := dkwX2_isFrozenOf_0 ++ dktX2_isFrozenOf_1
theorem dksX2_isFrozenOf_0 : cX2_isFrozenOf.data.toList.drop 0 = dktX2_isFrozenOf_0 := by decide +kernel
theorem dksX2_isFrozenOf_1 : cX2_isFrozenOf.data.toList.drop 24 = dktX2_isFrozenOf_1 := dk_seg dksX2_isFrozenOf_0 24 rfl rfl
theorem dksX2_isFrozenOf_2 : cX2_isFrozenOf.data.toList.drop 47 = dktX2_isFrozenOf_2 := dk_seg dksX2_isFrozenOf_1 23 rfl rfl
theorem dksX2_isFrozenOf_3 : cX2_isFrozenOf.data.toList.drop 70 = dktX2_isFrozenOf_3 := dk_seg dksX2_isFrozenOf_2 23 rfl rfl
theorem dksX2_isFrozenOf_4 : cX2_isFrozenOf.data.toList.drop 93 = dktX2_isFrozenOf_4 := dk_seg dksX2_isFrozenOf_3 23 rfl rfl
theorem dksX2_isFrozenOf_5 : cX2_isFrozenOf.data.toList.drop 117 = dktX2_isFrozenOf_5 := dk_seg dksX2_isFrozenOf_4 24 rfl rfl
theorem dX2_isFrozenOf_0 : decode cX2_isFrozenOf 0 = .ok (.iconst 0, 1) := dk_3 (dk_at dksX2_isFrozenOf_0 0 rfl rfl)
theorem dX2_isFrozenOf_1 : decode cX2_isFrozenOf 1 = .ok (.istore_n 3, 1) := dk_62 (dk_at dksX2_isFrozenOf_0 1 rfl rfl)
theorem dX2_isFrozenOf_2 : decode cX2_isFrozenOf 2 = .ok (.iconst 0, 1) := dk_3 (dk_at dksX2_isFrozenOf_0 2 rfl rfl)
theorem dX2_isFrozenOf_3 : decode cX2_isFrozenOf 3 = .ok (.istore 4, 2) := dk_54 4 (dk_at dksX2_isFrozenOf_0 3 rfl rfl)
theorem dX2_isFrozenOf_5 : decode cX2_isFrozenOf 5 = .ok (.iload 4, 2) := dk_21 4 (dk_at dksX2_isFrozenOf_0 5 rfl rfl)
theorem dX2_isFrozenOf_7 : decode cX2_isFrozenOf 7 = .ok (.aload_n 0, 1) := dk_42 (dk_at dksX2_isFrozenOf_0 7 rfl rfl)
theorem dX2_isFrozenOf_8 : decode cX2_isFrozenOf 8 = .ok (.getfield 28, 3) := dk_180 0 28 (dk_at dksX2_isFrozenOf_0 8 rfl rfl)
theorem dX2_isFrozenOf_11 : decode cX2_isFrozenOf 11 = .ok (.if_icmp .ge 118, 3) := dk_162 0 118 (dk_at dksX2_isFrozenOf_0 11 rfl rfl)
theorem dX2_isFrozenOf_14 : decode cX2_isFrozenOf 14 = .ok (.aload_n 0, 1) := dk_42 (dk_at dksX2_isFrozenOf_0 14 rfl rfl)
theorem dX2_isFrozenOf_15 : decode cX2_isFrozenOf 15 = .ok (.getfield 66, 3) := dk_180 0 66 (dk_at dksX2_isFrozenOf_0 15 rfl rfl)
theorem dX2_isFrozenOf_18 : decode cX2_isFrozenOf 18 = .ok (.aload_n 0, 1) := dk_42 (dk_at dksX2_isFrozenOf_0 18 rfl rfl)
theorem dX2_isFrozenOf_19 : decode cX2_isFrozenOf 19 = .ok (.getfield 102, 3) := dk_180 0 102 (dk_at dksX2_isFrozenOf_0 19 rfl rfl)
theorem dX2_isFrozenOf_22 : decode cX2_isFrozenOf 22 = .ok (.iload 4, 2) := dk_21 4 (dk_at dksX2_isFrozenOf_0 22 rfl rfl)
theorem dX2_isFrozenOf_24 : decode cX2_isFrozenOf 24 = .ok (.iaload, 1) := dk_46 (dk_at dksX2_isFrozenOf_1 0 rfl rfl)
theorem dX2_isFrozenOf_25 : decode cX2_isFrozenOf 25 = .ok (.iaload, 1) := dk_46 (dk_at dksX2_isFrozenOf_1 1 rfl rfl)
theorem dX2_isFrozenOf_26 : decode cX2_isFrozenOf 26 = .ok (.iload_n 1, 1) := dk_27 (dk_at dksX2_isFrozenOf_1 2 rfl rfl)
theorem dX2_isFrozenOf_27 : decode cX2_isFrozenOf 27 = .ok (.if_icmp .ne 23, 3) := dk_160 0 23 (dk_at dksX2_isFrozenOf_1 3 rfl rfl)
theorem dX2_isFrozenOf_30 : decode cX2_isFrozenOf 30 = .ok (.aload_n 0, 1) := dk_42 (dk_at dksX2_isFrozenOf_1 6 rfl rfl)
theorem dX2_isFrozenOf_31 : decode cX2_isFrozenOf 31 = .ok (.getfield 69, 3) := dk_180 0 69 (dk_at dksX2_isFrozenOf_1 7 rfl rfl)
theorem dX2_isFrozenOf_34 : decode cX2_isFrozenOf 34 = .ok (.aload_n 0, 1) := dk_42 (dk_at dksX2_isFrozenOf_1 10 rfl rfl)
theorem dX2_isFrozenOf_35 : decode cX2_isFrozenOf 35 = .ok (.getfield 102, 3) := dk_180 0 102 (dk_at dksX2_isFrozenOf_1 11 rfl rfl)
theorem dX2_isFrozenOf_38 : decode cX2_isFrozenOf 38 = .ok (.iload 4, 2) := dk_21 4 (dk_at dksX2_isFrozenOf_1 14 rfl rfl)
theorem dX2_isFrozenOf_40 : decode cX2_isFrozenOf 40 = .ok (.iaload, 1) := dk_46 (dk_at dksX2_isFrozenOf_1 16 rfl rfl)
theorem dX2_isFrozenOf_41 : decode cX2_isFrozenOf 41 = .ok (.iaload, 1) := dk_46 (dk_at dksX2_isFrozenOf_1 17 rfl rfl)
theorem dX2_isFrozenOf_42 : decode cX2_isFrozenOf 42 = .ok (.iload_n 2, 1) := dk_28 (dk_at dksX2_isFrozenOf_1 18 rfl rfl)
theorem dX2_isFrozenOf_43 : decode cX2_isFrozenOf 43 = .ok (.if_icmp .ne 7, 3) := dk_160 0 7 (dk_at dksX2_isFrozenOf_1 19 rfl rfl)
theorem dX2_isFrozenOf_46 : decode cX2_isFrozenOf 46 = .ok (.iconst 1, 1) := dk_4 (dk_at dksX2_isFrozenOf_1 22 rfl rfl)
theorem dX2_isFrozenOf_47 : decode cX2_isFrozenOf 47 = .ok (.goto 4, 3) := dk_167 0 4 (dk_at dksX2_isFrozenOf_2 0 rfl rfl)
theorem dX2_isFrozenOf_50 : decode cX2_isFrozenOf 50 = .ok (.iconst 0, 1) := dk_3 (dk_at dksX2_isFrozenOf_2 3 rfl rfl)
theorem dX2_isFrozenOf_51 : decode cX2_isFrozenOf 51 = .ok (.istore 5, 2) := dk_54 5 (dk_at dksX2_isFrozenOf_2 4 rfl rfl)
theorem dX2_isFrozenOf_53 : decode cX2_isFrozenOf 53 = .ok (.aload_n 0, 1) := dk_42 (dk_at dksX2_isFrozenOf_2 6 rfl rfl)
theorem dX2_isFrozenOf_54 : decode cX2_isFrozenOf 54 = .ok (.getfield 66, 3) := dk_180 0 66 (dk_at dksX2_isFrozenOf_2 7 rfl rfl)
theorem dX2_isFrozenOf_57 : decode cX2_isFrozenOf 57 = .ok (.aload_n 0, 1) := dk_42 (dk_at dksX2_isFrozenOf_2 10 rfl rfl)
theorem dX2_isFrozenOf_58 : decode cX2_isFrozenOf 58 = .ok (.getfield 105, 3) := dk_180 0 105 (dk_at dksX2_isFrozenOf_2 11 rfl rfl)
theorem dX2_isFrozenOf_61 : decode cX2_isFrozenOf 61 = .ok (.iload 4, 2) := dk_21 4 (dk_at dksX2_isFrozenOf_2 14 rfl rfl)
theorem dX2_isFrozenOf_63 : decode cX2_isFrozenOf 63 = .ok (.iaload, 1) := dk_46 (dk_at dksX2_isFrozenOf_2 16 rfl rfl)
theorem dX2_isFrozenOf_64 : decode cX2_isFrozenOf 64 = .ok (.iaload, 1) := dk_46 (dk_at dksX2_isFrozenOf_2 17 rfl rfl)
theorem dX2_isFrozenOf_65 : decode cX2_isFrozenOf 65 = .ok (.iload_n 1, 1) := dk_27 (dk_at dksX2_isFrozenOf_2 18 rfl rfl)
theorem dX2_isFrozenOf_66 : decode cX2_isFrozenOf 66 = .ok (.if_icmp .ne 23, 3) := dk_160 0 23 (dk_at dksX2_isFrozenOf_2 19 rfl rfl)
theorem dX2_isFrozenOf_69 : decode cX2_isFrozenOf 69 = .ok (.aload_n 0, 1) := dk_42 (dk_at dksX2_isFrozenOf_2 22 rfl rfl)
theorem dX2_isFrozenOf_70 : decode cX2_isFrozenOf 70 = .ok (.getfield 69, 3) := dk_180 0 69 (dk_at dksX2_isFrozenOf_3 0 rfl rfl)
theorem dX2_isFrozenOf_73 : decode cX2_isFrozenOf 73 = .ok (.aload_n 0, 1) := dk_42 (dk_at dksX2_isFrozenOf_3 3 rfl rfl)
theorem dX2_isFrozenOf_74 : decode cX2_isFrozenOf 74 = .ok (.getfield 105, 3) := dk_180 0 105 (dk_at dksX2_isFrozenOf_3 4 rfl rfl)
theorem dX2_isFrozenOf_77 : decode cX2_isFrozenOf 77 = .ok (.iload 4, 2) := dk_21 4 (dk_at dksX2_isFrozenOf_3 7 rfl rfl)
theorem dX2_isFrozenOf_79 : decode cX2_isFrozenOf 79 = .ok (.iaload, 1) := dk_46 (dk_at dksX2_isFrozenOf_3 9 rfl rfl)
theorem dX2_isFrozenOf_80 : decode cX2_isFrozenOf 80 = .ok (.iaload, 1) := dk_46 (dk_at dksX2_isFrozenOf_3 10 rfl rfl)
theorem dX2_isFrozenOf_81 : decode cX2_isFrozenOf 81 = .ok (.iload_n 2, 1) := dk_28 (dk_at dksX2_isFrozenOf_3 11 rfl rfl)
theorem dX2_isFrozenOf_82 : decode cX2_isFrozenOf 82 = .ok (.if_icmp .ne 7, 3) := dk_160 0 7 (dk_at dksX2_isFrozenOf_3 12 rfl rfl)
theorem dX2_isFrozenOf_85 : decode cX2_isFrozenOf 85 = .ok (.iconst 1, 1) := dk_4 (dk_at dksX2_isFrozenOf_3 15 rfl rfl)
theorem dX2_isFrozenOf_86 : decode cX2_isFrozenOf 86 = .ok (.goto 4, 3) := dk_167 0 4 (dk_at dksX2_isFrozenOf_3 16 rfl rfl)
theorem dX2_isFrozenOf_89 : decode cX2_isFrozenOf 89 = .ok (.iconst 0, 1) := dk_3 (dk_at dksX2_isFrozenOf_3 19 rfl rfl)
theorem dX2_isFrozenOf_90 : decode cX2_isFrozenOf 90 = .ok (.istore 6, 2) := dk_54 6 (dk_at dksX2_isFrozenOf_3 20 rfl rfl)
theorem dX2_isFrozenOf_92 : decode cX2_isFrozenOf 92 = .ok (.iload_n 3, 1) := dk_29 (dk_at dksX2_isFrozenOf_3 22 rfl rfl)
theorem dX2_isFrozenOf_93 : decode cX2_isFrozenOf 93 = .ok (.ifCond .ne 24, 3) := dk_154 0 24 (dk_at dksX2_isFrozenOf_4 0 rfl rfl)
theorem dX2_isFrozenOf_96 : decode cX2_isFrozenOf 96 = .ok (.aload_n 0, 1) := dk_42 (dk_at dksX2_isFrozenOf_4 3 rfl rfl)
theorem dX2_isFrozenOf_97 : decode cX2_isFrozenOf 97 = .ok (.getfield 111, 3) := dk_180 0 111 (dk_at dksX2_isFrozenOf_4 4 rfl rfl)
theorem dX2_isFrozenOf_100 : decode cX2_isFrozenOf 100 = .ok (.iload 4, 2) := dk_21 4 (dk_at dksX2_isFrozenOf_4 7 rfl rfl)
theorem dX2_isFrozenOf_102 : decode cX2_isFrozenOf 102 = .ok (.iaload, 1) := dk_46 (dk_at dksX2_isFrozenOf_4 9 rfl rfl)
theorem dX2_isFrozenOf_103 : decode cX2_isFrozenOf 103 = .ok (.iconst (-1), 1) := dk_2 (dk_at dksX2_isFrozenOf_4 10 rfl rfl)
theorem dX2_isFrozenOf_104 : decode cX2_isFrozenOf 104 = .ok (.if_icmp .ne 17, 3) := dk_160 0 17 (dk_at dksX2_isFrozenOf_4 11 rfl rfl)
theorem dX2_isFrozenOf_107 : decode cX2_isFrozenOf 107 = .ok (.iload 5, 2) := dk_21 5 (dk_at dksX2_isFrozenOf_4 14 rfl rfl)
theorem dX2_isFrozenOf_109 : decode cX2_isFrozenOf 109 = .ok (.ifCond .ne 8, 3) := dk_154 0 8 (dk_at dksX2_isFrozenOf_4 16 rfl rfl)
theorem dX2_isFrozenOf_112 : decode cX2_isFrozenOf 112 = .ok (.iload 6, 2) := dk_21 6 (dk_at dksX2_isFrozenOf_4 19 rfl rfl)
theorem dX2_isFrozenOf_114 : decode cX2_isFrozenOf 114 = .ok (.ifCond .eq 7, 3) := dk_153 0 7 (dk_at dksX2_isFrozenOf_4 21 rfl rfl)
theorem dX2_isFrozenOf_117 : decode cX2_isFrozenOf 117 = .ok (.iconst 1, 1) := dk_4 (dk_at dksX2_isFrozenOf_5 0 rfl rfl)
theorem dX2_isFrozenOf_118 : decode cX2_isFrozenOf 118 = .ok (.goto 4, 3) := dk_167 0 4 (dk_at dksX2_isFrozenOf_5 1 rfl rfl)
theorem dX2_isFrozenOf_121 : decode cX2_isFrozenOf 121 = .ok (.iconst 0, 1) := dk_3 (dk_at dksX2_isFrozenOf_5 4 rfl rfl)
theorem dX2_isFrozenOf_122 : decode cX2_isFrozenOf 122 = .ok (.istore_n 3, 1) := dk_62 (dk_at dksX2_isFrozenOf_5 5 rfl rfl)
theorem dX2_isFrozenOf_123 : decode cX2_isFrozenOf 123 = .ok (.iinc 4 1, 3) := dk_132 4 1 (dk_at dksX2_isFrozenOf_5 6 rfl rfl)
theorem dX2_isFrozenOf_126 : decode cX2_isFrozenOf 126 = .ok (.goto (-121), 3) := dk_167 255 135 (dk_at dksX2_isFrozenOf_5 9 rfl rfl)
theorem dX2_isFrozenOf_129 : decode cX2_isFrozenOf 129 = .ok (.iload_n 3, 1) := dk_29 (dk_at dksX2_isFrozenOf_5 12 rfl rfl)
theorem dX2_isFrozenOf_130 : decode cX2_isFrozenOf 130 = .ok (.ireturn, 1) := dk_172 (dk_at dksX2_isFrozenOf_5 13 rfl rfl)
abbrev cX2_markOf : ByteArray := prog_7_method_48_code
def yX2_markOf : MethodName := ⟨RX2, "markOf", "(II)I"⟩
def dkwX2_markOf_2 : List UInt8 := [42, 29, 182, 0, 197, 182, 0, 200, 100, 184, 0, 188, 172]
abbrev dktX2_markOf_2 : List UInt8 := dkwX2_markOf_2 ++ []
def dkwX2_markOf_1 : List UInt8 := [160, 0, 5, 3, 172, 3, 42, 180, 0, 53, 28, 46, 42, 180, 0, 90, 29, 46, 104, 16, 100, 108, 42, 28]
abbrev dktX2_markOf_1 : List UInt8 := dkwX2_markOf_1 ++ dktX2_markOf_2
def dkwX2_markOf_0 : List UInt8 := [42, 27, 28, 182, 0, 185, 62, 42, 180, 0, 114, 16, 10, 27, 104, 28, 96, 51, 154, 0, 8, 29, 2]
abbrev dktX2_markOf_0 : List UInt8 := dkwX2_markOf_0 ++ dktX2_markOf_1
theorem dksX2_markOf_0 : cX2_markOf.data.toList.drop 0 = dktX2_markOf_0 := by decide +kernel
theorem dksX2_markOf_1 : cX2_markOf.data.toList.drop 23 = dktX2_markOf_1 := dk_seg dksX2_markOf_0 23 rfl rfl
theorem dksX2_markOf_2 : cX2_markOf.data.toList.drop 47 = dktX2_markOf_2 := dk_seg dksX2_markOf_1 24 rfl rfl
theorem dX2_markOf_0 : decode cX2_markOf 0 = .ok (.aload_n 0, 1) := dk_42 (dk_at dksX2_markOf_0 0 rfl rfl)
theorem dX2_markOf_1 : decode cX2_markOf 1 = .ok (.iload_n 1, 1) := dk_27 (dk_at dksX2_markOf_0 1 rfl rfl)
theorem dX2_markOf_2 : decode cX2_markOf 2 = .ok (.iload_n 2, 1) := dk_28 (dk_at dksX2_markOf_0 2 rfl rfl)
theorem dX2_markOf_3 : decode cX2_markOf 3 = .ok (.invokevirtual 185, 3) := dk_182 0 185 (dk_at dksX2_markOf_0 3 rfl rfl)
theorem dX2_markOf_6 : decode cX2_markOf 6 = .ok (.istore_n 3, 1) := dk_62 (dk_at dksX2_markOf_0 6 rfl rfl)
theorem dX2_markOf_7 : decode cX2_markOf 7 = .ok (.aload_n 0, 1) := dk_42 (dk_at dksX2_markOf_0 7 rfl rfl)
theorem dX2_markOf_8 : decode cX2_markOf 8 = .ok (.getfield 114, 3) := dk_180 0 114 (dk_at dksX2_markOf_0 8 rfl rfl)
theorem dX2_markOf_11 : decode cX2_markOf 11 = .ok (.bipush 10, 2) := dk_16 10 (dk_at dksX2_markOf_0 11 rfl rfl)
theorem dX2_markOf_13 : decode cX2_markOf 13 = .ok (.iload_n 1, 1) := dk_27 (dk_at dksX2_markOf_0 13 rfl rfl)
theorem dX2_markOf_14 : decode cX2_markOf 14 = .ok (.imul, 1) := dk_104 (dk_at dksX2_markOf_0 14 rfl rfl)
theorem dX2_markOf_15 : decode cX2_markOf 15 = .ok (.iload_n 2, 1) := dk_28 (dk_at dksX2_markOf_0 15 rfl rfl)
theorem dX2_markOf_16 : decode cX2_markOf 16 = .ok (.iadd, 1) := dk_96 (dk_at dksX2_markOf_0 16 rfl rfl)
theorem dX2_markOf_17 : decode cX2_markOf 17 = .ok (.baload, 1) := dk_51 (dk_at dksX2_markOf_0 17 rfl rfl)
theorem dX2_markOf_18 : decode cX2_markOf 18 = .ok (.ifCond .ne 8, 3) := dk_154 0 8 (dk_at dksX2_markOf_0 18 rfl rfl)
theorem dX2_markOf_21 : decode cX2_markOf 21 = .ok (.iload_n 3, 1) := dk_29 (dk_at dksX2_markOf_0 21 rfl rfl)
theorem dX2_markOf_22 : decode cX2_markOf 22 = .ok (.iconst (-1), 1) := dk_2 (dk_at dksX2_markOf_0 22 rfl rfl)
theorem dX2_markOf_23 : decode cX2_markOf 23 = .ok (.if_icmp .ne 5, 3) := dk_160 0 5 (dk_at dksX2_markOf_1 0 rfl rfl)
theorem dX2_markOf_26 : decode cX2_markOf 26 = .ok (.iconst 0, 1) := dk_3 (dk_at dksX2_markOf_1 3 rfl rfl)
theorem dX2_markOf_27 : decode cX2_markOf 27 = .ok (.ireturn, 1) := dk_172 (dk_at dksX2_markOf_1 4 rfl rfl)
theorem dX2_markOf_28 : decode cX2_markOf 28 = .ok (.iconst 0, 1) := dk_3 (dk_at dksX2_markOf_1 5 rfl rfl)
theorem dX2_markOf_29 : decode cX2_markOf 29 = .ok (.aload_n 0, 1) := dk_42 (dk_at dksX2_markOf_1 6 rfl rfl)
theorem dX2_markOf_30 : decode cX2_markOf 30 = .ok (.getfield 53, 3) := dk_180 0 53 (dk_at dksX2_markOf_1 7 rfl rfl)
theorem dX2_markOf_33 : decode cX2_markOf 33 = .ok (.iload_n 2, 1) := dk_28 (dk_at dksX2_markOf_1 10 rfl rfl)
theorem dX2_markOf_34 : decode cX2_markOf 34 = .ok (.iaload, 1) := dk_46 (dk_at dksX2_markOf_1 11 rfl rfl)
theorem dX2_markOf_35 : decode cX2_markOf 35 = .ok (.aload_n 0, 1) := dk_42 (dk_at dksX2_markOf_1 12 rfl rfl)
theorem dX2_markOf_36 : decode cX2_markOf 36 = .ok (.getfield 90, 3) := dk_180 0 90 (dk_at dksX2_markOf_1 13 rfl rfl)
theorem dX2_markOf_39 : decode cX2_markOf 39 = .ok (.iload_n 3, 1) := dk_29 (dk_at dksX2_markOf_1 16 rfl rfl)
theorem dX2_markOf_40 : decode cX2_markOf 40 = .ok (.iaload, 1) := dk_46 (dk_at dksX2_markOf_1 17 rfl rfl)
theorem dX2_markOf_41 : decode cX2_markOf 41 = .ok (.imul, 1) := dk_104 (dk_at dksX2_markOf_1 18 rfl rfl)
theorem dX2_markOf_42 : decode cX2_markOf 42 = .ok (.bipush 100, 2) := dk_16 100 (dk_at dksX2_markOf_1 19 rfl rfl)
theorem dX2_markOf_44 : decode cX2_markOf 44 = .ok (.idiv, 1) := dk_108 (dk_at dksX2_markOf_1 21 rfl rfl)
theorem dX2_markOf_45 : decode cX2_markOf 45 = .ok (.aload_n 0, 1) := dk_42 (dk_at dksX2_markOf_1 22 rfl rfl)
theorem dX2_markOf_46 : decode cX2_markOf 46 = .ok (.iload_n 2, 1) := dk_28 (dk_at dksX2_markOf_1 23 rfl rfl)
theorem dX2_markOf_47 : decode cX2_markOf 47 = .ok (.aload_n 0, 1) := dk_42 (dk_at dksX2_markOf_2 0 rfl rfl)
theorem dX2_markOf_48 : decode cX2_markOf 48 = .ok (.iload_n 3, 1) := dk_29 (dk_at dksX2_markOf_2 1 rfl rfl)
theorem dX2_markOf_49 : decode cX2_markOf 49 = .ok (.invokevirtual 197, 3) := dk_182 0 197 (dk_at dksX2_markOf_2 2 rfl rfl)
theorem dX2_markOf_52 : decode cX2_markOf 52 = .ok (.invokevirtual 200, 3) := dk_182 0 200 (dk_at dksX2_markOf_2 5 rfl rfl)
theorem dX2_markOf_55 : decode cX2_markOf 55 = .ok (.isub, 1) := dk_100 (dk_at dksX2_markOf_2 8 rfl rfl)
theorem dX2_markOf_56 : decode cX2_markOf 56 = .ok (.invokestatic 188, 3) := dk_184 0 188 (dk_at dksX2_markOf_2 9 rfl rfl)
theorem dX2_markOf_59 : decode cX2_markOf 59 = .ok (.ireturn, 1) := dk_172 (dk_at dksX2_markOf_2 12 rfl rfl)
abbrev cX2_isFrozen : ByteArray := prog_7_method_50_code
def yX2_isFrozen : MethodName := ⟨RX2, "isFrozen", "(II)Z"⟩
def dkwX2_isFrozen_2 : List UInt8 := [172]
abbrev dktX2_isFrozen_2 : List UInt8 := dkwX2_isFrozen_2 ++ []
def dkwX2_isFrozen_1 : List UInt8 := [181, 0, 37, 42, 180, 0, 37, 154, 0, 16, 42, 27, 28, 182, 0, 203, 153, 0, 7, 4, 167, 0, 4, 3]
abbrev dktX2_isFrozen_1 : List UInt8 := dkwX2_isFrozen_1 ++ dktX2_isFrozen_2
def dkwX2_isFrozen_0 : List UInt8 := [42, 42, 27, 182, 0, 159, 153, 0, 15, 42, 28, 182, 0, 162, 153, 0, 7, 3, 167, 0, 4, 4]
abbrev dktX2_isFrozen_0 : List UInt8 := dkwX2_isFrozen_0 ++ dktX2_isFrozen_1
theorem dksX2_isFrozen_0 : cX2_isFrozen.data.toList.drop 0 = dktX2_isFrozen_0 := by decide +kernel
theorem dksX2_isFrozen_1 : cX2_isFrozen.data.toList.drop 22 = dktX2_isFrozen_1 := dk_seg dksX2_isFrozen_0 22 rfl rfl
theorem dksX2_isFrozen_2 : cX2_isFrozen.data.toList.drop 46 = dktX2_isFrozen_2 := dk_seg dksX2_isFrozen_1 24 rfl rfl
theorem dX2_isFrozen_0 : decode cX2_isFrozen 0 = .ok (.aload_n 0, 1) := dk_42 (dk_at dksX2_isFrozen_0 0 rfl rfl)
theorem dX2_isFrozen_1 : decode cX2_isFrozen 1 = .ok (.aload_n 0, 1) := dk_42 (dk_at dksX2_isFrozen_0 1 rfl rfl)
theorem dX2_isFrozen_2 : decode cX2_isFrozen 2 = .ok (.iload_n 1, 1) := dk_27 (dk_at dksX2_isFrozen_0 2 rfl rfl)
theorem dX2_isFrozen_3 : decode cX2_isFrozen 3 = .ok (.invokevirtual 159, 3) := dk_182 0 159 (dk_at dksX2_isFrozen_0 3 rfl rfl)
theorem dX2_isFrozen_6 : decode cX2_isFrozen 6 = .ok (.ifCond .eq 15, 3) := dk_153 0 15 (dk_at dksX2_isFrozen_0 6 rfl rfl)
theorem dX2_isFrozen_9 : decode cX2_isFrozen 9 = .ok (.aload_n 0, 1) := dk_42 (dk_at dksX2_isFrozen_0 9 rfl rfl)
theorem dX2_isFrozen_10 : decode cX2_isFrozen 10 = .ok (.iload_n 2, 1) := dk_28 (dk_at dksX2_isFrozen_0 10 rfl rfl)
theorem dX2_isFrozen_11 : decode cX2_isFrozen 11 = .ok (.invokevirtual 162, 3) := dk_182 0 162 (dk_at dksX2_isFrozen_0 11 rfl rfl)
theorem dX2_isFrozen_14 : decode cX2_isFrozen 14 = .ok (.ifCond .eq 7, 3) := dk_153 0 7 (dk_at dksX2_isFrozen_0 14 rfl rfl)
theorem dX2_isFrozen_17 : decode cX2_isFrozen 17 = .ok (.iconst 0, 1) := dk_3 (dk_at dksX2_isFrozen_0 17 rfl rfl)
theorem dX2_isFrozen_18 : decode cX2_isFrozen 18 = .ok (.goto 4, 3) := dk_167 0 4 (dk_at dksX2_isFrozen_0 18 rfl rfl)
theorem dX2_isFrozen_21 : decode cX2_isFrozen 21 = .ok (.iconst 1, 1) := dk_4 (dk_at dksX2_isFrozen_0 21 rfl rfl)
theorem dX2_isFrozen_22 : decode cX2_isFrozen 22 = .ok (.putfield 37, 3) := dk_181 0 37 (dk_at dksX2_isFrozen_1 0 rfl rfl)
theorem dX2_isFrozen_25 : decode cX2_isFrozen 25 = .ok (.aload_n 0, 1) := dk_42 (dk_at dksX2_isFrozen_1 3 rfl rfl)
theorem dX2_isFrozen_26 : decode cX2_isFrozen 26 = .ok (.getfield 37, 3) := dk_180 0 37 (dk_at dksX2_isFrozen_1 4 rfl rfl)
theorem dX2_isFrozen_29 : decode cX2_isFrozen 29 = .ok (.ifCond .ne 16, 3) := dk_154 0 16 (dk_at dksX2_isFrozen_1 7 rfl rfl)
theorem dX2_isFrozen_32 : decode cX2_isFrozen 32 = .ok (.aload_n 0, 1) := dk_42 (dk_at dksX2_isFrozen_1 10 rfl rfl)
theorem dX2_isFrozen_33 : decode cX2_isFrozen 33 = .ok (.iload_n 1, 1) := dk_27 (dk_at dksX2_isFrozen_1 11 rfl rfl)
theorem dX2_isFrozen_34 : decode cX2_isFrozen 34 = .ok (.iload_n 2, 1) := dk_28 (dk_at dksX2_isFrozen_1 12 rfl rfl)
theorem dX2_isFrozen_35 : decode cX2_isFrozen 35 = .ok (.invokevirtual 203, 3) := dk_182 0 203 (dk_at dksX2_isFrozen_1 13 rfl rfl)
theorem dX2_isFrozen_38 : decode cX2_isFrozen 38 = .ok (.ifCond .eq 7, 3) := dk_153 0 7 (dk_at dksX2_isFrozen_1 16 rfl rfl)
theorem dX2_isFrozen_41 : decode cX2_isFrozen 41 = .ok (.iconst 1, 1) := dk_4 (dk_at dksX2_isFrozen_1 19 rfl rfl)
theorem dX2_isFrozen_42 : decode cX2_isFrozen 42 = .ok (.goto 4, 3) := dk_167 0 4 (dk_at dksX2_isFrozen_1 20 rfl rfl)
theorem dX2_isFrozen_45 : decode cX2_isFrozen 45 = .ok (.iconst 0, 1) := dk_3 (dk_at dksX2_isFrozen_1 23 rfl rfl)
theorem dX2_isFrozen_46 : decode cX2_isFrozen 46 = .ok (.ireturn, 1) := dk_172 (dk_at dksX2_isFrozen_2 0 rfl rfl)
abbrev cX2_shared : ByteArray := prog_7_method_51_code
def yX2_shared : MethodName := ⟨RX2, "shared", "(II)I"⟩
def dkwX2_shared_1 : List UInt8 := [182, 0, 126, 167, 0, 8, 42, 4, 182, 0, 122, 172]
abbrev dktX2_shared_1 : List UInt8 := dkwX2_shared_1 ++ []
def dkwX2_shared_0 : List UInt8 := [42, 27, 182, 0, 165, 153, 0, 24, 42, 28, 182, 0, 165, 153, 0, 16, 42, 42, 27, 28, 182, 0, 179]
abbrev dktX2_shared_0 : List UInt8 := dkwX2_shared_0 ++ dktX2_shared_1
theorem dksX2_shared_0 : cX2_shared.data.toList.drop 0 = dktX2_shared_0 := by decide +kernel
theorem dksX2_shared_1 : cX2_shared.data.toList.drop 23 = dktX2_shared_1 := dk_seg dksX2_shared_0 23 rfl rfl
theorem dX2_shared_0 : decode cX2_shared 0 = .ok (.aload_n 0, 1) := dk_42 (dk_at dksX2_shared_0 0 rfl rfl)
theorem dX2_shared_1 : decode cX2_shared 1 = .ok (.iload_n 1, 1) := dk_27 (dk_at dksX2_shared_0 1 rfl rfl)
theorem dX2_shared_2 : decode cX2_shared 2 = .ok (.invokevirtual 165, 3) := dk_182 0 165 (dk_at dksX2_shared_0 2 rfl rfl)
theorem dX2_shared_5 : decode cX2_shared 5 = .ok (.ifCond .eq 24, 3) := dk_153 0 24 (dk_at dksX2_shared_0 5 rfl rfl)
theorem dX2_shared_8 : decode cX2_shared 8 = .ok (.aload_n 0, 1) := dk_42 (dk_at dksX2_shared_0 8 rfl rfl)
theorem dX2_shared_9 : decode cX2_shared 9 = .ok (.iload_n 2, 1) := dk_28 (dk_at dksX2_shared_0 9 rfl rfl)
theorem dX2_shared_10 : decode cX2_shared 10 = .ok (.invokevirtual 165, 3) := dk_182 0 165 (dk_at dksX2_shared_0 10 rfl rfl)
theorem dX2_shared_13 : decode cX2_shared 13 = .ok (.ifCond .eq 16, 3) := dk_153 0 16 (dk_at dksX2_shared_0 13 rfl rfl)
theorem dX2_shared_16 : decode cX2_shared 16 = .ok (.aload_n 0, 1) := dk_42 (dk_at dksX2_shared_0 16 rfl rfl)
theorem dX2_shared_17 : decode cX2_shared 17 = .ok (.aload_n 0, 1) := dk_42 (dk_at dksX2_shared_0 17 rfl rfl)
theorem dX2_shared_18 : decode cX2_shared 18 = .ok (.iload_n 1, 1) := dk_27 (dk_at dksX2_shared_0 18 rfl rfl)
theorem dX2_shared_19 : decode cX2_shared 19 = .ok (.iload_n 2, 1) := dk_28 (dk_at dksX2_shared_0 19 rfl rfl)
theorem dX2_shared_20 : decode cX2_shared 20 = .ok (.invokevirtual 179, 3) := dk_182 0 179 (dk_at dksX2_shared_0 20 rfl rfl)
theorem dX2_shared_23 : decode cX2_shared 23 = .ok (.invokevirtual 126, 3) := dk_182 0 126 (dk_at dksX2_shared_1 0 rfl rfl)
theorem dX2_shared_26 : decode cX2_shared 26 = .ok (.goto 8, 3) := dk_167 0 8 (dk_at dksX2_shared_1 3 rfl rfl)
theorem dX2_shared_29 : decode cX2_shared 29 = .ok (.aload_n 0, 1) := dk_42 (dk_at dksX2_shared_1 6 rfl rfl)
theorem dX2_shared_30 : decode cX2_shared 30 = .ok (.iconst 1, 1) := dk_4 (dk_at dksX2_shared_1 7 rfl rfl)
theorem dX2_shared_31 : decode cX2_shared 31 = .ok (.invokevirtual 122, 3) := dk_182 0 122 (dk_at dksX2_shared_1 8 rfl rfl)
theorem dX2_shared_34 : decode cX2_shared 34 = .ok (.ireturn, 1) := dk_172 (dk_at dksX2_shared_1 11 rfl rfl)
abbrev cX2_shingle : ByteArray := prog_7_method_52_code
def yX2_shingle : MethodName := ⟨RX2, "shingle", "(II)I"⟩
def dkwX2_shingle_2 : List UInt8 := [42, 5, 182, 0, 122, 172]
abbrev dktX2_shingle_2 : List UInt8 := dkwX2_shingle_2 ++ []
def dkwX2_shingle_1 : List UInt8 := [184, 0, 118, 153, 0, 21, 42, 42, 180, 0, 96, 16, 40, 27, 104, 28, 96, 46, 182, 0, 126, 167, 0, 8]
abbrev dktX2_shingle_1 : List UInt8 := dkwX2_shingle_1 ++ dktX2_shingle_2
def dkwX2_shingle_0 : List UInt8 := [42, 27, 182, 0, 165, 154, 0, 9, 42, 4, 182, 0, 122, 172, 28, 3, 42, 180, 0, 99, 27, 46, 4, 100]
abbrev dktX2_shingle_0 : List UInt8 := dkwX2_shingle_0 ++ dktX2_shingle_1
theorem dksX2_shingle_0 : cX2_shingle.data.toList.drop 0 = dktX2_shingle_0 := by decide +kernel
theorem dksX2_shingle_1 : cX2_shingle.data.toList.drop 24 = dktX2_shingle_1 := dk_seg dksX2_shingle_0 24 rfl rfl
theorem dksX2_shingle_2 : cX2_shingle.data.toList.drop 48 = dktX2_shingle_2 := dk_seg dksX2_shingle_1 24 rfl rfl
theorem dX2_shingle_0 : decode cX2_shingle 0 = .ok (.aload_n 0, 1) := dk_42 (dk_at dksX2_shingle_0 0 rfl rfl)
theorem dX2_shingle_1 : decode cX2_shingle 1 = .ok (.iload_n 1, 1) := dk_27 (dk_at dksX2_shingle_0 1 rfl rfl)
theorem dX2_shingle_2 : decode cX2_shingle 2 = .ok (.invokevirtual 165, 3) := dk_182 0 165 (dk_at dksX2_shingle_0 2 rfl rfl)
theorem dX2_shingle_5 : decode cX2_shingle 5 = .ok (.ifCond .ne 9, 3) := dk_154 0 9 (dk_at dksX2_shingle_0 5 rfl rfl)
theorem dX2_shingle_8 : decode cX2_shingle 8 = .ok (.aload_n 0, 1) := dk_42 (dk_at dksX2_shingle_0 8 rfl rfl)
theorem dX2_shingle_9 : decode cX2_shingle 9 = .ok (.iconst 1, 1) := dk_4 (dk_at dksX2_shingle_0 9 rfl rfl)
theorem dX2_shingle_10 : decode cX2_shingle 10 = .ok (.invokevirtual 122, 3) := dk_182 0 122 (dk_at dksX2_shingle_0 10 rfl rfl)
theorem dX2_shingle_13 : decode cX2_shingle 13 = .ok (.ireturn, 1) := dk_172 (dk_at dksX2_shingle_0 13 rfl rfl)
theorem dX2_shingle_14 : decode cX2_shingle 14 = .ok (.iload_n 2, 1) := dk_28 (dk_at dksX2_shingle_0 14 rfl rfl)
theorem dX2_shingle_15 : decode cX2_shingle 15 = .ok (.iconst 0, 1) := dk_3 (dk_at dksX2_shingle_0 15 rfl rfl)
theorem dX2_shingle_16 : decode cX2_shingle 16 = .ok (.aload_n 0, 1) := dk_42 (dk_at dksX2_shingle_0 16 rfl rfl)
theorem dX2_shingle_17 : decode cX2_shingle 17 = .ok (.getfield 99, 3) := dk_180 0 99 (dk_at dksX2_shingle_0 17 rfl rfl)
theorem dX2_shingle_20 : decode cX2_shingle 20 = .ok (.iload_n 1, 1) := dk_27 (dk_at dksX2_shingle_0 20 rfl rfl)
theorem dX2_shingle_21 : decode cX2_shingle 21 = .ok (.iaload, 1) := dk_46 (dk_at dksX2_shingle_0 21 rfl rfl)
theorem dX2_shingle_22 : decode cX2_shingle 22 = .ok (.iconst 1, 1) := dk_4 (dk_at dksX2_shingle_0 22 rfl rfl)
theorem dX2_shingle_23 : decode cX2_shingle 23 = .ok (.isub, 1) := dk_100 (dk_at dksX2_shingle_0 23 rfl rfl)
theorem dX2_shingle_24 : decode cX2_shingle 24 = .ok (.invokestatic 118, 3) := dk_184 0 118 (dk_at dksX2_shingle_1 0 rfl rfl)
theorem dX2_shingle_27 : decode cX2_shingle 27 = .ok (.ifCond .eq 21, 3) := dk_153 0 21 (dk_at dksX2_shingle_1 3 rfl rfl)
theorem dX2_shingle_30 : decode cX2_shingle 30 = .ok (.aload_n 0, 1) := dk_42 (dk_at dksX2_shingle_1 6 rfl rfl)
theorem dX2_shingle_31 : decode cX2_shingle 31 = .ok (.aload_n 0, 1) := dk_42 (dk_at dksX2_shingle_1 7 rfl rfl)
theorem dX2_shingle_32 : decode cX2_shingle 32 = .ok (.getfield 96, 3) := dk_180 0 96 (dk_at dksX2_shingle_1 8 rfl rfl)
theorem dX2_shingle_35 : decode cX2_shingle 35 = .ok (.bipush 40, 2) := dk_16 40 (dk_at dksX2_shingle_1 11 rfl rfl)
theorem dX2_shingle_37 : decode cX2_shingle 37 = .ok (.iload_n 1, 1) := dk_27 (dk_at dksX2_shingle_1 13 rfl rfl)
theorem dX2_shingle_38 : decode cX2_shingle 38 = .ok (.imul, 1) := dk_104 (dk_at dksX2_shingle_1 14 rfl rfl)
theorem dX2_shingle_39 : decode cX2_shingle 39 = .ok (.iload_n 2, 1) := dk_28 (dk_at dksX2_shingle_1 15 rfl rfl)
theorem dX2_shingle_40 : decode cX2_shingle 40 = .ok (.iadd, 1) := dk_96 (dk_at dksX2_shingle_1 16 rfl rfl)
theorem dX2_shingle_41 : decode cX2_shingle 41 = .ok (.iaload, 1) := dk_46 (dk_at dksX2_shingle_1 17 rfl rfl)
theorem dX2_shingle_42 : decode cX2_shingle 42 = .ok (.invokevirtual 126, 3) := dk_182 0 126 (dk_at dksX2_shingle_1 18 rfl rfl)
theorem dX2_shingle_45 : decode cX2_shingle 45 = .ok (.goto 8, 3) := dk_167 0 8 (dk_at dksX2_shingle_1 21 rfl rfl)
theorem dX2_shingle_48 : decode cX2_shingle 48 = .ok (.aload_n 0, 1) := dk_42 (dk_at dksX2_shingle_2 0 rfl rfl)
theorem dX2_shingle_49 : decode cX2_shingle 49 = .ok (.iconst 2, 1) := dk_5 (dk_at dksX2_shingle_2 1 rfl rfl)
theorem dX2_shingle_50 : decode cX2_shingle 50 = .ok (.invokevirtual 122, 3) := dk_182 0 122 (dk_at dksX2_shingle_2 2 rfl rfl)
theorem dX2_shingle_53 : decode cX2_shingle 53 = .ok (.ireturn, 1) := dk_172 (dk_at dksX2_shingle_2 5 rfl rfl)
abbrev cX2_indexed : ByteArray := prog_7_method_54_code
def yX2_indexed : MethodName := ⟨RX2, "indexed", "()I"⟩
def dkwX2_indexed_3 : List UInt8 := [167, 255, 190, 42, 27, 182, 0, 126, 172]
abbrev dktX2_indexed_3 : List UInt8 := dkwX2_indexed_3 ++ []
def dkwX2_indexed_2 : List UInt8 := [182, 0, 209, 154, 0, 7, 4, 167, 0, 4, 3, 96, 60, 132, 3, 1, 167, 255, 206, 132, 2, 1]
abbrev dktX2_indexed_2 : List UInt8 := dkwX2_indexed_2 ++ dktX2_indexed_3
def dkwX2_indexed_1 : List UInt8 := [27, 42, 180, 0, 81, 28, 46, 4, 160, 0, 26, 42, 42, 180, 0, 96, 16, 40, 28, 104, 29, 96, 46, 28]
abbrev dktX2_indexed_1 : List UInt8 := dkwX2_indexed_1 ++ dktX2_indexed_2
def dkwX2_indexed_0 : List UInt8 := [3, 60, 3, 61, 28, 42, 180, 0, 22, 162, 0, 64, 3, 62, 29, 42, 180, 0, 99, 28, 46, 162, 0, 46]
abbrev dktX2_indexed_0 : List UInt8 := dkwX2_indexed_0 ++ dktX2_indexed_1
theorem dksX2_indexed_0 : cX2_indexed.data.toList.drop 0 = dktX2_indexed_0 := by decide +kernel
theorem dksX2_indexed_1 : cX2_indexed.data.toList.drop 24 = dktX2_indexed_1 := dk_seg dksX2_indexed_0 24 rfl rfl
theorem dksX2_indexed_2 : cX2_indexed.data.toList.drop 48 = dktX2_indexed_2 := dk_seg dksX2_indexed_1 24 rfl rfl
theorem dksX2_indexed_3 : cX2_indexed.data.toList.drop 70 = dktX2_indexed_3 := dk_seg dksX2_indexed_2 22 rfl rfl
theorem dX2_indexed_0 : decode cX2_indexed 0 = .ok (.iconst 0, 1) := dk_3 (dk_at dksX2_indexed_0 0 rfl rfl)
theorem dX2_indexed_1 : decode cX2_indexed 1 = .ok (.istore_n 1, 1) := dk_60 (dk_at dksX2_indexed_0 1 rfl rfl)
theorem dX2_indexed_2 : decode cX2_indexed 2 = .ok (.iconst 0, 1) := dk_3 (dk_at dksX2_indexed_0 2 rfl rfl)
theorem dX2_indexed_3 : decode cX2_indexed 3 = .ok (.istore_n 2, 1) := dk_61 (dk_at dksX2_indexed_0 3 rfl rfl)
theorem dX2_indexed_4 : decode cX2_indexed 4 = .ok (.iload_n 2, 1) := dk_28 (dk_at dksX2_indexed_0 4 rfl rfl)
theorem dX2_indexed_5 : decode cX2_indexed 5 = .ok (.aload_n 0, 1) := dk_42 (dk_at dksX2_indexed_0 5 rfl rfl)
theorem dX2_indexed_6 : decode cX2_indexed 6 = .ok (.getfield 22, 3) := dk_180 0 22 (dk_at dksX2_indexed_0 6 rfl rfl)
theorem dX2_indexed_9 : decode cX2_indexed 9 = .ok (.if_icmp .ge 64, 3) := dk_162 0 64 (dk_at dksX2_indexed_0 9 rfl rfl)
theorem dX2_indexed_12 : decode cX2_indexed 12 = .ok (.iconst 0, 1) := dk_3 (dk_at dksX2_indexed_0 12 rfl rfl)
theorem dX2_indexed_13 : decode cX2_indexed 13 = .ok (.istore_n 3, 1) := dk_62 (dk_at dksX2_indexed_0 13 rfl rfl)
theorem dX2_indexed_14 : decode cX2_indexed 14 = .ok (.iload_n 3, 1) := dk_29 (dk_at dksX2_indexed_0 14 rfl rfl)
theorem dX2_indexed_15 : decode cX2_indexed 15 = .ok (.aload_n 0, 1) := dk_42 (dk_at dksX2_indexed_0 15 rfl rfl)
theorem dX2_indexed_16 : decode cX2_indexed 16 = .ok (.getfield 99, 3) := dk_180 0 99 (dk_at dksX2_indexed_0 16 rfl rfl)
theorem dX2_indexed_19 : decode cX2_indexed 19 = .ok (.iload_n 2, 1) := dk_28 (dk_at dksX2_indexed_0 19 rfl rfl)
theorem dX2_indexed_20 : decode cX2_indexed 20 = .ok (.iaload, 1) := dk_46 (dk_at dksX2_indexed_0 20 rfl rfl)
theorem dX2_indexed_21 : decode cX2_indexed 21 = .ok (.if_icmp .ge 46, 3) := dk_162 0 46 (dk_at dksX2_indexed_0 21 rfl rfl)
theorem dX2_indexed_24 : decode cX2_indexed 24 = .ok (.iload_n 1, 1) := dk_27 (dk_at dksX2_indexed_1 0 rfl rfl)
theorem dX2_indexed_25 : decode cX2_indexed 25 = .ok (.aload_n 0, 1) := dk_42 (dk_at dksX2_indexed_1 1 rfl rfl)
theorem dX2_indexed_26 : decode cX2_indexed 26 = .ok (.getfield 81, 3) := dk_180 0 81 (dk_at dksX2_indexed_1 2 rfl rfl)
theorem dX2_indexed_29 : decode cX2_indexed 29 = .ok (.iload_n 2, 1) := dk_28 (dk_at dksX2_indexed_1 5 rfl rfl)
theorem dX2_indexed_30 : decode cX2_indexed 30 = .ok (.iaload, 1) := dk_46 (dk_at dksX2_indexed_1 6 rfl rfl)
theorem dX2_indexed_31 : decode cX2_indexed 31 = .ok (.iconst 1, 1) := dk_4 (dk_at dksX2_indexed_1 7 rfl rfl)
theorem dX2_indexed_32 : decode cX2_indexed 32 = .ok (.if_icmp .ne 26, 3) := dk_160 0 26 (dk_at dksX2_indexed_1 8 rfl rfl)
theorem dX2_indexed_35 : decode cX2_indexed 35 = .ok (.aload_n 0, 1) := dk_42 (dk_at dksX2_indexed_1 11 rfl rfl)
theorem dX2_indexed_36 : decode cX2_indexed 36 = .ok (.aload_n 0, 1) := dk_42 (dk_at dksX2_indexed_1 12 rfl rfl)
theorem dX2_indexed_37 : decode cX2_indexed 37 = .ok (.getfield 96, 3) := dk_180 0 96 (dk_at dksX2_indexed_1 13 rfl rfl)
theorem dX2_indexed_40 : decode cX2_indexed 40 = .ok (.bipush 40, 2) := dk_16 40 (dk_at dksX2_indexed_1 16 rfl rfl)
theorem dX2_indexed_42 : decode cX2_indexed 42 = .ok (.iload_n 2, 1) := dk_28 (dk_at dksX2_indexed_1 18 rfl rfl)
theorem dX2_indexed_43 : decode cX2_indexed 43 = .ok (.imul, 1) := dk_104 (dk_at dksX2_indexed_1 19 rfl rfl)
theorem dX2_indexed_44 : decode cX2_indexed 44 = .ok (.iload_n 3, 1) := dk_29 (dk_at dksX2_indexed_1 20 rfl rfl)
theorem dX2_indexed_45 : decode cX2_indexed 45 = .ok (.iadd, 1) := dk_96 (dk_at dksX2_indexed_1 21 rfl rfl)
theorem dX2_indexed_46 : decode cX2_indexed 46 = .ok (.iaload, 1) := dk_46 (dk_at dksX2_indexed_1 22 rfl rfl)
theorem dX2_indexed_47 : decode cX2_indexed 47 = .ok (.iload_n 2, 1) := dk_28 (dk_at dksX2_indexed_1 23 rfl rfl)
theorem dX2_indexed_48 : decode cX2_indexed 48 = .ok (.invokevirtual 209, 3) := dk_182 0 209 (dk_at dksX2_indexed_2 0 rfl rfl)
theorem dX2_indexed_51 : decode cX2_indexed 51 = .ok (.ifCond .ne 7, 3) := dk_154 0 7 (dk_at dksX2_indexed_2 3 rfl rfl)
theorem dX2_indexed_54 : decode cX2_indexed 54 = .ok (.iconst 1, 1) := dk_4 (dk_at dksX2_indexed_2 6 rfl rfl)
theorem dX2_indexed_55 : decode cX2_indexed 55 = .ok (.goto 4, 3) := dk_167 0 4 (dk_at dksX2_indexed_2 7 rfl rfl)
theorem dX2_indexed_58 : decode cX2_indexed 58 = .ok (.iconst 0, 1) := dk_3 (dk_at dksX2_indexed_2 10 rfl rfl)
theorem dX2_indexed_59 : decode cX2_indexed 59 = .ok (.iadd, 1) := dk_96 (dk_at dksX2_indexed_2 11 rfl rfl)
theorem dX2_indexed_60 : decode cX2_indexed 60 = .ok (.istore_n 1, 1) := dk_60 (dk_at dksX2_indexed_2 12 rfl rfl)
theorem dX2_indexed_61 : decode cX2_indexed 61 = .ok (.iinc 3 1, 3) := dk_132 3 1 (dk_at dksX2_indexed_2 13 rfl rfl)
theorem dX2_indexed_64 : decode cX2_indexed 64 = .ok (.goto (-50), 3) := dk_167 255 206 (dk_at dksX2_indexed_2 16 rfl rfl)
theorem dX2_indexed_67 : decode cX2_indexed 67 = .ok (.iinc 2 1, 3) := dk_132 2 1 (dk_at dksX2_indexed_2 19 rfl rfl)
theorem dX2_indexed_70 : decode cX2_indexed 70 = .ok (.goto (-66), 3) := dk_167 255 190 (dk_at dksX2_indexed_3 0 rfl rfl)
theorem dX2_indexed_73 : decode cX2_indexed 73 = .ok (.aload_n 0, 1) := dk_42 (dk_at dksX2_indexed_3 3 rfl rfl)
theorem dX2_indexed_74 : decode cX2_indexed 74 = .ok (.iload_n 1, 1) := dk_27 (dk_at dksX2_indexed_3 4 rfl rfl)
theorem dX2_indexed_75 : decode cX2_indexed 75 = .ok (.invokevirtual 126, 3) := dk_182 0 126 (dk_at dksX2_indexed_3 5 rfl rfl)
theorem dX2_indexed_78 : decode cX2_indexed 78 = .ok (.ireturn, 1) := dk_172 (dk_at dksX2_indexed_3 8 rfl rfl)
abbrev cX2_holdersOf : ByteArray := prog_7_method_53_code
def yX2_holdersOf : MethodName := ⟨RX2, "holdersOf", "(II)I"⟩
def dkwX2_holdersOf_3 : List UInt8 := [167, 255, 190, 29, 172]
abbrev dktX2_holdersOf_3 : List UInt8 := dkwX2_holdersOf_3 ++ []
def dkwX2_holdersOf_2 : List UInt8 := [21, 5, 96, 46, 27, 160, 0, 7, 4, 167, 0, 4, 3, 96, 62, 132, 5, 1, 167, 255, 205, 132, 4, 1]
abbrev dktX2_holdersOf_2 : List UInt8 := dkwX2_holdersOf_2 ++ dktX2_holdersOf_3
def dkwX2_holdersOf_1 : List UInt8 := [162, 0, 45, 29, 42, 180, 0, 81, 21, 4, 46, 4, 160, 0, 24, 42, 180, 0, 96, 16, 40, 21, 4, 104]
abbrev dktX2_holdersOf_1 : List UInt8 := dkwX2_holdersOf_1 ++ dktX2_holdersOf_2
def dkwX2_holdersOf_0 : List UInt8 := [3, 62, 3, 54, 4, 21, 4, 28, 162, 0, 66, 3, 54, 5, 21, 5, 42, 180, 0, 99, 21, 4, 46]
abbrev dktX2_holdersOf_0 : List UInt8 := dkwX2_holdersOf_0 ++ dktX2_holdersOf_1
theorem dksX2_holdersOf_0 : cX2_holdersOf.data.toList.drop 0 = dktX2_holdersOf_0 := by decide +kernel
theorem dksX2_holdersOf_1 : cX2_holdersOf.data.toList.drop 23 = dktX2_holdersOf_1 := dk_seg dksX2_holdersOf_0 23 rfl rfl
theorem dksX2_holdersOf_2 : cX2_holdersOf.data.toList.drop 47 = dktX2_holdersOf_2 := dk_seg dksX2_holdersOf_1 24 rfl rfl
theorem dksX2_holdersOf_3 : cX2_holdersOf.data.toList.drop 71 = dktX2_holdersOf_3 := dk_seg dksX2_holdersOf_2 24 rfl rfl
theorem dX2_holdersOf_0 : decode cX2_holdersOf 0 = .ok (.iconst 0, 1) := dk_3 (dk_at dksX2_holdersOf_0 0 rfl rfl)
theorem dX2_holdersOf_1 : decode cX2_holdersOf 1 = .ok (.istore_n 3, 1) := dk_62 (dk_at dksX2_holdersOf_0 1 rfl rfl)
theorem dX2_holdersOf_2 : decode cX2_holdersOf 2 = .ok (.iconst 0, 1) := dk_3 (dk_at dksX2_holdersOf_0 2 rfl rfl)
theorem dX2_holdersOf_3 : decode cX2_holdersOf 3 = .ok (.istore 4, 2) := dk_54 4 (dk_at dksX2_holdersOf_0 3 rfl rfl)
theorem dX2_holdersOf_5 : decode cX2_holdersOf 5 = .ok (.iload 4, 2) := dk_21 4 (dk_at dksX2_holdersOf_0 5 rfl rfl)
theorem dX2_holdersOf_7 : decode cX2_holdersOf 7 = .ok (.iload_n 2, 1) := dk_28 (dk_at dksX2_holdersOf_0 7 rfl rfl)
theorem dX2_holdersOf_8 : decode cX2_holdersOf 8 = .ok (.if_icmp .ge 66, 3) := dk_162 0 66 (dk_at dksX2_holdersOf_0 8 rfl rfl)
theorem dX2_holdersOf_11 : decode cX2_holdersOf 11 = .ok (.iconst 0, 1) := dk_3 (dk_at dksX2_holdersOf_0 11 rfl rfl)
theorem dX2_holdersOf_12 : decode cX2_holdersOf 12 = .ok (.istore 5, 2) := dk_54 5 (dk_at dksX2_holdersOf_0 12 rfl rfl)
theorem dX2_holdersOf_14 : decode cX2_holdersOf 14 = .ok (.iload 5, 2) := dk_21 5 (dk_at dksX2_holdersOf_0 14 rfl rfl)
theorem dX2_holdersOf_16 : decode cX2_holdersOf 16 = .ok (.aload_n 0, 1) := dk_42 (dk_at dksX2_holdersOf_0 16 rfl rfl)
theorem dX2_holdersOf_17 : decode cX2_holdersOf 17 = .ok (.getfield 99, 3) := dk_180 0 99 (dk_at dksX2_holdersOf_0 17 rfl rfl)
theorem dX2_holdersOf_20 : decode cX2_holdersOf 20 = .ok (.iload 4, 2) := dk_21 4 (dk_at dksX2_holdersOf_0 20 rfl rfl)
theorem dX2_holdersOf_22 : decode cX2_holdersOf 22 = .ok (.iaload, 1) := dk_46 (dk_at dksX2_holdersOf_0 22 rfl rfl)
theorem dX2_holdersOf_23 : decode cX2_holdersOf 23 = .ok (.if_icmp .ge 45, 3) := dk_162 0 45 (dk_at dksX2_holdersOf_1 0 rfl rfl)
theorem dX2_holdersOf_26 : decode cX2_holdersOf 26 = .ok (.iload_n 3, 1) := dk_29 (dk_at dksX2_holdersOf_1 3 rfl rfl)
theorem dX2_holdersOf_27 : decode cX2_holdersOf 27 = .ok (.aload_n 0, 1) := dk_42 (dk_at dksX2_holdersOf_1 4 rfl rfl)
theorem dX2_holdersOf_28 : decode cX2_holdersOf 28 = .ok (.getfield 81, 3) := dk_180 0 81 (dk_at dksX2_holdersOf_1 5 rfl rfl)
theorem dX2_holdersOf_31 : decode cX2_holdersOf 31 = .ok (.iload 4, 2) := dk_21 4 (dk_at dksX2_holdersOf_1 8 rfl rfl)
theorem dX2_holdersOf_33 : decode cX2_holdersOf 33 = .ok (.iaload, 1) := dk_46 (dk_at dksX2_holdersOf_1 10 rfl rfl)
theorem dX2_holdersOf_34 : decode cX2_holdersOf 34 = .ok (.iconst 1, 1) := dk_4 (dk_at dksX2_holdersOf_1 11 rfl rfl)
theorem dX2_holdersOf_35 : decode cX2_holdersOf 35 = .ok (.if_icmp .ne 24, 3) := dk_160 0 24 (dk_at dksX2_holdersOf_1 12 rfl rfl)
theorem dX2_holdersOf_38 : decode cX2_holdersOf 38 = .ok (.aload_n 0, 1) := dk_42 (dk_at dksX2_holdersOf_1 15 rfl rfl)
theorem dX2_holdersOf_39 : decode cX2_holdersOf 39 = .ok (.getfield 96, 3) := dk_180 0 96 (dk_at dksX2_holdersOf_1 16 rfl rfl)
theorem dX2_holdersOf_42 : decode cX2_holdersOf 42 = .ok (.bipush 40, 2) := dk_16 40 (dk_at dksX2_holdersOf_1 19 rfl rfl)
theorem dX2_holdersOf_44 : decode cX2_holdersOf 44 = .ok (.iload 4, 2) := dk_21 4 (dk_at dksX2_holdersOf_1 21 rfl rfl)
theorem dX2_holdersOf_46 : decode cX2_holdersOf 46 = .ok (.imul, 1) := dk_104 (dk_at dksX2_holdersOf_1 23 rfl rfl)
theorem dX2_holdersOf_47 : decode cX2_holdersOf 47 = .ok (.iload 5, 2) := dk_21 5 (dk_at dksX2_holdersOf_2 0 rfl rfl)
theorem dX2_holdersOf_49 : decode cX2_holdersOf 49 = .ok (.iadd, 1) := dk_96 (dk_at dksX2_holdersOf_2 2 rfl rfl)
theorem dX2_holdersOf_50 : decode cX2_holdersOf 50 = .ok (.iaload, 1) := dk_46 (dk_at dksX2_holdersOf_2 3 rfl rfl)
theorem dX2_holdersOf_51 : decode cX2_holdersOf 51 = .ok (.iload_n 1, 1) := dk_27 (dk_at dksX2_holdersOf_2 4 rfl rfl)
theorem dX2_holdersOf_52 : decode cX2_holdersOf 52 = .ok (.if_icmp .ne 7, 3) := dk_160 0 7 (dk_at dksX2_holdersOf_2 5 rfl rfl)
theorem dX2_holdersOf_55 : decode cX2_holdersOf 55 = .ok (.iconst 1, 1) := dk_4 (dk_at dksX2_holdersOf_2 8 rfl rfl)
theorem dX2_holdersOf_56 : decode cX2_holdersOf 56 = .ok (.goto 4, 3) := dk_167 0 4 (dk_at dksX2_holdersOf_2 9 rfl rfl)
theorem dX2_holdersOf_59 : decode cX2_holdersOf 59 = .ok (.iconst 0, 1) := dk_3 (dk_at dksX2_holdersOf_2 12 rfl rfl)
theorem dX2_holdersOf_60 : decode cX2_holdersOf 60 = .ok (.iadd, 1) := dk_96 (dk_at dksX2_holdersOf_2 13 rfl rfl)
theorem dX2_holdersOf_61 : decode cX2_holdersOf 61 = .ok (.istore_n 3, 1) := dk_62 (dk_at dksX2_holdersOf_2 14 rfl rfl)
theorem dX2_holdersOf_62 : decode cX2_holdersOf 62 = .ok (.iinc 5 1, 3) := dk_132 5 1 (dk_at dksX2_holdersOf_2 15 rfl rfl)
theorem dX2_holdersOf_65 : decode cX2_holdersOf 65 = .ok (.goto (-51), 3) := dk_167 255 205 (dk_at dksX2_holdersOf_2 18 rfl rfl)
theorem dX2_holdersOf_68 : decode cX2_holdersOf 68 = .ok (.iinc 4 1, 3) := dk_132 4 1 (dk_at dksX2_holdersOf_2 21 rfl rfl)
theorem dX2_holdersOf_71 : decode cX2_holdersOf 71 = .ok (.goto (-66), 3) := dk_167 255 190 (dk_at dksX2_holdersOf_3 0 rfl rfl)
theorem dX2_holdersOf_74 : decode cX2_holdersOf 74 = .ok (.iload_n 3, 1) := dk_29 (dk_at dksX2_holdersOf_3 3 rfl rfl)
theorem dX2_holdersOf_75 : decode cX2_holdersOf 75 = .ok (.ireturn, 1) := dk_172 (dk_at dksX2_holdersOf_3 4 rfl rfl)
abbrev cX2_holders : ByteArray := prog_7_method_55_code
def yX2_holders : MethodName := ⟨RX2, "holders", "(I)I"⟩
def dkwX2_holders_0 : List UInt8 := [42, 42, 27, 42, 180, 0, 22, 182, 0, 209, 182, 0, 126, 172]
abbrev dktX2_holders_0 : List UInt8 := dkwX2_holders_0 ++ []
theorem dksX2_holders_0 : cX2_holders.data.toList.drop 0 = dktX2_holders_0 := by decide +kernel
theorem dX2_holders_0 : decode cX2_holders 0 = .ok (.aload_n 0, 1) := dk_42 (dk_at dksX2_holders_0 0 rfl rfl)
theorem dX2_holders_1 : decode cX2_holders 1 = .ok (.aload_n 0, 1) := dk_42 (dk_at dksX2_holders_0 1 rfl rfl)
theorem dX2_holders_2 : decode cX2_holders 2 = .ok (.iload_n 1, 1) := dk_27 (dk_at dksX2_holders_0 2 rfl rfl)
theorem dX2_holders_3 : decode cX2_holders 3 = .ok (.aload_n 0, 1) := dk_42 (dk_at dksX2_holders_0 3 rfl rfl)
theorem dX2_holders_4 : decode cX2_holders 4 = .ok (.getfield 22, 3) := dk_180 0 22 (dk_at dksX2_holders_0 4 rfl rfl)
theorem dX2_holders_7 : decode cX2_holders 7 = .ok (.invokevirtual 209, 3) := dk_182 0 209 (dk_at dksX2_holders_0 7 rfl rfl)
theorem dX2_holders_10 : decode cX2_holders 10 = .ok (.invokevirtual 126, 3) := dk_182 0 126 (dk_at dksX2_holders_0 10 rfl rfl)
theorem dX2_holders_13 : decode cX2_holders 13 = .ok (.ireturn, 1) := dk_172 (dk_at dksX2_holders_0 13 rfl rfl)
abbrev cX2_threshold : ByteArray := prog_7_method_56_code
def yX2_threshold : MethodName := ⟨RX2, "threshold", "(I)I"⟩
def dkwX2_threshold_1 : List UInt8 := [181, 0, 34, 42, 28, 182, 0, 126, 172]
abbrev dktX2_threshold_1 : List UInt8 := dkwX2_threshold_1 ++ []
def dkwX2_threshold_0 : List UInt8 := [27, 4, 16, 37, 184, 0, 118, 154, 0, 9, 42, 4, 182, 0, 122, 172, 42, 180, 0, 34, 61, 42, 27]
abbrev dktX2_threshold_0 : List UInt8 := dkwX2_threshold_0 ++ dktX2_threshold_1
theorem dksX2_threshold_0 : cX2_threshold.data.toList.drop 0 = dktX2_threshold_0 := by decide +kernel
theorem dksX2_threshold_1 : cX2_threshold.data.toList.drop 23 = dktX2_threshold_1 := dk_seg dksX2_threshold_0 23 rfl rfl
theorem dX2_threshold_0 : decode cX2_threshold 0 = .ok (.iload_n 1, 1) := dk_27 (dk_at dksX2_threshold_0 0 rfl rfl)
theorem dX2_threshold_1 : decode cX2_threshold 1 = .ok (.iconst 1, 1) := dk_4 (dk_at dksX2_threshold_0 1 rfl rfl)
theorem dX2_threshold_2 : decode cX2_threshold 2 = .ok (.bipush 37, 2) := dk_16 37 (dk_at dksX2_threshold_0 2 rfl rfl)
theorem dX2_threshold_4 : decode cX2_threshold 4 = .ok (.invokestatic 118, 3) := dk_184 0 118 (dk_at dksX2_threshold_0 4 rfl rfl)
theorem dX2_threshold_7 : decode cX2_threshold 7 = .ok (.ifCond .ne 9, 3) := dk_154 0 9 (dk_at dksX2_threshold_0 7 rfl rfl)
theorem dX2_threshold_10 : decode cX2_threshold 10 = .ok (.aload_n 0, 1) := dk_42 (dk_at dksX2_threshold_0 10 rfl rfl)
theorem dX2_threshold_11 : decode cX2_threshold 11 = .ok (.iconst 1, 1) := dk_4 (dk_at dksX2_threshold_0 11 rfl rfl)
theorem dX2_threshold_12 : decode cX2_threshold 12 = .ok (.invokevirtual 122, 3) := dk_182 0 122 (dk_at dksX2_threshold_0 12 rfl rfl)
theorem dX2_threshold_15 : decode cX2_threshold 15 = .ok (.ireturn, 1) := dk_172 (dk_at dksX2_threshold_0 15 rfl rfl)
theorem dX2_threshold_16 : decode cX2_threshold 16 = .ok (.aload_n 0, 1) := dk_42 (dk_at dksX2_threshold_0 16 rfl rfl)
theorem dX2_threshold_17 : decode cX2_threshold 17 = .ok (.getfield 34, 3) := dk_180 0 34 (dk_at dksX2_threshold_0 17 rfl rfl)
theorem dX2_threshold_20 : decode cX2_threshold 20 = .ok (.istore_n 2, 1) := dk_61 (dk_at dksX2_threshold_0 20 rfl rfl)
theorem dX2_threshold_21 : decode cX2_threshold 21 = .ok (.aload_n 0, 1) := dk_42 (dk_at dksX2_threshold_0 21 rfl rfl)
theorem dX2_threshold_22 : decode cX2_threshold 22 = .ok (.iload_n 1, 1) := dk_27 (dk_at dksX2_threshold_0 22 rfl rfl)
theorem dX2_threshold_23 : decode cX2_threshold 23 = .ok (.putfield 34, 3) := dk_181 0 34 (dk_at dksX2_threshold_1 0 rfl rfl)
theorem dX2_threshold_26 : decode cX2_threshold 26 = .ok (.aload_n 0, 1) := dk_42 (dk_at dksX2_threshold_1 3 rfl rfl)
theorem dX2_threshold_27 : decode cX2_threshold 27 = .ok (.iload_n 2, 1) := dk_28 (dk_at dksX2_threshold_1 4 rfl rfl)
theorem dX2_threshold_28 : decode cX2_threshold 28 = .ok (.invokevirtual 126, 3) := dk_182 0 126 (dk_at dksX2_threshold_1 5 rfl rfl)
theorem dX2_threshold_31 : decode cX2_threshold 31 = .ok (.ireturn, 1) := dk_172 (dk_at dksX2_threshold_1 8 rfl rfl)
abbrev cX2_hits : ByteArray := prog_7_method_57_code
def yX2_hits : MethodName := ⟨RX2, "hits", "()I"⟩
def dkwX2_hits_0 : List UInt8 := [42, 42, 180, 0, 28, 182, 0, 126, 172]
abbrev dktX2_hits_0 : List UInt8 := dkwX2_hits_0 ++ []
theorem dksX2_hits_0 : cX2_hits.data.toList.drop 0 = dktX2_hits_0 := by decide +kernel
theorem dX2_hits_0 : decode cX2_hits 0 = .ok (.aload_n 0, 1) := dk_42 (dk_at dksX2_hits_0 0 rfl rfl)
theorem dX2_hits_1 : decode cX2_hits 1 = .ok (.aload_n 0, 1) := dk_42 (dk_at dksX2_hits_0 1 rfl rfl)
theorem dX2_hits_2 : decode cX2_hits 2 = .ok (.getfield 28, 3) := dk_180 0 28 (dk_at dksX2_hits_0 2 rfl rfl)
theorem dX2_hits_5 : decode cX2_hits 5 = .ok (.invokevirtual 126, 3) := dk_182 0 126 (dk_at dksX2_hits_0 5 rfl rfl)
theorem dX2_hits_8 : decode cX2_hits 8 = .ok (.ireturn, 1) := dk_172 (dk_at dksX2_hits_0 8 rfl rfl)
abbrev cX2_hit : ByteArray := prog_7_method_58_code
def yX2_hit : MethodName := ⟨RX2, "hit", "(IC)I"⟩
def dkwX2_hit_4 : List UInt8 := [182, 0, 122, 172]
abbrev dktX2_hit_4 : List UInt8 := dkwX2_hit_4 ++ []
def dkwX2_hit_3 : List UInt8 := [180, 0, 108, 27, 46, 182, 0, 126, 172, 42, 42, 180, 0, 111, 27, 46, 182, 0, 126, 172, 42, 5]
abbrev dktX2_hit_3 : List UInt8 := dkwX2_hit_3 ++ dktX2_hit_4
def dkwX2_hit_2 : List UInt8 := [42, 42, 180, 0, 102, 27, 46, 182, 0, 126, 172, 42, 42, 180, 0, 105, 27, 46, 182, 0, 126, 172, 42, 42]
abbrev dktX2_hit_2 : List UInt8 := dkwX2_hit_2 ++ dktX2_hit_3
def dkwX2_hit_1 : List UInt8 := [171, 0, 0, 0, 0, 0, 87, 0, 0, 0, 4, 0, 0, 0, 99, 0, 0, 0, 65, 0, 0, 0, 104, 0, 0, 0, 76, 0, 0, 0, 110, 0, 0, 0, 43, 0, 0, 0, 111, 0, 0, 0, 54]
abbrev dktX2_hit_1 : List UInt8 := dkwX2_hit_1 ++ dktX2_hit_2
def dkwX2_hit_0 : List UInt8 := [27, 3, 42, 180, 0, 28, 4, 100, 184, 0, 118, 154, 0, 9, 42, 4, 182, 0, 122, 172, 28]
abbrev dktX2_hit_0 : List UInt8 := dkwX2_hit_0 ++ dktX2_hit_1
theorem dksX2_hit_0 : cX2_hit.data.toList.drop 0 = dktX2_hit_0 := by decide +kernel
theorem dksX2_hit_1 : cX2_hit.data.toList.drop 21 = dktX2_hit_1 := dk_seg dksX2_hit_0 21 rfl rfl
theorem dksX2_hit_2 : cX2_hit.data.toList.drop 64 = dktX2_hit_2 := dk_seg dksX2_hit_1 43 rfl rfl
theorem dksX2_hit_3 : cX2_hit.data.toList.drop 88 = dktX2_hit_3 := dk_seg dksX2_hit_2 24 rfl rfl
theorem dksX2_hit_4 : cX2_hit.data.toList.drop 110 = dktX2_hit_4 := dk_seg dksX2_hit_3 22 rfl rfl
theorem dX2_hit_0 : decode cX2_hit 0 = .ok (.iload_n 1, 1) := dk_27 (dk_at dksX2_hit_0 0 rfl rfl)
theorem dX2_hit_1 : decode cX2_hit 1 = .ok (.iconst 0, 1) := dk_3 (dk_at dksX2_hit_0 1 rfl rfl)
theorem dX2_hit_2 : decode cX2_hit 2 = .ok (.aload_n 0, 1) := dk_42 (dk_at dksX2_hit_0 2 rfl rfl)
theorem dX2_hit_3 : decode cX2_hit 3 = .ok (.getfield 28, 3) := dk_180 0 28 (dk_at dksX2_hit_0 3 rfl rfl)
theorem dX2_hit_6 : decode cX2_hit 6 = .ok (.iconst 1, 1) := dk_4 (dk_at dksX2_hit_0 6 rfl rfl)
theorem dX2_hit_7 : decode cX2_hit 7 = .ok (.isub, 1) := dk_100 (dk_at dksX2_hit_0 7 rfl rfl)
theorem dX2_hit_8 : decode cX2_hit 8 = .ok (.invokestatic 118, 3) := dk_184 0 118 (dk_at dksX2_hit_0 8 rfl rfl)
theorem dX2_hit_11 : decode cX2_hit 11 = .ok (.ifCond .ne 9, 3) := dk_154 0 9 (dk_at dksX2_hit_0 11 rfl rfl)
theorem dX2_hit_14 : decode cX2_hit 14 = .ok (.aload_n 0, 1) := dk_42 (dk_at dksX2_hit_0 14 rfl rfl)
theorem dX2_hit_15 : decode cX2_hit 15 = .ok (.iconst 1, 1) := dk_4 (dk_at dksX2_hit_0 15 rfl rfl)
theorem dX2_hit_16 : decode cX2_hit 16 = .ok (.invokevirtual 122, 3) := dk_182 0 122 (dk_at dksX2_hit_0 16 rfl rfl)
theorem dX2_hit_19 : decode cX2_hit 19 = .ok (.ireturn, 1) := dk_172 (dk_at dksX2_hit_0 19 rfl rfl)
theorem dX2_hit_20 : decode cX2_hit 20 = .ok (.iload_n 2, 1) := dk_28 (dk_at dksX2_hit_0 20 rfl rfl)
theorem dX2_hit_21 : decode cX2_hit 21 = .ok (.lookupswitch 87 #[(99, 65), (104, 76), (110, 43), (111, 54)], 43) := by decide +kernel
theorem dX2_hit_64 : decode cX2_hit 64 = .ok (.aload_n 0, 1) := dk_42 (dk_at dksX2_hit_2 0 rfl rfl)
theorem dX2_hit_65 : decode cX2_hit 65 = .ok (.aload_n 0, 1) := dk_42 (dk_at dksX2_hit_2 1 rfl rfl)
theorem dX2_hit_66 : decode cX2_hit 66 = .ok (.getfield 102, 3) := dk_180 0 102 (dk_at dksX2_hit_2 2 rfl rfl)
theorem dX2_hit_69 : decode cX2_hit 69 = .ok (.iload_n 1, 1) := dk_27 (dk_at dksX2_hit_2 5 rfl rfl)
theorem dX2_hit_70 : decode cX2_hit 70 = .ok (.iaload, 1) := dk_46 (dk_at dksX2_hit_2 6 rfl rfl)
theorem dX2_hit_71 : decode cX2_hit 71 = .ok (.invokevirtual 126, 3) := dk_182 0 126 (dk_at dksX2_hit_2 7 rfl rfl)
theorem dX2_hit_74 : decode cX2_hit 74 = .ok (.ireturn, 1) := dk_172 (dk_at dksX2_hit_2 10 rfl rfl)
theorem dX2_hit_75 : decode cX2_hit 75 = .ok (.aload_n 0, 1) := dk_42 (dk_at dksX2_hit_2 11 rfl rfl)
theorem dX2_hit_76 : decode cX2_hit 76 = .ok (.aload_n 0, 1) := dk_42 (dk_at dksX2_hit_2 12 rfl rfl)
theorem dX2_hit_77 : decode cX2_hit 77 = .ok (.getfield 105, 3) := dk_180 0 105 (dk_at dksX2_hit_2 13 rfl rfl)
theorem dX2_hit_80 : decode cX2_hit 80 = .ok (.iload_n 1, 1) := dk_27 (dk_at dksX2_hit_2 16 rfl rfl)
theorem dX2_hit_81 : decode cX2_hit 81 = .ok (.iaload, 1) := dk_46 (dk_at dksX2_hit_2 17 rfl rfl)
theorem dX2_hit_82 : decode cX2_hit 82 = .ok (.invokevirtual 126, 3) := dk_182 0 126 (dk_at dksX2_hit_2 18 rfl rfl)
theorem dX2_hit_85 : decode cX2_hit 85 = .ok (.ireturn, 1) := dk_172 (dk_at dksX2_hit_2 21 rfl rfl)
theorem dX2_hit_86 : decode cX2_hit 86 = .ok (.aload_n 0, 1) := dk_42 (dk_at dksX2_hit_2 22 rfl rfl)
theorem dX2_hit_87 : decode cX2_hit 87 = .ok (.aload_n 0, 1) := dk_42 (dk_at dksX2_hit_2 23 rfl rfl)
theorem dX2_hit_88 : decode cX2_hit 88 = .ok (.getfield 108, 3) := dk_180 0 108 (dk_at dksX2_hit_3 0 rfl rfl)
theorem dX2_hit_91 : decode cX2_hit 91 = .ok (.iload_n 1, 1) := dk_27 (dk_at dksX2_hit_3 3 rfl rfl)
theorem dX2_hit_92 : decode cX2_hit 92 = .ok (.iaload, 1) := dk_46 (dk_at dksX2_hit_3 4 rfl rfl)
theorem dX2_hit_93 : decode cX2_hit 93 = .ok (.invokevirtual 126, 3) := dk_182 0 126 (dk_at dksX2_hit_3 5 rfl rfl)
theorem dX2_hit_96 : decode cX2_hit 96 = .ok (.ireturn, 1) := dk_172 (dk_at dksX2_hit_3 8 rfl rfl)
theorem dX2_hit_97 : decode cX2_hit 97 = .ok (.aload_n 0, 1) := dk_42 (dk_at dksX2_hit_3 9 rfl rfl)
theorem dX2_hit_98 : decode cX2_hit 98 = .ok (.aload_n 0, 1) := dk_42 (dk_at dksX2_hit_3 10 rfl rfl)
theorem dX2_hit_99 : decode cX2_hit 99 = .ok (.getfield 111, 3) := dk_180 0 111 (dk_at dksX2_hit_3 11 rfl rfl)
theorem dX2_hit_102 : decode cX2_hit 102 = .ok (.iload_n 1, 1) := dk_27 (dk_at dksX2_hit_3 14 rfl rfl)
theorem dX2_hit_103 : decode cX2_hit 103 = .ok (.iaload, 1) := dk_46 (dk_at dksX2_hit_3 15 rfl rfl)
theorem dX2_hit_104 : decode cX2_hit 104 = .ok (.invokevirtual 126, 3) := dk_182 0 126 (dk_at dksX2_hit_3 16 rfl rfl)
theorem dX2_hit_107 : decode cX2_hit 107 = .ok (.ireturn, 1) := dk_172 (dk_at dksX2_hit_3 19 rfl rfl)
theorem dX2_hit_108 : decode cX2_hit 108 = .ok (.aload_n 0, 1) := dk_42 (dk_at dksX2_hit_3 20 rfl rfl)
theorem dX2_hit_109 : decode cX2_hit 109 = .ok (.iconst 2, 1) := dk_5 (dk_at dksX2_hit_3 21 rfl rfl)
theorem dX2_hit_110 : decode cX2_hit 110 = .ok (.invokevirtual 122, 3) := dk_182 0 122 (dk_at dksX2_hit_4 0 rfl rfl)
theorem dX2_hit_113 : decode cX2_hit 113 = .ok (.ireturn, 1) := dk_172 (dk_at dksX2_hit_4 3 rfl rfl)
abbrev cX2_hear : ByteArray := prog_7_method_60_code
def yX2_hear : MethodName := ⟨RX2, "hear", "(II)I"⟩
def dkwX2_hear_5 : List UInt8 := [167, 0, 4, 3, 96, 62, 132, 4, 1, 167, 255, 225, 42, 29, 182, 0, 126, 172]
abbrev dktX2_hear_5 : List UInt8 := dkwX2_hear_5 ++ []
def dkwX2_hear_4 : List UInt8 := [54, 4, 21, 4, 42, 180, 0, 28, 162, 0, 28, 29, 42, 180, 0, 111, 21, 4, 46, 2, 160, 0, 7, 4]
abbrev dktX2_hear_4 : List UInt8 := dkwX2_hear_4 ++ dktX2_hear_5
def dkwX2_hear_3 : List UInt8 := [46, 182, 0, 212, 28, 5, 108, 4, 160, 0, 13, 42, 42, 180, 0, 105, 27, 46, 182, 0, 212, 3, 62, 3]
abbrev dktX2_hear_3 : List UInt8 := dkwX2_hear_3 ++ dktX2_hear_4
def dkwX2_hear_2 : List UInt8 := [182, 0, 122, 172, 42, 180, 0, 111, 27, 28, 79, 28, 5, 112, 4, 160, 0, 13, 42, 42, 180, 0, 102, 27]
abbrev dktX2_hear_2 : List UInt8 := dkwX2_hear_2 ++ dktX2_hear_3
def dkwX2_hear_1 : List UInt8 := [184, 0, 118, 154, 0, 9, 42, 5, 182, 0, 122, 172, 42, 180, 0, 111, 27, 46, 2, 159, 0, 9, 42, 6]
abbrev dktX2_hear_1 : List UInt8 := dkwX2_hear_1 ++ dktX2_hear_2
def dkwX2_hear_0 : List UInt8 := [27, 3, 42, 180, 0, 28, 4, 100, 184, 0, 118, 154, 0, 9, 42, 4, 182, 0, 122, 172, 28, 3, 6]
abbrev dktX2_hear_0 : List UInt8 := dkwX2_hear_0 ++ dktX2_hear_1
theorem dksX2_hear_0 : cX2_hear.data.toList.drop 0 = dktX2_hear_0 := by decide +kernel
theorem dksX2_hear_1 : cX2_hear.data.toList.drop 23 = dktX2_hear_1 := dk_seg dksX2_hear_0 23 rfl rfl
theorem dksX2_hear_2 : cX2_hear.data.toList.drop 47 = dktX2_hear_2 := dk_seg dksX2_hear_1 24 rfl rfl
theorem dksX2_hear_3 : cX2_hear.data.toList.drop 71 = dktX2_hear_3 := dk_seg dksX2_hear_2 24 rfl rfl
theorem dksX2_hear_4 : cX2_hear.data.toList.drop 95 = dktX2_hear_4 := dk_seg dksX2_hear_3 24 rfl rfl
theorem dksX2_hear_5 : cX2_hear.data.toList.drop 119 = dktX2_hear_5 := dk_seg dksX2_hear_4 24 rfl rfl
theorem dX2_hear_0 : decode cX2_hear 0 = .ok (.iload_n 1, 1) := dk_27 (dk_at dksX2_hear_0 0 rfl rfl)
theorem dX2_hear_1 : decode cX2_hear 1 = .ok (.iconst 0, 1) := dk_3 (dk_at dksX2_hear_0 1 rfl rfl)
theorem dX2_hear_2 : decode cX2_hear 2 = .ok (.aload_n 0, 1) := dk_42 (dk_at dksX2_hear_0 2 rfl rfl)
theorem dX2_hear_3 : decode cX2_hear 3 = .ok (.getfield 28, 3) := dk_180 0 28 (dk_at dksX2_hear_0 3 rfl rfl)
theorem dX2_hear_6 : decode cX2_hear 6 = .ok (.iconst 1, 1) := dk_4 (dk_at dksX2_hear_0 6 rfl rfl)
theorem dX2_hear_7 : decode cX2_hear 7 = .ok (.isub, 1) := dk_100 (dk_at dksX2_hear_0 7 rfl rfl)
theorem dX2_hear_8 : decode cX2_hear 8 = .ok (.invokestatic 118, 3) := dk_184 0 118 (dk_at dksX2_hear_0 8 rfl rfl)
theorem dX2_hear_11 : decode cX2_hear 11 = .ok (.ifCond .ne 9, 3) := dk_154 0 9 (dk_at dksX2_hear_0 11 rfl rfl)
theorem dX2_hear_14 : decode cX2_hear 14 = .ok (.aload_n 0, 1) := dk_42 (dk_at dksX2_hear_0 14 rfl rfl)
theorem dX2_hear_15 : decode cX2_hear 15 = .ok (.iconst 1, 1) := dk_4 (dk_at dksX2_hear_0 15 rfl rfl)
theorem dX2_hear_16 : decode cX2_hear 16 = .ok (.invokevirtual 122, 3) := dk_182 0 122 (dk_at dksX2_hear_0 16 rfl rfl)
theorem dX2_hear_19 : decode cX2_hear 19 = .ok (.ireturn, 1) := dk_172 (dk_at dksX2_hear_0 19 rfl rfl)
theorem dX2_hear_20 : decode cX2_hear 20 = .ok (.iload_n 2, 1) := dk_28 (dk_at dksX2_hear_0 20 rfl rfl)
theorem dX2_hear_21 : decode cX2_hear 21 = .ok (.iconst 0, 1) := dk_3 (dk_at dksX2_hear_0 21 rfl rfl)
theorem dX2_hear_22 : decode cX2_hear 22 = .ok (.iconst 3, 1) := dk_6 (dk_at dksX2_hear_0 22 rfl rfl)
theorem dX2_hear_23 : decode cX2_hear 23 = .ok (.invokestatic 118, 3) := dk_184 0 118 (dk_at dksX2_hear_1 0 rfl rfl)
theorem dX2_hear_26 : decode cX2_hear 26 = .ok (.ifCond .ne 9, 3) := dk_154 0 9 (dk_at dksX2_hear_1 3 rfl rfl)
theorem dX2_hear_29 : decode cX2_hear 29 = .ok (.aload_n 0, 1) := dk_42 (dk_at dksX2_hear_1 6 rfl rfl)
theorem dX2_hear_30 : decode cX2_hear 30 = .ok (.iconst 2, 1) := dk_5 (dk_at dksX2_hear_1 7 rfl rfl)
theorem dX2_hear_31 : decode cX2_hear 31 = .ok (.invokevirtual 122, 3) := dk_182 0 122 (dk_at dksX2_hear_1 8 rfl rfl)
theorem dX2_hear_34 : decode cX2_hear 34 = .ok (.ireturn, 1) := dk_172 (dk_at dksX2_hear_1 11 rfl rfl)
theorem dX2_hear_35 : decode cX2_hear 35 = .ok (.aload_n 0, 1) := dk_42 (dk_at dksX2_hear_1 12 rfl rfl)
theorem dX2_hear_36 : decode cX2_hear 36 = .ok (.getfield 111, 3) := dk_180 0 111 (dk_at dksX2_hear_1 13 rfl rfl)
theorem dX2_hear_39 : decode cX2_hear 39 = .ok (.iload_n 1, 1) := dk_27 (dk_at dksX2_hear_1 16 rfl rfl)
theorem dX2_hear_40 : decode cX2_hear 40 = .ok (.iaload, 1) := dk_46 (dk_at dksX2_hear_1 17 rfl rfl)
theorem dX2_hear_41 : decode cX2_hear 41 = .ok (.iconst (-1), 1) := dk_2 (dk_at dksX2_hear_1 18 rfl rfl)
theorem dX2_hear_42 : decode cX2_hear 42 = .ok (.if_icmp .eq 9, 3) := dk_159 0 9 (dk_at dksX2_hear_1 19 rfl rfl)
theorem dX2_hear_45 : decode cX2_hear 45 = .ok (.aload_n 0, 1) := dk_42 (dk_at dksX2_hear_1 22 rfl rfl)
theorem dX2_hear_46 : decode cX2_hear 46 = .ok (.iconst 3, 1) := dk_6 (dk_at dksX2_hear_1 23 rfl rfl)
theorem dX2_hear_47 : decode cX2_hear 47 = .ok (.invokevirtual 122, 3) := dk_182 0 122 (dk_at dksX2_hear_2 0 rfl rfl)
theorem dX2_hear_50 : decode cX2_hear 50 = .ok (.ireturn, 1) := dk_172 (dk_at dksX2_hear_2 3 rfl rfl)
theorem dX2_hear_51 : decode cX2_hear 51 = .ok (.aload_n 0, 1) := dk_42 (dk_at dksX2_hear_2 4 rfl rfl)
theorem dX2_hear_52 : decode cX2_hear 52 = .ok (.getfield 111, 3) := dk_180 0 111 (dk_at dksX2_hear_2 5 rfl rfl)
theorem dX2_hear_55 : decode cX2_hear 55 = .ok (.iload_n 1, 1) := dk_27 (dk_at dksX2_hear_2 8 rfl rfl)
theorem dX2_hear_56 : decode cX2_hear 56 = .ok (.iload_n 2, 1) := dk_28 (dk_at dksX2_hear_2 9 rfl rfl)
theorem dX2_hear_57 : decode cX2_hear 57 = .ok (.iastore, 1) := dk_79 (dk_at dksX2_hear_2 10 rfl rfl)
theorem dX2_hear_58 : decode cX2_hear 58 = .ok (.iload_n 2, 1) := dk_28 (dk_at dksX2_hear_2 11 rfl rfl)
theorem dX2_hear_59 : decode cX2_hear 59 = .ok (.iconst 2, 1) := dk_5 (dk_at dksX2_hear_2 12 rfl rfl)
theorem dX2_hear_60 : decode cX2_hear 60 = .ok (.irem, 1) := dk_112 (dk_at dksX2_hear_2 13 rfl rfl)
theorem dX2_hear_61 : decode cX2_hear 61 = .ok (.iconst 1, 1) := dk_4 (dk_at dksX2_hear_2 14 rfl rfl)
theorem dX2_hear_62 : decode cX2_hear 62 = .ok (.if_icmp .ne 13, 3) := dk_160 0 13 (dk_at dksX2_hear_2 15 rfl rfl)
theorem dX2_hear_65 : decode cX2_hear 65 = .ok (.aload_n 0, 1) := dk_42 (dk_at dksX2_hear_2 18 rfl rfl)
theorem dX2_hear_66 : decode cX2_hear 66 = .ok (.aload_n 0, 1) := dk_42 (dk_at dksX2_hear_2 19 rfl rfl)
theorem dX2_hear_67 : decode cX2_hear 67 = .ok (.getfield 102, 3) := dk_180 0 102 (dk_at dksX2_hear_2 20 rfl rfl)
theorem dX2_hear_70 : decode cX2_hear 70 = .ok (.iload_n 1, 1) := dk_27 (dk_at dksX2_hear_2 23 rfl rfl)
theorem dX2_hear_71 : decode cX2_hear 71 = .ok (.iaload, 1) := dk_46 (dk_at dksX2_hear_3 0 rfl rfl)
theorem dX2_hear_72 : decode cX2_hear 72 = .ok (.invokevirtual 212, 3) := dk_182 0 212 (dk_at dksX2_hear_3 1 rfl rfl)
theorem dX2_hear_75 : decode cX2_hear 75 = .ok (.iload_n 2, 1) := dk_28 (dk_at dksX2_hear_3 4 rfl rfl)
theorem dX2_hear_76 : decode cX2_hear 76 = .ok (.iconst 2, 1) := dk_5 (dk_at dksX2_hear_3 5 rfl rfl)
theorem dX2_hear_77 : decode cX2_hear 77 = .ok (.idiv, 1) := dk_108 (dk_at dksX2_hear_3 6 rfl rfl)
theorem dX2_hear_78 : decode cX2_hear 78 = .ok (.iconst 1, 1) := dk_4 (dk_at dksX2_hear_3 7 rfl rfl)
theorem dX2_hear_79 : decode cX2_hear 79 = .ok (.if_icmp .ne 13, 3) := dk_160 0 13 (dk_at dksX2_hear_3 8 rfl rfl)
theorem dX2_hear_82 : decode cX2_hear 82 = .ok (.aload_n 0, 1) := dk_42 (dk_at dksX2_hear_3 11 rfl rfl)
theorem dX2_hear_83 : decode cX2_hear 83 = .ok (.aload_n 0, 1) := dk_42 (dk_at dksX2_hear_3 12 rfl rfl)
theorem dX2_hear_84 : decode cX2_hear 84 = .ok (.getfield 105, 3) := dk_180 0 105 (dk_at dksX2_hear_3 13 rfl rfl)
theorem dX2_hear_87 : decode cX2_hear 87 = .ok (.iload_n 1, 1) := dk_27 (dk_at dksX2_hear_3 16 rfl rfl)
theorem dX2_hear_88 : decode cX2_hear 88 = .ok (.iaload, 1) := dk_46 (dk_at dksX2_hear_3 17 rfl rfl)
theorem dX2_hear_89 : decode cX2_hear 89 = .ok (.invokevirtual 212, 3) := dk_182 0 212 (dk_at dksX2_hear_3 18 rfl rfl)
theorem dX2_hear_92 : decode cX2_hear 92 = .ok (.iconst 0, 1) := dk_3 (dk_at dksX2_hear_3 21 rfl rfl)
theorem dX2_hear_93 : decode cX2_hear 93 = .ok (.istore_n 3, 1) := dk_62 (dk_at dksX2_hear_3 22 rfl rfl)
theorem dX2_hear_94 : decode cX2_hear 94 = .ok (.iconst 0, 1) := dk_3 (dk_at dksX2_hear_3 23 rfl rfl)
theorem dX2_hear_95 : decode cX2_hear 95 = .ok (.istore 4, 2) := dk_54 4 (dk_at dksX2_hear_4 0 rfl rfl)
theorem dX2_hear_97 : decode cX2_hear 97 = .ok (.iload 4, 2) := dk_21 4 (dk_at dksX2_hear_4 2 rfl rfl)
theorem dX2_hear_99 : decode cX2_hear 99 = .ok (.aload_n 0, 1) := dk_42 (dk_at dksX2_hear_4 4 rfl rfl)
theorem dX2_hear_100 : decode cX2_hear 100 = .ok (.getfield 28, 3) := dk_180 0 28 (dk_at dksX2_hear_4 5 rfl rfl)
theorem dX2_hear_103 : decode cX2_hear 103 = .ok (.if_icmp .ge 28, 3) := dk_162 0 28 (dk_at dksX2_hear_4 8 rfl rfl)
theorem dX2_hear_106 : decode cX2_hear 106 = .ok (.iload_n 3, 1) := dk_29 (dk_at dksX2_hear_4 11 rfl rfl)
theorem dX2_hear_107 : decode cX2_hear 107 = .ok (.aload_n 0, 1) := dk_42 (dk_at dksX2_hear_4 12 rfl rfl)
theorem dX2_hear_108 : decode cX2_hear 108 = .ok (.getfield 111, 3) := dk_180 0 111 (dk_at dksX2_hear_4 13 rfl rfl)
theorem dX2_hear_111 : decode cX2_hear 111 = .ok (.iload 4, 2) := dk_21 4 (dk_at dksX2_hear_4 16 rfl rfl)
theorem dX2_hear_113 : decode cX2_hear 113 = .ok (.iaload, 1) := dk_46 (dk_at dksX2_hear_4 18 rfl rfl)
theorem dX2_hear_114 : decode cX2_hear 114 = .ok (.iconst (-1), 1) := dk_2 (dk_at dksX2_hear_4 19 rfl rfl)
theorem dX2_hear_115 : decode cX2_hear 115 = .ok (.if_icmp .ne 7, 3) := dk_160 0 7 (dk_at dksX2_hear_4 20 rfl rfl)
theorem dX2_hear_118 : decode cX2_hear 118 = .ok (.iconst 1, 1) := dk_4 (dk_at dksX2_hear_4 23 rfl rfl)
theorem dX2_hear_119 : decode cX2_hear 119 = .ok (.goto 4, 3) := dk_167 0 4 (dk_at dksX2_hear_5 0 rfl rfl)
theorem dX2_hear_122 : decode cX2_hear 122 = .ok (.iconst 0, 1) := dk_3 (dk_at dksX2_hear_5 3 rfl rfl)
theorem dX2_hear_123 : decode cX2_hear 123 = .ok (.iadd, 1) := dk_96 (dk_at dksX2_hear_5 4 rfl rfl)
theorem dX2_hear_124 : decode cX2_hear 124 = .ok (.istore_n 3, 1) := dk_62 (dk_at dksX2_hear_5 5 rfl rfl)
theorem dX2_hear_125 : decode cX2_hear 125 = .ok (.iinc 4 1, 3) := dk_132 4 1 (dk_at dksX2_hear_5 6 rfl rfl)
theorem dX2_hear_128 : decode cX2_hear 128 = .ok (.goto (-31), 3) := dk_167 255 225 (dk_at dksX2_hear_5 9 rfl rfl)
theorem dX2_hear_131 : decode cX2_hear 131 = .ok (.aload_n 0, 1) := dk_42 (dk_at dksX2_hear_5 12 rfl rfl)
theorem dX2_hear_132 : decode cX2_hear 132 = .ok (.iload_n 3, 1) := dk_29 (dk_at dksX2_hear_5 13 rfl rfl)
theorem dX2_hear_133 : decode cX2_hear 133 = .ok (.invokevirtual 126, 3) := dk_182 0 126 (dk_at dksX2_hear_5 14 rfl rfl)
theorem dX2_hear_136 : decode cX2_hear 136 = .ok (.ireturn, 1) := dk_172 (dk_at dksX2_hear_5 17 rfl rfl)
abbrev cX2_loses : ByteArray := prog_7_method_59_code
def yX2_loses : MethodName := ⟨RX2, "loses", "(I)V"⟩
def dkwX2_loses_0 : List UInt8 := [42, 180, 0, 114, 16, 10, 42, 180, 0, 66, 27, 46, 104, 42, 180, 0, 69, 27, 46, 96, 4, 84, 177]
abbrev dktX2_loses_0 : List UInt8 := dkwX2_loses_0 ++ []
theorem dksX2_loses_0 : cX2_loses.data.toList.drop 0 = dktX2_loses_0 := by decide +kernel
theorem dX2_loses_0 : decode cX2_loses 0 = .ok (.aload_n 0, 1) := dk_42 (dk_at dksX2_loses_0 0 rfl rfl)
theorem dX2_loses_1 : decode cX2_loses 1 = .ok (.getfield 114, 3) := dk_180 0 114 (dk_at dksX2_loses_0 1 rfl rfl)
theorem dX2_loses_4 : decode cX2_loses 4 = .ok (.bipush 10, 2) := dk_16 10 (dk_at dksX2_loses_0 4 rfl rfl)
theorem dX2_loses_6 : decode cX2_loses 6 = .ok (.aload_n 0, 1) := dk_42 (dk_at dksX2_loses_0 6 rfl rfl)
theorem dX2_loses_7 : decode cX2_loses 7 = .ok (.getfield 66, 3) := dk_180 0 66 (dk_at dksX2_loses_0 7 rfl rfl)
theorem dX2_loses_10 : decode cX2_loses 10 = .ok (.iload_n 1, 1) := dk_27 (dk_at dksX2_loses_0 10 rfl rfl)
theorem dX2_loses_11 : decode cX2_loses 11 = .ok (.iaload, 1) := dk_46 (dk_at dksX2_loses_0 11 rfl rfl)
theorem dX2_loses_12 : decode cX2_loses 12 = .ok (.imul, 1) := dk_104 (dk_at dksX2_loses_0 12 rfl rfl)
theorem dX2_loses_13 : decode cX2_loses 13 = .ok (.aload_n 0, 1) := dk_42 (dk_at dksX2_loses_0 13 rfl rfl)
theorem dX2_loses_14 : decode cX2_loses 14 = .ok (.getfield 69, 3) := dk_180 0 69 (dk_at dksX2_loses_0 14 rfl rfl)
theorem dX2_loses_17 : decode cX2_loses 17 = .ok (.iload_n 1, 1) := dk_27 (dk_at dksX2_loses_0 17 rfl rfl)
theorem dX2_loses_18 : decode cX2_loses 18 = .ok (.iaload, 1) := dk_46 (dk_at dksX2_loses_0 18 rfl rfl)
theorem dX2_loses_19 : decode cX2_loses 19 = .ok (.iadd, 1) := dk_96 (dk_at dksX2_loses_0 19 rfl rfl)
theorem dX2_loses_20 : decode cX2_loses 20 = .ok (.iconst 1, 1) := dk_4 (dk_at dksX2_loses_0 20 rfl rfl)
theorem dX2_loses_21 : decode cX2_loses 21 = .ok (.bastore, 1) := dk_84 (dk_at dksX2_loses_0 21 rfl rfl)
theorem dX2_loses_22 : decode cX2_loses 22 = .ok (.return_, 1) := dk_177 (dk_at dksX2_loses_0 22 rfl rfl)
abbrev cX2_next : ByteArray := prog_7_method_61_code
def yX2_next : MethodName := ⟨RX2, "next", "()I"⟩
def dkwX2_next_3 : List UInt8 := [172]
abbrev dktX2_next_3 : List UInt8 := dkwX2_next_3 ++ []
def dkwX2_next_2 : List UInt8 := [132, 2, 1, 167, 255, 209, 27, 2, 160, 0, 11, 42, 4, 182, 0, 122, 167, 0, 8, 42, 27, 182, 0, 126]
abbrev dktX2_next_2 : List UInt8 := dkwX2_next_2 ++ dktX2_next_3
def dkwX2_next_1 : List UInt8 := [159, 0, 18, 42, 180, 0, 108, 28, 46, 42, 180, 0, 108, 27, 46, 164, 0, 7, 28, 167, 0, 4, 27, 60]
abbrev dktX2_next_1 : List UInt8 := dkwX2_next_1 ++ dktX2_next_2
def dkwX2_next_0 : List UInt8 := [2, 60, 3, 61, 28, 42, 180, 0, 28, 162, 0, 45, 42, 180, 0, 111, 28, 46, 2, 160, 0, 27, 27, 2]
abbrev dktX2_next_0 : List UInt8 := dkwX2_next_0 ++ dktX2_next_1
theorem dksX2_next_0 : cX2_next.data.toList.drop 0 = dktX2_next_0 := by decide +kernel
theorem dksX2_next_1 : cX2_next.data.toList.drop 24 = dktX2_next_1 := dk_seg dksX2_next_0 24 rfl rfl
theorem dksX2_next_2 : cX2_next.data.toList.drop 48 = dktX2_next_2 := dk_seg dksX2_next_1 24 rfl rfl
theorem dksX2_next_3 : cX2_next.data.toList.drop 72 = dktX2_next_3 := dk_seg dksX2_next_2 24 rfl rfl
theorem dX2_next_0 : decode cX2_next 0 = .ok (.iconst (-1), 1) := dk_2 (dk_at dksX2_next_0 0 rfl rfl)
theorem dX2_next_1 : decode cX2_next 1 = .ok (.istore_n 1, 1) := dk_60 (dk_at dksX2_next_0 1 rfl rfl)
theorem dX2_next_2 : decode cX2_next 2 = .ok (.iconst 0, 1) := dk_3 (dk_at dksX2_next_0 2 rfl rfl)
theorem dX2_next_3 : decode cX2_next 3 = .ok (.istore_n 2, 1) := dk_61 (dk_at dksX2_next_0 3 rfl rfl)
theorem dX2_next_4 : decode cX2_next 4 = .ok (.iload_n 2, 1) := dk_28 (dk_at dksX2_next_0 4 rfl rfl)
theorem dX2_next_5 : decode cX2_next 5 = .ok (.aload_n 0, 1) := dk_42 (dk_at dksX2_next_0 5 rfl rfl)
theorem dX2_next_6 : decode cX2_next 6 = .ok (.getfield 28, 3) := dk_180 0 28 (dk_at dksX2_next_0 6 rfl rfl)
theorem dX2_next_9 : decode cX2_next 9 = .ok (.if_icmp .ge 45, 3) := dk_162 0 45 (dk_at dksX2_next_0 9 rfl rfl)
theorem dX2_next_12 : decode cX2_next 12 = .ok (.aload_n 0, 1) := dk_42 (dk_at dksX2_next_0 12 rfl rfl)
theorem dX2_next_13 : decode cX2_next 13 = .ok (.getfield 111, 3) := dk_180 0 111 (dk_at dksX2_next_0 13 rfl rfl)
theorem dX2_next_16 : decode cX2_next 16 = .ok (.iload_n 2, 1) := dk_28 (dk_at dksX2_next_0 16 rfl rfl)
theorem dX2_next_17 : decode cX2_next 17 = .ok (.iaload, 1) := dk_46 (dk_at dksX2_next_0 17 rfl rfl)
theorem dX2_next_18 : decode cX2_next 18 = .ok (.iconst (-1), 1) := dk_2 (dk_at dksX2_next_0 18 rfl rfl)
theorem dX2_next_19 : decode cX2_next 19 = .ok (.if_icmp .ne 27, 3) := dk_160 0 27 (dk_at dksX2_next_0 19 rfl rfl)
theorem dX2_next_22 : decode cX2_next 22 = .ok (.iload_n 1, 1) := dk_27 (dk_at dksX2_next_0 22 rfl rfl)
theorem dX2_next_23 : decode cX2_next 23 = .ok (.iconst (-1), 1) := dk_2 (dk_at dksX2_next_0 23 rfl rfl)
theorem dX2_next_24 : decode cX2_next 24 = .ok (.if_icmp .eq 18, 3) := dk_159 0 18 (dk_at dksX2_next_1 0 rfl rfl)
theorem dX2_next_27 : decode cX2_next 27 = .ok (.aload_n 0, 1) := dk_42 (dk_at dksX2_next_1 3 rfl rfl)
theorem dX2_next_28 : decode cX2_next 28 = .ok (.getfield 108, 3) := dk_180 0 108 (dk_at dksX2_next_1 4 rfl rfl)
theorem dX2_next_31 : decode cX2_next 31 = .ok (.iload_n 2, 1) := dk_28 (dk_at dksX2_next_1 7 rfl rfl)
theorem dX2_next_32 : decode cX2_next 32 = .ok (.iaload, 1) := dk_46 (dk_at dksX2_next_1 8 rfl rfl)
theorem dX2_next_33 : decode cX2_next 33 = .ok (.aload_n 0, 1) := dk_42 (dk_at dksX2_next_1 9 rfl rfl)
theorem dX2_next_34 : decode cX2_next 34 = .ok (.getfield 108, 3) := dk_180 0 108 (dk_at dksX2_next_1 10 rfl rfl)
theorem dX2_next_37 : decode cX2_next 37 = .ok (.iload_n 1, 1) := dk_27 (dk_at dksX2_next_1 13 rfl rfl)
theorem dX2_next_38 : decode cX2_next 38 = .ok (.iaload, 1) := dk_46 (dk_at dksX2_next_1 14 rfl rfl)
theorem dX2_next_39 : decode cX2_next 39 = .ok (.if_icmp .le 7, 3) := dk_164 0 7 (dk_at dksX2_next_1 15 rfl rfl)
theorem dX2_next_42 : decode cX2_next 42 = .ok (.iload_n 2, 1) := dk_28 (dk_at dksX2_next_1 18 rfl rfl)
theorem dX2_next_43 : decode cX2_next 43 = .ok (.goto 4, 3) := dk_167 0 4 (dk_at dksX2_next_1 19 rfl rfl)
theorem dX2_next_46 : decode cX2_next 46 = .ok (.iload_n 1, 1) := dk_27 (dk_at dksX2_next_1 22 rfl rfl)
theorem dX2_next_47 : decode cX2_next 47 = .ok (.istore_n 1, 1) := dk_60 (dk_at dksX2_next_1 23 rfl rfl)
theorem dX2_next_48 : decode cX2_next 48 = .ok (.iinc 2 1, 3) := dk_132 2 1 (dk_at dksX2_next_2 0 rfl rfl)
theorem dX2_next_51 : decode cX2_next 51 = .ok (.goto (-47), 3) := dk_167 255 209 (dk_at dksX2_next_2 3 rfl rfl)
theorem dX2_next_54 : decode cX2_next 54 = .ok (.iload_n 1, 1) := dk_27 (dk_at dksX2_next_2 6 rfl rfl)
theorem dX2_next_55 : decode cX2_next 55 = .ok (.iconst (-1), 1) := dk_2 (dk_at dksX2_next_2 7 rfl rfl)
theorem dX2_next_56 : decode cX2_next 56 = .ok (.if_icmp .ne 11, 3) := dk_160 0 11 (dk_at dksX2_next_2 8 rfl rfl)
theorem dX2_next_59 : decode cX2_next 59 = .ok (.aload_n 0, 1) := dk_42 (dk_at dksX2_next_2 11 rfl rfl)
theorem dX2_next_60 : decode cX2_next 60 = .ok (.iconst 1, 1) := dk_4 (dk_at dksX2_next_2 12 rfl rfl)
theorem dX2_next_61 : decode cX2_next 61 = .ok (.invokevirtual 122, 3) := dk_182 0 122 (dk_at dksX2_next_2 13 rfl rfl)
theorem dX2_next_64 : decode cX2_next 64 = .ok (.goto 8, 3) := dk_167 0 8 (dk_at dksX2_next_2 16 rfl rfl)
theorem dX2_next_67 : decode cX2_next 67 = .ok (.aload_n 0, 1) := dk_42 (dk_at dksX2_next_2 19 rfl rfl)
theorem dX2_next_68 : decode cX2_next 68 = .ok (.iload_n 1, 1) := dk_27 (dk_at dksX2_next_2 20 rfl rfl)
theorem dX2_next_69 : decode cX2_next 69 = .ok (.invokevirtual 126, 3) := dk_182 0 126 (dk_at dksX2_next_2 21 rfl rfl)
theorem dX2_next_72 : decode cX2_next 72 = .ok (.ireturn, 1) := dk_172 (dk_at dksX2_next_3 0 rfl rfl)
abbrev cX2_byteSum : ByteArray := prog_7_method_63_code
def yX2_byteSum : MethodName := ⟨RX2, "byteSum", "(I)B"⟩
def dkwX2_byteSum_1 : List UInt8 := [3, 167, 0, 8, 42, 27, 182, 0, 215, 172]
abbrev dktX2_byteSum_1 : List UInt8 := dkwX2_byteSum_1 ++ []
def dkwX2_byteSum_0 : List UInt8 := [42, 42, 27, 182, 0, 165, 153, 0, 7, 3, 167, 0, 4, 4, 181, 0, 37, 42, 180, 0, 37, 158, 0, 7]
abbrev dktX2_byteSum_0 : List UInt8 := dkwX2_byteSum_0 ++ dktX2_byteSum_1
theorem dksX2_byteSum_0 : cX2_byteSum.data.toList.drop 0 = dktX2_byteSum_0 := by decide +kernel
theorem dksX2_byteSum_1 : cX2_byteSum.data.toList.drop 24 = dktX2_byteSum_1 := dk_seg dksX2_byteSum_0 24 rfl rfl
theorem dX2_byteSum_0 : decode cX2_byteSum 0 = .ok (.aload_n 0, 1) := dk_42 (dk_at dksX2_byteSum_0 0 rfl rfl)
theorem dX2_byteSum_1 : decode cX2_byteSum 1 = .ok (.aload_n 0, 1) := dk_42 (dk_at dksX2_byteSum_0 1 rfl rfl)
theorem dX2_byteSum_2 : decode cX2_byteSum 2 = .ok (.iload_n 1, 1) := dk_27 (dk_at dksX2_byteSum_0 2 rfl rfl)
theorem dX2_byteSum_3 : decode cX2_byteSum 3 = .ok (.invokevirtual 165, 3) := dk_182 0 165 (dk_at dksX2_byteSum_0 3 rfl rfl)
theorem dX2_byteSum_6 : decode cX2_byteSum 6 = .ok (.ifCond .eq 7, 3) := dk_153 0 7 (dk_at dksX2_byteSum_0 6 rfl rfl)
theorem dX2_byteSum_9 : decode cX2_byteSum 9 = .ok (.iconst 0, 1) := dk_3 (dk_at dksX2_byteSum_0 9 rfl rfl)
theorem dX2_byteSum_10 : decode cX2_byteSum 10 = .ok (.goto 4, 3) := dk_167 0 4 (dk_at dksX2_byteSum_0 10 rfl rfl)
theorem dX2_byteSum_13 : decode cX2_byteSum 13 = .ok (.iconst 1, 1) := dk_4 (dk_at dksX2_byteSum_0 13 rfl rfl)
theorem dX2_byteSum_14 : decode cX2_byteSum 14 = .ok (.putfield 37, 3) := dk_181 0 37 (dk_at dksX2_byteSum_0 14 rfl rfl)
theorem dX2_byteSum_17 : decode cX2_byteSum 17 = .ok (.aload_n 0, 1) := dk_42 (dk_at dksX2_byteSum_0 17 rfl rfl)
theorem dX2_byteSum_18 : decode cX2_byteSum 18 = .ok (.getfield 37, 3) := dk_180 0 37 (dk_at dksX2_byteSum_0 18 rfl rfl)
theorem dX2_byteSum_21 : decode cX2_byteSum 21 = .ok (.ifCond .le 7, 3) := dk_158 0 7 (dk_at dksX2_byteSum_0 21 rfl rfl)
theorem dX2_byteSum_24 : decode cX2_byteSum 24 = .ok (.iconst 0, 1) := dk_3 (dk_at dksX2_byteSum_1 0 rfl rfl)
theorem dX2_byteSum_25 : decode cX2_byteSum 25 = .ok (.goto 8, 3) := dk_167 0 8 (dk_at dksX2_byteSum_1 1 rfl rfl)
theorem dX2_byteSum_28 : decode cX2_byteSum 28 = .ok (.aload_n 0, 1) := dk_42 (dk_at dksX2_byteSum_1 4 rfl rfl)
theorem dX2_byteSum_29 : decode cX2_byteSum 29 = .ok (.iload_n 1, 1) := dk_27 (dk_at dksX2_byteSum_1 5 rfl rfl)
theorem dX2_byteSum_30 : decode cX2_byteSum 30 = .ok (.invokevirtual 215, 3) := dk_182 0 215 (dk_at dksX2_byteSum_1 6 rfl rfl)
theorem dX2_byteSum_33 : decode cX2_byteSum 33 = .ok (.ireturn, 1) := dk_172 (dk_at dksX2_byteSum_1 9 rfl rfl)
abbrev cX2_byteSumOf : ByteArray := prog_7_method_62_code
def yX2_byteSumOf : MethodName := ⟨RX2, "byteSumOf", "(I)B"⟩
def dkwX2_byteSumOf_2 : List UInt8 := [96, 145, 61, 132, 5, 1, 167, 255, 232, 132, 3, 1, 167, 255, 200, 28, 172]
abbrev dktX2_byteSumOf_2 : List UInt8 := dkwX2_byteSumOf_2 ++ []
def dkwX2_byteSumOf_1 : List UInt8 := [46, 54, 4, 3, 54, 5, 21, 5, 21, 4, 184, 0, 138, 162, 0, 20, 28, 21, 4, 21, 5, 184, 0, 151]
abbrev dktX2_byteSumOf_1 : List UInt8 := dkwX2_byteSumOf_1 ++ dktX2_byteSumOf_2
def dkwX2_byteSumOf_0 : List UInt8 := [3, 61, 3, 62, 29, 42, 180, 0, 78, 27, 46, 162, 0, 52, 42, 180, 0, 93, 16, 40, 27, 104, 29, 96]
abbrev dktX2_byteSumOf_0 : List UInt8 := dkwX2_byteSumOf_0 ++ dktX2_byteSumOf_1
theorem dksX2_byteSumOf_0 : cX2_byteSumOf.data.toList.drop 0 = dktX2_byteSumOf_0 := by decide +kernel
theorem dksX2_byteSumOf_1 : cX2_byteSumOf.data.toList.drop 24 = dktX2_byteSumOf_1 := dk_seg dksX2_byteSumOf_0 24 rfl rfl
theorem dksX2_byteSumOf_2 : cX2_byteSumOf.data.toList.drop 48 = dktX2_byteSumOf_2 := dk_seg dksX2_byteSumOf_1 24 rfl rfl
theorem dX2_byteSumOf_0 : decode cX2_byteSumOf 0 = .ok (.iconst 0, 1) := dk_3 (dk_at dksX2_byteSumOf_0 0 rfl rfl)
theorem dX2_byteSumOf_1 : decode cX2_byteSumOf 1 = .ok (.istore_n 2, 1) := dk_61 (dk_at dksX2_byteSumOf_0 1 rfl rfl)
theorem dX2_byteSumOf_2 : decode cX2_byteSumOf 2 = .ok (.iconst 0, 1) := dk_3 (dk_at dksX2_byteSumOf_0 2 rfl rfl)
theorem dX2_byteSumOf_3 : decode cX2_byteSumOf 3 = .ok (.istore_n 3, 1) := dk_62 (dk_at dksX2_byteSumOf_0 3 rfl rfl)
theorem dX2_byteSumOf_4 : decode cX2_byteSumOf 4 = .ok (.iload_n 3, 1) := dk_29 (dk_at dksX2_byteSumOf_0 4 rfl rfl)
theorem dX2_byteSumOf_5 : decode cX2_byteSumOf 5 = .ok (.aload_n 0, 1) := dk_42 (dk_at dksX2_byteSumOf_0 5 rfl rfl)
theorem dX2_byteSumOf_6 : decode cX2_byteSumOf 6 = .ok (.getfield 78, 3) := dk_180 0 78 (dk_at dksX2_byteSumOf_0 6 rfl rfl)
theorem dX2_byteSumOf_9 : decode cX2_byteSumOf 9 = .ok (.iload_n 1, 1) := dk_27 (dk_at dksX2_byteSumOf_0 9 rfl rfl)
theorem dX2_byteSumOf_10 : decode cX2_byteSumOf 10 = .ok (.iaload, 1) := dk_46 (dk_at dksX2_byteSumOf_0 10 rfl rfl)
theorem dX2_byteSumOf_11 : decode cX2_byteSumOf 11 = .ok (.if_icmp .ge 52, 3) := dk_162 0 52 (dk_at dksX2_byteSumOf_0 11 rfl rfl)
theorem dX2_byteSumOf_14 : decode cX2_byteSumOf 14 = .ok (.aload_n 0, 1) := dk_42 (dk_at dksX2_byteSumOf_0 14 rfl rfl)
theorem dX2_byteSumOf_15 : decode cX2_byteSumOf 15 = .ok (.getfield 93, 3) := dk_180 0 93 (dk_at dksX2_byteSumOf_0 15 rfl rfl)
theorem dX2_byteSumOf_18 : decode cX2_byteSumOf 18 = .ok (.bipush 40, 2) := dk_16 40 (dk_at dksX2_byteSumOf_0 18 rfl rfl)
theorem dX2_byteSumOf_20 : decode cX2_byteSumOf 20 = .ok (.iload_n 1, 1) := dk_27 (dk_at dksX2_byteSumOf_0 20 rfl rfl)
theorem dX2_byteSumOf_21 : decode cX2_byteSumOf 21 = .ok (.imul, 1) := dk_104 (dk_at dksX2_byteSumOf_0 21 rfl rfl)
theorem dX2_byteSumOf_22 : decode cX2_byteSumOf 22 = .ok (.iload_n 3, 1) := dk_29 (dk_at dksX2_byteSumOf_0 22 rfl rfl)
theorem dX2_byteSumOf_23 : decode cX2_byteSumOf 23 = .ok (.iadd, 1) := dk_96 (dk_at dksX2_byteSumOf_0 23 rfl rfl)
theorem dX2_byteSumOf_24 : decode cX2_byteSumOf 24 = .ok (.iaload, 1) := dk_46 (dk_at dksX2_byteSumOf_1 0 rfl rfl)
theorem dX2_byteSumOf_25 : decode cX2_byteSumOf 25 = .ok (.istore 4, 2) := dk_54 4 (dk_at dksX2_byteSumOf_1 1 rfl rfl)
theorem dX2_byteSumOf_27 : decode cX2_byteSumOf 27 = .ok (.iconst 0, 1) := dk_3 (dk_at dksX2_byteSumOf_1 3 rfl rfl)
theorem dX2_byteSumOf_28 : decode cX2_byteSumOf 28 = .ok (.istore 5, 2) := dk_54 5 (dk_at dksX2_byteSumOf_1 4 rfl rfl)
theorem dX2_byteSumOf_30 : decode cX2_byteSumOf 30 = .ok (.iload 5, 2) := dk_21 5 (dk_at dksX2_byteSumOf_1 6 rfl rfl)
theorem dX2_byteSumOf_32 : decode cX2_byteSumOf 32 = .ok (.iload 4, 2) := dk_21 4 (dk_at dksX2_byteSumOf_1 8 rfl rfl)
theorem dX2_byteSumOf_34 : decode cX2_byteSumOf 34 = .ok (.invokestatic 138, 3) := dk_184 0 138 (dk_at dksX2_byteSumOf_1 10 rfl rfl)
theorem dX2_byteSumOf_37 : decode cX2_byteSumOf 37 = .ok (.if_icmp .ge 20, 3) := dk_162 0 20 (dk_at dksX2_byteSumOf_1 13 rfl rfl)
theorem dX2_byteSumOf_40 : decode cX2_byteSumOf 40 = .ok (.iload_n 2, 1) := dk_28 (dk_at dksX2_byteSumOf_1 16 rfl rfl)
theorem dX2_byteSumOf_41 : decode cX2_byteSumOf 41 = .ok (.iload 4, 2) := dk_21 4 (dk_at dksX2_byteSumOf_1 17 rfl rfl)
theorem dX2_byteSumOf_43 : decode cX2_byteSumOf 43 = .ok (.iload 5, 2) := dk_21 5 (dk_at dksX2_byteSumOf_1 19 rfl rfl)
theorem dX2_byteSumOf_45 : decode cX2_byteSumOf 45 = .ok (.invokestatic 151, 3) := dk_184 0 151 (dk_at dksX2_byteSumOf_1 21 rfl rfl)
theorem dX2_byteSumOf_48 : decode cX2_byteSumOf 48 = .ok (.iadd, 1) := dk_96 (dk_at dksX2_byteSumOf_2 0 rfl rfl)
theorem dX2_byteSumOf_49 : decode cX2_byteSumOf 49 = .ok (.i2b, 1) := dk_145 (dk_at dksX2_byteSumOf_2 1 rfl rfl)
theorem dX2_byteSumOf_50 : decode cX2_byteSumOf 50 = .ok (.istore_n 2, 1) := dk_61 (dk_at dksX2_byteSumOf_2 2 rfl rfl)
theorem dX2_byteSumOf_51 : decode cX2_byteSumOf 51 = .ok (.iinc 5 1, 3) := dk_132 5 1 (dk_at dksX2_byteSumOf_2 3 rfl rfl)
theorem dX2_byteSumOf_54 : decode cX2_byteSumOf 54 = .ok (.goto (-24), 3) := dk_167 255 232 (dk_at dksX2_byteSumOf_2 6 rfl rfl)
theorem dX2_byteSumOf_57 : decode cX2_byteSumOf 57 = .ok (.iinc 3 1, 3) := dk_132 3 1 (dk_at dksX2_byteSumOf_2 9 rfl rfl)
theorem dX2_byteSumOf_60 : decode cX2_byteSumOf 60 = .ok (.goto (-56), 3) := dk_167 255 200 (dk_at dksX2_byteSumOf_2 12 rfl rfl)
theorem dX2_byteSumOf_63 : decode cX2_byteSumOf 63 = .ok (.iload_n 2, 1) := dk_28 (dk_at dksX2_byteSumOf_2 15 rfl rfl)
theorem dX2_byteSumOf_64 : decode cX2_byteSumOf 64 = .ok (.ireturn, 1) := dk_172 (dk_at dksX2_byteSumOf_2 16 rfl rfl)
abbrev cX2_shortSum : ByteArray := prog_7_method_64_code
def yX2_shortSum : MethodName := ⟨RX2, "shortSum", "(I)S"⟩
def dkwX2_shortSum_3 : List UInt8 := [21, 5, 184, 0, 151, 96, 147, 61, 132, 5, 1, 167, 255, 229, 132, 3, 1, 167, 255, 190, 28, 172]
abbrev dktX2_shortSum_3 : List UInt8 := dkwX2_shortSum_3 ++ []
def dkwX2_shortSum_2 : List UInt8 := [29, 96, 46, 54, 4, 3, 54, 5, 21, 5, 21, 4, 184, 0, 138, 162, 0, 23, 16, 31, 28, 104, 21, 4]
abbrev dktX2_shortSum_2 : List UInt8 := dkwX2_shortSum_2 ++ dktX2_shortSum_3
def dkwX2_shortSum_1 : List UInt8 := [180, 0, 37, 154, 0, 65, 29, 42, 180, 0, 78, 27, 46, 162, 0, 55, 42, 180, 0, 93, 16, 40, 27, 104]
abbrev dktX2_shortSum_1 : List UInt8 := dkwX2_shortSum_1 ++ dktX2_shortSum_2
def dkwX2_shortSum_0 : List UInt8 := [42, 42, 27, 182, 0, 165, 153, 0, 7, 3, 167, 0, 4, 4, 181, 0, 37, 3, 61, 3, 62, 42]
abbrev dktX2_shortSum_0 : List UInt8 := dkwX2_shortSum_0 ++ dktX2_shortSum_1
theorem dksX2_shortSum_0 : cX2_shortSum.data.toList.drop 0 = dktX2_shortSum_0 := by decide +kernel
theorem dksX2_shortSum_1 : cX2_shortSum.data.toList.drop 22 = dktX2_shortSum_1 := dk_seg dksX2_shortSum_0 22 rfl rfl
theorem dksX2_shortSum_2 : cX2_shortSum.data.toList.drop 46 = dktX2_shortSum_2 := dk_seg dksX2_shortSum_1 24 rfl rfl
theorem dksX2_shortSum_3 : cX2_shortSum.data.toList.drop 70 = dktX2_shortSum_3 := dk_seg dksX2_shortSum_2 24 rfl rfl
theorem dX2_shortSum_0 : decode cX2_shortSum 0 = .ok (.aload_n 0, 1) := dk_42 (dk_at dksX2_shortSum_0 0 rfl rfl)
theorem dX2_shortSum_1 : decode cX2_shortSum 1 = .ok (.aload_n 0, 1) := dk_42 (dk_at dksX2_shortSum_0 1 rfl rfl)
theorem dX2_shortSum_2 : decode cX2_shortSum 2 = .ok (.iload_n 1, 1) := dk_27 (dk_at dksX2_shortSum_0 2 rfl rfl)
theorem dX2_shortSum_3 : decode cX2_shortSum 3 = .ok (.invokevirtual 165, 3) := dk_182 0 165 (dk_at dksX2_shortSum_0 3 rfl rfl)
theorem dX2_shortSum_6 : decode cX2_shortSum 6 = .ok (.ifCond .eq 7, 3) := dk_153 0 7 (dk_at dksX2_shortSum_0 6 rfl rfl)
theorem dX2_shortSum_9 : decode cX2_shortSum 9 = .ok (.iconst 0, 1) := dk_3 (dk_at dksX2_shortSum_0 9 rfl rfl)
theorem dX2_shortSum_10 : decode cX2_shortSum 10 = .ok (.goto 4, 3) := dk_167 0 4 (dk_at dksX2_shortSum_0 10 rfl rfl)
theorem dX2_shortSum_13 : decode cX2_shortSum 13 = .ok (.iconst 1, 1) := dk_4 (dk_at dksX2_shortSum_0 13 rfl rfl)
theorem dX2_shortSum_14 : decode cX2_shortSum 14 = .ok (.putfield 37, 3) := dk_181 0 37 (dk_at dksX2_shortSum_0 14 rfl rfl)
theorem dX2_shortSum_17 : decode cX2_shortSum 17 = .ok (.iconst 0, 1) := dk_3 (dk_at dksX2_shortSum_0 17 rfl rfl)
theorem dX2_shortSum_18 : decode cX2_shortSum 18 = .ok (.istore_n 2, 1) := dk_61 (dk_at dksX2_shortSum_0 18 rfl rfl)
theorem dX2_shortSum_19 : decode cX2_shortSum 19 = .ok (.iconst 0, 1) := dk_3 (dk_at dksX2_shortSum_0 19 rfl rfl)
theorem dX2_shortSum_20 : decode cX2_shortSum 20 = .ok (.istore_n 3, 1) := dk_62 (dk_at dksX2_shortSum_0 20 rfl rfl)
theorem dX2_shortSum_21 : decode cX2_shortSum 21 = .ok (.aload_n 0, 1) := dk_42 (dk_at dksX2_shortSum_0 21 rfl rfl)
theorem dX2_shortSum_22 : decode cX2_shortSum 22 = .ok (.getfield 37, 3) := dk_180 0 37 (dk_at dksX2_shortSum_1 0 rfl rfl)
theorem dX2_shortSum_25 : decode cX2_shortSum 25 = .ok (.ifCond .ne 65, 3) := dk_154 0 65 (dk_at dksX2_shortSum_1 3 rfl rfl)
theorem dX2_shortSum_28 : decode cX2_shortSum 28 = .ok (.iload_n 3, 1) := dk_29 (dk_at dksX2_shortSum_1 6 rfl rfl)
theorem dX2_shortSum_29 : decode cX2_shortSum 29 = .ok (.aload_n 0, 1) := dk_42 (dk_at dksX2_shortSum_1 7 rfl rfl)
theorem dX2_shortSum_30 : decode cX2_shortSum 30 = .ok (.getfield 78, 3) := dk_180 0 78 (dk_at dksX2_shortSum_1 8 rfl rfl)
theorem dX2_shortSum_33 : decode cX2_shortSum 33 = .ok (.iload_n 1, 1) := dk_27 (dk_at dksX2_shortSum_1 11 rfl rfl)
theorem dX2_shortSum_34 : decode cX2_shortSum 34 = .ok (.iaload, 1) := dk_46 (dk_at dksX2_shortSum_1 12 rfl rfl)
theorem dX2_shortSum_35 : decode cX2_shortSum 35 = .ok (.if_icmp .ge 55, 3) := dk_162 0 55 (dk_at dksX2_shortSum_1 13 rfl rfl)
theorem dX2_shortSum_38 : decode cX2_shortSum 38 = .ok (.aload_n 0, 1) := dk_42 (dk_at dksX2_shortSum_1 16 rfl rfl)
theorem dX2_shortSum_39 : decode cX2_shortSum 39 = .ok (.getfield 93, 3) := dk_180 0 93 (dk_at dksX2_shortSum_1 17 rfl rfl)
theorem dX2_shortSum_42 : decode cX2_shortSum 42 = .ok (.bipush 40, 2) := dk_16 40 (dk_at dksX2_shortSum_1 20 rfl rfl)
theorem dX2_shortSum_44 : decode cX2_shortSum 44 = .ok (.iload_n 1, 1) := dk_27 (dk_at dksX2_shortSum_1 22 rfl rfl)
theorem dX2_shortSum_45 : decode cX2_shortSum 45 = .ok (.imul, 1) := dk_104 (dk_at dksX2_shortSum_1 23 rfl rfl)
theorem dX2_shortSum_46 : decode cX2_shortSum 46 = .ok (.iload_n 3, 1) := dk_29 (dk_at dksX2_shortSum_2 0 rfl rfl)
theorem dX2_shortSum_47 : decode cX2_shortSum 47 = .ok (.iadd, 1) := dk_96 (dk_at dksX2_shortSum_2 1 rfl rfl)
theorem dX2_shortSum_48 : decode cX2_shortSum 48 = .ok (.iaload, 1) := dk_46 (dk_at dksX2_shortSum_2 2 rfl rfl)
theorem dX2_shortSum_49 : decode cX2_shortSum 49 = .ok (.istore 4, 2) := dk_54 4 (dk_at dksX2_shortSum_2 3 rfl rfl)
theorem dX2_shortSum_51 : decode cX2_shortSum 51 = .ok (.iconst 0, 1) := dk_3 (dk_at dksX2_shortSum_2 5 rfl rfl)
theorem dX2_shortSum_52 : decode cX2_shortSum 52 = .ok (.istore 5, 2) := dk_54 5 (dk_at dksX2_shortSum_2 6 rfl rfl)
theorem dX2_shortSum_54 : decode cX2_shortSum 54 = .ok (.iload 5, 2) := dk_21 5 (dk_at dksX2_shortSum_2 8 rfl rfl)
theorem dX2_shortSum_56 : decode cX2_shortSum 56 = .ok (.iload 4, 2) := dk_21 4 (dk_at dksX2_shortSum_2 10 rfl rfl)
theorem dX2_shortSum_58 : decode cX2_shortSum 58 = .ok (.invokestatic 138, 3) := dk_184 0 138 (dk_at dksX2_shortSum_2 12 rfl rfl)
theorem dX2_shortSum_61 : decode cX2_shortSum 61 = .ok (.if_icmp .ge 23, 3) := dk_162 0 23 (dk_at dksX2_shortSum_2 15 rfl rfl)
theorem dX2_shortSum_64 : decode cX2_shortSum 64 = .ok (.bipush 31, 2) := dk_16 31 (dk_at dksX2_shortSum_2 18 rfl rfl)
theorem dX2_shortSum_66 : decode cX2_shortSum 66 = .ok (.iload_n 2, 1) := dk_28 (dk_at dksX2_shortSum_2 20 rfl rfl)
theorem dX2_shortSum_67 : decode cX2_shortSum 67 = .ok (.imul, 1) := dk_104 (dk_at dksX2_shortSum_2 21 rfl rfl)
theorem dX2_shortSum_68 : decode cX2_shortSum 68 = .ok (.iload 4, 2) := dk_21 4 (dk_at dksX2_shortSum_2 22 rfl rfl)
theorem dX2_shortSum_70 : decode cX2_shortSum 70 = .ok (.iload 5, 2) := dk_21 5 (dk_at dksX2_shortSum_3 0 rfl rfl)
theorem dX2_shortSum_72 : decode cX2_shortSum 72 = .ok (.invokestatic 151, 3) := dk_184 0 151 (dk_at dksX2_shortSum_3 2 rfl rfl)
theorem dX2_shortSum_75 : decode cX2_shortSum 75 = .ok (.iadd, 1) := dk_96 (dk_at dksX2_shortSum_3 5 rfl rfl)
theorem dX2_shortSum_76 : decode cX2_shortSum 76 = .ok (.i2s, 1) := dk_147 (dk_at dksX2_shortSum_3 6 rfl rfl)
theorem dX2_shortSum_77 : decode cX2_shortSum 77 = .ok (.istore_n 2, 1) := dk_61 (dk_at dksX2_shortSum_3 7 rfl rfl)
theorem dX2_shortSum_78 : decode cX2_shortSum 78 = .ok (.iinc 5 1, 3) := dk_132 5 1 (dk_at dksX2_shortSum_3 8 rfl rfl)
theorem dX2_shortSum_81 : decode cX2_shortSum 81 = .ok (.goto (-27), 3) := dk_167 255 229 (dk_at dksX2_shortSum_3 11 rfl rfl)
theorem dX2_shortSum_84 : decode cX2_shortSum 84 = .ok (.iinc 3 1, 3) := dk_132 3 1 (dk_at dksX2_shortSum_3 14 rfl rfl)
theorem dX2_shortSum_87 : decode cX2_shortSum 87 = .ok (.goto (-66), 3) := dk_167 255 190 (dk_at dksX2_shortSum_3 17 rfl rfl)
theorem dX2_shortSum_90 : decode cX2_shortSum 90 = .ok (.iload_n 2, 1) := dk_28 (dk_at dksX2_shortSum_3 20 rfl rfl)
theorem dX2_shortSum_91 : decode cX2_shortSum 91 = .ok (.ireturn, 1) := dk_172 (dk_at dksX2_shortSum_3 21 rfl rfl)
abbrev cX2_packed : ByteArray := prog_7_method_65_code
def yX2_packed : MethodName := ⟨RX2, "packed", "(I)J"⟩
def dkwX2_packed_3 : List UInt8 := [180, 0, 75, 27, 46, 133, 129, 173]
abbrev dktX2_packed_3 : List UInt8 := dkwX2_packed_3 ++ []
def dkwX2_packed_2 : List UInt8 := [180, 0, 66, 27, 46, 133, 16, 36, 121, 129, 42, 180, 0, 69, 27, 46, 133, 16, 32, 121, 129, 42]
abbrev dktX2_packed_2 : List UInt8 := dkwX2_packed_2 ++ dktX2_packed_3
def dkwX2_packed_1 : List UInt8 := [9, 173, 27, 133, 16, 48, 121, 42, 27, 182, 0, 215, 17, 0, 255, 126, 133, 16, 40, 121, 129, 65, 32, 42]
abbrev dktX2_packed_1 : List UInt8 := dkwX2_packed_1 ++ dktX2_packed_2
def dkwX2_packed_0 : List UInt8 := [42, 42, 27, 182, 0, 165, 153, 0, 7, 3, 167, 0, 4, 4, 181, 0, 37, 42, 180, 0, 37, 158, 0, 5]
abbrev dktX2_packed_0 : List UInt8 := dkwX2_packed_0 ++ dktX2_packed_1
theorem dksX2_packed_0 : cX2_packed.data.toList.drop 0 = dktX2_packed_0 := by decide +kernel
theorem dksX2_packed_1 : cX2_packed.data.toList.drop 24 = dktX2_packed_1 := dk_seg dksX2_packed_0 24 rfl rfl
theorem dksX2_packed_2 : cX2_packed.data.toList.drop 48 = dktX2_packed_2 := dk_seg dksX2_packed_1 24 rfl rfl
theorem dksX2_packed_3 : cX2_packed.data.toList.drop 70 = dktX2_packed_3 := dk_seg dksX2_packed_2 22 rfl rfl
theorem dX2_packed_0 : decode cX2_packed 0 = .ok (.aload_n 0, 1) := dk_42 (dk_at dksX2_packed_0 0 rfl rfl)
theorem dX2_packed_1 : decode cX2_packed 1 = .ok (.aload_n 0, 1) := dk_42 (dk_at dksX2_packed_0 1 rfl rfl)
theorem dX2_packed_2 : decode cX2_packed 2 = .ok (.iload_n 1, 1) := dk_27 (dk_at dksX2_packed_0 2 rfl rfl)
theorem dX2_packed_3 : decode cX2_packed 3 = .ok (.invokevirtual 165, 3) := dk_182 0 165 (dk_at dksX2_packed_0 3 rfl rfl)
theorem dX2_packed_6 : decode cX2_packed 6 = .ok (.ifCond .eq 7, 3) := dk_153 0 7 (dk_at dksX2_packed_0 6 rfl rfl)
theorem dX2_packed_9 : decode cX2_packed 9 = .ok (.iconst 0, 1) := dk_3 (dk_at dksX2_packed_0 9 rfl rfl)
theorem dX2_packed_10 : decode cX2_packed 10 = .ok (.goto 4, 3) := dk_167 0 4 (dk_at dksX2_packed_0 10 rfl rfl)
theorem dX2_packed_13 : decode cX2_packed 13 = .ok (.iconst 1, 1) := dk_4 (dk_at dksX2_packed_0 13 rfl rfl)
theorem dX2_packed_14 : decode cX2_packed 14 = .ok (.putfield 37, 3) := dk_181 0 37 (dk_at dksX2_packed_0 14 rfl rfl)
theorem dX2_packed_17 : decode cX2_packed 17 = .ok (.aload_n 0, 1) := dk_42 (dk_at dksX2_packed_0 17 rfl rfl)
theorem dX2_packed_18 : decode cX2_packed 18 = .ok (.getfield 37, 3) := dk_180 0 37 (dk_at dksX2_packed_0 18 rfl rfl)
theorem dX2_packed_21 : decode cX2_packed 21 = .ok (.ifCond .le 5, 3) := dk_158 0 5 (dk_at dksX2_packed_0 21 rfl rfl)
theorem dX2_packed_24 : decode cX2_packed 24 = .ok (.lconst 0, 1) := dk_9 (dk_at dksX2_packed_1 0 rfl rfl)
theorem dX2_packed_25 : decode cX2_packed 25 = .ok (.lreturn, 1) := dk_173 (dk_at dksX2_packed_1 1 rfl rfl)
theorem dX2_packed_26 : decode cX2_packed 26 = .ok (.iload_n 1, 1) := dk_27 (dk_at dksX2_packed_1 2 rfl rfl)
theorem dX2_packed_27 : decode cX2_packed 27 = .ok (.i2l, 1) := dk_133 (dk_at dksX2_packed_1 3 rfl rfl)
theorem dX2_packed_28 : decode cX2_packed 28 = .ok (.bipush 48, 2) := dk_16 48 (dk_at dksX2_packed_1 4 rfl rfl)
theorem dX2_packed_30 : decode cX2_packed 30 = .ok (.lshl, 1) := dk_121 (dk_at dksX2_packed_1 6 rfl rfl)
theorem dX2_packed_31 : decode cX2_packed 31 = .ok (.aload_n 0, 1) := dk_42 (dk_at dksX2_packed_1 7 rfl rfl)
theorem dX2_packed_32 : decode cX2_packed 32 = .ok (.iload_n 1, 1) := dk_27 (dk_at dksX2_packed_1 8 rfl rfl)
theorem dX2_packed_33 : decode cX2_packed 33 = .ok (.invokevirtual 215, 3) := dk_182 0 215 (dk_at dksX2_packed_1 9 rfl rfl)
theorem dX2_packed_36 : decode cX2_packed 36 = .ok (.sipush 255, 3) := dk_17 0 255 (dk_at dksX2_packed_1 12 rfl rfl)
theorem dX2_packed_39 : decode cX2_packed 39 = .ok (.iand, 1) := dk_126 (dk_at dksX2_packed_1 15 rfl rfl)
theorem dX2_packed_40 : decode cX2_packed 40 = .ok (.i2l, 1) := dk_133 (dk_at dksX2_packed_1 16 rfl rfl)
theorem dX2_packed_41 : decode cX2_packed 41 = .ok (.bipush 40, 2) := dk_16 40 (dk_at dksX2_packed_1 17 rfl rfl)
theorem dX2_packed_43 : decode cX2_packed 43 = .ok (.lshl, 1) := dk_121 (dk_at dksX2_packed_1 19 rfl rfl)
theorem dX2_packed_44 : decode cX2_packed 44 = .ok (.lor, 1) := dk_129 (dk_at dksX2_packed_1 20 rfl rfl)
theorem dX2_packed_45 : decode cX2_packed 45 = .ok (.lstore_n 2, 1) := dk_65 (dk_at dksX2_packed_1 21 rfl rfl)
theorem dX2_packed_46 : decode cX2_packed 46 = .ok (.lload_n 2, 1) := dk_32 (dk_at dksX2_packed_1 22 rfl rfl)
theorem dX2_packed_47 : decode cX2_packed 47 = .ok (.aload_n 0, 1) := dk_42 (dk_at dksX2_packed_1 23 rfl rfl)
theorem dX2_packed_48 : decode cX2_packed 48 = .ok (.getfield 66, 3) := dk_180 0 66 (dk_at dksX2_packed_2 0 rfl rfl)
theorem dX2_packed_51 : decode cX2_packed 51 = .ok (.iload_n 1, 1) := dk_27 (dk_at dksX2_packed_2 3 rfl rfl)
theorem dX2_packed_52 : decode cX2_packed 52 = .ok (.iaload, 1) := dk_46 (dk_at dksX2_packed_2 4 rfl rfl)
theorem dX2_packed_53 : decode cX2_packed 53 = .ok (.i2l, 1) := dk_133 (dk_at dksX2_packed_2 5 rfl rfl)
theorem dX2_packed_54 : decode cX2_packed 54 = .ok (.bipush 36, 2) := dk_16 36 (dk_at dksX2_packed_2 6 rfl rfl)
theorem dX2_packed_56 : decode cX2_packed 56 = .ok (.lshl, 1) := dk_121 (dk_at dksX2_packed_2 8 rfl rfl)
theorem dX2_packed_57 : decode cX2_packed 57 = .ok (.lor, 1) := dk_129 (dk_at dksX2_packed_2 9 rfl rfl)
theorem dX2_packed_58 : decode cX2_packed 58 = .ok (.aload_n 0, 1) := dk_42 (dk_at dksX2_packed_2 10 rfl rfl)
theorem dX2_packed_59 : decode cX2_packed 59 = .ok (.getfield 69, 3) := dk_180 0 69 (dk_at dksX2_packed_2 11 rfl rfl)
theorem dX2_packed_62 : decode cX2_packed 62 = .ok (.iload_n 1, 1) := dk_27 (dk_at dksX2_packed_2 14 rfl rfl)
theorem dX2_packed_63 : decode cX2_packed 63 = .ok (.iaload, 1) := dk_46 (dk_at dksX2_packed_2 15 rfl rfl)
theorem dX2_packed_64 : decode cX2_packed 64 = .ok (.i2l, 1) := dk_133 (dk_at dksX2_packed_2 16 rfl rfl)
theorem dX2_packed_65 : decode cX2_packed 65 = .ok (.bipush 32, 2) := dk_16 32 (dk_at dksX2_packed_2 17 rfl rfl)
theorem dX2_packed_67 : decode cX2_packed 67 = .ok (.lshl, 1) := dk_121 (dk_at dksX2_packed_2 19 rfl rfl)
theorem dX2_packed_68 : decode cX2_packed 68 = .ok (.lor, 1) := dk_129 (dk_at dksX2_packed_2 20 rfl rfl)
theorem dX2_packed_69 : decode cX2_packed 69 = .ok (.aload_n 0, 1) := dk_42 (dk_at dksX2_packed_2 21 rfl rfl)
theorem dX2_packed_70 : decode cX2_packed 70 = .ok (.getfield 75, 3) := dk_180 0 75 (dk_at dksX2_packed_3 0 rfl rfl)
theorem dX2_packed_73 : decode cX2_packed 73 = .ok (.iload_n 1, 1) := dk_27 (dk_at dksX2_packed_3 3 rfl rfl)
theorem dX2_packed_74 : decode cX2_packed 74 = .ok (.iaload, 1) := dk_46 (dk_at dksX2_packed_3 4 rfl rfl)
theorem dX2_packed_75 : decode cX2_packed 75 = .ok (.i2l, 1) := dk_133 (dk_at dksX2_packed_3 5 rfl rfl)
theorem dX2_packed_76 : decode cX2_packed 76 = .ok (.lor, 1) := dk_129 (dk_at dksX2_packed_3 6 rfl rfl)
theorem dX2_packed_77 : decode cX2_packed 77 = .ok (.lreturn, 1) := dk_173 (dk_at dksX2_packed_3 7 rfl rfl)
abbrev cX2_inShare : ByteArray := prog_7_method_66_code
def yX2_inShare : MethodName := ⟨RX2, "inShare", "()F"⟩
def dkwX2_inShare_3 : List UInt8 := [110, 174]
abbrev dktX2_inShare_3 : List UInt8 := dkwX2_inShare_3 ++ []
def dkwX2_inShare_2 : List UInt8 := [132, 2, 1, 167, 255, 227, 42, 180, 0, 37, 158, 0, 7, 11, 167, 0, 11, 27, 134, 42, 180, 0, 22, 134]
abbrev dktX2_inShare_2 : List UInt8 := dkwX2_inShare_2 ++ dktX2_inShare_3
def dkwX2_inShare_1 : List UInt8 := [180, 0, 22, 162, 0, 27, 27, 42, 180, 0, 81, 28, 46, 4, 160, 0, 7, 4, 167, 0, 4, 3, 96, 60]
abbrev dktX2_inShare_1 : List UInt8 := dkwX2_inShare_1 ++ dktX2_inShare_2
def dkwX2_inShare_0 : List UInt8 := [42, 42, 180, 0, 22, 154, 0, 7, 4, 167, 0, 4, 3, 181, 0, 37, 3, 60, 3, 61, 28, 42]
abbrev dktX2_inShare_0 : List UInt8 := dkwX2_inShare_0 ++ dktX2_inShare_1
theorem dksX2_inShare_0 : cX2_inShare.data.toList.drop 0 = dktX2_inShare_0 := by decide +kernel
theorem dksX2_inShare_1 : cX2_inShare.data.toList.drop 22 = dktX2_inShare_1 := dk_seg dksX2_inShare_0 22 rfl rfl
theorem dksX2_inShare_2 : cX2_inShare.data.toList.drop 46 = dktX2_inShare_2 := dk_seg dksX2_inShare_1 24 rfl rfl
theorem dksX2_inShare_3 : cX2_inShare.data.toList.drop 70 = dktX2_inShare_3 := dk_seg dksX2_inShare_2 24 rfl rfl
theorem dX2_inShare_0 : decode cX2_inShare 0 = .ok (.aload_n 0, 1) := dk_42 (dk_at dksX2_inShare_0 0 rfl rfl)
theorem dX2_inShare_1 : decode cX2_inShare 1 = .ok (.aload_n 0, 1) := dk_42 (dk_at dksX2_inShare_0 1 rfl rfl)
theorem dX2_inShare_2 : decode cX2_inShare 2 = .ok (.getfield 22, 3) := dk_180 0 22 (dk_at dksX2_inShare_0 2 rfl rfl)
theorem dX2_inShare_5 : decode cX2_inShare 5 = .ok (.ifCond .ne 7, 3) := dk_154 0 7 (dk_at dksX2_inShare_0 5 rfl rfl)
theorem dX2_inShare_8 : decode cX2_inShare 8 = .ok (.iconst 1, 1) := dk_4 (dk_at dksX2_inShare_0 8 rfl rfl)
theorem dX2_inShare_9 : decode cX2_inShare 9 = .ok (.goto 4, 3) := dk_167 0 4 (dk_at dksX2_inShare_0 9 rfl rfl)
theorem dX2_inShare_12 : decode cX2_inShare 12 = .ok (.iconst 0, 1) := dk_3 (dk_at dksX2_inShare_0 12 rfl rfl)
theorem dX2_inShare_13 : decode cX2_inShare 13 = .ok (.putfield 37, 3) := dk_181 0 37 (dk_at dksX2_inShare_0 13 rfl rfl)
theorem dX2_inShare_16 : decode cX2_inShare 16 = .ok (.iconst 0, 1) := dk_3 (dk_at dksX2_inShare_0 16 rfl rfl)
theorem dX2_inShare_17 : decode cX2_inShare 17 = .ok (.istore_n 1, 1) := dk_60 (dk_at dksX2_inShare_0 17 rfl rfl)
theorem dX2_inShare_18 : decode cX2_inShare 18 = .ok (.iconst 0, 1) := dk_3 (dk_at dksX2_inShare_0 18 rfl rfl)
theorem dX2_inShare_19 : decode cX2_inShare 19 = .ok (.istore_n 2, 1) := dk_61 (dk_at dksX2_inShare_0 19 rfl rfl)
theorem dX2_inShare_20 : decode cX2_inShare 20 = .ok (.iload_n 2, 1) := dk_28 (dk_at dksX2_inShare_0 20 rfl rfl)
theorem dX2_inShare_21 : decode cX2_inShare 21 = .ok (.aload_n 0, 1) := dk_42 (dk_at dksX2_inShare_0 21 rfl rfl)
theorem dX2_inShare_22 : decode cX2_inShare 22 = .ok (.getfield 22, 3) := dk_180 0 22 (dk_at dksX2_inShare_1 0 rfl rfl)
theorem dX2_inShare_25 : decode cX2_inShare 25 = .ok (.if_icmp .ge 27, 3) := dk_162 0 27 (dk_at dksX2_inShare_1 3 rfl rfl)
theorem dX2_inShare_28 : decode cX2_inShare 28 = .ok (.iload_n 1, 1) := dk_27 (dk_at dksX2_inShare_1 6 rfl rfl)
theorem dX2_inShare_29 : decode cX2_inShare 29 = .ok (.aload_n 0, 1) := dk_42 (dk_at dksX2_inShare_1 7 rfl rfl)
theorem dX2_inShare_30 : decode cX2_inShare 30 = .ok (.getfield 81, 3) := dk_180 0 81 (dk_at dksX2_inShare_1 8 rfl rfl)
theorem dX2_inShare_33 : decode cX2_inShare 33 = .ok (.iload_n 2, 1) := dk_28 (dk_at dksX2_inShare_1 11 rfl rfl)
theorem dX2_inShare_34 : decode cX2_inShare 34 = .ok (.iaload, 1) := dk_46 (dk_at dksX2_inShare_1 12 rfl rfl)
theorem dX2_inShare_35 : decode cX2_inShare 35 = .ok (.iconst 1, 1) := dk_4 (dk_at dksX2_inShare_1 13 rfl rfl)
theorem dX2_inShare_36 : decode cX2_inShare 36 = .ok (.if_icmp .ne 7, 3) := dk_160 0 7 (dk_at dksX2_inShare_1 14 rfl rfl)
theorem dX2_inShare_39 : decode cX2_inShare 39 = .ok (.iconst 1, 1) := dk_4 (dk_at dksX2_inShare_1 17 rfl rfl)
theorem dX2_inShare_40 : decode cX2_inShare 40 = .ok (.goto 4, 3) := dk_167 0 4 (dk_at dksX2_inShare_1 18 rfl rfl)
theorem dX2_inShare_43 : decode cX2_inShare 43 = .ok (.iconst 0, 1) := dk_3 (dk_at dksX2_inShare_1 21 rfl rfl)
theorem dX2_inShare_44 : decode cX2_inShare 44 = .ok (.iadd, 1) := dk_96 (dk_at dksX2_inShare_1 22 rfl rfl)
theorem dX2_inShare_45 : decode cX2_inShare 45 = .ok (.istore_n 1, 1) := dk_60 (dk_at dksX2_inShare_1 23 rfl rfl)
theorem dX2_inShare_46 : decode cX2_inShare 46 = .ok (.iinc 2 1, 3) := dk_132 2 1 (dk_at dksX2_inShare_2 0 rfl rfl)
theorem dX2_inShare_49 : decode cX2_inShare 49 = .ok (.goto (-29), 3) := dk_167 255 227 (dk_at dksX2_inShare_2 3 rfl rfl)
theorem dX2_inShare_52 : decode cX2_inShare 52 = .ok (.aload_n 0, 1) := dk_42 (dk_at dksX2_inShare_2 6 rfl rfl)
theorem dX2_inShare_53 : decode cX2_inShare 53 = .ok (.getfield 37, 3) := dk_180 0 37 (dk_at dksX2_inShare_2 7 rfl rfl)
theorem dX2_inShare_56 : decode cX2_inShare 56 = .ok (.ifCond .le 7, 3) := dk_158 0 7 (dk_at dksX2_inShare_2 10 rfl rfl)
theorem dX2_inShare_59 : decode cX2_inShare 59 = .ok (.fconst 0, 1) := dk_11 (dk_at dksX2_inShare_2 13 rfl rfl)
theorem dX2_inShare_60 : decode cX2_inShare 60 = .ok (.goto 11, 3) := dk_167 0 11 (dk_at dksX2_inShare_2 14 rfl rfl)
theorem dX2_inShare_63 : decode cX2_inShare 63 = .ok (.iload_n 1, 1) := dk_27 (dk_at dksX2_inShare_2 17 rfl rfl)
theorem dX2_inShare_64 : decode cX2_inShare 64 = .ok (.i2f, 1) := dk_134 (dk_at dksX2_inShare_2 18 rfl rfl)
theorem dX2_inShare_65 : decode cX2_inShare 65 = .ok (.aload_n 0, 1) := dk_42 (dk_at dksX2_inShare_2 19 rfl rfl)
theorem dX2_inShare_66 : decode cX2_inShare 66 = .ok (.getfield 22, 3) := dk_180 0 22 (dk_at dksX2_inShare_2 20 rfl rfl)
theorem dX2_inShare_69 : decode cX2_inShare 69 = .ok (.i2f, 1) := dk_134 (dk_at dksX2_inShare_2 23 rfl rfl)
theorem dX2_inShare_70 : decode cX2_inShare 70 = .ok (.fdiv, 1) := dk_110 (dk_at dksX2_inShare_3 0 rfl rfl)
theorem dX2_inShare_71 : decode cX2_inShare 71 = .ok (.freturn, 1) := dk_174 (dk_at dksX2_inShare_3 1 rfl rfl)
abbrev cX2_meanMark : ByteArray := prog_7_method_67_code
def yX2_meanMark : MethodName := ⟨RX2, "meanMark", "()D"⟩
def dkwX2_meanMark_4 : List UInt8 := [180, 0, 37, 158, 0, 7, 14, 167, 0, 8, 27, 135, 28, 135, 111, 175]
abbrev dktX2_meanMark_4 : List UInt8 := dkwX2_meanMark_4 ++ []
def dkwX2_meanMark_3 : List UInt8 := [167, 255, 205, 132, 3, 1, 167, 255, 188, 42, 28, 154, 0, 7, 4, 167, 0, 4, 3, 181, 0, 37, 42]
abbrev dktX2_meanMark_3 : List UInt8 := dkwX2_meanMark_3 ++ dktX2_meanMark_4
def dkwX2_meanMark_2 : List UInt8 := [182, 0, 203, 154, 0, 16, 27, 42, 29, 21, 4, 182, 0, 206, 96, 60, 132, 2, 1, 132, 4, 1]
abbrev dktX2_meanMark_2 : List UInt8 := dkwX2_meanMark_2 ++ dktX2_meanMark_3
def dkwX2_meanMark_1 : List UInt8 := [162, 0, 48, 42, 180, 0, 47, 21, 4, 46, 42, 180, 0, 44, 29, 46, 160, 0, 26, 42, 29, 21, 4]
abbrev dktX2_meanMark_1 : List UInt8 := dkwX2_meanMark_1 ++ dktX2_meanMark_2
def dkwX2_meanMark_0 : List UInt8 := [3, 60, 3, 61, 3, 62, 29, 42, 180, 0, 16, 162, 0, 66, 3, 54, 4, 21, 4, 42, 180, 0, 19]
abbrev dktX2_meanMark_0 : List UInt8 := dkwX2_meanMark_0 ++ dktX2_meanMark_1
theorem dksX2_meanMark_0 : cX2_meanMark.data.toList.drop 0 = dktX2_meanMark_0 := by decide +kernel
theorem dksX2_meanMark_1 : cX2_meanMark.data.toList.drop 23 = dktX2_meanMark_1 := dk_seg dksX2_meanMark_0 23 rfl rfl
theorem dksX2_meanMark_2 : cX2_meanMark.data.toList.drop 46 = dktX2_meanMark_2 := dk_seg dksX2_meanMark_1 23 rfl rfl
theorem dksX2_meanMark_3 : cX2_meanMark.data.toList.drop 68 = dktX2_meanMark_3 := dk_seg dksX2_meanMark_2 22 rfl rfl
theorem dksX2_meanMark_4 : cX2_meanMark.data.toList.drop 91 = dktX2_meanMark_4 := dk_seg dksX2_meanMark_3 23 rfl rfl
theorem dX2_meanMark_0 : decode cX2_meanMark 0 = .ok (.iconst 0, 1) := dk_3 (dk_at dksX2_meanMark_0 0 rfl rfl)
theorem dX2_meanMark_1 : decode cX2_meanMark 1 = .ok (.istore_n 1, 1) := dk_60 (dk_at dksX2_meanMark_0 1 rfl rfl)
theorem dX2_meanMark_2 : decode cX2_meanMark 2 = .ok (.iconst 0, 1) := dk_3 (dk_at dksX2_meanMark_0 2 rfl rfl)
theorem dX2_meanMark_3 : decode cX2_meanMark 3 = .ok (.istore_n 2, 1) := dk_61 (dk_at dksX2_meanMark_0 3 rfl rfl)
theorem dX2_meanMark_4 : decode cX2_meanMark 4 = .ok (.iconst 0, 1) := dk_3 (dk_at dksX2_meanMark_0 4 rfl rfl)
theorem dX2_meanMark_5 : decode cX2_meanMark 5 = .ok (.istore_n 3, 1) := dk_62 (dk_at dksX2_meanMark_0 5 rfl rfl)
theorem dX2_meanMark_6 : decode cX2_meanMark 6 = .ok (.iload_n 3, 1) := dk_29 (dk_at dksX2_meanMark_0 6 rfl rfl)
theorem dX2_meanMark_7 : decode cX2_meanMark 7 = .ok (.aload_n 0, 1) := dk_42 (dk_at dksX2_meanMark_0 7 rfl rfl)
theorem dX2_meanMark_8 : decode cX2_meanMark 8 = .ok (.getfield 16, 3) := dk_180 0 16 (dk_at dksX2_meanMark_0 8 rfl rfl)
theorem dX2_meanMark_11 : decode cX2_meanMark 11 = .ok (.if_icmp .ge 66, 3) := dk_162 0 66 (dk_at dksX2_meanMark_0 11 rfl rfl)
theorem dX2_meanMark_14 : decode cX2_meanMark 14 = .ok (.iconst 0, 1) := dk_3 (dk_at dksX2_meanMark_0 14 rfl rfl)
theorem dX2_meanMark_15 : decode cX2_meanMark 15 = .ok (.istore 4, 2) := dk_54 4 (dk_at dksX2_meanMark_0 15 rfl rfl)
theorem dX2_meanMark_17 : decode cX2_meanMark 17 = .ok (.iload 4, 2) := dk_21 4 (dk_at dksX2_meanMark_0 17 rfl rfl)
theorem dX2_meanMark_19 : decode cX2_meanMark 19 = .ok (.aload_n 0, 1) := dk_42 (dk_at dksX2_meanMark_0 19 rfl rfl)
theorem dX2_meanMark_20 : decode cX2_meanMark 20 = .ok (.getfield 19, 3) := dk_180 0 19 (dk_at dksX2_meanMark_0 20 rfl rfl)
theorem dX2_meanMark_23 : decode cX2_meanMark 23 = .ok (.if_icmp .ge 48, 3) := dk_162 0 48 (dk_at dksX2_meanMark_1 0 rfl rfl)
theorem dX2_meanMark_26 : decode cX2_meanMark 26 = .ok (.aload_n 0, 1) := dk_42 (dk_at dksX2_meanMark_1 3 rfl rfl)
theorem dX2_meanMark_27 : decode cX2_meanMark 27 = .ok (.getfield 47, 3) := dk_180 0 47 (dk_at dksX2_meanMark_1 4 rfl rfl)
theorem dX2_meanMark_30 : decode cX2_meanMark 30 = .ok (.iload 4, 2) := dk_21 4 (dk_at dksX2_meanMark_1 7 rfl rfl)
theorem dX2_meanMark_32 : decode cX2_meanMark 32 = .ok (.iaload, 1) := dk_46 (dk_at dksX2_meanMark_1 9 rfl rfl)
theorem dX2_meanMark_33 : decode cX2_meanMark 33 = .ok (.aload_n 0, 1) := dk_42 (dk_at dksX2_meanMark_1 10 rfl rfl)
theorem dX2_meanMark_34 : decode cX2_meanMark 34 = .ok (.getfield 44, 3) := dk_180 0 44 (dk_at dksX2_meanMark_1 11 rfl rfl)
theorem dX2_meanMark_37 : decode cX2_meanMark 37 = .ok (.iload_n 3, 1) := dk_29 (dk_at dksX2_meanMark_1 14 rfl rfl)
theorem dX2_meanMark_38 : decode cX2_meanMark 38 = .ok (.iaload, 1) := dk_46 (dk_at dksX2_meanMark_1 15 rfl rfl)
theorem dX2_meanMark_39 : decode cX2_meanMark 39 = .ok (.if_icmp .ne 26, 3) := dk_160 0 26 (dk_at dksX2_meanMark_1 16 rfl rfl)
theorem dX2_meanMark_42 : decode cX2_meanMark 42 = .ok (.aload_n 0, 1) := dk_42 (dk_at dksX2_meanMark_1 19 rfl rfl)
theorem dX2_meanMark_43 : decode cX2_meanMark 43 = .ok (.iload_n 3, 1) := dk_29 (dk_at dksX2_meanMark_1 20 rfl rfl)
theorem dX2_meanMark_44 : decode cX2_meanMark 44 = .ok (.iload 4, 2) := dk_21 4 (dk_at dksX2_meanMark_1 21 rfl rfl)
theorem dX2_meanMark_46 : decode cX2_meanMark 46 = .ok (.invokevirtual 203, 3) := dk_182 0 203 (dk_at dksX2_meanMark_2 0 rfl rfl)
theorem dX2_meanMark_49 : decode cX2_meanMark 49 = .ok (.ifCond .ne 16, 3) := dk_154 0 16 (dk_at dksX2_meanMark_2 3 rfl rfl)
theorem dX2_meanMark_52 : decode cX2_meanMark 52 = .ok (.iload_n 1, 1) := dk_27 (dk_at dksX2_meanMark_2 6 rfl rfl)
theorem dX2_meanMark_53 : decode cX2_meanMark 53 = .ok (.aload_n 0, 1) := dk_42 (dk_at dksX2_meanMark_2 7 rfl rfl)
theorem dX2_meanMark_54 : decode cX2_meanMark 54 = .ok (.iload_n 3, 1) := dk_29 (dk_at dksX2_meanMark_2 8 rfl rfl)
theorem dX2_meanMark_55 : decode cX2_meanMark 55 = .ok (.iload 4, 2) := dk_21 4 (dk_at dksX2_meanMark_2 9 rfl rfl)
theorem dX2_meanMark_57 : decode cX2_meanMark 57 = .ok (.invokevirtual 206, 3) := dk_182 0 206 (dk_at dksX2_meanMark_2 11 rfl rfl)
theorem dX2_meanMark_60 : decode cX2_meanMark 60 = .ok (.iadd, 1) := dk_96 (dk_at dksX2_meanMark_2 14 rfl rfl)
theorem dX2_meanMark_61 : decode cX2_meanMark 61 = .ok (.istore_n 1, 1) := dk_60 (dk_at dksX2_meanMark_2 15 rfl rfl)
theorem dX2_meanMark_62 : decode cX2_meanMark 62 = .ok (.iinc 2 1, 3) := dk_132 2 1 (dk_at dksX2_meanMark_2 16 rfl rfl)
theorem dX2_meanMark_65 : decode cX2_meanMark 65 = .ok (.iinc 4 1, 3) := dk_132 4 1 (dk_at dksX2_meanMark_2 19 rfl rfl)
theorem dX2_meanMark_68 : decode cX2_meanMark 68 = .ok (.goto (-51), 3) := dk_167 255 205 (dk_at dksX2_meanMark_3 0 rfl rfl)
theorem dX2_meanMark_71 : decode cX2_meanMark 71 = .ok (.iinc 3 1, 3) := dk_132 3 1 (dk_at dksX2_meanMark_3 3 rfl rfl)
theorem dX2_meanMark_74 : decode cX2_meanMark 74 = .ok (.goto (-68), 3) := dk_167 255 188 (dk_at dksX2_meanMark_3 6 rfl rfl)
theorem dX2_meanMark_77 : decode cX2_meanMark 77 = .ok (.aload_n 0, 1) := dk_42 (dk_at dksX2_meanMark_3 9 rfl rfl)
theorem dX2_meanMark_78 : decode cX2_meanMark 78 = .ok (.iload_n 2, 1) := dk_28 (dk_at dksX2_meanMark_3 10 rfl rfl)
theorem dX2_meanMark_79 : decode cX2_meanMark 79 = .ok (.ifCond .ne 7, 3) := dk_154 0 7 (dk_at dksX2_meanMark_3 11 rfl rfl)
theorem dX2_meanMark_82 : decode cX2_meanMark 82 = .ok (.iconst 1, 1) := dk_4 (dk_at dksX2_meanMark_3 14 rfl rfl)
theorem dX2_meanMark_83 : decode cX2_meanMark 83 = .ok (.goto 4, 3) := dk_167 0 4 (dk_at dksX2_meanMark_3 15 rfl rfl)
theorem dX2_meanMark_86 : decode cX2_meanMark 86 = .ok (.iconst 0, 1) := dk_3 (dk_at dksX2_meanMark_3 18 rfl rfl)
theorem dX2_meanMark_87 : decode cX2_meanMark 87 = .ok (.putfield 37, 3) := dk_181 0 37 (dk_at dksX2_meanMark_3 19 rfl rfl)
theorem dX2_meanMark_90 : decode cX2_meanMark 90 = .ok (.aload_n 0, 1) := dk_42 (dk_at dksX2_meanMark_3 22 rfl rfl)
theorem dX2_meanMark_91 : decode cX2_meanMark 91 = .ok (.getfield 37, 3) := dk_180 0 37 (dk_at dksX2_meanMark_4 0 rfl rfl)
theorem dX2_meanMark_94 : decode cX2_meanMark 94 = .ok (.ifCond .le 7, 3) := dk_158 0 7 (dk_at dksX2_meanMark_4 3 rfl rfl)
theorem dX2_meanMark_97 : decode cX2_meanMark 97 = .ok (.dconst 0, 1) := dk_14 (dk_at dksX2_meanMark_4 6 rfl rfl)
theorem dX2_meanMark_98 : decode cX2_meanMark 98 = .ok (.goto 8, 3) := dk_167 0 8 (dk_at dksX2_meanMark_4 7 rfl rfl)
theorem dX2_meanMark_101 : decode cX2_meanMark 101 = .ok (.iload_n 1, 1) := dk_27 (dk_at dksX2_meanMark_4 10 rfl rfl)
theorem dX2_meanMark_102 : decode cX2_meanMark 102 = .ok (.i2d, 1) := dk_135 (dk_at dksX2_meanMark_4 11 rfl rfl)
theorem dX2_meanMark_103 : decode cX2_meanMark 103 = .ok (.iload_n 2, 1) := dk_28 (dk_at dksX2_meanMark_4 12 rfl rfl)
theorem dX2_meanMark_104 : decode cX2_meanMark 104 = .ok (.i2d, 1) := dk_135 (dk_at dksX2_meanMark_4 13 rfl rfl)
theorem dX2_meanMark_105 : decode cX2_meanMark 105 = .ok (.ddiv, 1) := dk_111 (dk_at dksX2_meanMark_4 14 rfl rfl)
theorem dX2_meanMark_106 : decode cX2_meanMark 106 = .ok (.dreturn, 1) := dk_175 (dk_at dksX2_meanMark_4 15 rfl rfl)
abbrev cX2_isTrue : ByteArray := prog_7_method_68_code
def yX2_isTrue : MethodName := ⟨RX2, "isTrue", "()Z"⟩
def dkwX2_isTrue_0 : List UInt8 := [42, 3, 181, 0, 37, 4, 172]
abbrev dktX2_isTrue_0 : List UInt8 := dkwX2_isTrue_0 ++ []
theorem dksX2_isTrue_0 : cX2_isTrue.data.toList.drop 0 = dktX2_isTrue_0 := by decide +kernel
theorem dX2_isTrue_0 : decode cX2_isTrue 0 = .ok (.aload_n 0, 1) := dk_42 (dk_at dksX2_isTrue_0 0 rfl rfl)
theorem dX2_isTrue_1 : decode cX2_isTrue 1 = .ok (.iconst 0, 1) := dk_3 (dk_at dksX2_isTrue_0 1 rfl rfl)
theorem dX2_isTrue_2 : decode cX2_isTrue 2 = .ok (.putfield 37, 3) := dk_181 0 37 (dk_at dksX2_isTrue_0 2 rfl rfl)
theorem dX2_isTrue_5 : decode cX2_isTrue 5 = .ok (.iconst 1, 1) := dk_4 (dk_at dksX2_isTrue_0 5 rfl rfl)
theorem dX2_isTrue_6 : decode cX2_isTrue 6 = .ok (.ireturn, 1) := dk_172 (dk_at dksX2_isTrue_0 6 rfl rfl)
theorem q76 : (Jvm.Cond.initialized "HomewatcherModel") ∈ lw_all := lw_g (lw_at lw_m1 23 rfl) rfl
theorem q1220 : (Jvm.Cond.selects "HomewatcherModel" ({ cls := "java/lang/Object", name := "equals", desc := "(Ljava/lang/Object;)Z" } : Jvm.MethodName) ({ cls := "java/lang/Object", name := "equals", desc := "(Ljava/lang/Object;)Z" } : Jvm.MethodName)) ∈ lw_all := lw_g (lw_at lw_m5 207 rfl) rfl
theorem q1376 : (Jvm.Cond.selects "HomewatcherModel" ({ cls := "java/lang/Object", name := "getClass", desc := "()Ljava/lang/Class;" } : Jvm.MethodName) ({ cls := "java/lang/Object", name := "getClass", desc := "()Ljava/lang/Class;" } : Jvm.MethodName)) ∈ lw_all := lw_g (lw_at lw_m6 123 rfl) rfl
theorem q2027 : (Jvm.Cond.instantiable "HomewatcherModel" (35 : Nat)) ∈ lw_all := lw_g (lw_at lw_m9 54 rfl) rfl
theorem q2029 : (Jvm.Cond.instanceMethod ({ cls := "HomewatcherModel", name := "<init>", desc := "()V" } : Jvm.MethodName)) ∈ lw_all := lw_g (lw_at lw_m9 56 rfl) rfl
theorem q2030 : (Jvm.Cond.code ({ cls := "HomewatcherModel", name := "<init>", desc := "()V" } : Jvm.MethodName) prog_7_method_1_code (1 : Nat) (Option.none : Option Jvm.ClassFile.FieldType)) ∈ lw_all := lw_g (lw_at lw_m9 57 rfl) rfl
theorem q2031 : (Jvm.Cond.methodLink "HomewatcherModel" (1 : Nat) ({ cls := "java/lang/Object", name := "<init>", desc := "()V" } : Jvm.MethodName)) ∈ lw_all := lw_g (lw_at lw_m9 58 rfl) rfl
theorem q2032 : (Jvm.Cond.fieldLink "HomewatcherModel" (7 : Nat) "HomewatcherModel" "now" "I") ∈ lw_all := lw_g (lw_at lw_m9 59 rfl) rfl
theorem q2033 : (Jvm.Cond.fieldLink "HomewatcherModel" (13 : Nat) "HomewatcherModel" "classes" "I") ∈ lw_all := lw_g (lw_at lw_m9 60 rfl) rfl
theorem q2034 : (Jvm.Cond.fieldLink "HomewatcherModel" (16 : Nat) "HomewatcherModel" "pupils" "I") ∈ lw_all := lw_g (lw_at lw_m9 61 rfl) rfl
theorem q2035 : (Jvm.Cond.fieldLink "HomewatcherModel" (19 : Nat) "HomewatcherModel" "tasks" "I") ∈ lw_all := lw_g (lw_at lw_m9 62 rfl) rfl
theorem q2036 : (Jvm.Cond.fieldLink "HomewatcherModel" (22 : Nat) "HomewatcherModel" "versions" "I") ∈ lw_all := lw_g (lw_at lw_m9 63 rfl) rfl
theorem q2037 : (Jvm.Cond.fieldLink "HomewatcherModel" (25 : Nat) "HomewatcherModel" "signs" "I") ∈ lw_all := lw_g (lw_at lw_m9 64 rfl) rfl
theorem q2038 : (Jvm.Cond.fieldLink "HomewatcherModel" (28 : Nat) "HomewatcherModel" "hits" "I") ∈ lw_all := lw_g (lw_at lw_m9 65 rfl) rfl
theorem q2039 : (Jvm.Cond.fieldLink "HomewatcherModel" (31 : Nat) "HomewatcherModel" "handed" "I") ∈ lw_all := lw_g (lw_at lw_m9 66 rfl) rfl
theorem q2040 : (Jvm.Cond.fieldLink "HomewatcherModel" (34 : Nat) "HomewatcherModel" "threshold" "I") ∈ lw_all := lw_g (lw_at lw_m9 67 rfl) rfl
theorem q2041 : (Jvm.Cond.fieldLink "HomewatcherModel" (37 : Nat) "HomewatcherModel" "thrown" "I") ∈ lw_all := lw_g (lw_at lw_m9 68 rfl) rfl
theorem q2042 : (Jvm.Cond.fieldLink "HomewatcherModel" (40 : Nat) "HomewatcherModel" "offsets" "[I") ∈ lw_all := lw_g (lw_at lw_m9 69 rfl) rfl
theorem q2043 : (Jvm.Cond.fieldLink "HomewatcherModel" (44 : Nat) "HomewatcherModel" "classOf" "[I") ∈ lw_all := lw_g (lw_at lw_m9 70 rfl) rfl
theorem q2044 : (Jvm.Cond.fieldLink "HomewatcherModel" (47 : Nat) "HomewatcherModel" "taskClass" "[I") ∈ lw_all := lw_g (lw_at lw_m9 71 rfl) rfl
theorem q2045 : (Jvm.Cond.fieldLink "HomewatcherModel" (50 : Nat) "HomewatcherModel" "dues" "[I") ∈ lw_all := lw_g (lw_at lw_m9 72 rfl) rfl
theorem q2046 : (Jvm.Cond.fieldLink "HomewatcherModel" (53 : Nat) "HomewatcherModel" "fulls" "[I") ∈ lw_all := lw_g (lw_at lw_m9 73 rfl) rfl
theorem q2047 : (Jvm.Cond.fieldLink "HomewatcherModel" (56 : Nat) "HomewatcherModel" "amounts" "[I") ∈ lw_all := lw_g (lw_at lw_m9 74 rfl) rfl
theorem q2048 : (Jvm.Cond.fieldLink "HomewatcherModel" (59 : Nat) "HomewatcherModel" "rules" "[C") ∈ lw_all := lw_g (lw_at lw_m9 75 rfl) rfl
theorem q2049 : (Jvm.Cond.fieldLink "HomewatcherModel" (63 : Nat) "HomewatcherModel" "text" "[I") ∈ lw_all := lw_g (lw_at lw_m9 76 rfl) rfl
theorem q2050 : (Jvm.Cond.fieldLink "HomewatcherModel" (66 : Nat) "HomewatcherModel" "pupilOf" "[I") ∈ lw_all := lw_g (lw_at lw_m9 77 rfl) rfl
theorem q2051 : (Jvm.Cond.fieldLink "HomewatcherModel" (69 : Nat) "HomewatcherModel" "taskOf" "[I") ∈ lw_all := lw_g (lw_at lw_m9 78 rfl) rfl
theorem q2052 : (Jvm.Cond.fieldLink "HomewatcherModel" (72 : Nat) "HomewatcherModel" "parents" "[I") ∈ lw_all := lw_g (lw_at lw_m9 79 rfl) rfl
theorem q2053 : (Jvm.Cond.fieldLink "HomewatcherModel" (75 : Nat) "HomewatcherModel" "saved" "[I") ∈ lw_all := lw_g (lw_at lw_m9 80 rfl) rfl
theorem q2054 : (Jvm.Cond.fieldLink "HomewatcherModel" (78 : Nat) "HomewatcherModel" "sizes" "[I") ∈ lw_all := lw_g (lw_at lw_m9 81 rfl) rfl
theorem q2055 : (Jvm.Cond.fieldLink "HomewatcherModel" (81 : Nat) "HomewatcherModel" "states" "[I") ∈ lw_all := lw_g (lw_at lw_m9 82 rfl) rfl
theorem q2056 : (Jvm.Cond.fieldLink "HomewatcherModel" (84 : Nat) "HomewatcherModel" "minutes" "[I") ∈ lw_all := lw_g (lw_at lw_m9 83 rfl) rfl
theorem q2057 : (Jvm.Cond.fieldLink "HomewatcherModel" (87 : Nat) "HomewatcherModel" "orders" "[I") ∈ lw_all := lw_g (lw_at lw_m9 84 rfl) rfl
theorem q2058 : (Jvm.Cond.fieldLink "HomewatcherModel" (90 : Nat) "HomewatcherModel" "points" "[I") ∈ lw_all := lw_g (lw_at lw_m9 85 rfl) rfl
theorem q2059 : (Jvm.Cond.fieldLink "HomewatcherModel" (93 : Nat) "HomewatcherModel" "texts" "[I") ∈ lw_all := lw_g (lw_at lw_m9 86 rfl) rfl
theorem q2060 : (Jvm.Cond.fieldLink "HomewatcherModel" (96 : Nat) "HomewatcherModel" "shingles" "[I") ∈ lw_all := lw_g (lw_at lw_m9 87 rfl) rfl
theorem q2061 : (Jvm.Cond.fieldLink "HomewatcherModel" (99 : Nat) "HomewatcherModel" "shingleCounts" "[I") ∈ lw_all := lw_g (lw_at lw_m9 88 rfl) rfl
theorem q2062 : (Jvm.Cond.fieldLink "HomewatcherModel" (102 : Nat) "HomewatcherModel" "hitNew" "[I") ∈ lw_all := lw_g (lw_at lw_m9 89 rfl) rfl
theorem q2063 : (Jvm.Cond.fieldLink "HomewatcherModel" (105 : Nat) "HomewatcherModel" "hitOld" "[I") ∈ lw_all := lw_g (lw_at lw_m9 90 rfl) rfl
theorem q2064 : (Jvm.Cond.fieldLink "HomewatcherModel" (108 : Nat) "HomewatcherModel" "hitCommon" "[I") ∈ lw_all := lw_g (lw_at lw_m9 91 rfl) rfl
theorem q2065 : (Jvm.Cond.fieldLink "HomewatcherModel" (111 : Nat) "HomewatcherModel" "hitHeard" "[I") ∈ lw_all := lw_g (lw_at lw_m9 92 rfl) rfl
theorem q2066 : (Jvm.Cond.fieldLink "HomewatcherModel" (114 : Nat) "HomewatcherModel" "isLost" "[Z") ∈ lw_all := lw_g (lw_at lw_m9 93 rfl) rfl
theorem q2067 : (Jvm.Cond.lays "HomewatcherModel" "HomewatcherModel" "now" "I") ∈ lw_all := lw_g (lw_at lw_m9 94 rfl) rfl
theorem q2068 : (Jvm.Cond.soleField "HomewatcherModel" "now") ∈ lw_all := lw_g (lw_at lw_m9 95 rfl) rfl
theorem q2069 : (Jvm.Cond.lays "HomewatcherModel" "HomewatcherModel" "classes" "I") ∈ lw_all := lw_g (lw_at lw_m9 96 rfl) rfl
theorem q2070 : (Jvm.Cond.soleField "HomewatcherModel" "classes") ∈ lw_all := lw_g (lw_at lw_m9 97 rfl) rfl
theorem q2071 : (Jvm.Cond.lays "HomewatcherModel" "HomewatcherModel" "pupils" "I") ∈ lw_all := lw_g (lw_at lw_m9 98 rfl) rfl
theorem q2072 : (Jvm.Cond.soleField "HomewatcherModel" "pupils") ∈ lw_all := lw_g (lw_at lw_m9 99 rfl) rfl
theorem q2073 : (Jvm.Cond.lays "HomewatcherModel" "HomewatcherModel" "tasks" "I") ∈ lw_all := lw_g (lw_at lw_m9 100 rfl) rfl
theorem q2074 : (Jvm.Cond.soleField "HomewatcherModel" "tasks") ∈ lw_all := lw_g (lw_at lw_m9 101 rfl) rfl
theorem q2075 : (Jvm.Cond.lays "HomewatcherModel" "HomewatcherModel" "versions" "I") ∈ lw_all := lw_g (lw_at lw_m9 102 rfl) rfl
theorem q2076 : (Jvm.Cond.soleField "HomewatcherModel" "versions") ∈ lw_all := lw_g (lw_at lw_m9 103 rfl) rfl
theorem q2077 : (Jvm.Cond.lays "HomewatcherModel" "HomewatcherModel" "signs" "I") ∈ lw_all := lw_g (lw_at lw_m9 104 rfl) rfl
theorem q2078 : (Jvm.Cond.soleField "HomewatcherModel" "signs") ∈ lw_all := lw_g (lw_at lw_m9 105 rfl) rfl
theorem q2079 : (Jvm.Cond.lays "HomewatcherModel" "HomewatcherModel" "hits" "I") ∈ lw_all := lw_g (lw_at lw_m9 106 rfl) rfl
theorem q2080 : (Jvm.Cond.soleField "HomewatcherModel" "hits") ∈ lw_all := lw_g (lw_at lw_m9 107 rfl) rfl
theorem q2081 : (Jvm.Cond.lays "HomewatcherModel" "HomewatcherModel" "handed" "I") ∈ lw_all := lw_g (lw_at lw_m9 108 rfl) rfl
theorem q2082 : (Jvm.Cond.soleField "HomewatcherModel" "handed") ∈ lw_all := lw_g (lw_at lw_m9 109 rfl) rfl
theorem q2083 : (Jvm.Cond.lays "HomewatcherModel" "HomewatcherModel" "threshold" "I") ∈ lw_all := lw_g (lw_at lw_m9 110 rfl) rfl
theorem q2084 : (Jvm.Cond.soleField "HomewatcherModel" "threshold") ∈ lw_all := lw_g (lw_at lw_m9 111 rfl) rfl
theorem q2085 : (Jvm.Cond.lays "HomewatcherModel" "HomewatcherModel" "thrown" "I") ∈ lw_all := lw_g (lw_at lw_m9 112 rfl) rfl
theorem q2086 : (Jvm.Cond.soleField "HomewatcherModel" "thrown") ∈ lw_all := lw_g (lw_at lw_m9 113 rfl) rfl
theorem q2087 : (Jvm.Cond.laysFinal "HomewatcherModel" "HomewatcherModel" "offsets" "[I") ∈ lw_all := lw_g (lw_at lw_m9 114 rfl) rfl
theorem q2088 : (Jvm.Cond.soleField "HomewatcherModel" "offsets") ∈ lw_all := lw_g (lw_at lw_m9 115 rfl) rfl
theorem q2089 : (Jvm.Cond.laysFinal "HomewatcherModel" "HomewatcherModel" "classOf" "[I") ∈ lw_all := lw_g (lw_at lw_m9 116 rfl) rfl
theorem q2090 : (Jvm.Cond.soleField "HomewatcherModel" "classOf") ∈ lw_all := lw_g (lw_at lw_m9 117 rfl) rfl
theorem q2091 : (Jvm.Cond.laysFinal "HomewatcherModel" "HomewatcherModel" "taskClass" "[I") ∈ lw_all := lw_g (lw_at lw_m9 118 rfl) rfl
theorem q2092 : (Jvm.Cond.soleField "HomewatcherModel" "taskClass") ∈ lw_all := lw_g (lw_at lw_m9 119 rfl) rfl
theorem q2093 : (Jvm.Cond.laysFinal "HomewatcherModel" "HomewatcherModel" "dues" "[I") ∈ lw_all := lw_g (lw_at lw_m9 120 rfl) rfl
theorem q2094 : (Jvm.Cond.soleField "HomewatcherModel" "dues") ∈ lw_all := lw_g (lw_at lw_m9 121 rfl) rfl
theorem q2095 : (Jvm.Cond.laysFinal "HomewatcherModel" "HomewatcherModel" "fulls" "[I") ∈ lw_all := lw_g (lw_at lw_m9 122 rfl) rfl
theorem q2096 : (Jvm.Cond.soleField "HomewatcherModel" "fulls") ∈ lw_all := lw_g (lw_at lw_m9 123 rfl) rfl
theorem q2097 : (Jvm.Cond.laysFinal "HomewatcherModel" "HomewatcherModel" "amounts" "[I") ∈ lw_all := lw_g (lw_at lw_m9 124 rfl) rfl
theorem q2098 : (Jvm.Cond.soleField "HomewatcherModel" "amounts") ∈ lw_all := lw_g (lw_at lw_m9 125 rfl) rfl
theorem q2099 : (Jvm.Cond.laysFinal "HomewatcherModel" "HomewatcherModel" "rules" "[C") ∈ lw_all := lw_g (lw_at lw_m9 126 rfl) rfl
theorem q2100 : (Jvm.Cond.soleField "HomewatcherModel" "rules") ∈ lw_all := lw_g (lw_at lw_m9 127 rfl) rfl
theorem q2101 : (Jvm.Cond.laysFinal "HomewatcherModel" "HomewatcherModel" "text" "[I") ∈ lw_all := lw_g (lw_at lw_m9 128 rfl) rfl
theorem q2102 : (Jvm.Cond.soleField "HomewatcherModel" "text") ∈ lw_all := lw_g (lw_at lw_m9 129 rfl) rfl
theorem q2103 : (Jvm.Cond.laysFinal "HomewatcherModel" "HomewatcherModel" "pupilOf" "[I") ∈ lw_all := lw_g (lw_at lw_m9 130 rfl) rfl
theorem q2104 : (Jvm.Cond.soleField "HomewatcherModel" "pupilOf") ∈ lw_all := lw_g (lw_at lw_m9 131 rfl) rfl
theorem q2105 : (Jvm.Cond.laysFinal "HomewatcherModel" "HomewatcherModel" "taskOf" "[I") ∈ lw_all := lw_g (lw_at lw_m9 132 rfl) rfl
theorem q2106 : (Jvm.Cond.soleField "HomewatcherModel" "taskOf") ∈ lw_all := lw_g (lw_at lw_m9 133 rfl) rfl
theorem q2107 : (Jvm.Cond.laysFinal "HomewatcherModel" "HomewatcherModel" "parents" "[I") ∈ lw_all := lw_g (lw_at lw_m9 134 rfl) rfl
theorem q2108 : (Jvm.Cond.soleField "HomewatcherModel" "parents") ∈ lw_all := lw_g (lw_at lw_m9 135 rfl) rfl
theorem q2109 : (Jvm.Cond.laysFinal "HomewatcherModel" "HomewatcherModel" "saved" "[I") ∈ lw_all := lw_g (lw_at lw_m9 136 rfl) rfl
theorem q2110 : (Jvm.Cond.soleField "HomewatcherModel" "saved") ∈ lw_all := lw_g (lw_at lw_m9 137 rfl) rfl
theorem q2111 : (Jvm.Cond.laysFinal "HomewatcherModel" "HomewatcherModel" "sizes" "[I") ∈ lw_all := lw_g (lw_at lw_m9 138 rfl) rfl
theorem q2112 : (Jvm.Cond.soleField "HomewatcherModel" "sizes") ∈ lw_all := lw_g (lw_at lw_m9 139 rfl) rfl
theorem q2113 : (Jvm.Cond.laysFinal "HomewatcherModel" "HomewatcherModel" "states" "[I") ∈ lw_all := lw_g (lw_at lw_m9 140 rfl) rfl
theorem q2114 : (Jvm.Cond.soleField "HomewatcherModel" "states") ∈ lw_all := lw_g (lw_at lw_m9 141 rfl) rfl
theorem q2115 : (Jvm.Cond.laysFinal "HomewatcherModel" "HomewatcherModel" "minutes" "[I") ∈ lw_all := lw_g (lw_at lw_m9 142 rfl) rfl
theorem q2116 : (Jvm.Cond.soleField "HomewatcherModel" "minutes") ∈ lw_all := lw_g (lw_at lw_m9 143 rfl) rfl
theorem q2117 : (Jvm.Cond.laysFinal "HomewatcherModel" "HomewatcherModel" "orders" "[I") ∈ lw_all := lw_g (lw_at lw_m9 144 rfl) rfl
theorem q2118 : (Jvm.Cond.soleField "HomewatcherModel" "orders") ∈ lw_all := lw_g (lw_at lw_m9 145 rfl) rfl
theorem q2119 : (Jvm.Cond.laysFinal "HomewatcherModel" "HomewatcherModel" "points" "[I") ∈ lw_all := lw_g (lw_at lw_m9 146 rfl) rfl
theorem q2120 : (Jvm.Cond.soleField "HomewatcherModel" "points") ∈ lw_all := lw_g (lw_at lw_m9 147 rfl) rfl
theorem q2121 : (Jvm.Cond.laysFinal "HomewatcherModel" "HomewatcherModel" "texts" "[I") ∈ lw_all := lw_g (lw_at lw_m9 148 rfl) rfl
theorem q2122 : (Jvm.Cond.soleField "HomewatcherModel" "texts") ∈ lw_all := lw_g (lw_at lw_m9 149 rfl) rfl
theorem q2123 : (Jvm.Cond.laysFinal "HomewatcherModel" "HomewatcherModel" "shingles" "[I") ∈ lw_all := lw_g (lw_at lw_m9 150 rfl) rfl
theorem q2124 : (Jvm.Cond.soleField "HomewatcherModel" "shingles") ∈ lw_all := lw_g (lw_at lw_m9 151 rfl) rfl
theorem q2125 : (Jvm.Cond.laysFinal "HomewatcherModel" "HomewatcherModel" "shingleCounts" "[I") ∈ lw_all := lw_g (lw_at lw_m9 152 rfl) rfl
theorem q2126 : (Jvm.Cond.soleField "HomewatcherModel" "shingleCounts") ∈ lw_all := lw_g (lw_at lw_m9 153 rfl) rfl
theorem q2127 : (Jvm.Cond.laysFinal "HomewatcherModel" "HomewatcherModel" "hitNew" "[I") ∈ lw_all := lw_g (lw_at lw_m9 154 rfl) rfl
theorem q2128 : (Jvm.Cond.soleField "HomewatcherModel" "hitNew") ∈ lw_all := lw_g (lw_at lw_m9 155 rfl) rfl
theorem q2129 : (Jvm.Cond.laysFinal "HomewatcherModel" "HomewatcherModel" "hitOld" "[I") ∈ lw_all := lw_g (lw_at lw_m9 156 rfl) rfl
theorem q2130 : (Jvm.Cond.soleField "HomewatcherModel" "hitOld") ∈ lw_all := lw_g (lw_at lw_m9 157 rfl) rfl
theorem q2131 : (Jvm.Cond.laysFinal "HomewatcherModel" "HomewatcherModel" "hitCommon" "[I") ∈ lw_all := lw_g (lw_at lw_m9 158 rfl) rfl
theorem q2132 : (Jvm.Cond.soleField "HomewatcherModel" "hitCommon") ∈ lw_all := lw_g (lw_at lw_m9 159 rfl) rfl
theorem q2133 : (Jvm.Cond.laysFinal "HomewatcherModel" "HomewatcherModel" "hitHeard" "[I") ∈ lw_all := lw_g (lw_at lw_m9 160 rfl) rfl
theorem q2134 : (Jvm.Cond.soleField "HomewatcherModel" "hitHeard") ∈ lw_all := lw_g (lw_at lw_m9 161 rfl) rfl
theorem q2135 : (Jvm.Cond.laysFinal "HomewatcherModel" "HomewatcherModel" "isLost" "[Z") ∈ lw_all := lw_g (lw_at lw_m9 162 rfl) rfl
theorem q2136 : (Jvm.Cond.soleField "HomewatcherModel" "isLost") ∈ lw_all := lw_g (lw_at lw_m9 163 rfl) rfl
theorem q2137 : (Jvm.Cond.superclass "HomewatcherModel" "java/lang/Object") ∈ lw_all := lw_g (lw_at lw_m9 164 rfl) rfl
theorem q2139 : (Jvm.Cond.instanceMethod ({ cls := "HomewatcherModel", name := "thrown", desc := "()I" } : Jvm.MethodName)) ∈ lw_all := lw_g (lw_at lw_m9 166 rfl) rfl
theorem q2140 : (Jvm.Cond.selects "HomewatcherModel" ({ cls := "HomewatcherModel", name := "thrown", desc := "()I" } : Jvm.MethodName) ({ cls := "HomewatcherModel", name := "thrown", desc := "()I" } : Jvm.MethodName)) ∈ lw_all := lw_g (lw_at lw_m9 167 rfl) rfl
theorem q2141 : (Jvm.Cond.code ({ cls := "HomewatcherModel", name := "thrown", desc := "()I" } : Jvm.MethodName) prog_7_method_2_code (1 : Nat) (Option.some Jvm.ClassFile.FieldType.int)) ∈ lw_all := lw_g (lw_at lw_m9 168 rfl) rfl
theorem q2143 : (Jvm.Cond.instanceMethod ({ cls := "HomewatcherModel", name := "classroom", desc := "(I)I" } : Jvm.MethodName)) ∈ lw_all := lw_g (lw_at lw_m9 170 rfl) rfl
theorem q2144 : (Jvm.Cond.selects "HomewatcherModel" ({ cls := "HomewatcherModel", name := "classroom", desc := "(I)I" } : Jvm.MethodName) ({ cls := "HomewatcherModel", name := "classroom", desc := "(I)I" } : Jvm.MethodName)) ∈ lw_all := lw_g (lw_at lw_m9 171 rfl) rfl
theorem q2145 : (Jvm.Cond.code ({ cls := "HomewatcherModel", name := "classroom", desc := "(I)I" } : Jvm.MethodName) prog_7_method_8_code (2 : Nat) (Option.some Jvm.ClassFile.FieldType.int)) ∈ lw_all := lw_g (lw_at lw_m9 172 rfl) rfl
theorem q2146 : (Jvm.Cond.methodLink "HomewatcherModel" (118 : Nat) ({ cls := "HomewatcherModel", name := "in", desc := "(III)Z" } : Jvm.MethodName)) ∈ lw_all := lw_g (lw_at lw_m9 173 rfl) rfl
theorem q2147 : (Jvm.Cond.static ({ cls := "HomewatcherModel", name := "in", desc := "(III)Z" } : Jvm.MethodName)) ∈ lw_all := lw_g (lw_at lw_m9 174 rfl) rfl
theorem q2148 : (Jvm.Cond.code ({ cls := "HomewatcherModel", name := "in", desc := "(III)Z" } : Jvm.MethodName) prog_7_method_5_code (3 : Nat) (Option.some Jvm.ClassFile.FieldType.boolean)) ∈ lw_all := lw_g (lw_at lw_m9 175 rfl) rfl
theorem q2149 : (Jvm.Cond.methodLink "HomewatcherModel" (122 : Nat) ({ cls := "HomewatcherModel", name := "fails", desc := "(I)I" } : Jvm.MethodName)) ∈ lw_all := lw_g (lw_at lw_m9 176 rfl) rfl
theorem q2150 : (Jvm.Cond.privateMethod ({ cls := "HomewatcherModel", name := "fails", desc := "(I)I" } : Jvm.MethodName)) ∈ lw_tbl := lw_at lw_m9 177 rfl
theorem q2151 : (Jvm.Cond.instanceMethod ({ cls := "HomewatcherModel", name := "fails", desc := "(I)I" } : Jvm.MethodName)) ∈ lw_all := lw_g (lw_at lw_m9 178 rfl) rfl
theorem q2152 : (Jvm.Cond.code ({ cls := "HomewatcherModel", name := "fails", desc := "(I)I" } : Jvm.MethodName) prog_7_method_6_code (2 : Nat) (Option.some Jvm.ClassFile.FieldType.int)) ∈ lw_all := lw_g (lw_at lw_m9 179 rfl) rfl
theorem q2153 : (Jvm.Cond.methodLink "HomewatcherModel" (126 : Nat) ({ cls := "HomewatcherModel", name := "tells", desc := "(I)I" } : Jvm.MethodName)) ∈ lw_all := lw_g (lw_at lw_m9 180 rfl) rfl
theorem q2154 : (Jvm.Cond.privateMethod ({ cls := "HomewatcherModel", name := "tells", desc := "(I)I" } : Jvm.MethodName)) ∈ lw_tbl := lw_at lw_m9 181 rfl
theorem q2155 : (Jvm.Cond.instanceMethod ({ cls := "HomewatcherModel", name := "tells", desc := "(I)I" } : Jvm.MethodName)) ∈ lw_all := lw_g (lw_at lw_m9 182 rfl) rfl
theorem q2156 : (Jvm.Cond.code ({ cls := "HomewatcherModel", name := "tells", desc := "(I)I" } : Jvm.MethodName) prog_7_method_7_code (2 : Nat) (Option.some Jvm.ClassFile.FieldType.int)) ∈ lw_all := lw_g (lw_at lw_m9 183 rfl) rfl
theorem q2158 : (Jvm.Cond.instanceMethod ({ cls := "HomewatcherModel", name := "pupil", desc := "(I)I" } : Jvm.MethodName)) ∈ lw_all := lw_g (lw_at lw_m9 185 rfl) rfl
theorem q2159 : (Jvm.Cond.selects "HomewatcherModel" ({ cls := "HomewatcherModel", name := "pupil", desc := "(I)I" } : Jvm.MethodName) ({ cls := "HomewatcherModel", name := "pupil", desc := "(I)I" } : Jvm.MethodName)) ∈ lw_all := lw_g (lw_at lw_m9 186 rfl) rfl
theorem q2160 : (Jvm.Cond.code ({ cls := "HomewatcherModel", name := "pupil", desc := "(I)I" } : Jvm.MethodName) prog_7_method_10_code (2 : Nat) (Option.some Jvm.ClassFile.FieldType.int)) ∈ lw_all := lw_g (lw_at lw_m9 187 rfl) rfl
theorem q2161 : (Jvm.Cond.methodLink "HomewatcherModel" (129 : Nat) ({ cls := "HomewatcherModel", name := "isClass", desc := "(I)Z" } : Jvm.MethodName)) ∈ lw_all := lw_g (lw_at lw_m9 188 rfl) rfl
theorem q2162 : (Jvm.Cond.privateMethod ({ cls := "HomewatcherModel", name := "isClass", desc := "(I)Z" } : Jvm.MethodName)) ∈ lw_tbl := lw_at lw_m9 189 rfl
theorem q2163 : (Jvm.Cond.instanceMethod ({ cls := "HomewatcherModel", name := "isClass", desc := "(I)Z" } : Jvm.MethodName)) ∈ lw_all := lw_g (lw_at lw_m9 190 rfl) rfl
theorem q2164 : (Jvm.Cond.code ({ cls := "HomewatcherModel", name := "isClass", desc := "(I)Z" } : Jvm.MethodName) prog_7_method_9_code (2 : Nat) (Option.some Jvm.ClassFile.FieldType.boolean)) ∈ lw_all := lw_g (lw_at lw_m9 191 rfl) rfl
theorem q2166 : (Jvm.Cond.instanceMethod ({ cls := "HomewatcherModel", name := "task", desc := "(IIICI)I" } : Jvm.MethodName)) ∈ lw_all := lw_g (lw_at lw_m9 193 rfl) rfl
theorem q2167 : (Jvm.Cond.selects "HomewatcherModel" ({ cls := "HomewatcherModel", name := "task", desc := "(IIICI)I" } : Jvm.MethodName) ({ cls := "HomewatcherModel", name := "task", desc := "(IIICI)I" } : Jvm.MethodName)) ∈ lw_all := lw_g (lw_at lw_m9 194 rfl) rfl
theorem q2168 : (Jvm.Cond.code ({ cls := "HomewatcherModel", name := "task", desc := "(IIICI)I" } : Jvm.MethodName) prog_7_method_11_code (7 : Nat) (Option.some Jvm.ClassFile.FieldType.int)) ∈ lw_all := lw_g (lw_at lw_m9 195 rfl) rfl
theorem q2169 : (Jvm.Cond.constant "HomewatcherModel" (133 : Nat) (1000000 : Int32)) ∈ lw_all := lw_g (lw_at lw_m9 196 rfl) rfl
theorem q2171 : (Jvm.Cond.instanceMethod ({ cls := "HomewatcherModel", name := "pass", desc := "(I)I" } : Jvm.MethodName)) ∈ lw_all := lw_g (lw_at lw_m9 198 rfl) rfl
theorem q2172 : (Jvm.Cond.selects "HomewatcherModel" ({ cls := "HomewatcherModel", name := "pass", desc := "(I)I" } : Jvm.MethodName) ({ cls := "HomewatcherModel", name := "pass", desc := "(I)I" } : Jvm.MethodName)) ∈ lw_all := lw_g (lw_at lw_m9 199 rfl) rfl
theorem q2173 : (Jvm.Cond.code ({ cls := "HomewatcherModel", name := "pass", desc := "(I)I" } : Jvm.MethodName) prog_7_method_12_code (2 : Nat) (Option.some Jvm.ClassFile.FieldType.int)) ∈ lw_all := lw_g (lw_at lw_m9 200 rfl) rfl
theorem q2174 : (Jvm.Cond.constant "HomewatcherModel" (134 : Nat) (100000 : Int32)) ∈ lw_all := lw_g (lw_at lw_m9 201 rfl) rfl
theorem q2176 : (Jvm.Cond.instanceMethod ({ cls := "HomewatcherModel", name := "clock", desc := "(I)I" } : Jvm.MethodName)) ∈ lw_all := lw_g (lw_at lw_m9 203 rfl) rfl
theorem q2177 : (Jvm.Cond.selects "HomewatcherModel" ({ cls := "HomewatcherModel", name := "clock", desc := "(I)I" } : Jvm.MethodName) ({ cls := "HomewatcherModel", name := "clock", desc := "(I)I" } : Jvm.MethodName)) ∈ lw_all := lw_g (lw_at lw_m9 204 rfl) rfl
theorem q2178 : (Jvm.Cond.code ({ cls := "HomewatcherModel", name := "clock", desc := "(I)I" } : Jvm.MethodName) prog_7_method_13_code (2 : Nat) (Option.some Jvm.ClassFile.FieldType.int)) ∈ lw_all := lw_g (lw_at lw_m9 205 rfl) rfl
theorem q2180 : (Jvm.Cond.instanceMethod ({ cls := "HomewatcherModel", name := "type", desc := "(I)I" } : Jvm.MethodName)) ∈ lw_all := lw_g (lw_at lw_m9 207 rfl) rfl
theorem q2181 : (Jvm.Cond.selects "HomewatcherModel" ({ cls := "HomewatcherModel", name := "type", desc := "(I)I" } : Jvm.MethodName) ({ cls := "HomewatcherModel", name := "type", desc := "(I)I" } : Jvm.MethodName)) ∈ lw_all := lw_g (lw_at lw_m9 208 rfl) rfl
theorem q2182 : (Jvm.Cond.code ({ cls := "HomewatcherModel", name := "type", desc := "(I)I" } : Jvm.MethodName) prog_7_method_17_code (2 : Nat) (Option.some Jvm.ClassFile.FieldType.int)) ∈ lw_all := lw_g (lw_at lw_m9 209 rfl) rfl
theorem q2183 : (Jvm.Cond.methodLink "HomewatcherModel" (141 : Nat) ({ cls := "HomewatcherModel", name := "isSign", desc := "(I)Z" } : Jvm.MethodName)) ∈ lw_all := lw_g (lw_at lw_m9 210 rfl) rfl
theorem q2184 : (Jvm.Cond.static ({ cls := "HomewatcherModel", name := "isSign", desc := "(I)Z" } : Jvm.MethodName)) ∈ lw_all := lw_g (lw_at lw_m9 211 rfl) rfl
theorem q2185 : (Jvm.Cond.code ({ cls := "HomewatcherModel", name := "isSign", desc := "(I)Z" } : Jvm.MethodName) prog_7_method_14_code (1 : Nat) (Option.some Jvm.ClassFile.FieldType.boolean)) ∈ lw_all := lw_g (lw_at lw_m9 212 rfl) rfl
theorem q2186 : (Jvm.Cond.constant "HomewatcherModel" (135 : Nat) (128512 : Int32)) ∈ lw_all := lw_g (lw_at lw_m9 213 rfl) rfl
theorem q2187 : (Jvm.Cond.constant "HomewatcherModel" (136 : Nat) (128591 : Int32)) ∈ lw_all := lw_g (lw_at lw_m9 214 rfl) rfl
theorem q2189 : (Jvm.Cond.instanceMethod ({ cls := "HomewatcherModel", name := "insert", desc := "(II)I" } : Jvm.MethodName)) ∈ lw_all := lw_g (lw_at lw_m9 216 rfl) rfl
theorem q2190 : (Jvm.Cond.selects "HomewatcherModel" ({ cls := "HomewatcherModel", name := "insert", desc := "(II)I" } : Jvm.MethodName) ({ cls := "HomewatcherModel", name := "insert", desc := "(II)I" } : Jvm.MethodName)) ∈ lw_all := lw_g (lw_at lw_m9 217 rfl) rfl
theorem q2191 : (Jvm.Cond.code ({ cls := "HomewatcherModel", name := "insert", desc := "(II)I" } : Jvm.MethodName) prog_7_method_18_code (4 : Nat) (Option.some Jvm.ClassFile.FieldType.int)) ∈ lw_all := lw_g (lw_at lw_m9 218 rfl) rfl
theorem q2192 : (Jvm.Cond.methodLink "HomewatcherModel" (144 : Nat) ({ cls := "HomewatcherModel", name := "chars", desc := "()I" } : Jvm.MethodName)) ∈ lw_all := lw_g (lw_at lw_m9 219 rfl) rfl
theorem q2193 : (Jvm.Cond.privateMethod ({ cls := "HomewatcherModel", name := "chars", desc := "()I" } : Jvm.MethodName)) ∈ lw_tbl := lw_at lw_m9 220 rfl
theorem q2194 : (Jvm.Cond.instanceMethod ({ cls := "HomewatcherModel", name := "chars", desc := "()I" } : Jvm.MethodName)) ∈ lw_all := lw_g (lw_at lw_m9 221 rfl) rfl
theorem q2195 : (Jvm.Cond.code ({ cls := "HomewatcherModel", name := "chars", desc := "()I" } : Jvm.MethodName) prog_7_method_16_code (3 : Nat) (Option.some Jvm.ClassFile.FieldType.int)) ∈ lw_all := lw_g (lw_at lw_m9 222 rfl) rfl
theorem q2196 : (Jvm.Cond.methodLink "HomewatcherModel" (138 : Nat) ({ cls := "HomewatcherModel", name := "charsOf", desc := "(I)I" } : Jvm.MethodName)) ∈ lw_all := lw_g (lw_at lw_m9 223 rfl) rfl
theorem q2197 : (Jvm.Cond.static ({ cls := "HomewatcherModel", name := "charsOf", desc := "(I)I" } : Jvm.MethodName)) ∈ lw_all := lw_g (lw_at lw_m9 224 rfl) rfl
theorem q2198 : (Jvm.Cond.code ({ cls := "HomewatcherModel", name := "charsOf", desc := "(I)I" } : Jvm.MethodName) prog_7_method_15_code (1 : Nat) (Option.some Jvm.ClassFile.FieldType.int)) ∈ lw_all := lw_g (lw_at lw_m9 225 rfl) rfl
theorem q2199 : (Jvm.Cond.constant "HomewatcherModel" (137 : Nat) (65535 : Int32)) ∈ lw_all := lw_g (lw_at lw_m9 226 rfl) rfl
theorem q2201 : (Jvm.Cond.instanceMethod ({ cls := "HomewatcherModel", name := "reverse", desc := "()I" } : Jvm.MethodName)) ∈ lw_all := lw_g (lw_at lw_m9 228 rfl) rfl
theorem q2202 : (Jvm.Cond.selects "HomewatcherModel" ({ cls := "HomewatcherModel", name := "reverse", desc := "()I" } : Jvm.MethodName) ({ cls := "HomewatcherModel", name := "reverse", desc := "()I" } : Jvm.MethodName)) ∈ lw_all := lw_g (lw_at lw_m9 229 rfl) rfl
theorem q2203 : (Jvm.Cond.code ({ cls := "HomewatcherModel", name := "reverse", desc := "()I" } : Jvm.MethodName) prog_7_method_19_code (3 : Nat) (Option.some Jvm.ClassFile.FieldType.int)) ∈ lw_all := lw_g (lw_at lw_m9 230 rfl) rfl
theorem q2205 : (Jvm.Cond.instanceMethod ({ cls := "HomewatcherModel", name := "wipe", desc := "()I" } : Jvm.MethodName)) ∈ lw_all := lw_g (lw_at lw_m9 232 rfl) rfl
theorem q2206 : (Jvm.Cond.selects "HomewatcherModel" ({ cls := "HomewatcherModel", name := "wipe", desc := "()I" } : Jvm.MethodName) ({ cls := "HomewatcherModel", name := "wipe", desc := "()I" } : Jvm.MethodName)) ∈ lw_all := lw_g (lw_at lw_m9 233 rfl) rfl
theorem q2207 : (Jvm.Cond.code ({ cls := "HomewatcherModel", name := "wipe", desc := "()I" } : Jvm.MethodName) prog_7_method_20_code (2 : Nat) (Option.some Jvm.ClassFile.FieldType.int)) ∈ lw_all := lw_g (lw_at lw_m9 234 rfl) rfl
theorem q2209 : (Jvm.Cond.instanceMethod ({ cls := "HomewatcherModel", name := "charAt", desc := "(I)C" } : Jvm.MethodName)) ∈ lw_all := lw_g (lw_at lw_m9 236 rfl) rfl
theorem q2210 : (Jvm.Cond.selects "HomewatcherModel" ({ cls := "HomewatcherModel", name := "charAt", desc := "(I)C" } : Jvm.MethodName) ({ cls := "HomewatcherModel", name := "charAt", desc := "(I)C" } : Jvm.MethodName)) ∈ lw_all := lw_g (lw_at lw_m9 237 rfl) rfl
theorem q2211 : (Jvm.Cond.code ({ cls := "HomewatcherModel", name := "charAt", desc := "(I)C" } : Jvm.MethodName) prog_7_method_22_code (4 : Nat) (Option.some Jvm.ClassFile.FieldType.char)) ∈ lw_all := lw_g (lw_at lw_m9 238 rfl) rfl
theorem q2212 : (Jvm.Cond.methodLink "HomewatcherModel" (151 : Nat) ({ cls := "HomewatcherModel", name := "charOf", desc := "(II)I" } : Jvm.MethodName)) ∈ lw_all := lw_g (lw_at lw_m9 239 rfl) rfl
theorem q2213 : (Jvm.Cond.static ({ cls := "HomewatcherModel", name := "charOf", desc := "(II)I" } : Jvm.MethodName)) ∈ lw_all := lw_g (lw_at lw_m10 0 rfl) rfl
theorem q2214 : (Jvm.Cond.code ({ cls := "HomewatcherModel", name := "charOf", desc := "(II)I" } : Jvm.MethodName) prog_7_method_21_code (3 : Nat) (Option.some Jvm.ClassFile.FieldType.int)) ∈ lw_all := lw_g (lw_at lw_m10 1 rfl) rfl
theorem q2215 : (Jvm.Cond.constant "HomewatcherModel" (148 : Nat) (65536 : Int32)) ∈ lw_all := lw_g (lw_at lw_m10 2 rfl) rfl
theorem q2216 : (Jvm.Cond.constant "HomewatcherModel" (149 : Nat) (55296 : Int32)) ∈ lw_all := lw_g (lw_at lw_m10 3 rfl) rfl
theorem q2217 : (Jvm.Cond.constant "HomewatcherModel" (150 : Nat) (56320 : Int32)) ∈ lw_all := lw_g (lw_at lw_m10 4 rfl) rfl
theorem q2219 : (Jvm.Cond.instanceMethod ({ cls := "HomewatcherModel", name := "save", desc := "(IIII)I" } : Jvm.MethodName)) ∈ lw_all := lw_g (lw_at lw_m10 6 rfl) rfl
theorem q2220 : (Jvm.Cond.selects "HomewatcherModel" ({ cls := "HomewatcherModel", name := "save", desc := "(IIII)I" } : Jvm.MethodName) ({ cls := "HomewatcherModel", name := "save", desc := "(IIII)I" } : Jvm.MethodName)) ∈ lw_all := lw_g (lw_at lw_m10 7 rfl) rfl
theorem q2221 : (Jvm.Cond.code ({ cls := "HomewatcherModel", name := "save", desc := "(IIII)I" } : Jvm.MethodName) prog_7_method_28_code (8 : Nat) (Option.some Jvm.ClassFile.FieldType.int)) ∈ lw_all := lw_g (lw_at lw_m10 8 rfl) rfl
theorem q2222 : (Jvm.Cond.methodLink "HomewatcherModel" (159 : Nat) ({ cls := "HomewatcherModel", name := "isPupil", desc := "(I)Z" } : Jvm.MethodName)) ∈ lw_all := lw_g (lw_at lw_m10 9 rfl) rfl
theorem q2223 : (Jvm.Cond.privateMethod ({ cls := "HomewatcherModel", name := "isPupil", desc := "(I)Z" } : Jvm.MethodName)) ∈ lw_tbl := lw_at lw_m10 10 rfl
theorem q2224 : (Jvm.Cond.instanceMethod ({ cls := "HomewatcherModel", name := "isPupil", desc := "(I)Z" } : Jvm.MethodName)) ∈ lw_all := lw_g (lw_at lw_m10 11 rfl) rfl
theorem q2225 : (Jvm.Cond.code ({ cls := "HomewatcherModel", name := "isPupil", desc := "(I)Z" } : Jvm.MethodName) prog_7_method_23_code (2 : Nat) (Option.some Jvm.ClassFile.FieldType.boolean)) ∈ lw_all := lw_g (lw_at lw_m10 12 rfl) rfl
theorem q2226 : (Jvm.Cond.methodLink "HomewatcherModel" (162 : Nat) ({ cls := "HomewatcherModel", name := "isTask", desc := "(I)Z" } : Jvm.MethodName)) ∈ lw_all := lw_g (lw_at lw_m10 13 rfl) rfl
theorem q2227 : (Jvm.Cond.privateMethod ({ cls := "HomewatcherModel", name := "isTask", desc := "(I)Z" } : Jvm.MethodName)) ∈ lw_tbl := lw_at lw_m10 14 rfl
theorem q2228 : (Jvm.Cond.instanceMethod ({ cls := "HomewatcherModel", name := "isTask", desc := "(I)Z" } : Jvm.MethodName)) ∈ lw_all := lw_g (lw_at lw_m10 15 rfl) rfl
theorem q2229 : (Jvm.Cond.code ({ cls := "HomewatcherModel", name := "isTask", desc := "(I)Z" } : Jvm.MethodName) prog_7_method_24_code (2 : Nat) (Option.some Jvm.ClassFile.FieldType.boolean)) ∈ lw_all := lw_g (lw_at lw_m10 16 rfl) rfl
theorem q2230 : (Jvm.Cond.methodLink "HomewatcherModel" (165 : Nat) ({ cls := "HomewatcherModel", name := "isVersion", desc := "(I)Z" } : Jvm.MethodName)) ∈ lw_all := lw_g (lw_at lw_m10 17 rfl) rfl
theorem q2231 : (Jvm.Cond.privateMethod ({ cls := "HomewatcherModel", name := "isVersion", desc := "(I)Z" } : Jvm.MethodName)) ∈ lw_tbl := lw_at lw_m10 18 rfl
theorem q2232 : (Jvm.Cond.instanceMethod ({ cls := "HomewatcherModel", name := "isVersion", desc := "(I)Z" } : Jvm.MethodName)) ∈ lw_all := lw_g (lw_at lw_m10 19 rfl) rfl
theorem q2233 : (Jvm.Cond.code ({ cls := "HomewatcherModel", name := "isVersion", desc := "(I)Z" } : Jvm.MethodName) prog_7_method_25_code (2 : Nat) (Option.some Jvm.ClassFile.FieldType.boolean)) ∈ lw_all := lw_g (lw_at lw_m10 20 rfl) rfl
theorem q2234 : (Jvm.Cond.methodLink "HomewatcherModel" (168 : Nat) ({ cls := "HomewatcherModel", name := "finds", desc := "(I)V" } : Jvm.MethodName)) ∈ lw_all := lw_g (lw_at lw_m10 21 rfl) rfl
theorem q2235 : (Jvm.Cond.privateMethod ({ cls := "HomewatcherModel", name := "finds", desc := "(I)V" } : Jvm.MethodName)) ∈ lw_tbl := lw_at lw_m10 22 rfl
theorem q2236 : (Jvm.Cond.instanceMethod ({ cls := "HomewatcherModel", name := "finds", desc := "(I)V" } : Jvm.MethodName)) ∈ lw_all := lw_g (lw_at lw_m10 23 rfl) rfl
theorem q2237 : (Jvm.Cond.code ({ cls := "HomewatcherModel", name := "finds", desc := "(I)V" } : Jvm.MethodName) prog_7_method_27_code (8 : Nat) (Option.none : Option Jvm.ClassFile.FieldType)) ∈ lw_all := lw_g (lw_at lw_m10 24 rfl) rfl
theorem q2238 : (Jvm.Cond.methodLink "HomewatcherModel" (155 : Nat) ({ cls := "HomewatcherModel", name := "turned", desc := "(I)I" } : Jvm.MethodName)) ∈ lw_all := lw_g (lw_at lw_m10 25 rfl) rfl
theorem q2239 : (Jvm.Cond.static ({ cls := "HomewatcherModel", name := "turned", desc := "(I)I" } : Jvm.MethodName)) ∈ lw_all := lw_g (lw_at lw_m10 26 rfl) rfl
theorem q2240 : (Jvm.Cond.code ({ cls := "HomewatcherModel", name := "turned", desc := "(I)I" } : Jvm.MethodName) prog_7_method_26_code (1 : Nat) (Option.some Jvm.ClassFile.FieldType.int)) ∈ lw_all := lw_g (lw_at lw_m10 27 rfl) rfl
theorem q2241 : (Jvm.Cond.constant "HomewatcherModel" (158 : Nat) (1048575 : Int32)) ∈ lw_all := lw_g (lw_at lw_m10 28 rfl) rfl
theorem q2243 : (Jvm.Cond.instanceMethod ({ cls := "HomewatcherModel", name := "of", desc := "(IC)I" } : Jvm.MethodName)) ∈ lw_all := lw_g (lw_at lw_m10 30 rfl) rfl
theorem q2244 : (Jvm.Cond.selects "HomewatcherModel" ({ cls := "HomewatcherModel", name := "of", desc := "(IC)I" } : Jvm.MethodName) ({ cls := "HomewatcherModel", name := "of", desc := "(IC)I" } : Jvm.MethodName)) ∈ lw_all := lw_g (lw_at lw_m10 31 rfl) rfl
theorem q2245 : (Jvm.Cond.code ({ cls := "HomewatcherModel", name := "of", desc := "(IC)I" } : Jvm.MethodName) prog_7_method_30_code (3 : Nat) (Option.some Jvm.ClassFile.FieldType.int)) ∈ lw_all := lw_g (lw_at lw_m10 32 rfl) rfl
theorem q2246 : (Jvm.Cond.methodLink "HomewatcherModel" (172 : Nat) ({ cls := "HomewatcherModel", name := "charsOfVersion", desc := "(I)I" } : Jvm.MethodName)) ∈ lw_all := lw_g (lw_at lw_m10 33 rfl) rfl
theorem q2247 : (Jvm.Cond.privateMethod ({ cls := "HomewatcherModel", name := "charsOfVersion", desc := "(I)I" } : Jvm.MethodName)) ∈ lw_tbl := lw_at lw_m10 34 rfl
theorem q2248 : (Jvm.Cond.instanceMethod ({ cls := "HomewatcherModel", name := "charsOfVersion", desc := "(I)I" } : Jvm.MethodName)) ∈ lw_all := lw_g (lw_at lw_m10 35 rfl) rfl
theorem q2249 : (Jvm.Cond.code ({ cls := "HomewatcherModel", name := "charsOfVersion", desc := "(I)I" } : Jvm.MethodName) prog_7_method_29_code (4 : Nat) (Option.some Jvm.ClassFile.FieldType.int)) ∈ lw_all := lw_g (lw_at lw_m10 36 rfl) rfl
theorem q2251 : (Jvm.Cond.instanceMethod ({ cls := "HomewatcherModel", name := "forks", desc := "(I)I" } : Jvm.MethodName)) ∈ lw_all := lw_g (lw_at lw_m10 38 rfl) rfl
theorem q2252 : (Jvm.Cond.selects "HomewatcherModel" ({ cls := "HomewatcherModel", name := "forks", desc := "(I)I" } : Jvm.MethodName) ({ cls := "HomewatcherModel", name := "forks", desc := "(I)I" } : Jvm.MethodName)) ∈ lw_all := lw_g (lw_at lw_m10 39 rfl) rfl
theorem q2253 : (Jvm.Cond.code ({ cls := "HomewatcherModel", name := "forks", desc := "(I)I" } : Jvm.MethodName) prog_7_method_31_code (5 : Nat) (Option.some Jvm.ClassFile.FieldType.int)) ∈ lw_all := lw_g (lw_at lw_m10 40 rfl) rfl
theorem q2255 : (Jvm.Cond.instanceMethod ({ cls := "HomewatcherModel", name := "heads", desc := "(II)I" } : Jvm.MethodName)) ∈ lw_all := lw_g (lw_at lw_m10 42 rfl) rfl
theorem q2256 : (Jvm.Cond.selects "HomewatcherModel" ({ cls := "HomewatcherModel", name := "heads", desc := "(II)I" } : Jvm.MethodName) ({ cls := "HomewatcherModel", name := "heads", desc := "(II)I" } : Jvm.MethodName)) ∈ lw_all := lw_g (lw_at lw_m10 43 rfl) rfl
theorem q2257 : (Jvm.Cond.code ({ cls := "HomewatcherModel", name := "heads", desc := "(II)I" } : Jvm.MethodName) prog_7_method_32_code (7 : Nat) (Option.some Jvm.ClassFile.FieldType.int)) ∈ lw_all := lw_g (lw_at lw_m10 44 rfl) rfl
theorem q2259 : (Jvm.Cond.instanceMethod ({ cls := "HomewatcherModel", name := "hand", desc := "(I)I" } : Jvm.MethodName)) ∈ lw_all := lw_g (lw_at lw_m10 46 rfl) rfl
theorem q2260 : (Jvm.Cond.selects "HomewatcherModel" ({ cls := "HomewatcherModel", name := "hand", desc := "(I)I" } : Jvm.MethodName) ({ cls := "HomewatcherModel", name := "hand", desc := "(I)I" } : Jvm.MethodName)) ∈ lw_all := lw_g (lw_at lw_m10 47 rfl) rfl
theorem q2261 : (Jvm.Cond.code ({ cls := "HomewatcherModel", name := "hand", desc := "(I)I" } : Jvm.MethodName) prog_7_method_34_code (4 : Nat) (Option.some Jvm.ClassFile.FieldType.int)) ∈ lw_all := lw_g (lw_at lw_m10 48 rfl) rfl
theorem q2262 : (Jvm.Cond.methodLink "HomewatcherModel" (175 : Nat) ({ cls := "HomewatcherModel", name := "isHit", desc := "(II)Z" } : Jvm.MethodName)) ∈ lw_all := lw_g (lw_at lw_m10 49 rfl) rfl
theorem q2263 : (Jvm.Cond.privateMethod ({ cls := "HomewatcherModel", name := "isHit", desc := "(II)Z" } : Jvm.MethodName)) ∈ lw_tbl := lw_at lw_m10 50 rfl
theorem q2264 : (Jvm.Cond.instanceMethod ({ cls := "HomewatcherModel", name := "isHit", desc := "(II)Z" } : Jvm.MethodName)) ∈ lw_all := lw_g (lw_at lw_m10 51 rfl) rfl
theorem q2265 : (Jvm.Cond.code ({ cls := "HomewatcherModel", name := "isHit", desc := "(II)Z" } : Jvm.MethodName) prog_7_method_35_code (3 : Nat) (Option.some Jvm.ClassFile.FieldType.boolean)) ∈ lw_all := lw_g (lw_at lw_m10 52 rfl) rfl
theorem q2266 : (Jvm.Cond.methodLink "HomewatcherModel" (179 : Nat) ({ cls := "HomewatcherModel", name := "common", desc := "(II)I" } : Jvm.MethodName)) ∈ lw_all := lw_g (lw_at lw_m10 53 rfl) rfl
theorem q2267 : (Jvm.Cond.privateMethod ({ cls := "HomewatcherModel", name := "common", desc := "(II)I" } : Jvm.MethodName)) ∈ lw_tbl := lw_at lw_m10 54 rfl
theorem q2268 : (Jvm.Cond.instanceMethod ({ cls := "HomewatcherModel", name := "common", desc := "(II)I" } : Jvm.MethodName)) ∈ lw_all := lw_g (lw_at lw_m10 55 rfl) rfl
theorem q2269 : (Jvm.Cond.code ({ cls := "HomewatcherModel", name := "common", desc := "(II)I" } : Jvm.MethodName) prog_7_method_33_code (6 : Nat) (Option.some Jvm.ClassFile.FieldType.int)) ∈ lw_all := lw_g (lw_at lw_m10 56 rfl) rfl
theorem q2271 : (Jvm.Cond.instanceMethod ({ cls := "HomewatcherModel", name := "withdraw", desc := "(I)Z" } : Jvm.MethodName)) ∈ lw_all := lw_g (lw_at lw_m10 58 rfl) rfl
theorem q2272 : (Jvm.Cond.selects "HomewatcherModel" ({ cls := "HomewatcherModel", name := "withdraw", desc := "(I)Z" } : Jvm.MethodName) ({ cls := "HomewatcherModel", name := "withdraw", desc := "(I)Z" } : Jvm.MethodName)) ∈ lw_all := lw_g (lw_at lw_m10 59 rfl) rfl
theorem q2273 : (Jvm.Cond.code ({ cls := "HomewatcherModel", name := "withdraw", desc := "(I)Z" } : Jvm.MethodName) prog_7_method_38_code (2 : Nat) (Option.some Jvm.ClassFile.FieldType.boolean)) ∈ lw_all := lw_g (lw_at lw_m10 60 rfl) rfl
theorem q2274 : (Jvm.Cond.methodLink "HomewatcherModel" (182 : Nat) ({ cls := "HomewatcherModel", name := "clockOf", desc := "(I)I" } : Jvm.MethodName)) ∈ lw_all := lw_g (lw_at lw_m10 61 rfl) rfl
theorem q2275 : (Jvm.Cond.privateMethod ({ cls := "HomewatcherModel", name := "clockOf", desc := "(I)I" } : Jvm.MethodName)) ∈ lw_tbl := lw_at lw_m10 62 rfl
theorem q2276 : (Jvm.Cond.instanceMethod ({ cls := "HomewatcherModel", name := "clockOf", desc := "(I)I" } : Jvm.MethodName)) ∈ lw_all := lw_g (lw_at lw_m10 63 rfl) rfl
theorem q2277 : (Jvm.Cond.code ({ cls := "HomewatcherModel", name := "clockOf", desc := "(I)I" } : Jvm.MethodName) prog_7_method_36_code (2 : Nat) (Option.some Jvm.ClassFile.FieldType.int)) ∈ lw_all := lw_g (lw_at lw_m10 64 rfl) rfl
theorem q2278 : (Jvm.Cond.methodLink "HomewatcherModel" (185 : Nat) ({ cls := "HomewatcherModel", name := "countingOf", desc := "(II)I" } : Jvm.MethodName)) ∈ lw_all := lw_g (lw_at lw_m10 65 rfl) rfl
theorem q2279 : (Jvm.Cond.privateMethod ({ cls := "HomewatcherModel", name := "countingOf", desc := "(II)I" } : Jvm.MethodName)) ∈ lw_tbl := lw_at lw_m10 66 rfl
theorem q2280 : (Jvm.Cond.instanceMethod ({ cls := "HomewatcherModel", name := "countingOf", desc := "(II)I" } : Jvm.MethodName)) ∈ lw_all := lw_g (lw_at lw_m10 67 rfl) rfl
theorem q2281 : (Jvm.Cond.code ({ cls := "HomewatcherModel", name := "countingOf", desc := "(II)I" } : Jvm.MethodName) prog_7_method_37_code (6 : Nat) (Option.some Jvm.ClassFile.FieldType.int)) ∈ lw_all := lw_g (lw_at lw_m10 68 rfl) rfl
theorem q2283 : (Jvm.Cond.instanceMethod ({ cls := "HomewatcherModel", name := "isIn", desc := "(I)Z" } : Jvm.MethodName)) ∈ lw_all := lw_g (lw_at lw_m10 70 rfl) rfl
theorem q2284 : (Jvm.Cond.selects "HomewatcherModel" ({ cls := "HomewatcherModel", name := "isIn", desc := "(I)Z" } : Jvm.MethodName) ({ cls := "HomewatcherModel", name := "isIn", desc := "(I)Z" } : Jvm.MethodName)) ∈ lw_all := lw_g (lw_at lw_m10 71 rfl) rfl
theorem q2285 : (Jvm.Cond.code ({ cls := "HomewatcherModel", name := "isIn", desc := "(I)Z" } : Jvm.MethodName) prog_7_method_39_code (2 : Nat) (Option.some Jvm.ClassFile.FieldType.boolean)) ∈ lw_all := lw_g (lw_at lw_m10 72 rfl) rfl
theorem q2287 : (Jvm.Cond.instanceMethod ({ cls := "HomewatcherModel", name := "late", desc := "(I)I" } : Jvm.MethodName)) ∈ lw_all := lw_g (lw_at lw_m10 74 rfl) rfl
theorem q2288 : (Jvm.Cond.selects "HomewatcherModel" ({ cls := "HomewatcherModel", name := "late", desc := "(I)I" } : Jvm.MethodName) ({ cls := "HomewatcherModel", name := "late", desc := "(I)I" } : Jvm.MethodName)) ∈ lw_all := lw_g (lw_at lw_m10 75 rfl) rfl
theorem q2289 : (Jvm.Cond.code ({ cls := "HomewatcherModel", name := "late", desc := "(I)I" } : Jvm.MethodName) prog_7_method_42_code (2 : Nat) (Option.some Jvm.ClassFile.FieldType.int)) ∈ lw_all := lw_g (lw_at lw_m10 76 rfl) rfl
theorem q2290 : (Jvm.Cond.methodLink "HomewatcherModel" (197 : Nat) ({ cls := "HomewatcherModel", name := "lateOf", desc := "(I)I" } : Jvm.MethodName)) ∈ lw_all := lw_g (lw_at lw_m10 77 rfl) rfl
theorem q2291 : (Jvm.Cond.privateMethod ({ cls := "HomewatcherModel", name := "lateOf", desc := "(I)I" } : Jvm.MethodName)) ∈ lw_tbl := lw_at lw_m10 78 rfl
theorem q2292 : (Jvm.Cond.instanceMethod ({ cls := "HomewatcherModel", name := "lateOf", desc := "(I)I" } : Jvm.MethodName)) ∈ lw_all := lw_g (lw_at lw_m10 79 rfl) rfl
theorem q2293 : (Jvm.Cond.code ({ cls := "HomewatcherModel", name := "lateOf", desc := "(I)I" } : Jvm.MethodName) prog_7_method_41_code (4 : Nat) (Option.some Jvm.ClassFile.FieldType.int)) ∈ lw_all := lw_g (lw_at lw_m10 80 rfl) rfl
theorem q2294 : (Jvm.Cond.methodLink "HomewatcherModel" (191 : Nat) ({ cls := "HomewatcherModel", name := "ownLate", desc := "(I)I" } : Jvm.MethodName)) ∈ lw_all := lw_g (lw_at lw_m10 81 rfl) rfl
theorem q2295 : (Jvm.Cond.privateMethod ({ cls := "HomewatcherModel", name := "ownLate", desc := "(I)I" } : Jvm.MethodName)) ∈ lw_tbl := lw_at lw_m10 82 rfl
theorem q2296 : (Jvm.Cond.instanceMethod ({ cls := "HomewatcherModel", name := "ownLate", desc := "(I)I" } : Jvm.MethodName)) ∈ lw_all := lw_g (lw_at lw_m10 83 rfl) rfl
theorem q2297 : (Jvm.Cond.code ({ cls := "HomewatcherModel", name := "ownLate", desc := "(I)I" } : Jvm.MethodName) prog_7_method_40_code (2 : Nat) (Option.some Jvm.ClassFile.FieldType.int)) ∈ lw_all := lw_g (lw_at lw_m10 84 rfl) rfl
theorem q2298 : (Jvm.Cond.methodLink "HomewatcherModel" (188 : Nat) ({ cls := "HomewatcherModel", name := "greater", desc := "(II)I" } : Jvm.MethodName)) ∈ lw_all := lw_g (lw_at lw_m10 85 rfl) rfl
theorem q2299 : (Jvm.Cond.static ({ cls := "HomewatcherModel", name := "greater", desc := "(II)I" } : Jvm.MethodName)) ∈ lw_all := lw_g (lw_at lw_m10 86 rfl) rfl
theorem q2300 : (Jvm.Cond.code ({ cls := "HomewatcherModel", name := "greater", desc := "(II)I" } : Jvm.MethodName) prog_7_method_3_code (2 : Nat) (Option.some Jvm.ClassFile.FieldType.int)) ∈ lw_all := lw_g (lw_at lw_m10 87 rfl) rfl
theorem q2301 : (Jvm.Cond.methodLink "HomewatcherModel" (194 : Nat) ({ cls := "HomewatcherModel", name := "lesser", desc := "(II)I" } : Jvm.MethodName)) ∈ lw_all := lw_g (lw_at lw_m10 88 rfl) rfl
theorem q2302 : (Jvm.Cond.static ({ cls := "HomewatcherModel", name := "lesser", desc := "(II)I" } : Jvm.MethodName)) ∈ lw_all := lw_g (lw_at lw_m10 89 rfl) rfl
theorem q2303 : (Jvm.Cond.code ({ cls := "HomewatcherModel", name := "lesser", desc := "(II)I" } : Jvm.MethodName) prog_7_method_4_code (2 : Nat) (Option.some Jvm.ClassFile.FieldType.int)) ∈ lw_all := lw_g (lw_at lw_m10 90 rfl) rfl
theorem q2305 : (Jvm.Cond.instanceMethod ({ cls := "HomewatcherModel", name := "off", desc := "(II)I" } : Jvm.MethodName)) ∈ lw_all := lw_g (lw_at lw_m10 92 rfl) rfl
theorem q2306 : (Jvm.Cond.selects "HomewatcherModel" ({ cls := "HomewatcherModel", name := "off", desc := "(II)I" } : Jvm.MethodName) ({ cls := "HomewatcherModel", name := "off", desc := "(II)I" } : Jvm.MethodName)) ∈ lw_all := lw_g (lw_at lw_m10 93 rfl) rfl
theorem q2307 : (Jvm.Cond.code ({ cls := "HomewatcherModel", name := "off", desc := "(II)I" } : Jvm.MethodName) prog_7_method_44_code (3 : Nat) (Option.some Jvm.ClassFile.FieldType.int)) ∈ lw_all := lw_g (lw_at lw_m10 94 rfl) rfl
theorem q2308 : (Jvm.Cond.methodLink "HomewatcherModel" (200 : Nat) ({ cls := "HomewatcherModel", name := "offOf", desc := "(II)I" } : Jvm.MethodName)) ∈ lw_all := lw_g (lw_at lw_m10 95 rfl) rfl
theorem q2309 : (Jvm.Cond.privateMethod ({ cls := "HomewatcherModel", name := "offOf", desc := "(II)I" } : Jvm.MethodName)) ∈ lw_tbl := lw_at lw_m10 96 rfl
theorem q2310 : (Jvm.Cond.instanceMethod ({ cls := "HomewatcherModel", name := "offOf", desc := "(II)I" } : Jvm.MethodName)) ∈ lw_all := lw_g (lw_at lw_m10 97 rfl) rfl
theorem q2311 : (Jvm.Cond.code ({ cls := "HomewatcherModel", name := "offOf", desc := "(II)I" } : Jvm.MethodName) prog_7_method_43_code (4 : Nat) (Option.some Jvm.ClassFile.FieldType.int)) ∈ lw_all := lw_g (lw_at lw_m10 98 rfl) rfl
theorem q2313 : (Jvm.Cond.instanceMethod ({ cls := "HomewatcherModel", name := "points", desc := "(II)I" } : Jvm.MethodName)) ∈ lw_all := lw_g (lw_at lw_m10 100 rfl) rfl
theorem q2314 : (Jvm.Cond.selects "HomewatcherModel" ({ cls := "HomewatcherModel", name := "points", desc := "(II)I" } : Jvm.MethodName) ({ cls := "HomewatcherModel", name := "points", desc := "(II)I" } : Jvm.MethodName)) ∈ lw_all := lw_g (lw_at lw_m10 101 rfl) rfl
theorem q2315 : (Jvm.Cond.code ({ cls := "HomewatcherModel", name := "points", desc := "(II)I" } : Jvm.MethodName) prog_7_method_45_code (4 : Nat) (Option.some Jvm.ClassFile.FieldType.int)) ∈ lw_all := lw_g (lw_at lw_m10 102 rfl) rfl
theorem q2317 : (Jvm.Cond.instanceMethod ({ cls := "HomewatcherModel", name := "counting", desc := "(II)I" } : Jvm.MethodName)) ∈ lw_all := lw_g (lw_at lw_m10 104 rfl) rfl
theorem q2318 : (Jvm.Cond.selects "HomewatcherModel" ({ cls := "HomewatcherModel", name := "counting", desc := "(II)I" } : Jvm.MethodName) ({ cls := "HomewatcherModel", name := "counting", desc := "(II)I" } : Jvm.MethodName)) ∈ lw_all := lw_g (lw_at lw_m10 105 rfl) rfl
theorem q2319 : (Jvm.Cond.code ({ cls := "HomewatcherModel", name := "counting", desc := "(II)I" } : Jvm.MethodName) prog_7_method_46_code (4 : Nat) (Option.some Jvm.ClassFile.FieldType.int)) ∈ lw_all := lw_g (lw_at lw_m10 106 rfl) rfl
theorem q2321 : (Jvm.Cond.instanceMethod ({ cls := "HomewatcherModel", name := "mark", desc := "(II)I" } : Jvm.MethodName)) ∈ lw_all := lw_g (lw_at lw_m10 108 rfl) rfl
theorem q2322 : (Jvm.Cond.selects "HomewatcherModel" ({ cls := "HomewatcherModel", name := "mark", desc := "(II)I" } : Jvm.MethodName) ({ cls := "HomewatcherModel", name := "mark", desc := "(II)I" } : Jvm.MethodName)) ∈ lw_all := lw_g (lw_at lw_m10 109 rfl) rfl
theorem q2323 : (Jvm.Cond.code ({ cls := "HomewatcherModel", name := "mark", desc := "(II)I" } : Jvm.MethodName) prog_7_method_49_code (3 : Nat) (Option.some Jvm.ClassFile.FieldType.int)) ∈ lw_all := lw_g (lw_at lw_m10 110 rfl) rfl
theorem q2324 : (Jvm.Cond.methodLink "HomewatcherModel" (203 : Nat) ({ cls := "HomewatcherModel", name := "isFrozenOf", desc := "(II)Z" } : Jvm.MethodName)) ∈ lw_all := lw_g (lw_at lw_m10 111 rfl) rfl
theorem q2325 : (Jvm.Cond.privateMethod ({ cls := "HomewatcherModel", name := "isFrozenOf", desc := "(II)Z" } : Jvm.MethodName)) ∈ lw_tbl := lw_at lw_m10 112 rfl
theorem q2326 : (Jvm.Cond.instanceMethod ({ cls := "HomewatcherModel", name := "isFrozenOf", desc := "(II)Z" } : Jvm.MethodName)) ∈ lw_all := lw_g (lw_at lw_m10 113 rfl) rfl
theorem q2327 : (Jvm.Cond.code ({ cls := "HomewatcherModel", name := "isFrozenOf", desc := "(II)Z" } : Jvm.MethodName) prog_7_method_47_code (7 : Nat) (Option.some Jvm.ClassFile.FieldType.boolean)) ∈ lw_all := lw_g (lw_at lw_m10 114 rfl) rfl
theorem q2328 : (Jvm.Cond.methodLink "HomewatcherModel" (206 : Nat) ({ cls := "HomewatcherModel", name := "markOf", desc := "(II)I" } : Jvm.MethodName)) ∈ lw_all := lw_g (lw_at lw_m10 115 rfl) rfl
theorem q2329 : (Jvm.Cond.privateMethod ({ cls := "HomewatcherModel", name := "markOf", desc := "(II)I" } : Jvm.MethodName)) ∈ lw_tbl := lw_at lw_m10 116 rfl
theorem q2330 : (Jvm.Cond.instanceMethod ({ cls := "HomewatcherModel", name := "markOf", desc := "(II)I" } : Jvm.MethodName)) ∈ lw_all := lw_g (lw_at lw_m10 117 rfl) rfl
theorem q2331 : (Jvm.Cond.code ({ cls := "HomewatcherModel", name := "markOf", desc := "(II)I" } : Jvm.MethodName) prog_7_method_48_code (4 : Nat) (Option.some Jvm.ClassFile.FieldType.int)) ∈ lw_all := lw_g (lw_at lw_m10 118 rfl) rfl
theorem q2333 : (Jvm.Cond.instanceMethod ({ cls := "HomewatcherModel", name := "isFrozen", desc := "(II)Z" } : Jvm.MethodName)) ∈ lw_all := lw_g (lw_at lw_m10 120 rfl) rfl
theorem q2334 : (Jvm.Cond.selects "HomewatcherModel" ({ cls := "HomewatcherModel", name := "isFrozen", desc := "(II)Z" } : Jvm.MethodName) ({ cls := "HomewatcherModel", name := "isFrozen", desc := "(II)Z" } : Jvm.MethodName)) ∈ lw_all := lw_g (lw_at lw_m10 121 rfl) rfl
theorem q2335 : (Jvm.Cond.code ({ cls := "HomewatcherModel", name := "isFrozen", desc := "(II)Z" } : Jvm.MethodName) prog_7_method_50_code (3 : Nat) (Option.some Jvm.ClassFile.FieldType.boolean)) ∈ lw_all := lw_g (lw_at lw_m10 122 rfl) rfl
theorem q2337 : (Jvm.Cond.instanceMethod ({ cls := "HomewatcherModel", name := "shared", desc := "(II)I" } : Jvm.MethodName)) ∈ lw_all := lw_g (lw_at lw_m10 124 rfl) rfl
theorem q2338 : (Jvm.Cond.selects "HomewatcherModel" ({ cls := "HomewatcherModel", name := "shared", desc := "(II)I" } : Jvm.MethodName) ({ cls := "HomewatcherModel", name := "shared", desc := "(II)I" } : Jvm.MethodName)) ∈ lw_all := lw_g (lw_at lw_m10 125 rfl) rfl
theorem q2339 : (Jvm.Cond.code ({ cls := "HomewatcherModel", name := "shared", desc := "(II)I" } : Jvm.MethodName) prog_7_method_51_code (3 : Nat) (Option.some Jvm.ClassFile.FieldType.int)) ∈ lw_all := lw_g (lw_at lw_m10 126 rfl) rfl
theorem q2341 : (Jvm.Cond.instanceMethod ({ cls := "HomewatcherModel", name := "shingle", desc := "(II)I" } : Jvm.MethodName)) ∈ lw_all := lw_g (lw_at lw_m10 128 rfl) rfl
theorem q2342 : (Jvm.Cond.selects "HomewatcherModel" ({ cls := "HomewatcherModel", name := "shingle", desc := "(II)I" } : Jvm.MethodName) ({ cls := "HomewatcherModel", name := "shingle", desc := "(II)I" } : Jvm.MethodName)) ∈ lw_all := lw_g (lw_at lw_m10 129 rfl) rfl
theorem q2343 : (Jvm.Cond.code ({ cls := "HomewatcherModel", name := "shingle", desc := "(II)I" } : Jvm.MethodName) prog_7_method_52_code (3 : Nat) (Option.some Jvm.ClassFile.FieldType.int)) ∈ lw_all := lw_g (lw_at lw_m10 130 rfl) rfl
theorem q2345 : (Jvm.Cond.instanceMethod ({ cls := "HomewatcherModel", name := "indexed", desc := "()I" } : Jvm.MethodName)) ∈ lw_all := lw_g (lw_at lw_m10 132 rfl) rfl
theorem q2346 : (Jvm.Cond.selects "HomewatcherModel" ({ cls := "HomewatcherModel", name := "indexed", desc := "()I" } : Jvm.MethodName) ({ cls := "HomewatcherModel", name := "indexed", desc := "()I" } : Jvm.MethodName)) ∈ lw_all := lw_g (lw_at lw_m10 133 rfl) rfl
theorem q2347 : (Jvm.Cond.code ({ cls := "HomewatcherModel", name := "indexed", desc := "()I" } : Jvm.MethodName) prog_7_method_54_code (4 : Nat) (Option.some Jvm.ClassFile.FieldType.int)) ∈ lw_all := lw_g (lw_at lw_m10 134 rfl) rfl
theorem q2348 : (Jvm.Cond.methodLink "HomewatcherModel" (209 : Nat) ({ cls := "HomewatcherModel", name := "holdersOf", desc := "(II)I" } : Jvm.MethodName)) ∈ lw_all := lw_g (lw_at lw_m10 135 rfl) rfl
theorem q2349 : (Jvm.Cond.privateMethod ({ cls := "HomewatcherModel", name := "holdersOf", desc := "(II)I" } : Jvm.MethodName)) ∈ lw_tbl := lw_at lw_m10 136 rfl
theorem q2350 : (Jvm.Cond.instanceMethod ({ cls := "HomewatcherModel", name := "holdersOf", desc := "(II)I" } : Jvm.MethodName)) ∈ lw_all := lw_g (lw_at lw_m10 137 rfl) rfl
theorem q2351 : (Jvm.Cond.code ({ cls := "HomewatcherModel", name := "holdersOf", desc := "(II)I" } : Jvm.MethodName) prog_7_method_53_code (6 : Nat) (Option.some Jvm.ClassFile.FieldType.int)) ∈ lw_all := lw_g (lw_at lw_m10 138 rfl) rfl
theorem q2353 : (Jvm.Cond.instanceMethod ({ cls := "HomewatcherModel", name := "holders", desc := "(I)I" } : Jvm.MethodName)) ∈ lw_all := lw_g (lw_at lw_m10 140 rfl) rfl
theorem q2354 : (Jvm.Cond.selects "HomewatcherModel" ({ cls := "HomewatcherModel", name := "holders", desc := "(I)I" } : Jvm.MethodName) ({ cls := "HomewatcherModel", name := "holders", desc := "(I)I" } : Jvm.MethodName)) ∈ lw_all := lw_g (lw_at lw_m10 141 rfl) rfl
theorem q2355 : (Jvm.Cond.code ({ cls := "HomewatcherModel", name := "holders", desc := "(I)I" } : Jvm.MethodName) prog_7_method_55_code (2 : Nat) (Option.some Jvm.ClassFile.FieldType.int)) ∈ lw_all := lw_g (lw_at lw_m10 142 rfl) rfl
theorem q2357 : (Jvm.Cond.instanceMethod ({ cls := "HomewatcherModel", name := "threshold", desc := "(I)I" } : Jvm.MethodName)) ∈ lw_all := lw_g (lw_at lw_m10 144 rfl) rfl
theorem q2358 : (Jvm.Cond.selects "HomewatcherModel" ({ cls := "HomewatcherModel", name := "threshold", desc := "(I)I" } : Jvm.MethodName) ({ cls := "HomewatcherModel", name := "threshold", desc := "(I)I" } : Jvm.MethodName)) ∈ lw_all := lw_g (lw_at lw_m10 145 rfl) rfl
theorem q2359 : (Jvm.Cond.code ({ cls := "HomewatcherModel", name := "threshold", desc := "(I)I" } : Jvm.MethodName) prog_7_method_56_code (3 : Nat) (Option.some Jvm.ClassFile.FieldType.int)) ∈ lw_all := lw_g (lw_at lw_m10 146 rfl) rfl
theorem q2361 : (Jvm.Cond.instanceMethod ({ cls := "HomewatcherModel", name := "hits", desc := "()I" } : Jvm.MethodName)) ∈ lw_all := lw_g (lw_at lw_m10 148 rfl) rfl
theorem q2362 : (Jvm.Cond.selects "HomewatcherModel" ({ cls := "HomewatcherModel", name := "hits", desc := "()I" } : Jvm.MethodName) ({ cls := "HomewatcherModel", name := "hits", desc := "()I" } : Jvm.MethodName)) ∈ lw_all := lw_g (lw_at lw_m10 149 rfl) rfl
theorem q2363 : (Jvm.Cond.code ({ cls := "HomewatcherModel", name := "hits", desc := "()I" } : Jvm.MethodName) prog_7_method_57_code (1 : Nat) (Option.some Jvm.ClassFile.FieldType.int)) ∈ lw_all := lw_g (lw_at lw_m10 150 rfl) rfl
theorem q2365 : (Jvm.Cond.instanceMethod ({ cls := "HomewatcherModel", name := "hit", desc := "(IC)I" } : Jvm.MethodName)) ∈ lw_all := lw_g (lw_at lw_m10 152 rfl) rfl
theorem q2366 : (Jvm.Cond.selects "HomewatcherModel" ({ cls := "HomewatcherModel", name := "hit", desc := "(IC)I" } : Jvm.MethodName) ({ cls := "HomewatcherModel", name := "hit", desc := "(IC)I" } : Jvm.MethodName)) ∈ lw_all := lw_g (lw_at lw_m10 153 rfl) rfl
theorem q2367 : (Jvm.Cond.code ({ cls := "HomewatcherModel", name := "hit", desc := "(IC)I" } : Jvm.MethodName) prog_7_method_58_code (3 : Nat) (Option.some Jvm.ClassFile.FieldType.int)) ∈ lw_all := lw_g (lw_at lw_m10 154 rfl) rfl
theorem q2369 : (Jvm.Cond.instanceMethod ({ cls := "HomewatcherModel", name := "hear", desc := "(II)I" } : Jvm.MethodName)) ∈ lw_all := lw_g (lw_at lw_m10 156 rfl) rfl
theorem q2370 : (Jvm.Cond.selects "HomewatcherModel" ({ cls := "HomewatcherModel", name := "hear", desc := "(II)I" } : Jvm.MethodName) ({ cls := "HomewatcherModel", name := "hear", desc := "(II)I" } : Jvm.MethodName)) ∈ lw_all := lw_g (lw_at lw_m10 157 rfl) rfl
theorem q2371 : (Jvm.Cond.code ({ cls := "HomewatcherModel", name := "hear", desc := "(II)I" } : Jvm.MethodName) prog_7_method_60_code (5 : Nat) (Option.some Jvm.ClassFile.FieldType.int)) ∈ lw_all := lw_g (lw_at lw_m10 158 rfl) rfl
theorem q2372 : (Jvm.Cond.methodLink "HomewatcherModel" (212 : Nat) ({ cls := "HomewatcherModel", name := "loses", desc := "(I)V" } : Jvm.MethodName)) ∈ lw_all := lw_g (lw_at lw_m10 159 rfl) rfl
theorem q2373 : (Jvm.Cond.privateMethod ({ cls := "HomewatcherModel", name := "loses", desc := "(I)V" } : Jvm.MethodName)) ∈ lw_tbl := lw_at lw_m10 160 rfl
theorem q2374 : (Jvm.Cond.instanceMethod ({ cls := "HomewatcherModel", name := "loses", desc := "(I)V" } : Jvm.MethodName)) ∈ lw_all := lw_g (lw_at lw_m10 161 rfl) rfl
theorem q2375 : (Jvm.Cond.code ({ cls := "HomewatcherModel", name := "loses", desc := "(I)V" } : Jvm.MethodName) prog_7_method_59_code (2 : Nat) (Option.none : Option Jvm.ClassFile.FieldType)) ∈ lw_all := lw_g (lw_at lw_m10 162 rfl) rfl
theorem q2377 : (Jvm.Cond.instanceMethod ({ cls := "HomewatcherModel", name := "next", desc := "()I" } : Jvm.MethodName)) ∈ lw_all := lw_g (lw_at lw_m10 164 rfl) rfl
theorem q2378 : (Jvm.Cond.selects "HomewatcherModel" ({ cls := "HomewatcherModel", name := "next", desc := "()I" } : Jvm.MethodName) ({ cls := "HomewatcherModel", name := "next", desc := "()I" } : Jvm.MethodName)) ∈ lw_all := lw_g (lw_at lw_m10 165 rfl) rfl
theorem q2379 : (Jvm.Cond.code ({ cls := "HomewatcherModel", name := "next", desc := "()I" } : Jvm.MethodName) prog_7_method_61_code (3 : Nat) (Option.some Jvm.ClassFile.FieldType.int)) ∈ lw_all := lw_g (lw_at lw_m10 166 rfl) rfl
theorem q2381 : (Jvm.Cond.instanceMethod ({ cls := "HomewatcherModel", name := "byteSum", desc := "(I)B" } : Jvm.MethodName)) ∈ lw_all := lw_g (lw_at lw_m10 168 rfl) rfl
theorem q2382 : (Jvm.Cond.selects "HomewatcherModel" ({ cls := "HomewatcherModel", name := "byteSum", desc := "(I)B" } : Jvm.MethodName) ({ cls := "HomewatcherModel", name := "byteSum", desc := "(I)B" } : Jvm.MethodName)) ∈ lw_all := lw_g (lw_at lw_m10 169 rfl) rfl
theorem q2383 : (Jvm.Cond.code ({ cls := "HomewatcherModel", name := "byteSum", desc := "(I)B" } : Jvm.MethodName) prog_7_method_63_code (2 : Nat) (Option.some Jvm.ClassFile.FieldType.byte)) ∈ lw_all := lw_g (lw_at lw_m10 170 rfl) rfl
theorem q2384 : (Jvm.Cond.methodLink "HomewatcherModel" (215 : Nat) ({ cls := "HomewatcherModel", name := "byteSumOf", desc := "(I)B" } : Jvm.MethodName)) ∈ lw_all := lw_g (lw_at lw_m10 171 rfl) rfl
theorem q2385 : (Jvm.Cond.privateMethod ({ cls := "HomewatcherModel", name := "byteSumOf", desc := "(I)B" } : Jvm.MethodName)) ∈ lw_tbl := lw_at lw_m10 172 rfl
theorem q2386 : (Jvm.Cond.instanceMethod ({ cls := "HomewatcherModel", name := "byteSumOf", desc := "(I)B" } : Jvm.MethodName)) ∈ lw_all := lw_g (lw_at lw_m10 173 rfl) rfl
theorem q2387 : (Jvm.Cond.code ({ cls := "HomewatcherModel", name := "byteSumOf", desc := "(I)B" } : Jvm.MethodName) prog_7_method_62_code (6 : Nat) (Option.some Jvm.ClassFile.FieldType.byte)) ∈ lw_all := lw_g (lw_at lw_m10 174 rfl) rfl
theorem q2389 : (Jvm.Cond.instanceMethod ({ cls := "HomewatcherModel", name := "shortSum", desc := "(I)S" } : Jvm.MethodName)) ∈ lw_all := lw_g (lw_at lw_m10 176 rfl) rfl
theorem q2390 : (Jvm.Cond.selects "HomewatcherModel" ({ cls := "HomewatcherModel", name := "shortSum", desc := "(I)S" } : Jvm.MethodName) ({ cls := "HomewatcherModel", name := "shortSum", desc := "(I)S" } : Jvm.MethodName)) ∈ lw_all := lw_g (lw_at lw_m10 177 rfl) rfl
theorem q2391 : (Jvm.Cond.code ({ cls := "HomewatcherModel", name := "shortSum", desc := "(I)S" } : Jvm.MethodName) prog_7_method_64_code (6 : Nat) (Option.some Jvm.ClassFile.FieldType.short)) ∈ lw_all := lw_g (lw_at lw_m10 178 rfl) rfl
theorem q2393 : (Jvm.Cond.instanceMethod ({ cls := "HomewatcherModel", name := "packed", desc := "(I)J" } : Jvm.MethodName)) ∈ lw_all := lw_g (lw_at lw_m10 180 rfl) rfl
theorem q2394 : (Jvm.Cond.selects "HomewatcherModel" ({ cls := "HomewatcherModel", name := "packed", desc := "(I)J" } : Jvm.MethodName) ({ cls := "HomewatcherModel", name := "packed", desc := "(I)J" } : Jvm.MethodName)) ∈ lw_all := lw_g (lw_at lw_m10 181 rfl) rfl
theorem q2395 : (Jvm.Cond.code ({ cls := "HomewatcherModel", name := "packed", desc := "(I)J" } : Jvm.MethodName) prog_7_method_65_code (4 : Nat) (Option.some Jvm.ClassFile.FieldType.long)) ∈ lw_all := lw_g (lw_at lw_m10 182 rfl) rfl
theorem q2397 : (Jvm.Cond.instanceMethod ({ cls := "HomewatcherModel", name := "inShare", desc := "()F" } : Jvm.MethodName)) ∈ lw_all := lw_g (lw_at lw_m10 184 rfl) rfl
theorem q2398 : (Jvm.Cond.selects "HomewatcherModel" ({ cls := "HomewatcherModel", name := "inShare", desc := "()F" } : Jvm.MethodName) ({ cls := "HomewatcherModel", name := "inShare", desc := "()F" } : Jvm.MethodName)) ∈ lw_all := lw_g (lw_at lw_m10 185 rfl) rfl
theorem q2399 : (Jvm.Cond.code ({ cls := "HomewatcherModel", name := "inShare", desc := "()F" } : Jvm.MethodName) prog_7_method_66_code (3 : Nat) (Option.some Jvm.ClassFile.FieldType.float)) ∈ lw_all := lw_g (lw_at lw_m10 186 rfl) rfl
theorem q2401 : (Jvm.Cond.instanceMethod ({ cls := "HomewatcherModel", name := "meanMark", desc := "()D" } : Jvm.MethodName)) ∈ lw_all := lw_g (lw_at lw_m10 188 rfl) rfl
theorem q2402 : (Jvm.Cond.selects "HomewatcherModel" ({ cls := "HomewatcherModel", name := "meanMark", desc := "()D" } : Jvm.MethodName) ({ cls := "HomewatcherModel", name := "meanMark", desc := "()D" } : Jvm.MethodName)) ∈ lw_all := lw_g (lw_at lw_m10 189 rfl) rfl
theorem q2403 : (Jvm.Cond.code ({ cls := "HomewatcherModel", name := "meanMark", desc := "()D" } : Jvm.MethodName) prog_7_method_67_code (5 : Nat) (Option.some Jvm.ClassFile.FieldType.double)) ∈ lw_all := lw_g (lw_at lw_m10 190 rfl) rfl
theorem q2405 : (Jvm.Cond.instanceMethod ({ cls := "HomewatcherModel", name := "isTrue", desc := "()Z" } : Jvm.MethodName)) ∈ lw_all := lw_g (lw_at lw_m10 192 rfl) rfl
theorem q2406 : (Jvm.Cond.selects "HomewatcherModel" ({ cls := "HomewatcherModel", name := "isTrue", desc := "()Z" } : Jvm.MethodName) ({ cls := "HomewatcherModel", name := "isTrue", desc := "()Z" } : Jvm.MethodName)) ∈ lw_all := lw_g (lw_at lw_m10 193 rfl) rfl
theorem q2407 : (Jvm.Cond.code ({ cls := "HomewatcherModel", name := "isTrue", desc := "()Z" } : Jvm.MethodName) prog_7_method_68_code (1 : Nat) (Option.some Jvm.ClassFile.FieldType.boolean)) ∈ lw_all := lw_g (lw_at lw_m10 194 rfl) rfl
theorem q2436 : (Jvm.Cond.castable "HomewatcherModel" "java/lang/Object") ∈ lw_tbl := lw_at lw_m10 223 rfl
theorem in_X2 : ∀ w ∈ wsX20, w ∈ lw_all := lw_in wsX20 [2067, 2069, 2071, 2073, 2075, 2077, 2079, 2081, 2083, 2085, 2087, 2089, 2091, 2093, 2095, 2097, 2099, 2101, 2103, 2105, 2107, 2109, 2111, 2113, 2115, 2117, 2119, 2121, 2123, 2125, 2127, 2129, 2131, 2133, 2135] (by decide +kernel) (by decide +kernel)
/-! Homewatcher$Task -/
set_option maxRecDepth 100000
def RX3 : String := "Homewatcher$Task"
def TX3 : u_T := fun k => match k with
  | 0 => ("Homewatcher$Task", "number", "I", true)
  | 1 => ("Homewatcher$Task", "classroom", "I", true)
  | 2 => ("Homewatcher$Task", "due", "I", true)
  | 3 => ("Homewatcher$Task", "full", "I", true)
  | _ => ("Homewatcher$Task", "rule", "LHomewatcher$Rule;", true)
def tyX3 : Nat → FieldType := fun k => match k with
  | 0 => .int
  | 1 => .int
  | 2 => .int
  | 3 => .int
  | _ => .object "Homewatcher$Rule"
abbrev wsX30 : List Cond := u_ws RX3 TX3 5
theorem nmX3 : ∀ a, a < 5 → ∀ b, b < 5 → a ≠ b → (TX3 a).2.1 ≠ (TX3 b).2.1 := by decide +kernel
theorem tyX3_ok : ∀ k, k < 5 → parseFieldDescriptor (TX3 k).2.2.1 = some (tyX3 k) := by decide +kernel
abbrev cX3_init : ByteArray := prog_4_method_1_code
def yX3_init : MethodName := ⟨RX3, "<init>", "(IIIILHomewatcher$Rule;)V"⟩
def dkwX3_init_1 : List UInt8 := [181, 0, 19, 42, 25, 5, 181, 0, 22, 177]
abbrev dktX3_init_1 : List UInt8 := dkwX3_init_1 ++ []
def dkwX3_init_0 : List UInt8 := [42, 183, 0, 1, 42, 27, 181, 0, 7, 42, 28, 181, 0, 13, 42, 29, 181, 0, 16, 42, 21, 4]
abbrev dktX3_init_0 : List UInt8 := dkwX3_init_0 ++ dktX3_init_1
theorem dksX3_init_0 : cX3_init.data.toList.drop 0 = dktX3_init_0 := by decide +kernel
theorem dksX3_init_1 : cX3_init.data.toList.drop 22 = dktX3_init_1 := dk_seg dksX3_init_0 22 rfl rfl
theorem dX3_init_0 : decode cX3_init 0 = .ok (.aload_n 0, 1) := dk_42 (dk_at dksX3_init_0 0 rfl rfl)
theorem dX3_init_1 : decode cX3_init 1 = .ok (.invokespecial 1, 3) := dk_183 0 1 (dk_at dksX3_init_0 1 rfl rfl)
theorem dX3_init_4 : decode cX3_init 4 = .ok (.aload_n 0, 1) := dk_42 (dk_at dksX3_init_0 4 rfl rfl)
theorem dX3_init_5 : decode cX3_init 5 = .ok (.iload_n 1, 1) := dk_27 (dk_at dksX3_init_0 5 rfl rfl)
theorem dX3_init_6 : decode cX3_init 6 = .ok (.putfield 7, 3) := dk_181 0 7 (dk_at dksX3_init_0 6 rfl rfl)
theorem dX3_init_9 : decode cX3_init 9 = .ok (.aload_n 0, 1) := dk_42 (dk_at dksX3_init_0 9 rfl rfl)
theorem dX3_init_10 : decode cX3_init 10 = .ok (.iload_n 2, 1) := dk_28 (dk_at dksX3_init_0 10 rfl rfl)
theorem dX3_init_11 : decode cX3_init 11 = .ok (.putfield 13, 3) := dk_181 0 13 (dk_at dksX3_init_0 11 rfl rfl)
theorem dX3_init_14 : decode cX3_init 14 = .ok (.aload_n 0, 1) := dk_42 (dk_at dksX3_init_0 14 rfl rfl)
theorem dX3_init_15 : decode cX3_init 15 = .ok (.iload_n 3, 1) := dk_29 (dk_at dksX3_init_0 15 rfl rfl)
theorem dX3_init_16 : decode cX3_init 16 = .ok (.putfield 16, 3) := dk_181 0 16 (dk_at dksX3_init_0 16 rfl rfl)
theorem dX3_init_19 : decode cX3_init 19 = .ok (.aload_n 0, 1) := dk_42 (dk_at dksX3_init_0 19 rfl rfl)
theorem dX3_init_20 : decode cX3_init 20 = .ok (.iload 4, 2) := dk_21 4 (dk_at dksX3_init_0 20 rfl rfl)
theorem dX3_init_22 : decode cX3_init 22 = .ok (.putfield 19, 3) := dk_181 0 19 (dk_at dksX3_init_1 0 rfl rfl)
theorem dX3_init_25 : decode cX3_init 25 = .ok (.aload_n 0, 1) := dk_42 (dk_at dksX3_init_1 3 rfl rfl)
theorem dX3_init_26 : decode cX3_init 26 = .ok (.aload 5, 2) := dk_25 5 (dk_at dksX3_init_1 4 rfl rfl)
theorem dX3_init_28 : decode cX3_init 28 = .ok (.putfield 22, 3) := dk_181 0 22 (dk_at dksX3_init_1 6 rfl rfl)
theorem dX3_init_31 : decode cX3_init 31 = .ok (.return_, 1) := dk_177 (dk_at dksX3_init_1 9 rfl rfl)
theorem q81 : (Jvm.Cond.initialized "Homewatcher$Task") ∈ lw_all := lw_g (lw_at lw_m1 28 rfl) rfl
theorem q1218 : (Jvm.Cond.selects "Homewatcher$Task" ({ cls := "java/lang/Object", name := "equals", desc := "(Ljava/lang/Object;)Z" } : Jvm.MethodName) ({ cls := "java/lang/Object", name := "equals", desc := "(Ljava/lang/Object;)Z" } : Jvm.MethodName)) ∈ lw_all := lw_g (lw_at lw_m5 205 rfl) rfl
theorem q1374 : (Jvm.Cond.selects "Homewatcher$Task" ({ cls := "java/lang/Object", name := "getClass", desc := "()Ljava/lang/Class;" } : Jvm.MethodName) ({ cls := "java/lang/Object", name := "getClass", desc := "()Ljava/lang/Class;" } : Jvm.MethodName)) ∈ lw_all := lw_g (lw_at lw_m6 121 rfl) rfl
theorem q1440 : (Jvm.Cond.instantiable "Homewatcher$Task" (5 : Nat)) ∈ lw_all := lw_g (lw_at lw_m6 187 rfl) rfl
theorem q1453 : (Jvm.Cond.instanceMethod ({ cls := "Homewatcher$Task", name := "<init>", desc := "(IIIILHomewatcher$Rule;)V" } : Jvm.MethodName)) ∈ lw_all := lw_g (lw_at lw_m6 200 rfl) rfl
theorem q1454 : (Jvm.Cond.code ({ cls := "Homewatcher$Task", name := "<init>", desc := "(IIIILHomewatcher$Rule;)V" } : Jvm.MethodName) prog_4_method_1_code (6 : Nat) (Option.none : Option Jvm.ClassFile.FieldType)) ∈ lw_all := lw_g (lw_at lw_m6 201 rfl) rfl
theorem q1455 : (Jvm.Cond.methodLink "Homewatcher$Task" (1 : Nat) ({ cls := "java/lang/Object", name := "<init>", desc := "()V" } : Jvm.MethodName)) ∈ lw_all := lw_g (lw_at lw_m6 202 rfl) rfl
theorem q1456 : (Jvm.Cond.fieldLink "Homewatcher$Task" (7 : Nat) "Homewatcher$Task" "number" "I") ∈ lw_all := lw_g (lw_at lw_m6 203 rfl) rfl
theorem q1458 : (Jvm.Cond.fieldLink "Homewatcher$Task" (13 : Nat) "Homewatcher$Task" "classroom" "I") ∈ lw_all := lw_g (lw_at lw_m6 205 rfl) rfl
theorem q1460 : (Jvm.Cond.fieldLink "Homewatcher$Task" (16 : Nat) "Homewatcher$Task" "due" "I") ∈ lw_all := lw_g (lw_at lw_m6 207 rfl) rfl
theorem q1462 : (Jvm.Cond.fieldLink "Homewatcher$Task" (19 : Nat) "Homewatcher$Task" "full" "I") ∈ lw_all := lw_g (lw_at lw_m6 209 rfl) rfl
theorem q1464 : (Jvm.Cond.fieldLink "Homewatcher$Task" (22 : Nat) "Homewatcher$Task" "rule" "LHomewatcher$Rule;") ∈ lw_all := lw_g (lw_at lw_m6 211 rfl) rfl
theorem q1466 : (Jvm.Cond.laysFinal "Homewatcher$Task" "Homewatcher$Task" "number" "I") ∈ lw_all := lw_g (lw_at lw_m6 213 rfl) rfl
theorem q1467 : (Jvm.Cond.soleField "Homewatcher$Task" "number") ∈ lw_all := lw_g (lw_at lw_m6 214 rfl) rfl
theorem q1468 : (Jvm.Cond.laysFinal "Homewatcher$Task" "Homewatcher$Task" "classroom" "I") ∈ lw_all := lw_g (lw_at lw_m6 215 rfl) rfl
theorem q1469 : (Jvm.Cond.soleField "Homewatcher$Task" "classroom") ∈ lw_all := lw_g (lw_at lw_m6 216 rfl) rfl
theorem q1470 : (Jvm.Cond.laysFinal "Homewatcher$Task" "Homewatcher$Task" "due" "I") ∈ lw_all := lw_g (lw_at lw_m6 217 rfl) rfl
theorem q1471 : (Jvm.Cond.soleField "Homewatcher$Task" "due") ∈ lw_all := lw_g (lw_at lw_m6 218 rfl) rfl
theorem q1472 : (Jvm.Cond.laysFinal "Homewatcher$Task" "Homewatcher$Task" "full" "I") ∈ lw_all := lw_g (lw_at lw_m6 219 rfl) rfl
theorem q1473 : (Jvm.Cond.soleField "Homewatcher$Task" "full") ∈ lw_all := lw_g (lw_at lw_m6 220 rfl) rfl
theorem q1474 : (Jvm.Cond.laysFinal "Homewatcher$Task" "Homewatcher$Task" "rule" "LHomewatcher$Rule;") ∈ lw_all := lw_g (lw_at lw_m6 221 rfl) rfl
theorem q1475 : (Jvm.Cond.soleField "Homewatcher$Task" "rule") ∈ lw_all := lw_g (lw_at lw_m6 222 rfl) rfl
theorem q1476 : (Jvm.Cond.superclass "Homewatcher$Task" "java/lang/Object") ∈ lw_all := lw_g (lw_at lw_m6 223 rfl) rfl
theorem q2441 : (Jvm.Cond.castable "Homewatcher$Task" "java/lang/Object") ∈ lw_tbl := lw_at lw_m10 228 rfl
theorem in_X3 : ∀ w ∈ wsX30, w ∈ lw_all := lw_in wsX30 [1466, 1468, 1470, 1472, 1474] (by decide +kernel) (by decide +kernel)
/-! Homewatcher$Version -/
set_option maxRecDepth 100000
def RX4 : String := "Homewatcher$Version"
def TX4 : u_T := fun k => match k with
  | 0 => ("Homewatcher$Version", "number", "I", true)
  | 1 => ("Homewatcher$Version", "pupil", "I", true)
  | 2 => ("Homewatcher$Version", "task", "LHomewatcher$Task;", true)
  | 3 => ("Homewatcher$Version", "parent", "LHomewatcher$Version;", true)
  | 4 => ("Homewatcher$Version", "saved", "I", true)
  | 5 => ("Homewatcher$Version", "chars", "[C", true)
  | 6 => ("Homewatcher$Version", "shingles", "Ljava/util/TreeSet;", true)
  | 7 => ("Homewatcher$Version", "handed", "I", false)
  | 8 => ("Homewatcher$Version", "points", "I", false)
  | _ => ("Homewatcher$Version", "isIn", "Z", false)
def tyX4 : Nat → FieldType := fun k => match k with
  | 0 => .int
  | 1 => .int
  | 2 => .object "Homewatcher$Task"
  | 3 => .object "Homewatcher$Version"
  | 4 => .int
  | 5 => .array .char
  | 6 => .object "java/util/TreeSet"
  | 7 => .int
  | 8 => .int
  | _ => .boolean
abbrev wsX40 : List Cond := u_ws RX4 TX4 10
theorem nmX4 : ∀ a, a < 10 → ∀ b, b < 10 → a ≠ b → (TX4 a).2.1 ≠ (TX4 b).2.1 := by decide +kernel
theorem tyX4_ok : ∀ k, k < 10 → parseFieldDescriptor (TX4 k).2.2.1 = some (tyX4 k) := by decide +kernel
abbrev cX4_isOf : ByteArray := prog_5_method_6_code
def yX4_isOf : MethodName := ⟨RX4, "isOf", "(ILHomewatcher$Task;)Z"⟩
def dkwX4_isOf_0 : List UInt8 := [42, 180, 0, 25, 27, 160, 0, 15, 42, 180, 0, 28, 44, 166, 0, 7, 4, 167, 0, 4, 3, 172]
abbrev dktX4_isOf_0 : List UInt8 := dkwX4_isOf_0 ++ []
theorem dksX4_isOf_0 : cX4_isOf.data.toList.drop 0 = dktX4_isOf_0 := by decide +kernel
theorem dX4_isOf_0 : decode cX4_isOf 0 = .ok (.aload_n 0, 1) := dk_42 (dk_at dksX4_isOf_0 0 rfl rfl)
theorem dX4_isOf_1 : decode cX4_isOf 1 = .ok (.getfield 25, 3) := dk_180 0 25 (dk_at dksX4_isOf_0 1 rfl rfl)
theorem dX4_isOf_4 : decode cX4_isOf 4 = .ok (.iload_n 1, 1) := dk_27 (dk_at dksX4_isOf_0 4 rfl rfl)
theorem dX4_isOf_5 : decode cX4_isOf 5 = .ok (.if_icmp .ne 15, 3) := dk_160 0 15 (dk_at dksX4_isOf_0 5 rfl rfl)
theorem dX4_isOf_8 : decode cX4_isOf 8 = .ok (.aload_n 0, 1) := dk_42 (dk_at dksX4_isOf_0 8 rfl rfl)
theorem dX4_isOf_9 : decode cX4_isOf 9 = .ok (.getfield 28, 3) := dk_180 0 28 (dk_at dksX4_isOf_0 9 rfl rfl)
theorem dX4_isOf_12 : decode cX4_isOf 12 = .ok (.aload_n 2, 1) := dk_44 (dk_at dksX4_isOf_0 12 rfl rfl)
theorem dX4_isOf_13 : decode cX4_isOf 13 = .ok (.if_acmp .ne 7, 3) := dk_166 0 7 (dk_at dksX4_isOf_0 13 rfl rfl)
theorem dX4_isOf_16 : decode cX4_isOf 16 = .ok (.iconst 1, 1) := dk_4 (dk_at dksX4_isOf_0 16 rfl rfl)
theorem dX4_isOf_17 : decode cX4_isOf 17 = .ok (.goto 4, 3) := dk_167 0 4 (dk_at dksX4_isOf_0 17 rfl rfl)
theorem dX4_isOf_20 : decode cX4_isOf 20 = .ok (.iconst 0, 1) := dk_3 (dk_at dksX4_isOf_0 20 rfl rfl)
theorem dX4_isOf_21 : decode cX4_isOf 21 = .ok (.ireturn, 1) := dk_172 (dk_at dksX4_isOf_0 21 rfl rfl)
abbrev cX4_shared : ByteArray := prog_5_method_5_code
def yX4_shared : MethodName := ⟨RX4, "shared", "(LHomewatcher$Version;)I"⟩
def dkwX4_shared_2 : List UInt8 := [182, 0, 87, 153, 0, 7, 4, 167, 0, 4, 3, 96, 61, 167, 255, 210, 28, 172]
abbrev dktX4_shared_2 : List UInt8 := dkwX4_shared_2 ++ []
def dkwX4_shared_1 : List UInt8 := [185, 0, 80, 1, 0, 192, 0, 61, 182, 0, 84, 54, 4, 28, 43, 180, 0, 12, 21, 4, 184, 0, 60]
abbrev dktX4_shared_1 : List UInt8 := dkwX4_shared_1 ++ dktX4_shared_2
def dkwX4_shared_0 : List UInt8 := [3, 61, 42, 180, 0, 12, 182, 0, 70, 78, 45, 185, 0, 74, 1, 0, 153, 0, 43, 45]
abbrev dktX4_shared_0 : List UInt8 := dkwX4_shared_0 ++ dktX4_shared_1
theorem dksX4_shared_0 : cX4_shared.data.toList.drop 0 = dktX4_shared_0 := by decide +kernel
theorem dksX4_shared_1 : cX4_shared.data.toList.drop 20 = dktX4_shared_1 := dk_seg dksX4_shared_0 20 rfl rfl
theorem dksX4_shared_2 : cX4_shared.data.toList.drop 43 = dktX4_shared_2 := dk_seg dksX4_shared_1 23 rfl rfl
theorem dX4_shared_0 : decode cX4_shared 0 = .ok (.iconst 0, 1) := dk_3 (dk_at dksX4_shared_0 0 rfl rfl)
theorem dX4_shared_1 : decode cX4_shared 1 = .ok (.istore_n 2, 1) := dk_61 (dk_at dksX4_shared_0 1 rfl rfl)
theorem dX4_shared_2 : decode cX4_shared 2 = .ok (.aload_n 0, 1) := dk_42 (dk_at dksX4_shared_0 2 rfl rfl)
theorem dX4_shared_3 : decode cX4_shared 3 = .ok (.getfield 12, 3) := dk_180 0 12 (dk_at dksX4_shared_0 3 rfl rfl)
theorem dX4_shared_6 : decode cX4_shared 6 = .ok (.invokevirtual 70, 3) := dk_182 0 70 (dk_at dksX4_shared_0 6 rfl rfl)
theorem dX4_shared_9 : decode cX4_shared 9 = .ok (.astore_n 3, 1) := dk_78 (dk_at dksX4_shared_0 9 rfl rfl)
theorem dX4_shared_10 : decode cX4_shared 10 = .ok (.aload_n 3, 1) := dk_45 (dk_at dksX4_shared_0 10 rfl rfl)
theorem dX4_shared_11 : decode cX4_shared 11 = .ok (.invokeinterface 74 1, 5) := by decide +kernel
theorem dX4_shared_16 : decode cX4_shared 16 = .ok (.ifCond .eq 43, 3) := dk_153 0 43 (dk_at dksX4_shared_0 16 rfl rfl)
theorem dX4_shared_19 : decode cX4_shared 19 = .ok (.aload_n 3, 1) := dk_45 (dk_at dksX4_shared_0 19 rfl rfl)
theorem dX4_shared_20 : decode cX4_shared 20 = .ok (.invokeinterface 80 1, 5) := by decide +kernel
theorem dX4_shared_25 : decode cX4_shared 25 = .ok (.checkcast 61, 3) := dk_192 0 61 (dk_at dksX4_shared_1 5 rfl rfl)
theorem dX4_shared_28 : decode cX4_shared 28 = .ok (.invokevirtual 84, 3) := dk_182 0 84 (dk_at dksX4_shared_1 8 rfl rfl)
theorem dX4_shared_31 : decode cX4_shared 31 = .ok (.istore 4, 2) := dk_54 4 (dk_at dksX4_shared_1 11 rfl rfl)
theorem dX4_shared_33 : decode cX4_shared 33 = .ok (.iload_n 2, 1) := dk_28 (dk_at dksX4_shared_1 13 rfl rfl)
theorem dX4_shared_34 : decode cX4_shared 34 = .ok (.aload_n 1, 1) := dk_43 (dk_at dksX4_shared_1 14 rfl rfl)
theorem dX4_shared_35 : decode cX4_shared 35 = .ok (.getfield 12, 3) := dk_180 0 12 (dk_at dksX4_shared_1 15 rfl rfl)
theorem dX4_shared_38 : decode cX4_shared 38 = .ok (.iload 4, 2) := dk_21 4 (dk_at dksX4_shared_1 18 rfl rfl)
theorem dX4_shared_40 : decode cX4_shared 40 = .ok (.invokestatic 60, 3) := dk_184 0 60 (dk_at dksX4_shared_1 20 rfl rfl)
theorem dX4_shared_43 : decode cX4_shared 43 = .ok (.invokevirtual 87, 3) := dk_182 0 87 (dk_at dksX4_shared_2 0 rfl rfl)
theorem dX4_shared_46 : decode cX4_shared 46 = .ok (.ifCond .eq 7, 3) := dk_153 0 7 (dk_at dksX4_shared_2 3 rfl rfl)
theorem dX4_shared_49 : decode cX4_shared 49 = .ok (.iconst 1, 1) := dk_4 (dk_at dksX4_shared_2 6 rfl rfl)
theorem dX4_shared_50 : decode cX4_shared 50 = .ok (.goto 4, 3) := dk_167 0 4 (dk_at dksX4_shared_2 7 rfl rfl)
theorem dX4_shared_53 : decode cX4_shared 53 = .ok (.iconst 0, 1) := dk_3 (dk_at dksX4_shared_2 10 rfl rfl)
theorem dX4_shared_54 : decode cX4_shared 54 = .ok (.iadd, 1) := dk_96 (dk_at dksX4_shared_2 11 rfl rfl)
theorem dX4_shared_55 : decode cX4_shared 55 = .ok (.istore_n 2, 1) := dk_61 (dk_at dksX4_shared_2 12 rfl rfl)
theorem dX4_shared_56 : decode cX4_shared 56 = .ok (.goto (-46), 3) := dk_167 255 210 (dk_at dksX4_shared_2 13 rfl rfl)
theorem dX4_shared_59 : decode cX4_shared 59 = .ok (.iload_n 2, 1) := dk_28 (dk_at dksX4_shared_2 16 rfl rfl)
theorem dX4_shared_60 : decode cX4_shared 60 = .ok (.ireturn, 1) := dk_172 (dk_at dksX4_shared_2 17 rfl rfl)
abbrev cX4_init : ByteArray := prog_5_method_1_code
def yX4_init : MethodName := ⟨RX4, "<init>", "(IILHomewatcher$Task;LHomewatcher$Version;I[C)V"⟩
def dkwX4_init_2 : List UInt8 := [181, 0, 36, 42, 25, 6, 181, 0, 39, 42, 182, 0, 43, 177]
abbrev dktX4_init_2 : List UInt8 := dkwX4_init_2 ++ []
def dkwX4_init_1 : List UInt8 := [181, 0, 22, 42, 28, 181, 0, 25, 42, 45, 181, 0, 28, 42, 25, 4, 181, 0, 32, 42, 21, 5]
abbrev dktX4_init_1 : List UInt8 := dkwX4_init_1 ++ dktX4_init_2
def dkwX4_init_0 : List UInt8 := [42, 183, 0, 3, 42, 187, 0, 9, 89, 183, 0, 11, 181, 0, 12, 42, 2, 181, 0, 18, 42, 27]
abbrev dktX4_init_0 : List UInt8 := dkwX4_init_0 ++ dktX4_init_1
theorem dksX4_init_0 : cX4_init.data.toList.drop 0 = dktX4_init_0 := by decide +kernel
theorem dksX4_init_1 : cX4_init.data.toList.drop 22 = dktX4_init_1 := dk_seg dksX4_init_0 22 rfl rfl
theorem dksX4_init_2 : cX4_init.data.toList.drop 44 = dktX4_init_2 := dk_seg dksX4_init_1 22 rfl rfl
theorem dX4_init_0 : decode cX4_init 0 = .ok (.aload_n 0, 1) := dk_42 (dk_at dksX4_init_0 0 rfl rfl)
theorem dX4_init_1 : decode cX4_init 1 = .ok (.invokespecial 3, 3) := dk_183 0 3 (dk_at dksX4_init_0 1 rfl rfl)
theorem dX4_init_4 : decode cX4_init 4 = .ok (.aload_n 0, 1) := dk_42 (dk_at dksX4_init_0 4 rfl rfl)
theorem dX4_init_5 : decode cX4_init 5 = .ok (.new 9, 3) := dk_187 0 9 (dk_at dksX4_init_0 5 rfl rfl)
theorem dX4_init_8 : decode cX4_init 8 = .ok (.dup, 1) := dk_89 (dk_at dksX4_init_0 8 rfl rfl)
theorem dX4_init_9 : decode cX4_init 9 = .ok (.invokespecial 11, 3) := dk_183 0 11 (dk_at dksX4_init_0 9 rfl rfl)
theorem dX4_init_12 : decode cX4_init 12 = .ok (.putfield 12, 3) := dk_181 0 12 (dk_at dksX4_init_0 12 rfl rfl)
theorem dX4_init_15 : decode cX4_init 15 = .ok (.aload_n 0, 1) := dk_42 (dk_at dksX4_init_0 15 rfl rfl)
theorem dX4_init_16 : decode cX4_init 16 = .ok (.iconst (-1), 1) := dk_2 (dk_at dksX4_init_0 16 rfl rfl)
theorem dX4_init_17 : decode cX4_init 17 = .ok (.putfield 18, 3) := dk_181 0 18 (dk_at dksX4_init_0 17 rfl rfl)
theorem dX4_init_20 : decode cX4_init 20 = .ok (.aload_n 0, 1) := dk_42 (dk_at dksX4_init_0 20 rfl rfl)
theorem dX4_init_21 : decode cX4_init 21 = .ok (.iload_n 1, 1) := dk_27 (dk_at dksX4_init_0 21 rfl rfl)
theorem dX4_init_22 : decode cX4_init 22 = .ok (.putfield 22, 3) := dk_181 0 22 (dk_at dksX4_init_1 0 rfl rfl)
theorem dX4_init_25 : decode cX4_init 25 = .ok (.aload_n 0, 1) := dk_42 (dk_at dksX4_init_1 3 rfl rfl)
theorem dX4_init_26 : decode cX4_init 26 = .ok (.iload_n 2, 1) := dk_28 (dk_at dksX4_init_1 4 rfl rfl)
theorem dX4_init_27 : decode cX4_init 27 = .ok (.putfield 25, 3) := dk_181 0 25 (dk_at dksX4_init_1 5 rfl rfl)
theorem dX4_init_30 : decode cX4_init 30 = .ok (.aload_n 0, 1) := dk_42 (dk_at dksX4_init_1 8 rfl rfl)
theorem dX4_init_31 : decode cX4_init 31 = .ok (.aload_n 3, 1) := dk_45 (dk_at dksX4_init_1 9 rfl rfl)
theorem dX4_init_32 : decode cX4_init 32 = .ok (.putfield 28, 3) := dk_181 0 28 (dk_at dksX4_init_1 10 rfl rfl)
theorem dX4_init_35 : decode cX4_init 35 = .ok (.aload_n 0, 1) := dk_42 (dk_at dksX4_init_1 13 rfl rfl)
theorem dX4_init_36 : decode cX4_init 36 = .ok (.aload 4, 2) := dk_25 4 (dk_at dksX4_init_1 14 rfl rfl)
theorem dX4_init_38 : decode cX4_init 38 = .ok (.putfield 32, 3) := dk_181 0 32 (dk_at dksX4_init_1 16 rfl rfl)
theorem dX4_init_41 : decode cX4_init 41 = .ok (.aload_n 0, 1) := dk_42 (dk_at dksX4_init_1 19 rfl rfl)
theorem dX4_init_42 : decode cX4_init 42 = .ok (.iload 5, 2) := dk_21 5 (dk_at dksX4_init_1 20 rfl rfl)
theorem dX4_init_44 : decode cX4_init 44 = .ok (.putfield 36, 3) := dk_181 0 36 (dk_at dksX4_init_2 0 rfl rfl)
theorem dX4_init_47 : decode cX4_init 47 = .ok (.aload_n 0, 1) := dk_42 (dk_at dksX4_init_2 3 rfl rfl)
theorem dX4_init_48 : decode cX4_init 48 = .ok (.aload 6, 2) := dk_25 6 (dk_at dksX4_init_2 4 rfl rfl)
theorem dX4_init_50 : decode cX4_init 50 = .ok (.putfield 39, 3) := dk_181 0 39 (dk_at dksX4_init_2 6 rfl rfl)
theorem dX4_init_53 : decode cX4_init 53 = .ok (.aload_n 0, 1) := dk_42 (dk_at dksX4_init_2 9 rfl rfl)
theorem dX4_init_54 : decode cX4_init 54 = .ok (.invokevirtual 43, 3) := dk_182 0 43 (dk_at dksX4_init_2 10 rfl rfl)
theorem dX4_init_57 : decode cX4_init 57 = .ok (.return_, 1) := dk_177 (dk_at dksX4_init_2 13 rfl rfl)
abbrev cX4_layShingles : ByteArray := prog_5_method_4_code
def yX4_layShingles : MethodName := ⟨RX4, "layShingles", "()V"⟩
def dkwX4_layShingles_3 : List UInt8 := [167, 255, 194, 177]
abbrev dktX4_layShingles_3 : List UInt8 := dkwX4_layShingles_3 ++ []
def dkwX4_layShingles_2 : List UInt8 := [167, 255, 229, 42, 180, 0, 12, 29, 18, 59, 126, 184, 0, 60, 182, 0, 66, 54, 4, 132, 2, 1]
abbrev dktX4_layShingles_2 : List UInt8 := dkwX4_layShingles_2 ++ dktX4_layShingles_3
def dkwX4_layShingles_1 : List UInt8 := [162, 0, 27, 29, 8, 120, 29, 16, 27, 124, 128, 62, 29, 43, 28, 21, 4, 96, 46, 130, 62, 132, 4, 1]
abbrev dktX4_layShingles_1 : List UInt8 := dkwX4_layShingles_1 ++ dktX4_layShingles_2
def dkwX4_layShingles_0 : List UInt8 := [42, 182, 0, 55, 76, 3, 61, 28, 6, 96, 43, 190, 162, 0, 60, 3, 62, 3, 54, 4, 21, 4, 7]
abbrev dktX4_layShingles_0 : List UInt8 := dkwX4_layShingles_0 ++ dktX4_layShingles_1
theorem dksX4_layShingles_0 : cX4_layShingles.data.toList.drop 0 = dktX4_layShingles_0 := by decide +kernel
theorem dksX4_layShingles_1 : cX4_layShingles.data.toList.drop 23 = dktX4_layShingles_1 := dk_seg dksX4_layShingles_0 23 rfl rfl
theorem dksX4_layShingles_2 : cX4_layShingles.data.toList.drop 47 = dktX4_layShingles_2 := dk_seg dksX4_layShingles_1 24 rfl rfl
theorem dksX4_layShingles_3 : cX4_layShingles.data.toList.drop 69 = dktX4_layShingles_3 := dk_seg dksX4_layShingles_2 22 rfl rfl
theorem dX4_layShingles_0 : decode cX4_layShingles 0 = .ok (.aload_n 0, 1) := dk_42 (dk_at dksX4_layShingles_0 0 rfl rfl)
theorem dX4_layShingles_1 : decode cX4_layShingles 1 = .ok (.invokevirtual 55, 3) := dk_182 0 55 (dk_at dksX4_layShingles_0 1 rfl rfl)
theorem dX4_layShingles_4 : decode cX4_layShingles 4 = .ok (.astore_n 1, 1) := dk_76 (dk_at dksX4_layShingles_0 4 rfl rfl)
theorem dX4_layShingles_5 : decode cX4_layShingles 5 = .ok (.iconst 0, 1) := dk_3 (dk_at dksX4_layShingles_0 5 rfl rfl)
theorem dX4_layShingles_6 : decode cX4_layShingles 6 = .ok (.istore_n 2, 1) := dk_61 (dk_at dksX4_layShingles_0 6 rfl rfl)
theorem dX4_layShingles_7 : decode cX4_layShingles 7 = .ok (.iload_n 2, 1) := dk_28 (dk_at dksX4_layShingles_0 7 rfl rfl)
theorem dX4_layShingles_8 : decode cX4_layShingles 8 = .ok (.iconst 3, 1) := dk_6 (dk_at dksX4_layShingles_0 8 rfl rfl)
theorem dX4_layShingles_9 : decode cX4_layShingles 9 = .ok (.iadd, 1) := dk_96 (dk_at dksX4_layShingles_0 9 rfl rfl)
theorem dX4_layShingles_10 : decode cX4_layShingles 10 = .ok (.aload_n 1, 1) := dk_43 (dk_at dksX4_layShingles_0 10 rfl rfl)
theorem dX4_layShingles_11 : decode cX4_layShingles 11 = .ok (.arraylength, 1) := dk_190 (dk_at dksX4_layShingles_0 11 rfl rfl)
theorem dX4_layShingles_12 : decode cX4_layShingles 12 = .ok (.if_icmp .ge 60, 3) := dk_162 0 60 (dk_at dksX4_layShingles_0 12 rfl rfl)
theorem dX4_layShingles_15 : decode cX4_layShingles 15 = .ok (.iconst 0, 1) := dk_3 (dk_at dksX4_layShingles_0 15 rfl rfl)
theorem dX4_layShingles_16 : decode cX4_layShingles 16 = .ok (.istore_n 3, 1) := dk_62 (dk_at dksX4_layShingles_0 16 rfl rfl)
theorem dX4_layShingles_17 : decode cX4_layShingles 17 = .ok (.iconst 0, 1) := dk_3 (dk_at dksX4_layShingles_0 17 rfl rfl)
theorem dX4_layShingles_18 : decode cX4_layShingles 18 = .ok (.istore 4, 2) := dk_54 4 (dk_at dksX4_layShingles_0 18 rfl rfl)
theorem dX4_layShingles_20 : decode cX4_layShingles 20 = .ok (.iload 4, 2) := dk_21 4 (dk_at dksX4_layShingles_0 20 rfl rfl)
theorem dX4_layShingles_22 : decode cX4_layShingles 22 = .ok (.iconst 4, 1) := dk_7 (dk_at dksX4_layShingles_0 22 rfl rfl)
theorem dX4_layShingles_23 : decode cX4_layShingles 23 = .ok (.if_icmp .ge 27, 3) := dk_162 0 27 (dk_at dksX4_layShingles_1 0 rfl rfl)
theorem dX4_layShingles_26 : decode cX4_layShingles 26 = .ok (.iload_n 3, 1) := dk_29 (dk_at dksX4_layShingles_1 3 rfl rfl)
theorem dX4_layShingles_27 : decode cX4_layShingles 27 = .ok (.iconst 5, 1) := dk_8 (dk_at dksX4_layShingles_1 4 rfl rfl)
theorem dX4_layShingles_28 : decode cX4_layShingles 28 = .ok (.ishl, 1) := dk_120 (dk_at dksX4_layShingles_1 5 rfl rfl)
theorem dX4_layShingles_29 : decode cX4_layShingles 29 = .ok (.iload_n 3, 1) := dk_29 (dk_at dksX4_layShingles_1 6 rfl rfl)
theorem dX4_layShingles_30 : decode cX4_layShingles 30 = .ok (.bipush 27, 2) := dk_16 27 (dk_at dksX4_layShingles_1 7 rfl rfl)
theorem dX4_layShingles_32 : decode cX4_layShingles 32 = .ok (.iushr, 1) := dk_124 (dk_at dksX4_layShingles_1 9 rfl rfl)
theorem dX4_layShingles_33 : decode cX4_layShingles 33 = .ok (.ior, 1) := dk_128 (dk_at dksX4_layShingles_1 10 rfl rfl)
theorem dX4_layShingles_34 : decode cX4_layShingles 34 = .ok (.istore_n 3, 1) := dk_62 (dk_at dksX4_layShingles_1 11 rfl rfl)
theorem dX4_layShingles_35 : decode cX4_layShingles 35 = .ok (.iload_n 3, 1) := dk_29 (dk_at dksX4_layShingles_1 12 rfl rfl)
theorem dX4_layShingles_36 : decode cX4_layShingles 36 = .ok (.aload_n 1, 1) := dk_43 (dk_at dksX4_layShingles_1 13 rfl rfl)
theorem dX4_layShingles_37 : decode cX4_layShingles 37 = .ok (.iload_n 2, 1) := dk_28 (dk_at dksX4_layShingles_1 14 rfl rfl)
theorem dX4_layShingles_38 : decode cX4_layShingles 38 = .ok (.iload 4, 2) := dk_21 4 (dk_at dksX4_layShingles_1 15 rfl rfl)
theorem dX4_layShingles_40 : decode cX4_layShingles 40 = .ok (.iadd, 1) := dk_96 (dk_at dksX4_layShingles_1 17 rfl rfl)
theorem dX4_layShingles_41 : decode cX4_layShingles 41 = .ok (.iaload, 1) := dk_46 (dk_at dksX4_layShingles_1 18 rfl rfl)
theorem dX4_layShingles_42 : decode cX4_layShingles 42 = .ok (.ixor, 1) := dk_130 (dk_at dksX4_layShingles_1 19 rfl rfl)
theorem dX4_layShingles_43 : decode cX4_layShingles 43 = .ok (.istore_n 3, 1) := dk_62 (dk_at dksX4_layShingles_1 20 rfl rfl)
theorem dX4_layShingles_44 : decode cX4_layShingles 44 = .ok (.iinc 4 1, 3) := dk_132 4 1 (dk_at dksX4_layShingles_1 21 rfl rfl)
theorem dX4_layShingles_47 : decode cX4_layShingles 47 = .ok (.goto (-27), 3) := dk_167 255 229 (dk_at dksX4_layShingles_2 0 rfl rfl)
theorem dX4_layShingles_50 : decode cX4_layShingles 50 = .ok (.aload_n 0, 1) := dk_42 (dk_at dksX4_layShingles_2 3 rfl rfl)
theorem dX4_layShingles_51 : decode cX4_layShingles 51 = .ok (.getfield 12, 3) := dk_180 0 12 (dk_at dksX4_layShingles_2 4 rfl rfl)
theorem dX4_layShingles_54 : decode cX4_layShingles 54 = .ok (.iload_n 3, 1) := dk_29 (dk_at dksX4_layShingles_2 7 rfl rfl)
theorem dX4_layShingles_55 : decode cX4_layShingles 55 = .ok (.ldc 59, 2) := dk_18 59 (dk_at dksX4_layShingles_2 8 rfl rfl)
theorem dX4_layShingles_57 : decode cX4_layShingles 57 = .ok (.iand, 1) := dk_126 (dk_at dksX4_layShingles_2 10 rfl rfl)
theorem dX4_layShingles_58 : decode cX4_layShingles 58 = .ok (.invokestatic 60, 3) := dk_184 0 60 (dk_at dksX4_layShingles_2 11 rfl rfl)
theorem dX4_layShingles_61 : decode cX4_layShingles 61 = .ok (.invokevirtual 66, 3) := dk_182 0 66 (dk_at dksX4_layShingles_2 14 rfl rfl)
theorem dX4_layShingles_64 : decode cX4_layShingles 64 = .ok (.istore 4, 2) := dk_54 4 (dk_at dksX4_layShingles_2 17 rfl rfl)
theorem dX4_layShingles_66 : decode cX4_layShingles 66 = .ok (.iinc 2 1, 3) := dk_132 2 1 (dk_at dksX4_layShingles_2 19 rfl rfl)
theorem dX4_layShingles_69 : decode cX4_layShingles 69 = .ok (.goto (-62), 3) := dk_167 255 194 (dk_at dksX4_layShingles_3 0 rfl rfl)
theorem dX4_layShingles_72 : decode cX4_layShingles 72 = .ok (.return_, 1) := dk_177 (dk_at dksX4_layShingles_3 3 rfl rfl)
abbrev cX4_codes : ByteArray := prog_5_method_2_code
def yX4_codes : MethodName := ⟨RX4, "codes", "()[I"⟩
def dkwX4_codes_4 : List UInt8 := [132, 3, 1, 167, 255, 171, 43, 176]
abbrev dktX4_codes_4 : List UInt8 := dkwX4_codes_4 ++ []
def dkwX4_codes_3 : List UInt8 := [42, 180, 0, 39, 29, 52, 79, 29, 21, 4, 153, 0, 7, 4, 167, 0, 4, 3, 96, 62, 132, 2, 1]
abbrev dktX4_codes_3 : List UInt8 := dkwX4_codes_3 ++ dktX4_codes_4
def dkwX4_codes_2 : List UInt8 := [17, 3, 255, 126, 16, 10, 120, 42, 180, 0, 39, 29, 4, 96, 52, 17, 3, 255, 126, 128, 96, 167, 0, 9]
abbrev dktX4_codes_2 : List UInt8 := dkwX4_codes_2 ++ dktX4_codes_3
def dkwX4_codes_1 : List UInt8 := [29, 52, 184, 0, 50, 54, 4, 43, 28, 21, 4, 153, 0, 35, 18, 54, 42, 180, 0, 39, 29, 52]
abbrev dktX4_codes_1 : List UInt8 := dkwX4_codes_1 ++ dktX4_codes_2
def dkwX4_codes_0 : List UInt8 := [42, 182, 0, 46, 188, 10, 76, 3, 61, 3, 62, 29, 42, 180, 0, 39, 190, 162, 0, 82, 42, 180, 0, 39]
abbrev dktX4_codes_0 : List UInt8 := dkwX4_codes_0 ++ dktX4_codes_1
theorem dksX4_codes_0 : cX4_codes.data.toList.drop 0 = dktX4_codes_0 := by decide +kernel
theorem dksX4_codes_1 : cX4_codes.data.toList.drop 24 = dktX4_codes_1 := dk_seg dksX4_codes_0 24 rfl rfl
theorem dksX4_codes_2 : cX4_codes.data.toList.drop 46 = dktX4_codes_2 := dk_seg dksX4_codes_1 22 rfl rfl
theorem dksX4_codes_3 : cX4_codes.data.toList.drop 70 = dktX4_codes_3 := dk_seg dksX4_codes_2 24 rfl rfl
theorem dksX4_codes_4 : cX4_codes.data.toList.drop 93 = dktX4_codes_4 := dk_seg dksX4_codes_3 23 rfl rfl
theorem dX4_codes_0 : decode cX4_codes 0 = .ok (.aload_n 0, 1) := dk_42 (dk_at dksX4_codes_0 0 rfl rfl)
theorem dX4_codes_1 : decode cX4_codes 1 = .ok (.invokevirtual 46, 3) := dk_182 0 46 (dk_at dksX4_codes_0 1 rfl rfl)
theorem dX4_codes_4 : decode cX4_codes 4 = .ok (.newarray .int, 2) := dk_188_10 (dk_at dksX4_codes_0 4 rfl rfl)
theorem dX4_codes_6 : decode cX4_codes 6 = .ok (.astore_n 1, 1) := dk_76 (dk_at dksX4_codes_0 6 rfl rfl)
theorem dX4_codes_7 : decode cX4_codes 7 = .ok (.iconst 0, 1) := dk_3 (dk_at dksX4_codes_0 7 rfl rfl)
theorem dX4_codes_8 : decode cX4_codes 8 = .ok (.istore_n 2, 1) := dk_61 (dk_at dksX4_codes_0 8 rfl rfl)
theorem dX4_codes_9 : decode cX4_codes 9 = .ok (.iconst 0, 1) := dk_3 (dk_at dksX4_codes_0 9 rfl rfl)
theorem dX4_codes_10 : decode cX4_codes 10 = .ok (.istore_n 3, 1) := dk_62 (dk_at dksX4_codes_0 10 rfl rfl)
theorem dX4_codes_11 : decode cX4_codes 11 = .ok (.iload_n 3, 1) := dk_29 (dk_at dksX4_codes_0 11 rfl rfl)
theorem dX4_codes_12 : decode cX4_codes 12 = .ok (.aload_n 0, 1) := dk_42 (dk_at dksX4_codes_0 12 rfl rfl)
theorem dX4_codes_13 : decode cX4_codes 13 = .ok (.getfield 39, 3) := dk_180 0 39 (dk_at dksX4_codes_0 13 rfl rfl)
theorem dX4_codes_16 : decode cX4_codes 16 = .ok (.arraylength, 1) := dk_190 (dk_at dksX4_codes_0 16 rfl rfl)
theorem dX4_codes_17 : decode cX4_codes 17 = .ok (.if_icmp .ge 82, 3) := dk_162 0 82 (dk_at dksX4_codes_0 17 rfl rfl)
theorem dX4_codes_20 : decode cX4_codes 20 = .ok (.aload_n 0, 1) := dk_42 (dk_at dksX4_codes_0 20 rfl rfl)
theorem dX4_codes_21 : decode cX4_codes 21 = .ok (.getfield 39, 3) := dk_180 0 39 (dk_at dksX4_codes_0 21 rfl rfl)
theorem dX4_codes_24 : decode cX4_codes 24 = .ok (.iload_n 3, 1) := dk_29 (dk_at dksX4_codes_1 0 rfl rfl)
theorem dX4_codes_25 : decode cX4_codes 25 = .ok (.caload, 1) := dk_52 (dk_at dksX4_codes_1 1 rfl rfl)
theorem dX4_codes_26 : decode cX4_codes 26 = .ok (.invokestatic 50, 3) := dk_184 0 50 (dk_at dksX4_codes_1 2 rfl rfl)
theorem dX4_codes_29 : decode cX4_codes 29 = .ok (.istore 4, 2) := dk_54 4 (dk_at dksX4_codes_1 5 rfl rfl)
theorem dX4_codes_31 : decode cX4_codes 31 = .ok (.aload_n 1, 1) := dk_43 (dk_at dksX4_codes_1 7 rfl rfl)
theorem dX4_codes_32 : decode cX4_codes 32 = .ok (.iload_n 2, 1) := dk_28 (dk_at dksX4_codes_1 8 rfl rfl)
theorem dX4_codes_33 : decode cX4_codes 33 = .ok (.iload 4, 2) := dk_21 4 (dk_at dksX4_codes_1 9 rfl rfl)
theorem dX4_codes_35 : decode cX4_codes 35 = .ok (.ifCond .eq 35, 3) := dk_153 0 35 (dk_at dksX4_codes_1 11 rfl rfl)
theorem dX4_codes_38 : decode cX4_codes 38 = .ok (.ldc 54, 2) := dk_18 54 (dk_at dksX4_codes_1 14 rfl rfl)
theorem dX4_codes_40 : decode cX4_codes 40 = .ok (.aload_n 0, 1) := dk_42 (dk_at dksX4_codes_1 16 rfl rfl)
theorem dX4_codes_41 : decode cX4_codes 41 = .ok (.getfield 39, 3) := dk_180 0 39 (dk_at dksX4_codes_1 17 rfl rfl)
theorem dX4_codes_44 : decode cX4_codes 44 = .ok (.iload_n 3, 1) := dk_29 (dk_at dksX4_codes_1 20 rfl rfl)
theorem dX4_codes_45 : decode cX4_codes 45 = .ok (.caload, 1) := dk_52 (dk_at dksX4_codes_1 21 rfl rfl)
theorem dX4_codes_46 : decode cX4_codes 46 = .ok (.sipush 1023, 3) := dk_17 3 255 (dk_at dksX4_codes_2 0 rfl rfl)
theorem dX4_codes_49 : decode cX4_codes 49 = .ok (.iand, 1) := dk_126 (dk_at dksX4_codes_2 3 rfl rfl)
theorem dX4_codes_50 : decode cX4_codes 50 = .ok (.bipush 10, 2) := dk_16 10 (dk_at dksX4_codes_2 4 rfl rfl)
theorem dX4_codes_52 : decode cX4_codes 52 = .ok (.ishl, 1) := dk_120 (dk_at dksX4_codes_2 6 rfl rfl)
theorem dX4_codes_53 : decode cX4_codes 53 = .ok (.aload_n 0, 1) := dk_42 (dk_at dksX4_codes_2 7 rfl rfl)
theorem dX4_codes_54 : decode cX4_codes 54 = .ok (.getfield 39, 3) := dk_180 0 39 (dk_at dksX4_codes_2 8 rfl rfl)
theorem dX4_codes_57 : decode cX4_codes 57 = .ok (.iload_n 3, 1) := dk_29 (dk_at dksX4_codes_2 11 rfl rfl)
theorem dX4_codes_58 : decode cX4_codes 58 = .ok (.iconst 1, 1) := dk_4 (dk_at dksX4_codes_2 12 rfl rfl)
theorem dX4_codes_59 : decode cX4_codes 59 = .ok (.iadd, 1) := dk_96 (dk_at dksX4_codes_2 13 rfl rfl)
theorem dX4_codes_60 : decode cX4_codes 60 = .ok (.caload, 1) := dk_52 (dk_at dksX4_codes_2 14 rfl rfl)
theorem dX4_codes_61 : decode cX4_codes 61 = .ok (.sipush 1023, 3) := dk_17 3 255 (dk_at dksX4_codes_2 15 rfl rfl)
theorem dX4_codes_64 : decode cX4_codes 64 = .ok (.iand, 1) := dk_126 (dk_at dksX4_codes_2 18 rfl rfl)
theorem dX4_codes_65 : decode cX4_codes 65 = .ok (.ior, 1) := dk_128 (dk_at dksX4_codes_2 19 rfl rfl)
theorem dX4_codes_66 : decode cX4_codes 66 = .ok (.iadd, 1) := dk_96 (dk_at dksX4_codes_2 20 rfl rfl)
theorem dX4_codes_67 : decode cX4_codes 67 = .ok (.goto 9, 3) := dk_167 0 9 (dk_at dksX4_codes_2 21 rfl rfl)
theorem dX4_codes_70 : decode cX4_codes 70 = .ok (.aload_n 0, 1) := dk_42 (dk_at dksX4_codes_3 0 rfl rfl)
theorem dX4_codes_71 : decode cX4_codes 71 = .ok (.getfield 39, 3) := dk_180 0 39 (dk_at dksX4_codes_3 1 rfl rfl)
theorem dX4_codes_74 : decode cX4_codes 74 = .ok (.iload_n 3, 1) := dk_29 (dk_at dksX4_codes_3 4 rfl rfl)
theorem dX4_codes_75 : decode cX4_codes 75 = .ok (.caload, 1) := dk_52 (dk_at dksX4_codes_3 5 rfl rfl)
theorem dX4_codes_76 : decode cX4_codes 76 = .ok (.iastore, 1) := dk_79 (dk_at dksX4_codes_3 6 rfl rfl)
theorem dX4_codes_77 : decode cX4_codes 77 = .ok (.iload_n 3, 1) := dk_29 (dk_at dksX4_codes_3 7 rfl rfl)
theorem dX4_codes_78 : decode cX4_codes 78 = .ok (.iload 4, 2) := dk_21 4 (dk_at dksX4_codes_3 8 rfl rfl)
theorem dX4_codes_80 : decode cX4_codes 80 = .ok (.ifCond .eq 7, 3) := dk_153 0 7 (dk_at dksX4_codes_3 10 rfl rfl)
theorem dX4_codes_83 : decode cX4_codes 83 = .ok (.iconst 1, 1) := dk_4 (dk_at dksX4_codes_3 13 rfl rfl)
theorem dX4_codes_84 : decode cX4_codes 84 = .ok (.goto 4, 3) := dk_167 0 4 (dk_at dksX4_codes_3 14 rfl rfl)
theorem dX4_codes_87 : decode cX4_codes 87 = .ok (.iconst 0, 1) := dk_3 (dk_at dksX4_codes_3 17 rfl rfl)
theorem dX4_codes_88 : decode cX4_codes 88 = .ok (.iadd, 1) := dk_96 (dk_at dksX4_codes_3 18 rfl rfl)
theorem dX4_codes_89 : decode cX4_codes 89 = .ok (.istore_n 3, 1) := dk_62 (dk_at dksX4_codes_3 19 rfl rfl)
theorem dX4_codes_90 : decode cX4_codes 90 = .ok (.iinc 2 1, 3) := dk_132 2 1 (dk_at dksX4_codes_3 20 rfl rfl)
theorem dX4_codes_93 : decode cX4_codes 93 = .ok (.iinc 3 1, 3) := dk_132 3 1 (dk_at dksX4_codes_4 0 rfl rfl)
theorem dX4_codes_96 : decode cX4_codes 96 = .ok (.goto (-85), 3) := dk_167 255 171 (dk_at dksX4_codes_4 3 rfl rfl)
theorem dX4_codes_99 : decode cX4_codes 99 = .ok (.aload_n 1, 1) := dk_43 (dk_at dksX4_codes_4 6 rfl rfl)
theorem dX4_codes_100 : decode cX4_codes 100 = .ok (.areturn, 1) := dk_176 (dk_at dksX4_codes_4 7 rfl rfl)
abbrev cX4_signs : ByteArray := prog_5_method_3_code
def yX4_signs : MethodName := ⟨RX4, "signs", "()I"⟩
def dkwX4_signs_2 : List UInt8 := [27, 172]
abbrev dktX4_signs_2 : List UInt8 := dkwX4_signs_2 ++ []
def dkwX4_signs_1 : List UInt8 := [54, 5, 27, 21, 5, 184, 0, 50, 153, 0, 7, 3, 167, 0, 4, 4, 96, 60, 132, 4, 1, 167, 255, 225]
abbrev dktX4_signs_1 : List UInt8 := dkwX4_signs_1 ++ dktX4_signs_2
def dkwX4_signs_0 : List UInt8 := [3, 60, 42, 180, 0, 39, 77, 44, 190, 62, 3, 54, 4, 21, 4, 29, 162, 0, 31, 44, 21, 4, 52]
abbrev dktX4_signs_0 : List UInt8 := dkwX4_signs_0 ++ dktX4_signs_1
theorem dksX4_signs_0 : cX4_signs.data.toList.drop 0 = dktX4_signs_0 := by decide +kernel
theorem dksX4_signs_1 : cX4_signs.data.toList.drop 23 = dktX4_signs_1 := dk_seg dksX4_signs_0 23 rfl rfl
theorem dksX4_signs_2 : cX4_signs.data.toList.drop 47 = dktX4_signs_2 := dk_seg dksX4_signs_1 24 rfl rfl
theorem dX4_signs_0 : decode cX4_signs 0 = .ok (.iconst 0, 1) := dk_3 (dk_at dksX4_signs_0 0 rfl rfl)
theorem dX4_signs_1 : decode cX4_signs 1 = .ok (.istore_n 1, 1) := dk_60 (dk_at dksX4_signs_0 1 rfl rfl)
theorem dX4_signs_2 : decode cX4_signs 2 = .ok (.aload_n 0, 1) := dk_42 (dk_at dksX4_signs_0 2 rfl rfl)
theorem dX4_signs_3 : decode cX4_signs 3 = .ok (.getfield 39, 3) := dk_180 0 39 (dk_at dksX4_signs_0 3 rfl rfl)
theorem dX4_signs_6 : decode cX4_signs 6 = .ok (.astore_n 2, 1) := dk_77 (dk_at dksX4_signs_0 6 rfl rfl)
theorem dX4_signs_7 : decode cX4_signs 7 = .ok (.aload_n 2, 1) := dk_44 (dk_at dksX4_signs_0 7 rfl rfl)
theorem dX4_signs_8 : decode cX4_signs 8 = .ok (.arraylength, 1) := dk_190 (dk_at dksX4_signs_0 8 rfl rfl)
theorem dX4_signs_9 : decode cX4_signs 9 = .ok (.istore_n 3, 1) := dk_62 (dk_at dksX4_signs_0 9 rfl rfl)
theorem dX4_signs_10 : decode cX4_signs 10 = .ok (.iconst 0, 1) := dk_3 (dk_at dksX4_signs_0 10 rfl rfl)
theorem dX4_signs_11 : decode cX4_signs 11 = .ok (.istore 4, 2) := dk_54 4 (dk_at dksX4_signs_0 11 rfl rfl)
theorem dX4_signs_13 : decode cX4_signs 13 = .ok (.iload 4, 2) := dk_21 4 (dk_at dksX4_signs_0 13 rfl rfl)
theorem dX4_signs_15 : decode cX4_signs 15 = .ok (.iload_n 3, 1) := dk_29 (dk_at dksX4_signs_0 15 rfl rfl)
theorem dX4_signs_16 : decode cX4_signs 16 = .ok (.if_icmp .ge 31, 3) := dk_162 0 31 (dk_at dksX4_signs_0 16 rfl rfl)
theorem dX4_signs_19 : decode cX4_signs 19 = .ok (.aload_n 2, 1) := dk_44 (dk_at dksX4_signs_0 19 rfl rfl)
theorem dX4_signs_20 : decode cX4_signs 20 = .ok (.iload 4, 2) := dk_21 4 (dk_at dksX4_signs_0 20 rfl rfl)
theorem dX4_signs_22 : decode cX4_signs 22 = .ok (.caload, 1) := dk_52 (dk_at dksX4_signs_0 22 rfl rfl)
theorem dX4_signs_23 : decode cX4_signs 23 = .ok (.istore 5, 2) := dk_54 5 (dk_at dksX4_signs_1 0 rfl rfl)
theorem dX4_signs_25 : decode cX4_signs 25 = .ok (.iload_n 1, 1) := dk_27 (dk_at dksX4_signs_1 2 rfl rfl)
theorem dX4_signs_26 : decode cX4_signs 26 = .ok (.iload 5, 2) := dk_21 5 (dk_at dksX4_signs_1 3 rfl rfl)
theorem dX4_signs_28 : decode cX4_signs 28 = .ok (.invokestatic 50, 3) := dk_184 0 50 (dk_at dksX4_signs_1 5 rfl rfl)
theorem dX4_signs_31 : decode cX4_signs 31 = .ok (.ifCond .eq 7, 3) := dk_153 0 7 (dk_at dksX4_signs_1 8 rfl rfl)
theorem dX4_signs_34 : decode cX4_signs 34 = .ok (.iconst 0, 1) := dk_3 (dk_at dksX4_signs_1 11 rfl rfl)
theorem dX4_signs_35 : decode cX4_signs 35 = .ok (.goto 4, 3) := dk_167 0 4 (dk_at dksX4_signs_1 12 rfl rfl)
theorem dX4_signs_38 : decode cX4_signs 38 = .ok (.iconst 1, 1) := dk_4 (dk_at dksX4_signs_1 15 rfl rfl)
theorem dX4_signs_39 : decode cX4_signs 39 = .ok (.iadd, 1) := dk_96 (dk_at dksX4_signs_1 16 rfl rfl)
theorem dX4_signs_40 : decode cX4_signs 40 = .ok (.istore_n 1, 1) := dk_60 (dk_at dksX4_signs_1 17 rfl rfl)
theorem dX4_signs_41 : decode cX4_signs 41 = .ok (.iinc 4 1, 3) := dk_132 4 1 (dk_at dksX4_signs_1 18 rfl rfl)
theorem dX4_signs_44 : decode cX4_signs 44 = .ok (.goto (-31), 3) := dk_167 255 225 (dk_at dksX4_signs_1 21 rfl rfl)
theorem dX4_signs_47 : decode cX4_signs 47 = .ok (.iload_n 1, 1) := dk_27 (dk_at dksX4_signs_2 0 rfl rfl)
theorem dX4_signs_48 : decode cX4_signs 48 = .ok (.ireturn, 1) := dk_172 (dk_at dksX4_signs_2 1 rfl rfl)
abbrev cX4_byteSum : ByteArray := prog_5_method_7_code
def yX4_byteSum : MethodName := ⟨RX4, "byteSum", "()B"⟩
def dkwX4_byteSum_1 : List UInt8 := [54, 5, 27, 21, 5, 145, 96, 145, 60, 132, 4, 1, 167, 255, 234, 27, 172]
abbrev dktX4_byteSum_1 : List UInt8 := dkwX4_byteSum_1 ++ []
def dkwX4_byteSum_0 : List UInt8 := [3, 60, 42, 180, 0, 39, 77, 44, 190, 62, 3, 54, 4, 21, 4, 29, 162, 0, 22, 44, 21, 4, 52]
abbrev dktX4_byteSum_0 : List UInt8 := dkwX4_byteSum_0 ++ dktX4_byteSum_1
theorem dksX4_byteSum_0 : cX4_byteSum.data.toList.drop 0 = dktX4_byteSum_0 := by decide +kernel
theorem dksX4_byteSum_1 : cX4_byteSum.data.toList.drop 23 = dktX4_byteSum_1 := dk_seg dksX4_byteSum_0 23 rfl rfl
theorem dX4_byteSum_0 : decode cX4_byteSum 0 = .ok (.iconst 0, 1) := dk_3 (dk_at dksX4_byteSum_0 0 rfl rfl)
theorem dX4_byteSum_1 : decode cX4_byteSum 1 = .ok (.istore_n 1, 1) := dk_60 (dk_at dksX4_byteSum_0 1 rfl rfl)
theorem dX4_byteSum_2 : decode cX4_byteSum 2 = .ok (.aload_n 0, 1) := dk_42 (dk_at dksX4_byteSum_0 2 rfl rfl)
theorem dX4_byteSum_3 : decode cX4_byteSum 3 = .ok (.getfield 39, 3) := dk_180 0 39 (dk_at dksX4_byteSum_0 3 rfl rfl)
theorem dX4_byteSum_6 : decode cX4_byteSum 6 = .ok (.astore_n 2, 1) := dk_77 (dk_at dksX4_byteSum_0 6 rfl rfl)
theorem dX4_byteSum_7 : decode cX4_byteSum 7 = .ok (.aload_n 2, 1) := dk_44 (dk_at dksX4_byteSum_0 7 rfl rfl)
theorem dX4_byteSum_8 : decode cX4_byteSum 8 = .ok (.arraylength, 1) := dk_190 (dk_at dksX4_byteSum_0 8 rfl rfl)
theorem dX4_byteSum_9 : decode cX4_byteSum 9 = .ok (.istore_n 3, 1) := dk_62 (dk_at dksX4_byteSum_0 9 rfl rfl)
theorem dX4_byteSum_10 : decode cX4_byteSum 10 = .ok (.iconst 0, 1) := dk_3 (dk_at dksX4_byteSum_0 10 rfl rfl)
theorem dX4_byteSum_11 : decode cX4_byteSum 11 = .ok (.istore 4, 2) := dk_54 4 (dk_at dksX4_byteSum_0 11 rfl rfl)
theorem dX4_byteSum_13 : decode cX4_byteSum 13 = .ok (.iload 4, 2) := dk_21 4 (dk_at dksX4_byteSum_0 13 rfl rfl)
theorem dX4_byteSum_15 : decode cX4_byteSum 15 = .ok (.iload_n 3, 1) := dk_29 (dk_at dksX4_byteSum_0 15 rfl rfl)
theorem dX4_byteSum_16 : decode cX4_byteSum 16 = .ok (.if_icmp .ge 22, 3) := dk_162 0 22 (dk_at dksX4_byteSum_0 16 rfl rfl)
theorem dX4_byteSum_19 : decode cX4_byteSum 19 = .ok (.aload_n 2, 1) := dk_44 (dk_at dksX4_byteSum_0 19 rfl rfl)
theorem dX4_byteSum_20 : decode cX4_byteSum 20 = .ok (.iload 4, 2) := dk_21 4 (dk_at dksX4_byteSum_0 20 rfl rfl)
theorem dX4_byteSum_22 : decode cX4_byteSum 22 = .ok (.caload, 1) := dk_52 (dk_at dksX4_byteSum_0 22 rfl rfl)
theorem dX4_byteSum_23 : decode cX4_byteSum 23 = .ok (.istore 5, 2) := dk_54 5 (dk_at dksX4_byteSum_1 0 rfl rfl)
theorem dX4_byteSum_25 : decode cX4_byteSum 25 = .ok (.iload_n 1, 1) := dk_27 (dk_at dksX4_byteSum_1 2 rfl rfl)
theorem dX4_byteSum_26 : decode cX4_byteSum 26 = .ok (.iload 5, 2) := dk_21 5 (dk_at dksX4_byteSum_1 3 rfl rfl)
theorem dX4_byteSum_28 : decode cX4_byteSum 28 = .ok (.i2b, 1) := dk_145 (dk_at dksX4_byteSum_1 5 rfl rfl)
theorem dX4_byteSum_29 : decode cX4_byteSum 29 = .ok (.iadd, 1) := dk_96 (dk_at dksX4_byteSum_1 6 rfl rfl)
theorem dX4_byteSum_30 : decode cX4_byteSum 30 = .ok (.i2b, 1) := dk_145 (dk_at dksX4_byteSum_1 7 rfl rfl)
theorem dX4_byteSum_31 : decode cX4_byteSum 31 = .ok (.istore_n 1, 1) := dk_60 (dk_at dksX4_byteSum_1 8 rfl rfl)
theorem dX4_byteSum_32 : decode cX4_byteSum 32 = .ok (.iinc 4 1, 3) := dk_132 4 1 (dk_at dksX4_byteSum_1 9 rfl rfl)
theorem dX4_byteSum_35 : decode cX4_byteSum 35 = .ok (.goto (-22), 3) := dk_167 255 234 (dk_at dksX4_byteSum_1 12 rfl rfl)
theorem dX4_byteSum_38 : decode cX4_byteSum 38 = .ok (.iload_n 1, 1) := dk_27 (dk_at dksX4_byteSum_1 15 rfl rfl)
theorem dX4_byteSum_39 : decode cX4_byteSum 39 = .ok (.ireturn, 1) := dk_172 (dk_at dksX4_byteSum_1 16 rfl rfl)
abbrev cX4_shortSum : ByteArray := prog_5_method_8_code
def yX4_shortSum : MethodName := ⟨RX4, "shortSum", "()S"⟩
def dkwX4_shortSum_1 : List UInt8 := [54, 5, 27, 16, 31, 104, 147, 60, 27, 21, 5, 147, 96, 147, 60, 132, 4, 1, 167, 255, 228, 27, 172]
abbrev dktX4_shortSum_1 : List UInt8 := dkwX4_shortSum_1 ++ []
def dkwX4_shortSum_0 : List UInt8 := [3, 60, 42, 180, 0, 39, 77, 44, 190, 62, 3, 54, 4, 21, 4, 29, 162, 0, 28, 44, 21, 4, 52]
abbrev dktX4_shortSum_0 : List UInt8 := dkwX4_shortSum_0 ++ dktX4_shortSum_1
theorem dksX4_shortSum_0 : cX4_shortSum.data.toList.drop 0 = dktX4_shortSum_0 := by decide +kernel
theorem dksX4_shortSum_1 : cX4_shortSum.data.toList.drop 23 = dktX4_shortSum_1 := dk_seg dksX4_shortSum_0 23 rfl rfl
theorem dX4_shortSum_0 : decode cX4_shortSum 0 = .ok (.iconst 0, 1) := dk_3 (dk_at dksX4_shortSum_0 0 rfl rfl)
theorem dX4_shortSum_1 : decode cX4_shortSum 1 = .ok (.istore_n 1, 1) := dk_60 (dk_at dksX4_shortSum_0 1 rfl rfl)
theorem dX4_shortSum_2 : decode cX4_shortSum 2 = .ok (.aload_n 0, 1) := dk_42 (dk_at dksX4_shortSum_0 2 rfl rfl)
theorem dX4_shortSum_3 : decode cX4_shortSum 3 = .ok (.getfield 39, 3) := dk_180 0 39 (dk_at dksX4_shortSum_0 3 rfl rfl)
theorem dX4_shortSum_6 : decode cX4_shortSum 6 = .ok (.astore_n 2, 1) := dk_77 (dk_at dksX4_shortSum_0 6 rfl rfl)
theorem dX4_shortSum_7 : decode cX4_shortSum 7 = .ok (.aload_n 2, 1) := dk_44 (dk_at dksX4_shortSum_0 7 rfl rfl)
theorem dX4_shortSum_8 : decode cX4_shortSum 8 = .ok (.arraylength, 1) := dk_190 (dk_at dksX4_shortSum_0 8 rfl rfl)
theorem dX4_shortSum_9 : decode cX4_shortSum 9 = .ok (.istore_n 3, 1) := dk_62 (dk_at dksX4_shortSum_0 9 rfl rfl)
theorem dX4_shortSum_10 : decode cX4_shortSum 10 = .ok (.iconst 0, 1) := dk_3 (dk_at dksX4_shortSum_0 10 rfl rfl)
theorem dX4_shortSum_11 : decode cX4_shortSum 11 = .ok (.istore 4, 2) := dk_54 4 (dk_at dksX4_shortSum_0 11 rfl rfl)
theorem dX4_shortSum_13 : decode cX4_shortSum 13 = .ok (.iload 4, 2) := dk_21 4 (dk_at dksX4_shortSum_0 13 rfl rfl)
theorem dX4_shortSum_15 : decode cX4_shortSum 15 = .ok (.iload_n 3, 1) := dk_29 (dk_at dksX4_shortSum_0 15 rfl rfl)
theorem dX4_shortSum_16 : decode cX4_shortSum 16 = .ok (.if_icmp .ge 28, 3) := dk_162 0 28 (dk_at dksX4_shortSum_0 16 rfl rfl)
theorem dX4_shortSum_19 : decode cX4_shortSum 19 = .ok (.aload_n 2, 1) := dk_44 (dk_at dksX4_shortSum_0 19 rfl rfl)
theorem dX4_shortSum_20 : decode cX4_shortSum 20 = .ok (.iload 4, 2) := dk_21 4 (dk_at dksX4_shortSum_0 20 rfl rfl)
theorem dX4_shortSum_22 : decode cX4_shortSum 22 = .ok (.caload, 1) := dk_52 (dk_at dksX4_shortSum_0 22 rfl rfl)
theorem dX4_shortSum_23 : decode cX4_shortSum 23 = .ok (.istore 5, 2) := dk_54 5 (dk_at dksX4_shortSum_1 0 rfl rfl)
theorem dX4_shortSum_25 : decode cX4_shortSum 25 = .ok (.iload_n 1, 1) := dk_27 (dk_at dksX4_shortSum_1 2 rfl rfl)
theorem dX4_shortSum_26 : decode cX4_shortSum 26 = .ok (.bipush 31, 2) := dk_16 31 (dk_at dksX4_shortSum_1 3 rfl rfl)
theorem dX4_shortSum_28 : decode cX4_shortSum 28 = .ok (.imul, 1) := dk_104 (dk_at dksX4_shortSum_1 5 rfl rfl)
theorem dX4_shortSum_29 : decode cX4_shortSum 29 = .ok (.i2s, 1) := dk_147 (dk_at dksX4_shortSum_1 6 rfl rfl)
theorem dX4_shortSum_30 : decode cX4_shortSum 30 = .ok (.istore_n 1, 1) := dk_60 (dk_at dksX4_shortSum_1 7 rfl rfl)
theorem dX4_shortSum_31 : decode cX4_shortSum 31 = .ok (.iload_n 1, 1) := dk_27 (dk_at dksX4_shortSum_1 8 rfl rfl)
theorem dX4_shortSum_32 : decode cX4_shortSum 32 = .ok (.iload 5, 2) := dk_21 5 (dk_at dksX4_shortSum_1 9 rfl rfl)
theorem dX4_shortSum_34 : decode cX4_shortSum 34 = .ok (.i2s, 1) := dk_147 (dk_at dksX4_shortSum_1 11 rfl rfl)
theorem dX4_shortSum_35 : decode cX4_shortSum 35 = .ok (.iadd, 1) := dk_96 (dk_at dksX4_shortSum_1 12 rfl rfl)
theorem dX4_shortSum_36 : decode cX4_shortSum 36 = .ok (.i2s, 1) := dk_147 (dk_at dksX4_shortSum_1 13 rfl rfl)
theorem dX4_shortSum_37 : decode cX4_shortSum 37 = .ok (.istore_n 1, 1) := dk_60 (dk_at dksX4_shortSum_1 14 rfl rfl)
theorem dX4_shortSum_38 : decode cX4_shortSum 38 = .ok (.iinc 4 1, 3) := dk_132 4 1 (dk_at dksX4_shortSum_1 15 rfl rfl)
theorem dX4_shortSum_41 : decode cX4_shortSum 41 = .ok (.goto (-28), 3) := dk_167 255 228 (dk_at dksX4_shortSum_1 18 rfl rfl)
theorem dX4_shortSum_44 : decode cX4_shortSum 44 = .ok (.iload_n 1, 1) := dk_27 (dk_at dksX4_shortSum_1 21 rfl rfl)
theorem dX4_shortSum_45 : decode cX4_shortSum 45 = .ok (.ireturn, 1) := dk_172 (dk_at dksX4_shortSum_1 22 rfl rfl)
theorem q87 : (Jvm.Cond.initialized "Homewatcher$Version") ∈ lw_all := lw_g (lw_at lw_m1 34 rfl) rfl
theorem q1197 : (Jvm.Cond.instanceMethod ({ cls := "Homewatcher$Version", name := "isOf", desc := "(ILHomewatcher$Task;)Z" } : Jvm.MethodName)) ∈ lw_all := lw_g (lw_at lw_m5 184 rfl) rfl
theorem q1198 : (Jvm.Cond.selects "Homewatcher$Version" ({ cls := "Homewatcher$Version", name := "isOf", desc := "(ILHomewatcher$Task;)Z" } : Jvm.MethodName) ({ cls := "Homewatcher$Version", name := "isOf", desc := "(ILHomewatcher$Task;)Z" } : Jvm.MethodName)) ∈ lw_all := lw_g (lw_at lw_m5 185 rfl) rfl
theorem q1199 : (Jvm.Cond.code ({ cls := "Homewatcher$Version", name := "isOf", desc := "(ILHomewatcher$Task;)Z" } : Jvm.MethodName) prog_5_method_6_code (3 : Nat) (Option.some Jvm.ClassFile.FieldType.boolean)) ∈ lw_all := lw_g (lw_at lw_m5 186 rfl) rfl
theorem q1219 : (Jvm.Cond.selects "Homewatcher$Version" ({ cls := "java/lang/Object", name := "equals", desc := "(Ljava/lang/Object;)Z" } : Jvm.MethodName) ({ cls := "java/lang/Object", name := "equals", desc := "(Ljava/lang/Object;)Z" } : Jvm.MethodName)) ∈ lw_all := lw_g (lw_at lw_m5 206 rfl) rfl
theorem q1267 : (Jvm.Cond.instanceMethod ({ cls := "Homewatcher$Version", name := "shared", desc := "(LHomewatcher$Version;)I" } : Jvm.MethodName)) ∈ lw_all := lw_g (lw_at lw_m6 14 rfl) rfl
theorem q1268 : (Jvm.Cond.selects "Homewatcher$Version" ({ cls := "Homewatcher$Version", name := "shared", desc := "(LHomewatcher$Version;)I" } : Jvm.MethodName) ({ cls := "Homewatcher$Version", name := "shared", desc := "(LHomewatcher$Version;)I" } : Jvm.MethodName)) ∈ lw_all := lw_g (lw_at lw_m6 15 rfl) rfl
theorem q1269 : (Jvm.Cond.code ({ cls := "Homewatcher$Version", name := "shared", desc := "(LHomewatcher$Version;)I" } : Jvm.MethodName) prog_5_method_5_code (5 : Nat) (Option.some Jvm.ClassFile.FieldType.int)) ∈ lw_all := lw_g (lw_at lw_m6 16 rfl) rfl
theorem q1270 : (Jvm.Cond.methodLink "Homewatcher$Version" (70 : Nat) ({ cls := "java/util/TreeSet", name := "iterator", desc := "()Ljava/util/Iterator;" } : Jvm.MethodName)) ∈ lw_all := lw_g (lw_at lw_m6 17 rfl) rfl
theorem q1271 : (Jvm.Cond.interfaceEntry "Homewatcher$Version" (74 : Nat)) ∈ lw_tbl := lw_at lw_m6 18 rfl
theorem q1272 : (Jvm.Cond.methodLink "Homewatcher$Version" (74 : Nat) ({ cls := "java/util/Iterator", name := "hasNext", desc := "()Z" } : Jvm.MethodName)) ∈ lw_all := lw_g (lw_at lw_m6 19 rfl) rfl
theorem q1273 : (Jvm.Cond.interfaceEntry "Homewatcher$Version" (80 : Nat)) ∈ lw_tbl := lw_at lw_m6 20 rfl
theorem q1274 : (Jvm.Cond.methodLink "Homewatcher$Version" (80 : Nat) ({ cls := "java/util/Iterator", name := "next", desc := "()Ljava/lang/Object;" } : Jvm.MethodName)) ∈ lw_all := lw_g (lw_at lw_m6 21 rfl) rfl
theorem q1275 : (Jvm.Cond.classLink "Homewatcher$Version" (61 : Nat) "java/lang/Integer") ∈ lw_all := lw_g (lw_at lw_m6 22 rfl) rfl
theorem q1276 : (Jvm.Cond.methodLink "Homewatcher$Version" (84 : Nat) ({ cls := "java/lang/Integer", name := "intValue", desc := "()I" } : Jvm.MethodName)) ∈ lw_all := lw_g (lw_at lw_m6 23 rfl) rfl
theorem q1277 : (Jvm.Cond.methodLink "Homewatcher$Version" (60 : Nat) ({ cls := "java/lang/Integer", name := "valueOf", desc := "(I)Ljava/lang/Integer;" } : Jvm.MethodName)) ∈ lw_all := lw_g (lw_at lw_m6 24 rfl) rfl
theorem q1278 : (Jvm.Cond.methodLink "Homewatcher$Version" (87 : Nat) ({ cls := "java/util/TreeSet", name := "contains", desc := "(Ljava/lang/Object;)Z" } : Jvm.MethodName)) ∈ lw_all := lw_g (lw_at lw_m6 25 rfl) rfl
theorem q1375 : (Jvm.Cond.selects "Homewatcher$Version" ({ cls := "java/lang/Object", name := "getClass", desc := "()Ljava/lang/Class;" } : Jvm.MethodName) ({ cls := "java/lang/Object", name := "getClass", desc := "()Ljava/lang/Class;" } : Jvm.MethodName)) ∈ lw_all := lw_g (lw_at lw_m6 122 rfl) rfl
theorem q1585 : (Jvm.Cond.instantiable "Homewatcher$Version" (10 : Nat)) ∈ lw_all := lw_g (lw_at lw_m7 92 rfl) rfl
theorem q1587 : (Jvm.Cond.instanceMethod ({ cls := "Homewatcher$Version", name := "<init>", desc := "(IILHomewatcher$Task;LHomewatcher$Version;I[C)V" } : Jvm.MethodName)) ∈ lw_all := lw_g (lw_at lw_m7 94 rfl) rfl
theorem q1588 : (Jvm.Cond.code ({ cls := "Homewatcher$Version", name := "<init>", desc := "(IILHomewatcher$Task;LHomewatcher$Version;I[C)V" } : Jvm.MethodName) prog_5_method_1_code (7 : Nat) (Option.none : Option Jvm.ClassFile.FieldType)) ∈ lw_all := lw_g (lw_at lw_m7 95 rfl) rfl
theorem q1589 : (Jvm.Cond.methodLink "Homewatcher$Version" (3 : Nat) ({ cls := "java/lang/Object", name := "<init>", desc := "()V" } : Jvm.MethodName)) ∈ lw_all := lw_g (lw_at lw_m7 96 rfl) rfl
theorem q1590 : (Jvm.Cond.classLink "Homewatcher$Version" (9 : Nat) "java/util/TreeSet") ∈ lw_all := lw_g (lw_at lw_m7 97 rfl) rfl
theorem q1592 : (Jvm.Cond.methodLink "Homewatcher$Version" (11 : Nat) ({ cls := "java/util/TreeSet", name := "<init>", desc := "()V" } : Jvm.MethodName)) ∈ lw_all := lw_g (lw_at lw_m7 99 rfl) rfl
theorem q1606 : (Jvm.Cond.methodLink "Homewatcher$Version" (43 : Nat) ({ cls := "Homewatcher$Version", name := "layShingles", desc := "()V" } : Jvm.MethodName)) ∈ lw_all := lw_g (lw_at lw_m7 113 rfl) rfl
theorem q1607 : (Jvm.Cond.privateMethod ({ cls := "Homewatcher$Version", name := "layShingles", desc := "()V" } : Jvm.MethodName)) ∈ lw_tbl := lw_at lw_m7 114 rfl
theorem q1608 : (Jvm.Cond.instanceMethod ({ cls := "Homewatcher$Version", name := "layShingles", desc := "()V" } : Jvm.MethodName)) ∈ lw_all := lw_g (lw_at lw_m7 115 rfl) rfl
theorem q1609 : (Jvm.Cond.code ({ cls := "Homewatcher$Version", name := "layShingles", desc := "()V" } : Jvm.MethodName) prog_5_method_4_code (5 : Nat) (Option.none : Option Jvm.ClassFile.FieldType)) ∈ lw_all := lw_g (lw_at lw_m7 116 rfl) rfl
theorem q1610 : (Jvm.Cond.methodLink "Homewatcher$Version" (55 : Nat) ({ cls := "Homewatcher$Version", name := "codes", desc := "()[I" } : Jvm.MethodName)) ∈ lw_all := lw_g (lw_at lw_m7 117 rfl) rfl
theorem q1611 : (Jvm.Cond.privateMethod ({ cls := "Homewatcher$Version", name := "codes", desc := "()[I" } : Jvm.MethodName)) ∈ lw_tbl := lw_at lw_m7 118 rfl
theorem q1612 : (Jvm.Cond.instanceMethod ({ cls := "Homewatcher$Version", name := "codes", desc := "()[I" } : Jvm.MethodName)) ∈ lw_all := lw_g (lw_at lw_m7 119 rfl) rfl
theorem q1613 : (Jvm.Cond.code ({ cls := "Homewatcher$Version", name := "codes", desc := "()[I" } : Jvm.MethodName) prog_5_method_2_code (5 : Nat) (Option.some (Jvm.ClassFile.FieldType.array Jvm.ClassFile.FieldType.int))) ∈ lw_all := lw_g (lw_at lw_m7 120 rfl) rfl
theorem q1614 : (Jvm.Cond.methodLink "Homewatcher$Version" (46 : Nat) ({ cls := "Homewatcher$Version", name := "signs", desc := "()I" } : Jvm.MethodName)) ∈ lw_all := lw_g (lw_at lw_m7 121 rfl) rfl
theorem q1615 : (Jvm.Cond.instanceMethod ({ cls := "Homewatcher$Version", name := "signs", desc := "()I" } : Jvm.MethodName)) ∈ lw_all := lw_g (lw_at lw_m7 122 rfl) rfl
theorem q1616 : (Jvm.Cond.selects "Homewatcher$Version" ({ cls := "Homewatcher$Version", name := "signs", desc := "()I" } : Jvm.MethodName) ({ cls := "Homewatcher$Version", name := "signs", desc := "()I" } : Jvm.MethodName)) ∈ lw_all := lw_g (lw_at lw_m7 123 rfl) rfl
theorem q1617 : (Jvm.Cond.code ({ cls := "Homewatcher$Version", name := "signs", desc := "()I" } : Jvm.MethodName) prog_5_method_3_code (6 : Nat) (Option.some Jvm.ClassFile.FieldType.int)) ∈ lw_all := lw_g (lw_at lw_m7 124 rfl) rfl
theorem q1618 : (Jvm.Cond.methodLinkNest "Homewatcher$Version" (50 : Nat) ({ cls := "Homewatcher", name := "isHigh", desc := "(C)Z" } : Jvm.MethodName) "Homewatcher") ∈ lw_tbl := lw_at lw_m7 125 rfl
theorem q1619 : (Jvm.Cond.constant "Homewatcher$Version" (54 : Nat) (65536 : Int32)) ∈ lw_all := lw_g (lw_at lw_m7 126 rfl) rfl
theorem q1620 : (Jvm.Cond.constant "Homewatcher$Version" (59 : Nat) (1048575 : Int32)) ∈ lw_all := lw_g (lw_at lw_m7 127 rfl) rfl
theorem q1621 : (Jvm.Cond.methodLink "Homewatcher$Version" (66 : Nat) ({ cls := "java/util/TreeSet", name := "add", desc := "(Ljava/lang/Object;)Z" } : Jvm.MethodName)) ∈ lw_all := lw_g (lw_at lw_m7 128 rfl) rfl
theorem q1633 : (Jvm.Cond.fieldLink "Homewatcher$Version" (22 : Nat) "Homewatcher$Version" "number" "I") ∈ lw_all := lw_g (lw_at lw_m7 140 rfl) rfl
theorem q1635 : (Jvm.Cond.fieldLink "Homewatcher$Version" (25 : Nat) "Homewatcher$Version" "pupil" "I") ∈ lw_all := lw_g (lw_at lw_m7 142 rfl) rfl
theorem q1637 : (Jvm.Cond.fieldLink "Homewatcher$Version" (28 : Nat) "Homewatcher$Version" "task" "LHomewatcher$Task;") ∈ lw_all := lw_g (lw_at lw_m7 144 rfl) rfl
theorem q1639 : (Jvm.Cond.fieldLink "Homewatcher$Version" (32 : Nat) "Homewatcher$Version" "parent" "LHomewatcher$Version;") ∈ lw_all := lw_g (lw_at lw_m7 146 rfl) rfl
theorem q1641 : (Jvm.Cond.fieldLink "Homewatcher$Version" (36 : Nat) "Homewatcher$Version" "saved" "I") ∈ lw_all := lw_g (lw_at lw_m7 148 rfl) rfl
theorem q1643 : (Jvm.Cond.fieldLink "Homewatcher$Version" (39 : Nat) "Homewatcher$Version" "chars" "[C") ∈ lw_all := lw_g (lw_at lw_m7 150 rfl) rfl
theorem q1645 : (Jvm.Cond.fieldLink "Homewatcher$Version" (12 : Nat) "Homewatcher$Version" "shingles" "Ljava/util/TreeSet;") ∈ lw_all := lw_g (lw_at lw_m7 152 rfl) rfl
theorem q1647 : (Jvm.Cond.fieldLink "Homewatcher$Version" (18 : Nat) "Homewatcher$Version" "handed" "I") ∈ lw_all := lw_g (lw_at lw_m7 154 rfl) rfl
theorem q1651 : (Jvm.Cond.laysFinal "Homewatcher$Version" "Homewatcher$Version" "number" "I") ∈ lw_all := lw_g (lw_at lw_m7 158 rfl) rfl
theorem q1652 : (Jvm.Cond.soleField "Homewatcher$Version" "number") ∈ lw_all := lw_g (lw_at lw_m7 159 rfl) rfl
theorem q1653 : (Jvm.Cond.laysFinal "Homewatcher$Version" "Homewatcher$Version" "pupil" "I") ∈ lw_all := lw_g (lw_at lw_m7 160 rfl) rfl
theorem q1654 : (Jvm.Cond.soleField "Homewatcher$Version" "pupil") ∈ lw_all := lw_g (lw_at lw_m7 161 rfl) rfl
theorem q1655 : (Jvm.Cond.laysFinal "Homewatcher$Version" "Homewatcher$Version" "task" "LHomewatcher$Task;") ∈ lw_all := lw_g (lw_at lw_m7 162 rfl) rfl
theorem q1656 : (Jvm.Cond.soleField "Homewatcher$Version" "task") ∈ lw_all := lw_g (lw_at lw_m7 163 rfl) rfl
theorem q1657 : (Jvm.Cond.laysFinal "Homewatcher$Version" "Homewatcher$Version" "parent" "LHomewatcher$Version;") ∈ lw_all := lw_g (lw_at lw_m7 164 rfl) rfl
theorem q1658 : (Jvm.Cond.soleField "Homewatcher$Version" "parent") ∈ lw_all := lw_g (lw_at lw_m7 165 rfl) rfl
theorem q1659 : (Jvm.Cond.laysFinal "Homewatcher$Version" "Homewatcher$Version" "saved" "I") ∈ lw_all := lw_g (lw_at lw_m7 166 rfl) rfl
theorem q1660 : (Jvm.Cond.soleField "Homewatcher$Version" "saved") ∈ lw_all := lw_g (lw_at lw_m7 167 rfl) rfl
theorem q1661 : (Jvm.Cond.laysFinal "Homewatcher$Version" "Homewatcher$Version" "chars" "[C") ∈ lw_all := lw_g (lw_at lw_m7 168 rfl) rfl
theorem q1662 : (Jvm.Cond.soleField "Homewatcher$Version" "chars") ∈ lw_all := lw_g (lw_at lw_m7 169 rfl) rfl
theorem q1663 : (Jvm.Cond.laysFinal "Homewatcher$Version" "Homewatcher$Version" "shingles" "Ljava/util/TreeSet;") ∈ lw_all := lw_g (lw_at lw_m7 170 rfl) rfl
theorem q1664 : (Jvm.Cond.soleField "Homewatcher$Version" "shingles") ∈ lw_all := lw_g (lw_at lw_m7 171 rfl) rfl
theorem q1665 : (Jvm.Cond.lays "Homewatcher$Version" "Homewatcher$Version" "handed" "I") ∈ lw_all := lw_g (lw_at lw_m7 172 rfl) rfl
theorem q1666 : (Jvm.Cond.soleField "Homewatcher$Version" "handed") ∈ lw_all := lw_g (lw_at lw_m7 173 rfl) rfl
theorem q1667 : (Jvm.Cond.lays "Homewatcher$Version" "Homewatcher$Version" "points" "I") ∈ lw_all := lw_g (lw_at lw_m7 174 rfl) rfl
theorem q1668 : (Jvm.Cond.soleField "Homewatcher$Version" "points") ∈ lw_all := lw_g (lw_at lw_m7 175 rfl) rfl
theorem q1669 : (Jvm.Cond.lays "Homewatcher$Version" "Homewatcher$Version" "isIn" "Z") ∈ lw_all := lw_g (lw_at lw_m7 176 rfl) rfl
theorem q1670 : (Jvm.Cond.soleField "Homewatcher$Version" "isIn") ∈ lw_all := lw_g (lw_at lw_m7 177 rfl) rfl
theorem q1671 : (Jvm.Cond.superclass "Homewatcher$Version" "java/lang/Object") ∈ lw_all := lw_g (lw_at lw_m7 178 rfl) rfl
theorem q1964 : (Jvm.Cond.instanceMethod ({ cls := "Homewatcher$Version", name := "byteSum", desc := "()B" } : Jvm.MethodName)) ∈ lw_all := lw_g (lw_at lw_m8 231 rfl) rfl
theorem q1965 : (Jvm.Cond.selects "Homewatcher$Version" ({ cls := "Homewatcher$Version", name := "byteSum", desc := "()B" } : Jvm.MethodName) ({ cls := "Homewatcher$Version", name := "byteSum", desc := "()B" } : Jvm.MethodName)) ∈ lw_all := lw_g (lw_at lw_m8 232 rfl) rfl
theorem q1966 : (Jvm.Cond.code ({ cls := "Homewatcher$Version", name := "byteSum", desc := "()B" } : Jvm.MethodName) prog_5_method_7_code (6 : Nat) (Option.some Jvm.ClassFile.FieldType.byte)) ∈ lw_all := lw_g (lw_at lw_m8 233 rfl) rfl
theorem q1975 : (Jvm.Cond.instanceMethod ({ cls := "Homewatcher$Version", name := "shortSum", desc := "()S" } : Jvm.MethodName)) ∈ lw_all := lw_g (lw_at lw_m9 2 rfl) rfl
theorem q1976 : (Jvm.Cond.selects "Homewatcher$Version" ({ cls := "Homewatcher$Version", name := "shortSum", desc := "()S" } : Jvm.MethodName) ({ cls := "Homewatcher$Version", name := "shortSum", desc := "()S" } : Jvm.MethodName)) ∈ lw_all := lw_g (lw_at lw_m9 3 rfl) rfl
theorem q1977 : (Jvm.Cond.code ({ cls := "Homewatcher$Version", name := "shortSum", desc := "()S" } : Jvm.MethodName) prog_5_method_8_code (6 : Nat) (Option.some Jvm.ClassFile.FieldType.short)) ∈ lw_all := lw_g (lw_at lw_m9 4 rfl) rfl
theorem q2445 : (Jvm.Cond.castable "Homewatcher$Version" "java/lang/Object") ∈ lw_tbl := lw_at lw_m10 232 rfl
theorem in_X4 : ∀ w ∈ wsX40, w ∈ lw_all := lw_in wsX40 [1651, 1653, 1655, 1657, 1659, 1661, 1663, 1665, 1667, 1669] (by decide +kernel) (by decide +kernel)
/-! Homewatcher$Hit -/
set_option maxRecDepth 100000
def RX5 : String := "Homewatcher$Hit"
def TX5 : u_T := fun k => match k with
  | 0 => ("Homewatcher$Hit", "number", "I", true)
  | 1 => ("Homewatcher$Hit", "fresh", "LHomewatcher$Version;", true)
  | 2 => ("Homewatcher$Hit", "other", "LHomewatcher$Version;", true)
  | 3 => ("Homewatcher$Hit", "common", "I", true)
  | _ => ("Homewatcher$Hit", "heard", "I", false)
def tyX5 : Nat → FieldType := fun k => match k with
  | 0 => .int
  | 1 => .object "Homewatcher$Version"
  | 2 => .object "Homewatcher$Version"
  | 3 => .int
  | _ => .int
abbrev wsX50 : List Cond := u_ws RX5 TX5 5
theorem nmX5 : ∀ a, a < 5 → ∀ b, b < 5 → a ≠ b → (TX5 a).2.1 ≠ (TX5 b).2.1 := by decide +kernel
theorem tyX5_ok : ∀ k, k < 5 → parseFieldDescriptor (TX5 k).2.2.1 = some (tyX5 k) := by decide +kernel
abbrev cX5_compareTo : ByteArray := prog_2_method_4_code
def yX5_compareTo : MethodName := ⟨RX5, "compareTo", "(Ljava/lang/Object;)I"⟩
def dkwX5_compareTo_0 : List UInt8 := [42, 43, 192, 0, 10, 182, 0, 34, 172]
abbrev dktX5_compareTo_0 : List UInt8 := dkwX5_compareTo_0 ++ []
theorem dksX5_compareTo_0 : cX5_compareTo.data.toList.drop 0 = dktX5_compareTo_0 := by decide +kernel
theorem dX5_compareTo_0 : decode cX5_compareTo 0 = .ok (.aload_n 0, 1) := dk_42 (dk_at dksX5_compareTo_0 0 rfl rfl)
theorem dX5_compareTo_1 : decode cX5_compareTo 1 = .ok (.aload_n 1, 1) := dk_43 (dk_at dksX5_compareTo_0 1 rfl rfl)
theorem dX5_compareTo_2 : decode cX5_compareTo 2 = .ok (.checkcast 10, 3) := dk_192 0 10 (dk_at dksX5_compareTo_0 2 rfl rfl)
theorem dX5_compareTo_5 : decode cX5_compareTo 5 = .ok (.invokevirtual 34, 3) := dk_182 0 34 (dk_at dksX5_compareTo_0 5 rfl rfl)
theorem dX5_compareTo_8 : decode cX5_compareTo 8 = .ok (.ireturn, 1) := dk_172 (dk_at dksX5_compareTo_0 8 rfl rfl)
abbrev cX5_compareTo_2 : ByteArray := prog_2_method_2_code
def yX5_compareTo_2 : MethodName := ⟨RX5, "compareTo", "(LHomewatcher$Hit;)I"⟩
def dkwX5_compareTo_2_1 : List UInt8 := [180, 0, 15, 43, 180, 0, 15, 100, 172]
abbrev dktX5_compareTo_2_1 : List UInt8 := dkwX5_compareTo_2_1 ++ []
def dkwX5_compareTo_2_0 : List UInt8 := [42, 180, 0, 25, 43, 180, 0, 25, 159, 0, 15, 43, 180, 0, 25, 42, 180, 0, 25, 100, 167, 0, 12, 42]
abbrev dktX5_compareTo_2_0 : List UInt8 := dkwX5_compareTo_2_0 ++ dktX5_compareTo_2_1
theorem dksX5_compareTo_2_0 : cX5_compareTo_2.data.toList.drop 0 = dktX5_compareTo_2_0 := by decide +kernel
theorem dksX5_compareTo_2_1 : cX5_compareTo_2.data.toList.drop 24 = dktX5_compareTo_2_1 := dk_seg dksX5_compareTo_2_0 24 rfl rfl
theorem dX5_compareTo_2_0 : decode cX5_compareTo_2 0 = .ok (.aload_n 0, 1) := dk_42 (dk_at dksX5_compareTo_2_0 0 rfl rfl)
theorem dX5_compareTo_2_1 : decode cX5_compareTo_2 1 = .ok (.getfield 25, 3) := dk_180 0 25 (dk_at dksX5_compareTo_2_0 1 rfl rfl)
theorem dX5_compareTo_2_4 : decode cX5_compareTo_2 4 = .ok (.aload_n 1, 1) := dk_43 (dk_at dksX5_compareTo_2_0 4 rfl rfl)
theorem dX5_compareTo_2_5 : decode cX5_compareTo_2 5 = .ok (.getfield 25, 3) := dk_180 0 25 (dk_at dksX5_compareTo_2_0 5 rfl rfl)
theorem dX5_compareTo_2_8 : decode cX5_compareTo_2 8 = .ok (.if_icmp .eq 15, 3) := dk_159 0 15 (dk_at dksX5_compareTo_2_0 8 rfl rfl)
theorem dX5_compareTo_2_11 : decode cX5_compareTo_2 11 = .ok (.aload_n 1, 1) := dk_43 (dk_at dksX5_compareTo_2_0 11 rfl rfl)
theorem dX5_compareTo_2_12 : decode cX5_compareTo_2 12 = .ok (.getfield 25, 3) := dk_180 0 25 (dk_at dksX5_compareTo_2_0 12 rfl rfl)
theorem dX5_compareTo_2_15 : decode cX5_compareTo_2 15 = .ok (.aload_n 0, 1) := dk_42 (dk_at dksX5_compareTo_2_0 15 rfl rfl)
theorem dX5_compareTo_2_16 : decode cX5_compareTo_2 16 = .ok (.getfield 25, 3) := dk_180 0 25 (dk_at dksX5_compareTo_2_0 16 rfl rfl)
theorem dX5_compareTo_2_19 : decode cX5_compareTo_2 19 = .ok (.isub, 1) := dk_100 (dk_at dksX5_compareTo_2_0 19 rfl rfl)
theorem dX5_compareTo_2_20 : decode cX5_compareTo_2 20 = .ok (.goto 12, 3) := dk_167 0 12 (dk_at dksX5_compareTo_2_0 20 rfl rfl)
theorem dX5_compareTo_2_23 : decode cX5_compareTo_2 23 = .ok (.aload_n 0, 1) := dk_42 (dk_at dksX5_compareTo_2_0 23 rfl rfl)
theorem dX5_compareTo_2_24 : decode cX5_compareTo_2 24 = .ok (.getfield 15, 3) := dk_180 0 15 (dk_at dksX5_compareTo_2_1 0 rfl rfl)
theorem dX5_compareTo_2_27 : decode cX5_compareTo_2 27 = .ok (.aload_n 1, 1) := dk_43 (dk_at dksX5_compareTo_2_1 3 rfl rfl)
theorem dX5_compareTo_2_28 : decode cX5_compareTo_2 28 = .ok (.getfield 15, 3) := dk_180 0 15 (dk_at dksX5_compareTo_2_1 4 rfl rfl)
theorem dX5_compareTo_2_31 : decode cX5_compareTo_2 31 = .ok (.isub, 1) := dk_100 (dk_at dksX5_compareTo_2_1 7 rfl rfl)
theorem dX5_compareTo_2_32 : decode cX5_compareTo_2 32 = .ok (.ireturn, 1) := dk_172 (dk_at dksX5_compareTo_2_1 8 rfl rfl)
abbrev cX5_init : ByteArray := prog_2_method_1_code
def yX5_init : MethodName := ⟨RX5, "<init>", "(ILHomewatcher$Version;LHomewatcher$Version;I)V"⟩
def dkwX5_init_1 : List UInt8 := [42, 21, 4, 181, 0, 25, 177]
abbrev dktX5_init_1 : List UInt8 := dkwX5_init_1 ++ []
def dkwX5_init_0 : List UInt8 := [42, 183, 0, 3, 42, 2, 181, 0, 9, 42, 27, 181, 0, 15, 42, 44, 181, 0, 18, 42, 45, 181, 0, 22]
abbrev dktX5_init_0 : List UInt8 := dkwX5_init_0 ++ dktX5_init_1
theorem dksX5_init_0 : cX5_init.data.toList.drop 0 = dktX5_init_0 := by decide +kernel
theorem dksX5_init_1 : cX5_init.data.toList.drop 24 = dktX5_init_1 := dk_seg dksX5_init_0 24 rfl rfl
theorem dX5_init_0 : decode cX5_init 0 = .ok (.aload_n 0, 1) := dk_42 (dk_at dksX5_init_0 0 rfl rfl)
theorem dX5_init_1 : decode cX5_init 1 = .ok (.invokespecial 3, 3) := dk_183 0 3 (dk_at dksX5_init_0 1 rfl rfl)
theorem dX5_init_4 : decode cX5_init 4 = .ok (.aload_n 0, 1) := dk_42 (dk_at dksX5_init_0 4 rfl rfl)
theorem dX5_init_5 : decode cX5_init 5 = .ok (.iconst (-1), 1) := dk_2 (dk_at dksX5_init_0 5 rfl rfl)
theorem dX5_init_6 : decode cX5_init 6 = .ok (.putfield 9, 3) := dk_181 0 9 (dk_at dksX5_init_0 6 rfl rfl)
theorem dX5_init_9 : decode cX5_init 9 = .ok (.aload_n 0, 1) := dk_42 (dk_at dksX5_init_0 9 rfl rfl)
theorem dX5_init_10 : decode cX5_init 10 = .ok (.iload_n 1, 1) := dk_27 (dk_at dksX5_init_0 10 rfl rfl)
theorem dX5_init_11 : decode cX5_init 11 = .ok (.putfield 15, 3) := dk_181 0 15 (dk_at dksX5_init_0 11 rfl rfl)
theorem dX5_init_14 : decode cX5_init 14 = .ok (.aload_n 0, 1) := dk_42 (dk_at dksX5_init_0 14 rfl rfl)
theorem dX5_init_15 : decode cX5_init 15 = .ok (.aload_n 2, 1) := dk_44 (dk_at dksX5_init_0 15 rfl rfl)
theorem dX5_init_16 : decode cX5_init 16 = .ok (.putfield 18, 3) := dk_181 0 18 (dk_at dksX5_init_0 16 rfl rfl)
theorem dX5_init_19 : decode cX5_init 19 = .ok (.aload_n 0, 1) := dk_42 (dk_at dksX5_init_0 19 rfl rfl)
theorem dX5_init_20 : decode cX5_init 20 = .ok (.aload_n 3, 1) := dk_45 (dk_at dksX5_init_0 20 rfl rfl)
theorem dX5_init_21 : decode cX5_init 21 = .ok (.putfield 22, 3) := dk_181 0 22 (dk_at dksX5_init_0 21 rfl rfl)
theorem dX5_init_24 : decode cX5_init 24 = .ok (.aload_n 0, 1) := dk_42 (dk_at dksX5_init_1 0 rfl rfl)
theorem dX5_init_25 : decode cX5_init 25 = .ok (.iload 4, 2) := dk_21 4 (dk_at dksX5_init_1 1 rfl rfl)
theorem dX5_init_27 : decode cX5_init 27 = .ok (.putfield 25, 3) := dk_181 0 25 (dk_at dksX5_init_1 3 rfl rfl)
theorem dX5_init_30 : decode cX5_init 30 = .ok (.return_, 1) := dk_177 (dk_at dksX5_init_1 6 rfl rfl)
abbrev cX5_freezes : ByteArray := prog_2_method_3_code
def yX5_freezes : MethodName := ⟨RX5, "freezes", "(ILHomewatcher$Task;)Z"⟩
def dkwX5_freezes_1 : List UInt8 := [27, 44, 182, 0, 28, 153, 0, 7, 4, 167, 0, 4, 3, 172]
abbrev dktX5_freezes_1 : List UInt8 := dkwX5_freezes_1 ++ []
def dkwX5_freezes_0 : List UInt8 := [42, 180, 0, 9, 2, 160, 0, 31, 42, 180, 0, 18, 27, 44, 182, 0, 28, 154, 0, 15, 42, 180, 0, 22]
abbrev dktX5_freezes_0 : List UInt8 := dkwX5_freezes_0 ++ dktX5_freezes_1
theorem dksX5_freezes_0 : cX5_freezes.data.toList.drop 0 = dktX5_freezes_0 := by decide +kernel
theorem dksX5_freezes_1 : cX5_freezes.data.toList.drop 24 = dktX5_freezes_1 := dk_seg dksX5_freezes_0 24 rfl rfl
theorem dX5_freezes_0 : decode cX5_freezes 0 = .ok (.aload_n 0, 1) := dk_42 (dk_at dksX5_freezes_0 0 rfl rfl)
theorem dX5_freezes_1 : decode cX5_freezes 1 = .ok (.getfield 9, 3) := dk_180 0 9 (dk_at dksX5_freezes_0 1 rfl rfl)
theorem dX5_freezes_4 : decode cX5_freezes 4 = .ok (.iconst (-1), 1) := dk_2 (dk_at dksX5_freezes_0 4 rfl rfl)
theorem dX5_freezes_5 : decode cX5_freezes 5 = .ok (.if_icmp .ne 31, 3) := dk_160 0 31 (dk_at dksX5_freezes_0 5 rfl rfl)
theorem dX5_freezes_8 : decode cX5_freezes 8 = .ok (.aload_n 0, 1) := dk_42 (dk_at dksX5_freezes_0 8 rfl rfl)
theorem dX5_freezes_9 : decode cX5_freezes 9 = .ok (.getfield 18, 3) := dk_180 0 18 (dk_at dksX5_freezes_0 9 rfl rfl)
theorem dX5_freezes_12 : decode cX5_freezes 12 = .ok (.iload_n 1, 1) := dk_27 (dk_at dksX5_freezes_0 12 rfl rfl)
theorem dX5_freezes_13 : decode cX5_freezes 13 = .ok (.aload_n 2, 1) := dk_44 (dk_at dksX5_freezes_0 13 rfl rfl)
theorem dX5_freezes_14 : decode cX5_freezes 14 = .ok (.invokevirtual 28, 3) := dk_182 0 28 (dk_at dksX5_freezes_0 14 rfl rfl)
theorem dX5_freezes_17 : decode cX5_freezes 17 = .ok (.ifCond .ne 15, 3) := dk_154 0 15 (dk_at dksX5_freezes_0 17 rfl rfl)
theorem dX5_freezes_20 : decode cX5_freezes 20 = .ok (.aload_n 0, 1) := dk_42 (dk_at dksX5_freezes_0 20 rfl rfl)
theorem dX5_freezes_21 : decode cX5_freezes 21 = .ok (.getfield 22, 3) := dk_180 0 22 (dk_at dksX5_freezes_0 21 rfl rfl)
theorem dX5_freezes_24 : decode cX5_freezes 24 = .ok (.iload_n 1, 1) := dk_27 (dk_at dksX5_freezes_1 0 rfl rfl)
theorem dX5_freezes_25 : decode cX5_freezes 25 = .ok (.aload_n 2, 1) := dk_44 (dk_at dksX5_freezes_1 1 rfl rfl)
theorem dX5_freezes_26 : decode cX5_freezes 26 = .ok (.invokevirtual 28, 3) := dk_182 0 28 (dk_at dksX5_freezes_1 2 rfl rfl)
theorem dX5_freezes_29 : decode cX5_freezes 29 = .ok (.ifCond .eq 7, 3) := dk_153 0 7 (dk_at dksX5_freezes_1 5 rfl rfl)
theorem dX5_freezes_32 : decode cX5_freezes 32 = .ok (.iconst 1, 1) := dk_4 (dk_at dksX5_freezes_1 8 rfl rfl)
theorem dX5_freezes_33 : decode cX5_freezes 33 = .ok (.goto 4, 3) := dk_167 0 4 (dk_at dksX5_freezes_1 9 rfl rfl)
theorem dX5_freezes_36 : decode cX5_freezes 36 = .ok (.iconst 0, 1) := dk_3 (dk_at dksX5_freezes_1 12 rfl rfl)
theorem dX5_freezes_37 : decode cX5_freezes 37 = .ok (.ireturn, 1) := dk_172 (dk_at dksX5_freezes_1 13 rfl rfl)
theorem q98 : (Jvm.Cond.initialized "Homewatcher$Hit") ∈ lw_all := lw_g (lw_at lw_m1 45 rfl) rfl
theorem q721 : (Jvm.Cond.castable "Homewatcher$Hit" "java/lang/Comparable") ∈ lw_tbl := lw_at lw_m3 188 rfl
theorem q722 : (Jvm.Cond.selects "Homewatcher$Hit" ({ cls := "java/lang/Comparable", name := "compareTo", desc := "(Ljava/lang/Object;)I" } : Jvm.MethodName) ({ cls := "Homewatcher$Hit", name := "compareTo", desc := "(Ljava/lang/Object;)I" } : Jvm.MethodName)) ∈ lw_all := lw_g (lw_at lw_m3 189 rfl) rfl
theorem q723 : (Jvm.Cond.unhidden "Homewatcher$Hit" "compareTo" "(Ljava/lang/Object;)I") ∈ lw_tbl := lw_at lw_m3 190 rfl
theorem q724 : (Jvm.Cond.instanceMethod ({ cls := "Homewatcher$Hit", name := "compareTo", desc := "(Ljava/lang/Object;)I" } : Jvm.MethodName)) ∈ lw_all := lw_g (lw_at lw_m3 191 rfl) rfl
theorem q725 : (Jvm.Cond.publicMethod ({ cls := "Homewatcher$Hit", name := "compareTo", desc := "(Ljava/lang/Object;)I" } : Jvm.MethodName)) ∈ lw_tbl := lw_at lw_m3 192 rfl
theorem q726 : (Jvm.Cond.code ({ cls := "Homewatcher$Hit", name := "compareTo", desc := "(Ljava/lang/Object;)I" } : Jvm.MethodName) prog_2_method_4_code (2 : Nat) (Option.some Jvm.ClassFile.FieldType.int)) ∈ lw_all := lw_g (lw_at lw_m3 193 rfl) rfl
theorem q727 : (Jvm.Cond.classLink "Homewatcher$Hit" (10 : Nat) "Homewatcher$Hit") ∈ lw_all := lw_g (lw_at lw_m3 194 rfl) rfl
theorem q728 : (Jvm.Cond.methodLink "Homewatcher$Hit" (34 : Nat) ({ cls := "Homewatcher$Hit", name := "compareTo", desc := "(LHomewatcher$Hit;)I" } : Jvm.MethodName)) ∈ lw_all := lw_g (lw_at lw_m3 195 rfl) rfl
theorem q729 : (Jvm.Cond.instanceMethod ({ cls := "Homewatcher$Hit", name := "compareTo", desc := "(LHomewatcher$Hit;)I" } : Jvm.MethodName)) ∈ lw_all := lw_g (lw_at lw_m3 196 rfl) rfl
theorem q730 : (Jvm.Cond.selects "Homewatcher$Hit" ({ cls := "Homewatcher$Hit", name := "compareTo", desc := "(LHomewatcher$Hit;)I" } : Jvm.MethodName) ({ cls := "Homewatcher$Hit", name := "compareTo", desc := "(LHomewatcher$Hit;)I" } : Jvm.MethodName)) ∈ lw_all := lw_g (lw_at lw_m3 197 rfl) rfl
theorem q731 : (Jvm.Cond.code ({ cls := "Homewatcher$Hit", name := "compareTo", desc := "(LHomewatcher$Hit;)I" } : Jvm.MethodName) prog_2_method_2_code (2 : Nat) (Option.some Jvm.ClassFile.FieldType.int)) ∈ lw_all := lw_g (lw_at lw_m3 198 rfl) rfl
theorem q1217 : (Jvm.Cond.selects "Homewatcher$Hit" ({ cls := "java/lang/Object", name := "equals", desc := "(Ljava/lang/Object;)Z" } : Jvm.MethodName) ({ cls := "java/lang/Object", name := "equals", desc := "(Ljava/lang/Object;)Z" } : Jvm.MethodName)) ∈ lw_all := lw_g (lw_at lw_m5 204 rfl) rfl
theorem q1373 : (Jvm.Cond.selects "Homewatcher$Hit" ({ cls := "java/lang/Object", name := "getClass", desc := "()Ljava/lang/Class;" } : Jvm.MethodName) ({ cls := "java/lang/Object", name := "getClass", desc := "()Ljava/lang/Class;" } : Jvm.MethodName)) ∈ lw_all := lw_g (lw_at lw_m6 120 rfl) rfl
theorem q1711 : (Jvm.Cond.instantiable "Homewatcher$Hit" (5 : Nat)) ∈ lw_all := lw_g (lw_at lw_m7 218 rfl) rfl
theorem q1713 : (Jvm.Cond.instanceMethod ({ cls := "Homewatcher$Hit", name := "<init>", desc := "(ILHomewatcher$Version;LHomewatcher$Version;I)V" } : Jvm.MethodName)) ∈ lw_all := lw_g (lw_at lw_m7 220 rfl) rfl
theorem q1714 : (Jvm.Cond.code ({ cls := "Homewatcher$Hit", name := "<init>", desc := "(ILHomewatcher$Version;LHomewatcher$Version;I)V" } : Jvm.MethodName) prog_2_method_1_code (5 : Nat) (Option.none : Option Jvm.ClassFile.FieldType)) ∈ lw_all := lw_g (lw_at lw_m7 221 rfl) rfl
theorem q1715 : (Jvm.Cond.methodLink "Homewatcher$Hit" (3 : Nat) ({ cls := "java/lang/Object", name := "<init>", desc := "()V" } : Jvm.MethodName)) ∈ lw_all := lw_g (lw_at lw_m7 222 rfl) rfl
theorem q1716 : (Jvm.Cond.fieldLink "Homewatcher$Hit" (15 : Nat) "Homewatcher$Hit" "number" "I") ∈ lw_all := lw_g (lw_at lw_m7 223 rfl) rfl
theorem q1718 : (Jvm.Cond.fieldLink "Homewatcher$Hit" (18 : Nat) "Homewatcher$Hit" "fresh" "LHomewatcher$Version;") ∈ lw_all := lw_g (lw_at lw_m7 225 rfl) rfl
theorem q1720 : (Jvm.Cond.fieldLink "Homewatcher$Hit" (22 : Nat) "Homewatcher$Hit" "other" "LHomewatcher$Version;") ∈ lw_all := lw_g (lw_at lw_m7 227 rfl) rfl
theorem q1722 : (Jvm.Cond.fieldLink "Homewatcher$Hit" (25 : Nat) "Homewatcher$Hit" "common" "I") ∈ lw_all := lw_g (lw_at lw_m7 229 rfl) rfl
theorem q1724 : (Jvm.Cond.fieldLink "Homewatcher$Hit" (9 : Nat) "Homewatcher$Hit" "heard" "I") ∈ lw_all := lw_g (lw_at lw_m7 231 rfl) rfl
theorem q1726 : (Jvm.Cond.laysFinal "Homewatcher$Hit" "Homewatcher$Hit" "number" "I") ∈ lw_all := lw_g (lw_at lw_m7 233 rfl) rfl
theorem q1727 : (Jvm.Cond.soleField "Homewatcher$Hit" "number") ∈ lw_all := lw_g (lw_at lw_m7 234 rfl) rfl
theorem q1728 : (Jvm.Cond.laysFinal "Homewatcher$Hit" "Homewatcher$Hit" "fresh" "LHomewatcher$Version;") ∈ lw_all := lw_g (lw_at lw_m7 235 rfl) rfl
theorem q1729 : (Jvm.Cond.soleField "Homewatcher$Hit" "fresh") ∈ lw_all := lw_g (lw_at lw_m7 236 rfl) rfl
theorem q1730 : (Jvm.Cond.laysFinal "Homewatcher$Hit" "Homewatcher$Hit" "other" "LHomewatcher$Version;") ∈ lw_all := lw_g (lw_at lw_m7 237 rfl) rfl
theorem q1731 : (Jvm.Cond.soleField "Homewatcher$Hit" "other") ∈ lw_all := lw_g (lw_at lw_m7 238 rfl) rfl
theorem q1732 : (Jvm.Cond.laysFinal "Homewatcher$Hit" "Homewatcher$Hit" "common" "I") ∈ lw_all := lw_g (lw_at lw_m7 239 rfl) rfl
theorem q1733 : (Jvm.Cond.soleField "Homewatcher$Hit" "common") ∈ lw_all := lw_g (lw_at lw_m8 0 rfl) rfl
theorem q1734 : (Jvm.Cond.lays "Homewatcher$Hit" "Homewatcher$Hit" "heard" "I") ∈ lw_all := lw_g (lw_at lw_m8 1 rfl) rfl
theorem q1735 : (Jvm.Cond.soleField "Homewatcher$Hit" "heard") ∈ lw_all := lw_g (lw_at lw_m8 2 rfl) rfl
theorem q1736 : (Jvm.Cond.superclass "Homewatcher$Hit" "java/lang/Object") ∈ lw_all := lw_g (lw_at lw_m8 3 rfl) rfl
theorem q1808 : (Jvm.Cond.instanceMethod ({ cls := "Homewatcher$Hit", name := "freezes", desc := "(ILHomewatcher$Task;)Z" } : Jvm.MethodName)) ∈ lw_all := lw_g (lw_at lw_m8 75 rfl) rfl
theorem q1809 : (Jvm.Cond.selects "Homewatcher$Hit" ({ cls := "Homewatcher$Hit", name := "freezes", desc := "(ILHomewatcher$Task;)Z" } : Jvm.MethodName) ({ cls := "Homewatcher$Hit", name := "freezes", desc := "(ILHomewatcher$Task;)Z" } : Jvm.MethodName)) ∈ lw_all := lw_g (lw_at lw_m8 76 rfl) rfl
theorem q1810 : (Jvm.Cond.code ({ cls := "Homewatcher$Hit", name := "freezes", desc := "(ILHomewatcher$Task;)Z" } : Jvm.MethodName) prog_2_method_3_code (3 : Nat) (Option.some Jvm.ClassFile.FieldType.boolean)) ∈ lw_all := lw_g (lw_at lw_m8 77 rfl) rfl
theorem q1811 : (Jvm.Cond.methodLink "Homewatcher$Hit" (28 : Nat) ({ cls := "Homewatcher$Version", name := "isOf", desc := "(ILHomewatcher$Task;)Z" } : Jvm.MethodName)) ∈ lw_all := lw_g (lw_at lw_m8 78 rfl) rfl
theorem q2452 : (Jvm.Cond.castable "Homewatcher$Hit" "java/lang/Object") ∈ lw_tbl := lw_at lw_m10 239 rfl
theorem in_X5 : ∀ w ∈ wsX50, w ∈ lw_all := lw_in wsX50 [1726, 1728, 1730, 1732, 1734] (by decide +kernel) (by decide +kernel)
