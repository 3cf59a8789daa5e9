/-! TokenMouthLaw -/
set_option maxRecDepth 100000
def RX0 : String := "TokenMouthLaw"
abbrev cX0_run : ByteArray := method_3_code
def yX0_run : MethodName := ⟨RX0, "run", "(LTokenMouth;I[J)I"⟩
def dkwX0_run_0 : List UInt8 := [44, 3, 42, 27, 182, 0, 7, 133, 80, 167, 0, 9, 78, 4, 172, 78, 5, 172, 3, 172]
abbrev dktX0_run_0 : List UInt8 := dkwX0_run_0 ++ []
theorem dksX0_run_0 : cX0_run.data.toList.drop 0 = dktX0_run_0 := by decide +kernel
theorem dX0_run_0 : decode cX0_run 0 = .ok (.aload_n 2, 1) := dk_44 (dk_at dksX0_run_0 0 rfl rfl)
theorem dX0_run_1 : decode cX0_run 1 = .ok (.iconst 0, 1) := dk_3 (dk_at dksX0_run_0 1 rfl rfl)
theorem dX0_run_2 : decode cX0_run 2 = .ok (.aload_n 0, 1) := dk_42 (dk_at dksX0_run_0 2 rfl rfl)
theorem dX0_run_3 : decode cX0_run 3 = .ok (.iload_n 1, 1) := dk_27 (dk_at dksX0_run_0 3 rfl rfl)
theorem dX0_run_4 : decode cX0_run 4 = .ok (.invokevirtual 7, 3) := dk_182 0 7 (dk_at dksX0_run_0 4 rfl rfl)
theorem dX0_run_7 : decode cX0_run 7 = .ok (.i2l, 1) := dk_133 (dk_at dksX0_run_0 7 rfl rfl)
theorem dX0_run_8 : decode cX0_run 8 = .ok (.lastore, 1) := dk_80 (dk_at dksX0_run_0 8 rfl rfl)
theorem dX0_run_9 : decode cX0_run 9 = .ok (.goto 9, 3) := dk_167 0 9 (dk_at dksX0_run_0 9 rfl rfl)
theorem dX0_run_12 : decode cX0_run 12 = .ok (.astore_n 3, 1) := dk_78 (dk_at dksX0_run_0 12 rfl rfl)
theorem dX0_run_13 : decode cX0_run 13 = .ok (.iconst 1, 1) := dk_4 (dk_at dksX0_run_0 13 rfl rfl)
theorem dX0_run_14 : decode cX0_run 14 = .ok (.ireturn, 1) := dk_172 (dk_at dksX0_run_0 14 rfl rfl)
theorem dX0_run_15 : decode cX0_run 15 = .ok (.astore_n 3, 1) := dk_78 (dk_at dksX0_run_0 15 rfl rfl)
theorem dX0_run_16 : decode cX0_run 16 = .ok (.iconst 2, 1) := dk_5 (dk_at dksX0_run_0 16 rfl rfl)
theorem dX0_run_17 : decode cX0_run 17 = .ok (.ireturn, 1) := dk_172 (dk_at dksX0_run_0 17 rfl rfl)
theorem dX0_run_18 : decode cX0_run 18 = .ok (.iconst 0, 1) := dk_3 (dk_at dksX0_run_0 18 rfl rfl)
theorem dX0_run_19 : decode cX0_run 19 = .ok (.ireturn, 1) := dk_172 (dk_at dksX0_run_0 19 rfl rfl)
abbrev cX0_fault : ByteArray := method_4_code
def yX0_fault : MethodName := ⟨RX0, "fault", "(LTokenMouth;I[J)I"⟩
def dkwX0_fault_0 : List UInt8 := [44, 3, 42, 27, 182, 0, 17, 133, 80, 167, 0, 6, 78, 4, 172, 3, 172]
abbrev dktX0_fault_0 : List UInt8 := dkwX0_fault_0 ++ []
theorem dksX0_fault_0 : cX0_fault.data.toList.drop 0 = dktX0_fault_0 := by decide +kernel
theorem dX0_fault_0 : decode cX0_fault 0 = .ok (.aload_n 2, 1) := dk_44 (dk_at dksX0_fault_0 0 rfl rfl)
theorem dX0_fault_1 : decode cX0_fault 1 = .ok (.iconst 0, 1) := dk_3 (dk_at dksX0_fault_0 1 rfl rfl)
theorem dX0_fault_2 : decode cX0_fault 2 = .ok (.aload_n 0, 1) := dk_42 (dk_at dksX0_fault_0 2 rfl rfl)
theorem dX0_fault_3 : decode cX0_fault 3 = .ok (.iload_n 1, 1) := dk_27 (dk_at dksX0_fault_0 3 rfl rfl)
theorem dX0_fault_4 : decode cX0_fault 4 = .ok (.invokevirtual 17, 3) := dk_182 0 17 (dk_at dksX0_fault_0 4 rfl rfl)
theorem dX0_fault_7 : decode cX0_fault 7 = .ok (.i2l, 1) := dk_133 (dk_at dksX0_fault_0 7 rfl rfl)
theorem dX0_fault_8 : decode cX0_fault 8 = .ok (.lastore, 1) := dk_80 (dk_at dksX0_fault_0 8 rfl rfl)
theorem dX0_fault_9 : decode cX0_fault 9 = .ok (.goto 6, 3) := dk_167 0 6 (dk_at dksX0_fault_0 9 rfl rfl)
theorem dX0_fault_12 : decode cX0_fault 12 = .ok (.astore_n 3, 1) := dk_78 (dk_at dksX0_fault_0 12 rfl rfl)
theorem dX0_fault_13 : decode cX0_fault 13 = .ok (.iconst 1, 1) := dk_4 (dk_at dksX0_fault_0 13 rfl rfl)
theorem dX0_fault_14 : decode cX0_fault 14 = .ok (.ireturn, 1) := dk_172 (dk_at dksX0_fault_0 14 rfl rfl)
theorem dX0_fault_15 : decode cX0_fault 15 = .ok (.iconst 0, 1) := dk_3 (dk_at dksX0_fault_0 15 rfl rfl)
theorem dX0_fault_16 : decode cX0_fault 16 = .ok (.ireturn, 1) := dk_172 (dk_at dksX0_fault_0 16 rfl rfl)
abbrev cX0_out : ByteArray := method_5_code
def yX0_out : MethodName := ⟨RX0, "out", "(LTokenMouth;I[J)I"⟩
def dkwX0_out_0 : List UInt8 := [44, 3, 42, 27, 182, 0, 22, 133, 80, 167, 0, 6, 78, 4, 172, 3, 172]
abbrev dktX0_out_0 : List UInt8 := dkwX0_out_0 ++ []
theorem dksX0_out_0 : cX0_out.data.toList.drop 0 = dktX0_out_0 := by decide +kernel
theorem dX0_out_0 : decode cX0_out 0 = .ok (.aload_n 2, 1) := dk_44 (dk_at dksX0_out_0 0 rfl rfl)
theorem dX0_out_1 : decode cX0_out 1 = .ok (.iconst 0, 1) := dk_3 (dk_at dksX0_out_0 1 rfl rfl)
theorem dX0_out_2 : decode cX0_out 2 = .ok (.aload_n 0, 1) := dk_42 (dk_at dksX0_out_0 2 rfl rfl)
theorem dX0_out_3 : decode cX0_out 3 = .ok (.iload_n 1, 1) := dk_27 (dk_at dksX0_out_0 3 rfl rfl)
theorem dX0_out_4 : decode cX0_out 4 = .ok (.invokevirtual 22, 3) := dk_182 0 22 (dk_at dksX0_out_0 4 rfl rfl)
theorem dX0_out_7 : decode cX0_out 7 = .ok (.i2l, 1) := dk_133 (dk_at dksX0_out_0 7 rfl rfl)
theorem dX0_out_8 : decode cX0_out 8 = .ok (.lastore, 1) := dk_80 (dk_at dksX0_out_0 8 rfl rfl)
theorem dX0_out_9 : decode cX0_out 9 = .ok (.goto 6, 3) := dk_167 0 6 (dk_at dksX0_out_0 9 rfl rfl)
theorem dX0_out_12 : decode cX0_out 12 = .ok (.astore_n 3, 1) := dk_78 (dk_at dksX0_out_0 12 rfl rfl)
theorem dX0_out_13 : decode cX0_out 13 = .ok (.iconst 1, 1) := dk_4 (dk_at dksX0_out_0 13 rfl rfl)
theorem dX0_out_14 : decode cX0_out 14 = .ok (.ireturn, 1) := dk_172 (dk_at dksX0_out_0 14 rfl rfl)
theorem dX0_out_15 : decode cX0_out 15 = .ok (.iconst 0, 1) := dk_3 (dk_at dksX0_out_0 15 rfl rfl)
theorem dX0_out_16 : decode cX0_out 16 = .ok (.ireturn, 1) := dk_172 (dk_at dksX0_out_0 16 rfl rfl)
abbrev cX0_count : ByteArray := method_6_code
def yX0_count : MethodName := ⟨RX0, "count", "(LTokenMouth;I[J)I"⟩
def dkwX0_count_0 : List UInt8 := [44, 3, 42, 27, 182, 0, 25, 133, 80, 167, 0, 6, 78, 4, 172, 3, 172]
abbrev dktX0_count_0 : List UInt8 := dkwX0_count_0 ++ []
theorem dksX0_count_0 : cX0_count.data.toList.drop 0 = dktX0_count_0 := by decide +kernel
theorem dX0_count_0 : decode cX0_count 0 = .ok (.aload_n 2, 1) := dk_44 (dk_at dksX0_count_0 0 rfl rfl)
theorem dX0_count_1 : decode cX0_count 1 = .ok (.iconst 0, 1) := dk_3 (dk_at dksX0_count_0 1 rfl rfl)
theorem dX0_count_2 : decode cX0_count 2 = .ok (.aload_n 0, 1) := dk_42 (dk_at dksX0_count_0 2 rfl rfl)
theorem dX0_count_3 : decode cX0_count 3 = .ok (.iload_n 1, 1) := dk_27 (dk_at dksX0_count_0 3 rfl rfl)
theorem dX0_count_4 : decode cX0_count 4 = .ok (.invokevirtual 25, 3) := dk_182 0 25 (dk_at dksX0_count_0 4 rfl rfl)
theorem dX0_count_7 : decode cX0_count 7 = .ok (.i2l, 1) := dk_133 (dk_at dksX0_count_0 7 rfl rfl)
theorem dX0_count_8 : decode cX0_count 8 = .ok (.lastore, 1) := dk_80 (dk_at dksX0_count_0 8 rfl rfl)
theorem dX0_count_9 : decode cX0_count 9 = .ok (.goto 6, 3) := dk_167 0 6 (dk_at dksX0_count_0 9 rfl rfl)
theorem dX0_count_12 : decode cX0_count 12 = .ok (.astore_n 3, 1) := dk_78 (dk_at dksX0_count_0 12 rfl rfl)
theorem dX0_count_13 : decode cX0_count 13 = .ok (.iconst 1, 1) := dk_4 (dk_at dksX0_count_0 13 rfl rfl)
theorem dX0_count_14 : decode cX0_count 14 = .ok (.ireturn, 1) := dk_172 (dk_at dksX0_count_0 14 rfl rfl)
theorem dX0_count_15 : decode cX0_count 15 = .ok (.iconst 0, 1) := dk_3 (dk_at dksX0_count_0 15 rfl rfl)
theorem dX0_count_16 : decode cX0_count 16 = .ok (.ireturn, 1) := dk_172 (dk_at dksX0_count_0 16 rfl rfl)
abbrev cX0_category : ByteArray := method_7_code
def yX0_category : MethodName := ⟨RX0, "category", "(LTokenMouth;I[J)I"⟩
def dkwX0_category_0 : List UInt8 := [44, 3, 42, 27, 182, 0, 28, 133, 80, 167, 0, 6, 78, 4, 172, 3, 172]
abbrev dktX0_category_0 : List UInt8 := dkwX0_category_0 ++ []
theorem dksX0_category_0 : cX0_category.data.toList.drop 0 = dktX0_category_0 := by decide +kernel
theorem dX0_category_0 : decode cX0_category 0 = .ok (.aload_n 2, 1) := dk_44 (dk_at dksX0_category_0 0 rfl rfl)
theorem dX0_category_1 : decode cX0_category 1 = .ok (.iconst 0, 1) := dk_3 (dk_at dksX0_category_0 1 rfl rfl)
theorem dX0_category_2 : decode cX0_category 2 = .ok (.aload_n 0, 1) := dk_42 (dk_at dksX0_category_0 2 rfl rfl)
theorem dX0_category_3 : decode cX0_category 3 = .ok (.iload_n 1, 1) := dk_27 (dk_at dksX0_category_0 3 rfl rfl)
theorem dX0_category_4 : decode cX0_category 4 = .ok (.invokevirtual 28, 3) := dk_182 0 28 (dk_at dksX0_category_0 4 rfl rfl)
theorem dX0_category_7 : decode cX0_category 7 = .ok (.i2l, 1) := dk_133 (dk_at dksX0_category_0 7 rfl rfl)
theorem dX0_category_8 : decode cX0_category 8 = .ok (.lastore, 1) := dk_80 (dk_at dksX0_category_0 8 rfl rfl)
theorem dX0_category_9 : decode cX0_category 9 = .ok (.goto 6, 3) := dk_167 0 6 (dk_at dksX0_category_0 9 rfl rfl)
theorem dX0_category_12 : decode cX0_category 12 = .ok (.astore_n 3, 1) := dk_78 (dk_at dksX0_category_0 12 rfl rfl)
theorem dX0_category_13 : decode cX0_category 13 = .ok (.iconst 1, 1) := dk_4 (dk_at dksX0_category_0 13 rfl rfl)
theorem dX0_category_14 : decode cX0_category 14 = .ok (.ireturn, 1) := dk_172 (dk_at dksX0_category_0 14 rfl rfl)
theorem dX0_category_15 : decode cX0_category 15 = .ok (.iconst 0, 1) := dk_3 (dk_at dksX0_category_0 15 rfl rfl)
theorem dX0_category_16 : decode cX0_category 16 = .ok (.ireturn, 1) := dk_172 (dk_at dksX0_category_0 16 rfl rfl)
abbrev cX0_meaning : ByteArray := method_8_code
def yX0_meaning : MethodName := ⟨RX0, "meaning", "(LTokenMouth;JZ[J)I"⟩
def dkwX0_meaning_0 : List UInt8 := [25, 4, 3, 42, 31, 29, 182, 0, 31, 133, 80, 167, 0, 7, 58, 5, 4, 172, 3, 172]
abbrev dktX0_meaning_0 : List UInt8 := dkwX0_meaning_0 ++ []
theorem dksX0_meaning_0 : cX0_meaning.data.toList.drop 0 = dktX0_meaning_0 := by decide +kernel
theorem dX0_meaning_0 : decode cX0_meaning 0 = .ok (.aload 4, 2) := dk_25 4 (dk_at dksX0_meaning_0 0 rfl rfl)
theorem dX0_meaning_2 : decode cX0_meaning 2 = .ok (.iconst 0, 1) := dk_3 (dk_at dksX0_meaning_0 2 rfl rfl)
theorem dX0_meaning_3 : decode cX0_meaning 3 = .ok (.aload_n 0, 1) := dk_42 (dk_at dksX0_meaning_0 3 rfl rfl)
theorem dX0_meaning_4 : decode cX0_meaning 4 = .ok (.lload_n 1, 1) := dk_31 (dk_at dksX0_meaning_0 4 rfl rfl)
theorem dX0_meaning_5 : decode cX0_meaning 5 = .ok (.iload_n 3, 1) := dk_29 (dk_at dksX0_meaning_0 5 rfl rfl)
theorem dX0_meaning_6 : decode cX0_meaning 6 = .ok (.invokevirtual 31, 3) := dk_182 0 31 (dk_at dksX0_meaning_0 6 rfl rfl)
theorem dX0_meaning_9 : decode cX0_meaning 9 = .ok (.i2l, 1) := dk_133 (dk_at dksX0_meaning_0 9 rfl rfl)
theorem dX0_meaning_10 : decode cX0_meaning 10 = .ok (.lastore, 1) := dk_80 (dk_at dksX0_meaning_0 10 rfl rfl)
theorem dX0_meaning_11 : decode cX0_meaning 11 = .ok (.goto 7, 3) := dk_167 0 7 (dk_at dksX0_meaning_0 11 rfl rfl)
theorem dX0_meaning_14 : decode cX0_meaning 14 = .ok (.astore 5, 2) := dk_58 5 (dk_at dksX0_meaning_0 14 rfl rfl)
theorem dX0_meaning_16 : decode cX0_meaning 16 = .ok (.iconst 1, 1) := dk_4 (dk_at dksX0_meaning_0 16 rfl rfl)
theorem dX0_meaning_17 : decode cX0_meaning 17 = .ok (.ireturn, 1) := dk_172 (dk_at dksX0_meaning_0 17 rfl rfl)
theorem dX0_meaning_18 : decode cX0_meaning 18 = .ok (.iconst 0, 1) := dk_3 (dk_at dksX0_meaning_0 18 rfl rfl)
theorem dX0_meaning_19 : decode cX0_meaning 19 = .ok (.ireturn, 1) := dk_172 (dk_at dksX0_meaning_0 19 rfl rfl)
abbrev cX0_detail : ByteArray := method_9_code
def yX0_detail : MethodName := ⟨RX0, "detail", "(LTokenMouth;JZI[J)I"⟩
def dkwX0_detail_0 : List UInt8 := [25, 5, 3, 42, 31, 29, 21, 4, 182, 0, 37, 133, 80, 167, 0, 7, 58, 6, 4, 172, 3, 172]
abbrev dktX0_detail_0 : List UInt8 := dkwX0_detail_0 ++ []
theorem dksX0_detail_0 : cX0_detail.data.toList.drop 0 = dktX0_detail_0 := by decide +kernel
theorem dX0_detail_0 : decode cX0_detail 0 = .ok (.aload 5, 2) := dk_25 5 (dk_at dksX0_detail_0 0 rfl rfl)
theorem dX0_detail_2 : decode cX0_detail 2 = .ok (.iconst 0, 1) := dk_3 (dk_at dksX0_detail_0 2 rfl rfl)
theorem dX0_detail_3 : decode cX0_detail 3 = .ok (.aload_n 0, 1) := dk_42 (dk_at dksX0_detail_0 3 rfl rfl)
theorem dX0_detail_4 : decode cX0_detail 4 = .ok (.lload_n 1, 1) := dk_31 (dk_at dksX0_detail_0 4 rfl rfl)
theorem dX0_detail_5 : decode cX0_detail 5 = .ok (.iload_n 3, 1) := dk_29 (dk_at dksX0_detail_0 5 rfl rfl)
theorem dX0_detail_6 : decode cX0_detail 6 = .ok (.iload 4, 2) := dk_21 4 (dk_at dksX0_detail_0 6 rfl rfl)
theorem dX0_detail_8 : decode cX0_detail 8 = .ok (.invokevirtual 37, 3) := dk_182 0 37 (dk_at dksX0_detail_0 8 rfl rfl)
theorem dX0_detail_11 : decode cX0_detail 11 = .ok (.i2l, 1) := dk_133 (dk_at dksX0_detail_0 11 rfl rfl)
theorem dX0_detail_12 : decode cX0_detail 12 = .ok (.lastore, 1) := dk_80 (dk_at dksX0_detail_0 12 rfl rfl)
theorem dX0_detail_13 : decode cX0_detail 13 = .ok (.goto 7, 3) := dk_167 0 7 (dk_at dksX0_detail_0 13 rfl rfl)
theorem dX0_detail_16 : decode cX0_detail 16 = .ok (.astore 6, 2) := dk_58 6 (dk_at dksX0_detail_0 16 rfl rfl)
theorem dX0_detail_18 : decode cX0_detail 18 = .ok (.iconst 1, 1) := dk_4 (dk_at dksX0_detail_0 18 rfl rfl)
theorem dX0_detail_19 : decode cX0_detail 19 = .ok (.ireturn, 1) := dk_172 (dk_at dksX0_detail_0 19 rfl rfl)
theorem dX0_detail_20 : decode cX0_detail 20 = .ok (.iconst 0, 1) := dk_3 (dk_at dksX0_detail_0 20 rfl rfl)
theorem dX0_detail_21 : decode cX0_detail 21 = .ok (.ireturn, 1) := dk_172 (dk_at dksX0_detail_0 21 rfl rfl)
theorem q94 : (Jvm.Cond.initialized "TokenMouthLaw") ∈ lw_all := lw_g (lw_at lw_m1 0 rfl) rfl
theorem q124 : (Jvm.Cond.classLink "TokenMouthLaw" (8 : Nat) "TokenMouth") ∈ lw_all := lw_g (lw_at lw_m1 30 rfl) rfl
theorem q126 : (Jvm.Cond.methodLink "TokenMouthLaw" (41 : Nat) ({ cls := "TokenMouth", name := "<init>", desc := "()V" } : Jvm.MethodName)) ∈ lw_all := lw_g (lw_at lw_m1 32 rfl) rfl
theorem q459 : (Jvm.Cond.methodLink "TokenMouthLaw" (47 : Nat) ({ cls := "TokenMouth", name := "type", desc := "(J)Z" } : Jvm.MethodName)) ∈ lw_all := lw_g (lw_at lw_m2 125 rfl) rfl
theorem q466 : (Jvm.Cond.methodLink "TokenMouthLaw" (52 : Nat) ({ cls := "TokenMouth", name := "wipe", desc := "()V" } : Jvm.MethodName)) ∈ lw_all := lw_g (lw_at lw_m2 132 rfl) rfl
theorem q470 : (Jvm.Cond.methodLink "TokenMouthLaw" (56 : Nat) ({ cls := "TokenMouth", name := "again", desc := "()V" } : Jvm.MethodName)) ∈ lw_all := lw_g (lw_at lw_m2 136 rfl) rfl
theorem q474 : (Jvm.Cond.methodLink "TokenMouthLaw" (60 : Nat) ({ cls := "TokenMouthLaw", name := "run", desc := "(LTokenMouth;I[J)I" } : Jvm.MethodName)) ∈ lw_all := lw_g (lw_at lw_m2 140 rfl) rfl
theorem q475 : (Jvm.Cond.static ({ cls := "TokenMouthLaw", name := "run", desc := "(LTokenMouth;I[J)I" } : Jvm.MethodName)) ∈ lw_all := lw_g (lw_at lw_m2 141 rfl) rfl
theorem q476 : (Jvm.Cond.codeWith ({ cls := "TokenMouthLaw", name := "run", desc := "(LTokenMouth;I[J)I" } : Jvm.MethodName) method_3_code (4 : Nat) (Option.some Jvm.ClassFile.FieldType.int) [((0 : Nat), (9 : Nat), (12 : Nat), (13 : Nat)), ((0 : Nat), (9 : Nat), (15 : Nat), (15 : Nat))]) ∈ lw_all := lw_g (lw_at lw_m2 142 rfl) rfl
theorem q477 : (Jvm.Cond.classLink "TokenMouthLaw" (13 : Nat) "java/lang/IllegalArgumentException") ∈ lw_all := lw_g (lw_at lw_m2 143 rfl) rfl
theorem q478 : (Jvm.Cond.classLink "TokenMouthLaw" (15 : Nat) "java/lang/IllegalStateException") ∈ lw_all := lw_g (lw_at lw_m2 144 rfl) rfl
theorem q479 : (Jvm.Cond.methodLink "TokenMouthLaw" (7 : Nat) ({ cls := "TokenMouth", name := "run", desc := "(I)I" } : Jvm.MethodName)) ∈ lw_all := lw_g (lw_at lw_m2 145 rfl) rfl
theorem q932 : (Jvm.Cond.methodLink "TokenMouthLaw" (70 : Nat) ({ cls := "TokenMouthLaw", name := "fault", desc := "(LTokenMouth;I[J)I" } : Jvm.MethodName)) ∈ lw_all := lw_g (lw_at lw_m4 118 rfl) rfl
theorem q933 : (Jvm.Cond.static ({ cls := "TokenMouthLaw", name := "fault", desc := "(LTokenMouth;I[J)I" } : Jvm.MethodName)) ∈ lw_all := lw_g (lw_at lw_m4 119 rfl) rfl
theorem q934 : (Jvm.Cond.codeWith ({ cls := "TokenMouthLaw", name := "fault", desc := "(LTokenMouth;I[J)I" } : Jvm.MethodName) method_4_code (4 : Nat) (Option.some Jvm.ClassFile.FieldType.int) [((0 : Nat), (9 : Nat), (12 : Nat), (20 : Nat))]) ∈ lw_all := lw_g (lw_at lw_m4 120 rfl) rfl
theorem q935 : (Jvm.Cond.classLink "TokenMouthLaw" (20 : Nat) "java/lang/IndexOutOfBoundsException") ∈ lw_all := lw_g (lw_at lw_m4 121 rfl) rfl
theorem q967 : (Jvm.Cond.methodLink "TokenMouthLaw" (17 : Nat) ({ cls := "TokenMouth", name := "fault", desc := "(I)I" } : Jvm.MethodName)) ∈ lw_all := lw_g (lw_at lw_m4 153 rfl) rfl
theorem q989 : (Jvm.Cond.methodLink "TokenMouthLaw" (73 : Nat) ({ cls := "TokenMouthLaw", name := "out", desc := "(LTokenMouth;I[J)I" } : Jvm.MethodName)) ∈ lw_all := lw_g (lw_at lw_m4 175 rfl) rfl
theorem q990 : (Jvm.Cond.static ({ cls := "TokenMouthLaw", name := "out", desc := "(LTokenMouth;I[J)I" } : Jvm.MethodName)) ∈ lw_all := lw_g (lw_at lw_m4 176 rfl) rfl
theorem q991 : (Jvm.Cond.codeWith ({ cls := "TokenMouthLaw", name := "out", desc := "(LTokenMouth;I[J)I" } : Jvm.MethodName) method_5_code (4 : Nat) (Option.some Jvm.ClassFile.FieldType.int) [((0 : Nat), (9 : Nat), (12 : Nat), (20 : Nat))]) ∈ lw_all := lw_g (lw_at lw_m4 177 rfl) rfl
theorem q992 : (Jvm.Cond.methodLink "TokenMouthLaw" (22 : Nat) ({ cls := "TokenMouth", name := "out", desc := "(I)I" } : Jvm.MethodName)) ∈ lw_all := lw_g (lw_at lw_m4 178 rfl) rfl
theorem q996 : (Jvm.Cond.methodLink "TokenMouthLaw" (76 : Nat) ({ cls := "TokenMouthLaw", name := "count", desc := "(LTokenMouth;I[J)I" } : Jvm.MethodName)) ∈ lw_all := lw_g (lw_at lw_m4 182 rfl) rfl
theorem q997 : (Jvm.Cond.static ({ cls := "TokenMouthLaw", name := "count", desc := "(LTokenMouth;I[J)I" } : Jvm.MethodName)) ∈ lw_all := lw_g (lw_at lw_m4 183 rfl) rfl
theorem q998 : (Jvm.Cond.codeWith ({ cls := "TokenMouthLaw", name := "count", desc := "(LTokenMouth;I[J)I" } : Jvm.MethodName) method_6_code (4 : Nat) (Option.some Jvm.ClassFile.FieldType.int) [((0 : Nat), (9 : Nat), (12 : Nat), (20 : Nat))]) ∈ lw_all := lw_g (lw_at lw_m4 184 rfl) rfl
theorem q999 : (Jvm.Cond.methodLink "TokenMouthLaw" (25 : Nat) ({ cls := "TokenMouth", name := "count", desc := "(I)I" } : Jvm.MethodName)) ∈ lw_all := lw_g (lw_at lw_m4 185 rfl) rfl
theorem q1003 : (Jvm.Cond.methodLink "TokenMouthLaw" (79 : Nat) ({ cls := "TokenMouthLaw", name := "category", desc := "(LTokenMouth;I[J)I" } : Jvm.MethodName)) ∈ lw_all := lw_g (lw_at lw_m4 189 rfl) rfl
theorem q1004 : (Jvm.Cond.static ({ cls := "TokenMouthLaw", name := "category", desc := "(LTokenMouth;I[J)I" } : Jvm.MethodName)) ∈ lw_all := lw_g (lw_at lw_m4 190 rfl) rfl
theorem q1005 : (Jvm.Cond.codeWith ({ cls := "TokenMouthLaw", name := "category", desc := "(LTokenMouth;I[J)I" } : Jvm.MethodName) method_7_code (4 : Nat) (Option.some Jvm.ClassFile.FieldType.int) [((0 : Nat), (9 : Nat), (12 : Nat), (20 : Nat))]) ∈ lw_all := lw_g (lw_at lw_m4 191 rfl) rfl
theorem q1006 : (Jvm.Cond.methodLink "TokenMouthLaw" (28 : Nat) ({ cls := "TokenMouth", name := "category", desc := "(I)I" } : Jvm.MethodName)) ∈ lw_all := lw_g (lw_at lw_m4 192 rfl) rfl
theorem q1010 : (Jvm.Cond.methodLink "TokenMouthLaw" (82 : Nat) ({ cls := "TokenMouthLaw", name := "meaning", desc := "(LTokenMouth;JZ[J)I" } : Jvm.MethodName)) ∈ lw_all := lw_g (lw_at lw_m4 196 rfl) rfl
theorem q1011 : (Jvm.Cond.static ({ cls := "TokenMouthLaw", name := "meaning", desc := "(LTokenMouth;JZ[J)I" } : Jvm.MethodName)) ∈ lw_all := lw_g (lw_at lw_m4 197 rfl) rfl
theorem q1012 : (Jvm.Cond.codeWith ({ cls := "TokenMouthLaw", name := "meaning", desc := "(LTokenMouth;JZ[J)I" } : Jvm.MethodName) method_8_code (6 : Nat) (Option.some Jvm.ClassFile.FieldType.int) [((0 : Nat), (11 : Nat), (14 : Nat), (35 : Nat))]) ∈ lw_all := lw_g (lw_at lw_m4 198 rfl) rfl
theorem q1013 : (Jvm.Cond.classLink "TokenMouthLaw" (35 : Nat) "java/util/NoSuchElementException") ∈ lw_all := lw_g (lw_at lw_m4 199 rfl) rfl
theorem q1014 : (Jvm.Cond.methodLink "TokenMouthLaw" (31 : Nat) ({ cls := "TokenMouth", name := "meaning", desc := "(JZ)I" } : Jvm.MethodName)) ∈ lw_all := lw_g (lw_at lw_m4 200 rfl) rfl
theorem q1056 : (Jvm.Cond.methodLink "TokenMouthLaw" (86 : Nat) ({ cls := "TokenMouthLaw", name := "detail", desc := "(LTokenMouth;JZI[J)I" } : Jvm.MethodName)) ∈ lw_all := lw_g (lw_at lw_m5 2 rfl) rfl
theorem q1057 : (Jvm.Cond.static ({ cls := "TokenMouthLaw", name := "detail", desc := "(LTokenMouth;JZI[J)I" } : Jvm.MethodName)) ∈ lw_all := lw_g (lw_at lw_m5 3 rfl) rfl
theorem q1058 : (Jvm.Cond.codeWith ({ cls := "TokenMouthLaw", name := "detail", desc := "(LTokenMouth;JZI[J)I" } : Jvm.MethodName) method_9_code (7 : Nat) (Option.some Jvm.ClassFile.FieldType.int) [((0 : Nat), (13 : Nat), (16 : Nat), (35 : Nat))]) ∈ lw_all := lw_g (lw_at lw_m5 4 rfl) rfl
theorem q1059 : (Jvm.Cond.methodLink "TokenMouthLaw" (37 : Nat) ({ cls := "TokenMouth", name := "detail", desc := "(JZI)I" } : Jvm.MethodName)) ∈ lw_all := lw_g (lw_at lw_m5 5 rfl) rfl
theorem q1063 : (Jvm.Cond.classLink "TokenMouthLaw" (42 : Nat) "TokenMouthModel") ∈ lw_all := lw_g (lw_at lw_m5 9 rfl) rfl
theorem q1065 : (Jvm.Cond.methodLink "TokenMouthLaw" (44 : Nat) ({ cls := "TokenMouthModel", name := "<init>", desc := "()V" } : Jvm.MethodName)) ∈ lw_all := lw_g (lw_at lw_m5 11 rfl) rfl
theorem q1231 : (Jvm.Cond.methodLink "TokenMouthLaw" (66 : Nat) ({ cls := "TokenMouthModel", name := "thrown", desc := "()I" } : Jvm.MethodName)) ∈ lw_all := lw_g (lw_at lw_m5 177 rfl) rfl
theorem q1235 : (Jvm.Cond.methodLink "TokenMouthLaw" (51 : Nat) ({ cls := "TokenMouthModel", name := "type", desc := "(J)Z" } : Jvm.MethodName)) ∈ lw_all := lw_g (lw_at lw_m5 181 rfl) rfl
theorem q1243 : (Jvm.Cond.methodLink "TokenMouthLaw" (55 : Nat) ({ cls := "TokenMouthModel", name := "wipe", desc := "()V" } : Jvm.MethodName)) ∈ lw_all := lw_g (lw_at lw_m5 189 rfl) rfl
theorem q1247 : (Jvm.Cond.methodLink "TokenMouthLaw" (59 : Nat) ({ cls := "TokenMouthModel", name := "again", desc := "()V" } : Jvm.MethodName)) ∈ lw_all := lw_g (lw_at lw_m5 193 rfl) rfl
theorem q1251 : (Jvm.Cond.methodLink "TokenMouthLaw" (65 : Nat) ({ cls := "TokenMouthModel", name := "run", desc := "(I)I" } : Jvm.MethodName)) ∈ lw_all := lw_g (lw_at lw_m5 197 rfl) rfl
theorem q1437 : (Jvm.Cond.methodLink "TokenMouthLaw" (72 : Nat) ({ cls := "TokenMouthModel", name := "fault", desc := "(I)I" } : Jvm.MethodName)) ∈ lw_all := lw_g (lw_at lw_m6 143 rfl) rfl
theorem q1445 : (Jvm.Cond.methodLink "TokenMouthLaw" (75 : Nat) ({ cls := "TokenMouthModel", name := "out", desc := "(I)I" } : Jvm.MethodName)) ∈ lw_all := lw_g (lw_at lw_m6 151 rfl) rfl
theorem q1449 : (Jvm.Cond.methodLink "TokenMouthLaw" (78 : Nat) ({ cls := "TokenMouthModel", name := "count", desc := "(I)I" } : Jvm.MethodName)) ∈ lw_all := lw_g (lw_at lw_m6 155 rfl) rfl
theorem q1453 : (Jvm.Cond.methodLink "TokenMouthLaw" (81 : Nat) ({ cls := "TokenMouthModel", name := "category", desc := "(I)I" } : Jvm.MethodName)) ∈ lw_all := lw_g (lw_at lw_m6 159 rfl) rfl
theorem q1457 : (Jvm.Cond.methodLink "TokenMouthLaw" (85 : Nat) ({ cls := "TokenMouthModel", name := "meaning", desc := "(JZ)I" } : Jvm.MethodName)) ∈ lw_all := lw_g (lw_at lw_m6 163 rfl) rfl
theorem q1465 : (Jvm.Cond.methodLink "TokenMouthLaw" (89 : Nat) ({ cls := "TokenMouthModel", name := "detail", desc := "(JZI)I" } : Jvm.MethodName)) ∈ lw_all := lw_g (lw_at lw_m6 171 rfl) rfl
theorem q1469 : (Jvm.Cond.constantLong "TokenMouthLaw" (45 : Nat) (4294967295 : Int64)) ∈ lw_all := lw_g (lw_at lw_m6 175 rfl) rfl
/-! TokenMouth$Command -/
set_option maxRecDepth 100000
def RX2 : String := "TokenMouth$Command"
abbrev cX2_values : ByteArray := prog_3_method_1_code
def yX2_values : MethodName := ⟨RX2, "values", "()[LTokenMouth$Command;"⟩
def dkwX2_values_0 : List UInt8 := [178, 0, 58, 182, 0, 62, 192, 0, 63, 176]
abbrev dktX2_values_0 : List UInt8 := dkwX2_values_0 ++ []
theorem dksX2_values_0 : cX2_values.data.toList.drop 0 = dktX2_values_0 := by decide +kernel
theorem dX2_values_0 : decode cX2_values 0 = .ok (.getstatic 58, 3) := dk_178 0 58 (dk_at dksX2_values_0 0 rfl rfl)
theorem dX2_values_3 : decode cX2_values 3 = .ok (.invokevirtual 62, 3) := dk_182 0 62 (dk_at dksX2_values_0 3 rfl rfl)
theorem dX2_values_6 : decode cX2_values 6 = .ok (.checkcast 63, 3) := dk_192 0 63 (dk_at dksX2_values_0 6 rfl rfl)
theorem dX2_values_9 : decode cX2_values 9 = .ok (.areturn, 1) := dk_176 (dk_at dksX2_values_0 9 rfl rfl)
abbrev cX2_isExpandable : ByteArray := prog_3_method_5_code
def yX2_isExpandable : MethodName := ⟨RX2, "isExpandable", "()Z"⟩
def dkwX2_isExpandable_2 : List UInt8 := [166, 0, 7, 4, 167, 0, 4, 3, 172]
abbrev dktX2_isExpandable_2 : List UInt8 := dkwX2_isExpandable_2 ++ []
def dkwX2_isExpandable_1 : List UInt8 := [178, 0, 31, 165, 0, 24, 42, 178, 0, 37, 165, 0, 17, 42, 178, 0, 52, 165, 0, 10, 42, 178, 0, 55]
abbrev dktX2_isExpandable_1 : List UInt8 := dkwX2_isExpandable_1 ++ dktX2_isExpandable_2
def dkwX2_isExpandable_0 : List UInt8 := [42, 182, 0, 81, 154, 0, 45, 42, 178, 0, 25, 165, 0, 38, 42, 178, 0, 28, 165, 0, 31, 42]
abbrev dktX2_isExpandable_0 : List UInt8 := dkwX2_isExpandable_0 ++ dktX2_isExpandable_1
theorem dksX2_isExpandable_0 : cX2_isExpandable.data.toList.drop 0 = dktX2_isExpandable_0 := by decide +kernel
theorem dksX2_isExpandable_1 : cX2_isExpandable.data.toList.drop 22 = dktX2_isExpandable_1 := dk_seg dksX2_isExpandable_0 22 rfl rfl
theorem dksX2_isExpandable_2 : cX2_isExpandable.data.toList.drop 46 = dktX2_isExpandable_2 := dk_seg dksX2_isExpandable_1 24 rfl rfl
theorem dX2_isExpandable_0 : decode cX2_isExpandable 0 = .ok (.aload_n 0, 1) := dk_42 (dk_at dksX2_isExpandable_0 0 rfl rfl)
theorem dX2_isExpandable_1 : decode cX2_isExpandable 1 = .ok (.invokevirtual 81, 3) := dk_182 0 81 (dk_at dksX2_isExpandable_0 1 rfl rfl)
theorem dX2_isExpandable_4 : decode cX2_isExpandable 4 = .ok (.ifCond .ne 45, 3) := dk_154 0 45 (dk_at dksX2_isExpandable_0 4 rfl rfl)
theorem dX2_isExpandable_7 : decode cX2_isExpandable 7 = .ok (.aload_n 0, 1) := dk_42 (dk_at dksX2_isExpandable_0 7 rfl rfl)
theorem dX2_isExpandable_8 : decode cX2_isExpandable 8 = .ok (.getstatic 25, 3) := dk_178 0 25 (dk_at dksX2_isExpandable_0 8 rfl rfl)
theorem dX2_isExpandable_11 : decode cX2_isExpandable 11 = .ok (.if_acmp .eq 38, 3) := dk_165 0 38 (dk_at dksX2_isExpandable_0 11 rfl rfl)
theorem dX2_isExpandable_14 : decode cX2_isExpandable 14 = .ok (.aload_n 0, 1) := dk_42 (dk_at dksX2_isExpandable_0 14 rfl rfl)
theorem dX2_isExpandable_15 : decode cX2_isExpandable 15 = .ok (.getstatic 28, 3) := dk_178 0 28 (dk_at dksX2_isExpandable_0 15 rfl rfl)
theorem dX2_isExpandable_18 : decode cX2_isExpandable 18 = .ok (.if_acmp .eq 31, 3) := dk_165 0 31 (dk_at dksX2_isExpandable_0 18 rfl rfl)
theorem dX2_isExpandable_21 : decode cX2_isExpandable 21 = .ok (.aload_n 0, 1) := dk_42 (dk_at dksX2_isExpandable_0 21 rfl rfl)
theorem dX2_isExpandable_22 : decode cX2_isExpandable 22 = .ok (.getstatic 31, 3) := dk_178 0 31 (dk_at dksX2_isExpandable_1 0 rfl rfl)
theorem dX2_isExpandable_25 : decode cX2_isExpandable 25 = .ok (.if_acmp .eq 24, 3) := dk_165 0 24 (dk_at dksX2_isExpandable_1 3 rfl rfl)
theorem dX2_isExpandable_28 : decode cX2_isExpandable 28 = .ok (.aload_n 0, 1) := dk_42 (dk_at dksX2_isExpandable_1 6 rfl rfl)
theorem dX2_isExpandable_29 : decode cX2_isExpandable 29 = .ok (.getstatic 37, 3) := dk_178 0 37 (dk_at dksX2_isExpandable_1 7 rfl rfl)
theorem dX2_isExpandable_32 : decode cX2_isExpandable 32 = .ok (.if_acmp .eq 17, 3) := dk_165 0 17 (dk_at dksX2_isExpandable_1 10 rfl rfl)
theorem dX2_isExpandable_35 : decode cX2_isExpandable 35 = .ok (.aload_n 0, 1) := dk_42 (dk_at dksX2_isExpandable_1 13 rfl rfl)
theorem dX2_isExpandable_36 : decode cX2_isExpandable 36 = .ok (.getstatic 52, 3) := dk_178 0 52 (dk_at dksX2_isExpandable_1 14 rfl rfl)
theorem dX2_isExpandable_39 : decode cX2_isExpandable 39 = .ok (.if_acmp .eq 10, 3) := dk_165 0 10 (dk_at dksX2_isExpandable_1 17 rfl rfl)
theorem dX2_isExpandable_42 : decode cX2_isExpandable 42 = .ok (.aload_n 0, 1) := dk_42 (dk_at dksX2_isExpandable_1 20 rfl rfl)
theorem dX2_isExpandable_43 : decode cX2_isExpandable 43 = .ok (.getstatic 55, 3) := dk_178 0 55 (dk_at dksX2_isExpandable_1 21 rfl rfl)
theorem dX2_isExpandable_46 : decode cX2_isExpandable 46 = .ok (.if_acmp .ne 7, 3) := dk_166 0 7 (dk_at dksX2_isExpandable_2 0 rfl rfl)
theorem dX2_isExpandable_49 : decode cX2_isExpandable 49 = .ok (.iconst 1, 1) := dk_4 (dk_at dksX2_isExpandable_2 3 rfl rfl)
theorem dX2_isExpandable_50 : decode cX2_isExpandable 50 = .ok (.goto 4, 3) := dk_167 0 4 (dk_at dksX2_isExpandable_2 4 rfl rfl)
theorem dX2_isExpandable_53 : decode cX2_isExpandable 53 = .ok (.iconst 0, 1) := dk_3 (dk_at dksX2_isExpandable_2 7 rfl rfl)
theorem dX2_isExpandable_54 : decode cX2_isExpandable 54 = .ok (.ireturn, 1) := dk_172 (dk_at dksX2_isExpandable_2 8 rfl rfl)
abbrev cX2_opens : ByteArray := prog_3_method_4_code
def yX2_opens : MethodName := ⟨RX2, "opens", "()Z"⟩
def dkwX2_opens_1 : List UInt8 := [178, 0, 49, 166, 0, 7, 4, 167, 0, 4, 3, 172]
abbrev dktX2_opens_1 : List UInt8 := dkwX2_opens_1 ++ []
def dkwX2_opens_0 : List UInt8 := [42, 178, 0, 40, 165, 0, 24, 42, 178, 0, 43, 165, 0, 17, 42, 178, 0, 46, 165, 0, 10, 42]
abbrev dktX2_opens_0 : List UInt8 := dkwX2_opens_0 ++ dktX2_opens_1
theorem dksX2_opens_0 : cX2_opens.data.toList.drop 0 = dktX2_opens_0 := by decide +kernel
theorem dksX2_opens_1 : cX2_opens.data.toList.drop 22 = dktX2_opens_1 := dk_seg dksX2_opens_0 22 rfl rfl
theorem dX2_opens_0 : decode cX2_opens 0 = .ok (.aload_n 0, 1) := dk_42 (dk_at dksX2_opens_0 0 rfl rfl)
theorem dX2_opens_1 : decode cX2_opens 1 = .ok (.getstatic 40, 3) := dk_178 0 40 (dk_at dksX2_opens_0 1 rfl rfl)
theorem dX2_opens_4 : decode cX2_opens 4 = .ok (.if_acmp .eq 24, 3) := dk_165 0 24 (dk_at dksX2_opens_0 4 rfl rfl)
theorem dX2_opens_7 : decode cX2_opens 7 = .ok (.aload_n 0, 1) := dk_42 (dk_at dksX2_opens_0 7 rfl rfl)
theorem dX2_opens_8 : decode cX2_opens 8 = .ok (.getstatic 43, 3) := dk_178 0 43 (dk_at dksX2_opens_0 8 rfl rfl)
theorem dX2_opens_11 : decode cX2_opens 11 = .ok (.if_acmp .eq 17, 3) := dk_165 0 17 (dk_at dksX2_opens_0 11 rfl rfl)
theorem dX2_opens_14 : decode cX2_opens 14 = .ok (.aload_n 0, 1) := dk_42 (dk_at dksX2_opens_0 14 rfl rfl)
theorem dX2_opens_15 : decode cX2_opens 15 = .ok (.getstatic 46, 3) := dk_178 0 46 (dk_at dksX2_opens_0 15 rfl rfl)
theorem dX2_opens_18 : decode cX2_opens 18 = .ok (.if_acmp .eq 10, 3) := dk_165 0 10 (dk_at dksX2_opens_0 18 rfl rfl)
theorem dX2_opens_21 : decode cX2_opens 21 = .ok (.aload_n 0, 1) := dk_42 (dk_at dksX2_opens_0 21 rfl rfl)
theorem dX2_opens_22 : decode cX2_opens 22 = .ok (.getstatic 49, 3) := dk_178 0 49 (dk_at dksX2_opens_1 0 rfl rfl)
theorem dX2_opens_25 : decode cX2_opens 25 = .ok (.if_acmp .ne 7, 3) := dk_166 0 7 (dk_at dksX2_opens_1 3 rfl rfl)
theorem dX2_opens_28 : decode cX2_opens 28 = .ok (.iconst 1, 1) := dk_4 (dk_at dksX2_opens_1 6 rfl rfl)
theorem dX2_opens_29 : decode cX2_opens 29 = .ok (.goto 4, 3) := dk_167 0 4 (dk_at dksX2_opens_1 7 rfl rfl)
theorem dX2_opens_32 : decode cX2_opens 32 = .ok (.iconst 0, 1) := dk_3 (dk_at dksX2_opens_1 10 rfl rfl)
theorem dX2_opens_33 : decode cX2_opens 33 = .ok (.ireturn, 1) := dk_172 (dk_at dksX2_opens_1 11 rfl rfl)
abbrev cX2_expand : ByteArray := prog_3_method_6_code
def yX2_expand : MethodName := ⟨RX2, "expand", "(LTokenMouth;)V"⟩
def dkwX2_expand_4 : List UInt8 := [182, 0, 110, 177]
abbrev dktX2_expand_4 : List UInt8 := dkwX2_expand_4 ++ []
def dkwX2_expand_3 : List UInt8 := [182, 0, 101, 167, 0, 22, 43, 182, 0, 104, 167, 0, 15, 43, 182, 0, 107, 167, 0, 8, 43, 42]
abbrev dktX2_expand_3 : List UInt8 := dkwX2_expand_3 ++ dktX2_expand_4
def dkwX2_expand_2 : List UInt8 := [43, 182, 0, 89, 167, 0, 43, 43, 182, 0, 95, 167, 0, 36, 43, 182, 0, 98, 167, 0, 29, 43]
abbrev dktX2_expand_2 : List UInt8 := dkwX2_expand_2 ++ dktX2_expand_3
def dkwX2_expand_1 : List UInt8 := [170, 0, 0, 0, 0, 0, 0, 102, 0, 0, 0, 7, 0, 0, 0, 17, 0, 0, 0, 60, 0, 0, 0, 67, 0, 0, 0, 74, 0, 0, 0, 102, 0, 0, 0, 81, 0, 0, 0, 102, 0, 0, 0, 102, 0, 0, 0, 102, 0, 0, 0, 102, 0, 0, 0, 88, 0, 0, 0, 95]
abbrev dktX2_expand_1 : List UInt8 := dkwX2_expand_1 ++ dktX2_expand_2
def dkwX2_expand_0 : List UInt8 := [42, 182, 0, 85]
abbrev dktX2_expand_0 : List UInt8 := dkwX2_expand_0 ++ dktX2_expand_1
theorem dksX2_expand_0 : cX2_expand.data.toList.drop 0 = dktX2_expand_0 := by decide +kernel
theorem dksX2_expand_1 : cX2_expand.data.toList.drop 4 = dktX2_expand_1 := dk_seg dksX2_expand_0 4 rfl rfl
theorem dksX2_expand_2 : cX2_expand.data.toList.drop 64 = dktX2_expand_2 := dk_seg dksX2_expand_1 60 rfl rfl
theorem dksX2_expand_3 : cX2_expand.data.toList.drop 86 = dktX2_expand_3 := dk_seg dksX2_expand_2 22 rfl rfl
theorem dksX2_expand_4 : cX2_expand.data.toList.drop 108 = dktX2_expand_4 := dk_seg dksX2_expand_3 22 rfl rfl
theorem dX2_expand_0 : decode cX2_expand 0 = .ok (.aload_n 0, 1) := dk_42 (dk_at dksX2_expand_0 0 rfl rfl)
theorem dX2_expand_1 : decode cX2_expand 1 = .ok (.invokevirtual 85, 3) := dk_182 0 85 (dk_at dksX2_expand_0 1 rfl rfl)
theorem dX2_expand_4 : decode cX2_expand 4 = .ok (.tableswitch 102 7 17 #[60, 67, 74, 102, 81, 102, 102, 102, 102, 88, 95], 60) := by decide +kernel
theorem dX2_expand_64 : decode cX2_expand 64 = .ok (.aload_n 1, 1) := dk_43 (dk_at dksX2_expand_2 0 rfl rfl)
theorem dX2_expand_65 : decode cX2_expand 65 = .ok (.invokevirtual 89, 3) := dk_182 0 89 (dk_at dksX2_expand_2 1 rfl rfl)
theorem dX2_expand_68 : decode cX2_expand 68 = .ok (.goto 43, 3) := dk_167 0 43 (dk_at dksX2_expand_2 4 rfl rfl)
theorem dX2_expand_71 : decode cX2_expand 71 = .ok (.aload_n 1, 1) := dk_43 (dk_at dksX2_expand_2 7 rfl rfl)
theorem dX2_expand_72 : decode cX2_expand 72 = .ok (.invokevirtual 95, 3) := dk_182 0 95 (dk_at dksX2_expand_2 8 rfl rfl)
theorem dX2_expand_75 : decode cX2_expand 75 = .ok (.goto 36, 3) := dk_167 0 36 (dk_at dksX2_expand_2 11 rfl rfl)
theorem dX2_expand_78 : decode cX2_expand 78 = .ok (.aload_n 1, 1) := dk_43 (dk_at dksX2_expand_2 14 rfl rfl)
theorem dX2_expand_79 : decode cX2_expand 79 = .ok (.invokevirtual 98, 3) := dk_182 0 98 (dk_at dksX2_expand_2 15 rfl rfl)
theorem dX2_expand_82 : decode cX2_expand 82 = .ok (.goto 29, 3) := dk_167 0 29 (dk_at dksX2_expand_2 18 rfl rfl)
theorem dX2_expand_85 : decode cX2_expand 85 = .ok (.aload_n 1, 1) := dk_43 (dk_at dksX2_expand_2 21 rfl rfl)
theorem dX2_expand_86 : decode cX2_expand 86 = .ok (.invokevirtual 101, 3) := dk_182 0 101 (dk_at dksX2_expand_3 0 rfl rfl)
theorem dX2_expand_89 : decode cX2_expand 89 = .ok (.goto 22, 3) := dk_167 0 22 (dk_at dksX2_expand_3 3 rfl rfl)
theorem dX2_expand_92 : decode cX2_expand 92 = .ok (.aload_n 1, 1) := dk_43 (dk_at dksX2_expand_3 6 rfl rfl)
theorem dX2_expand_93 : decode cX2_expand 93 = .ok (.invokevirtual 104, 3) := dk_182 0 104 (dk_at dksX2_expand_3 7 rfl rfl)
theorem dX2_expand_96 : decode cX2_expand 96 = .ok (.goto 15, 3) := dk_167 0 15 (dk_at dksX2_expand_3 10 rfl rfl)
theorem dX2_expand_99 : decode cX2_expand 99 = .ok (.aload_n 1, 1) := dk_43 (dk_at dksX2_expand_3 13 rfl rfl)
theorem dX2_expand_100 : decode cX2_expand 100 = .ok (.invokevirtual 107, 3) := dk_182 0 107 (dk_at dksX2_expand_3 14 rfl rfl)
theorem dX2_expand_103 : decode cX2_expand 103 = .ok (.goto 8, 3) := dk_167 0 8 (dk_at dksX2_expand_3 17 rfl rfl)
theorem dX2_expand_106 : decode cX2_expand 106 = .ok (.aload_n 1, 1) := dk_43 (dk_at dksX2_expand_3 20 rfl rfl)
theorem dX2_expand_107 : decode cX2_expand 107 = .ok (.aload_n 0, 1) := dk_42 (dk_at dksX2_expand_3 21 rfl rfl)
theorem dX2_expand_108 : decode cX2_expand 108 = .ok (.invokevirtual 110, 3) := dk_182 0 110 (dk_at dksX2_expand_4 0 rfl rfl)
theorem dX2_expand_111 : decode cX2_expand 111 = .ok (.return_, 1) := dk_177 (dk_at dksX2_expand_4 3 rfl rfl)
abbrev cX2_isLike : ByteArray := prog_3_method_7_code
def yX2_isLike : MethodName := ⟨RX2, "isLike", "(LTokenMouth$Meaning;)Z"⟩
def dkwX2_isLike_0 : List UInt8 := [42, 43, 166, 0, 7, 4, 167, 0, 4, 3, 172]
abbrev dktX2_isLike_0 : List UInt8 := dkwX2_isLike_0 ++ []
theorem dksX2_isLike_0 : cX2_isLike.data.toList.drop 0 = dktX2_isLike_0 := by decide +kernel
theorem dX2_isLike_0 : decode cX2_isLike 0 = .ok (.aload_n 0, 1) := dk_42 (dk_at dksX2_isLike_0 0 rfl rfl)
theorem dX2_isLike_1 : decode cX2_isLike 1 = .ok (.aload_n 1, 1) := dk_43 (dk_at dksX2_isLike_0 1 rfl rfl)
theorem dX2_isLike_2 : decode cX2_isLike 2 = .ok (.if_acmp .ne 7, 3) := dk_166 0 7 (dk_at dksX2_isLike_0 2 rfl rfl)
theorem dX2_isLike_5 : decode cX2_isLike 5 = .ok (.iconst 1, 1) := dk_4 (dk_at dksX2_isLike_0 5 rfl rfl)
theorem dX2_isLike_6 : decode cX2_isLike 6 = .ok (.goto 4, 3) := dk_167 0 4 (dk_at dksX2_isLike_0 6 rfl rfl)
theorem dX2_isLike_9 : decode cX2_isLike 9 = .ok (.iconst 0, 1) := dk_3 (dk_at dksX2_isLike_0 9 rfl rfl)
theorem dX2_isLike_10 : decode cX2_isLike 10 = .ok (.ireturn, 1) := dk_172 (dk_at dksX2_isLike_0 10 rfl rfl)
abbrev cX2_kind : ByteArray := prog_3_method_8_code
def yX2_kind : MethodName := ⟨RX2, "kind", "()I"⟩
theorem dX2_kind_0 : decode cX2_kind 0 = .ok (.iconst 1, 1) := by decide +kernel
theorem dX2_kind_1 : decode cX2_kind 1 = .ok (.ireturn, 1) := by decide +kernel
theorem q97 : (Jvm.Cond.initialized "TokenMouth$Command") ∈ lw_all := lw_g (lw_at lw_m1 3 rfl) rfl
theorem q133 : (Jvm.Cond.static ({ cls := "TokenMouth$Command", name := "values", desc := "()[LTokenMouth$Command;" } : Jvm.MethodName)) ∈ lw_all := lw_g (lw_at lw_m1 39 rfl) rfl
theorem q134 : (Jvm.Cond.code ({ cls := "TokenMouth$Command", name := "values", desc := "()[LTokenMouth$Command;" } : Jvm.MethodName) prog_3_method_1_code (0 : Nat) (Option.some (Jvm.ClassFile.FieldType.array (Jvm.ClassFile.FieldType.object "TokenMouth$Command")))) ∈ lw_all := lw_g (lw_at lw_m1 40 rfl) rfl
theorem q135 : (Jvm.Cond.fieldLink "TokenMouth$Command" (58 : Nat) "TokenMouth$Command" "$VALUES" "[LTokenMouth$Command;") ∈ lw_all := lw_g (lw_at lw_m1 41 rfl) rfl
theorem q136 : (Jvm.Cond.laysStatic "TokenMouth$Command" "$VALUES" "[LTokenMouth$Command;") ∈ lw_tbl := lw_at lw_m1 42 rfl
theorem q137 : (Jvm.Cond.methodLink "TokenMouth$Command" (62 : Nat) ({ cls := "[LTokenMouth$Command;", name := "clone", desc := "()Ljava/lang/Object;" } : Jvm.MethodName)) ∈ lw_all := lw_g (lw_at lw_m1 43 rfl) rfl
theorem q144 : (Jvm.Cond.classLink "TokenMouth$Command" (63 : Nat) "[LTokenMouth$Command;") ∈ lw_all := lw_g (lw_at lw_m1 50 rfl) rfl
theorem q320 : (Jvm.Cond.selects "TokenMouth$Command" ({ cls := "java/lang/Object", name := "getClass", desc := "()Ljava/lang/Class;" } : Jvm.MethodName) ({ cls := "java/lang/Object", name := "getClass", desc := "()Ljava/lang/Class;" } : Jvm.MethodName)) ∈ lw_all := lw_g (lw_at lw_m1 226 rfl) rfl
theorem q612 : (Jvm.Cond.laysStatic "TokenMouth$Command" "RELAX" "LTokenMouth$Command;") ∈ lw_tbl := lw_at lw_m3 38 rfl
theorem q621 : (Jvm.Cond.castable "TokenMouth$Command" "TokenMouth$Meaning") ∈ lw_tbl := lw_at lw_m3 47 rfl
theorem q622 : (Jvm.Cond.selects "TokenMouth$Command" ({ cls := "TokenMouth$Meaning", name := "isExpandable", desc := "()Z" } : Jvm.MethodName) ({ cls := "TokenMouth$Command", name := "isExpandable", desc := "()Z" } : Jvm.MethodName)) ∈ lw_all := lw_g (lw_at lw_m3 48 rfl) rfl
theorem q623 : (Jvm.Cond.unhidden "TokenMouth$Command" "isExpandable" "()Z") ∈ lw_tbl := lw_at lw_m3 49 rfl
theorem q624 : (Jvm.Cond.instanceMethod ({ cls := "TokenMouth$Command", name := "isExpandable", desc := "()Z" } : Jvm.MethodName)) ∈ lw_all := lw_g (lw_at lw_m3 50 rfl) rfl
theorem q625 : (Jvm.Cond.publicMethod ({ cls := "TokenMouth$Command", name := "isExpandable", desc := "()Z" } : Jvm.MethodName)) ∈ lw_tbl := lw_at lw_m3 51 rfl
theorem q626 : (Jvm.Cond.code ({ cls := "TokenMouth$Command", name := "isExpandable", desc := "()Z" } : Jvm.MethodName) prog_3_method_5_code (1 : Nat) (Option.some Jvm.ClassFile.FieldType.boolean)) ∈ lw_all := lw_g (lw_at lw_m3 52 rfl) rfl
theorem q627 : (Jvm.Cond.methodLink "TokenMouth$Command" (81 : Nat) ({ cls := "TokenMouth$Command", name := "opens", desc := "()Z" } : Jvm.MethodName)) ∈ lw_all := lw_g (lw_at lw_m3 53 rfl) rfl
theorem q628 : (Jvm.Cond.instanceMethod ({ cls := "TokenMouth$Command", name := "opens", desc := "()Z" } : Jvm.MethodName)) ∈ lw_all := lw_g (lw_at lw_m3 54 rfl) rfl
theorem q629 : (Jvm.Cond.selects "TokenMouth$Command" ({ cls := "TokenMouth$Command", name := "opens", desc := "()Z" } : Jvm.MethodName) ({ cls := "TokenMouth$Command", name := "opens", desc := "()Z" } : Jvm.MethodName)) ∈ lw_all := lw_g (lw_at lw_m3 55 rfl) rfl
theorem q630 : (Jvm.Cond.code ({ cls := "TokenMouth$Command", name := "opens", desc := "()Z" } : Jvm.MethodName) prog_3_method_4_code (1 : Nat) (Option.some Jvm.ClassFile.FieldType.boolean)) ∈ lw_all := lw_g (lw_at lw_m3 56 rfl) rfl
theorem q631 : (Jvm.Cond.fieldLink "TokenMouth$Command" (40 : Nat) "TokenMouth$Command" "IF" "LTokenMouth$Command;") ∈ lw_all := lw_g (lw_at lw_m3 57 rfl) rfl
theorem q632 : (Jvm.Cond.laysStatic "TokenMouth$Command" "IF" "LTokenMouth$Command;") ∈ lw_tbl := lw_at lw_m3 58 rfl
theorem q633 : (Jvm.Cond.fieldLink "TokenMouth$Command" (43 : Nat) "TokenMouth$Command" "IFX" "LTokenMouth$Command;") ∈ lw_all := lw_g (lw_at lw_m3 59 rfl) rfl
theorem q634 : (Jvm.Cond.laysStatic "TokenMouth$Command" "IFX" "LTokenMouth$Command;") ∈ lw_tbl := lw_at lw_m3 60 rfl
theorem q635 : (Jvm.Cond.fieldLink "TokenMouth$Command" (46 : Nat) "TokenMouth$Command" "IFTRUE" "LTokenMouth$Command;") ∈ lw_all := lw_g (lw_at lw_m3 61 rfl) rfl
theorem q636 : (Jvm.Cond.laysStatic "TokenMouth$Command" "IFTRUE" "LTokenMouth$Command;") ∈ lw_tbl := lw_at lw_m3 62 rfl
theorem q637 : (Jvm.Cond.fieldLink "TokenMouth$Command" (49 : Nat) "TokenMouth$Command" "IFFALSE" "LTokenMouth$Command;") ∈ lw_all := lw_g (lw_at lw_m3 63 rfl) rfl
theorem q638 : (Jvm.Cond.laysStatic "TokenMouth$Command" "IFFALSE" "LTokenMouth$Command;") ∈ lw_tbl := lw_at lw_m3 64 rfl
theorem q639 : (Jvm.Cond.fieldLink "TokenMouth$Command" (25 : Nat) "TokenMouth$Command" "EXPANDAFTER" "LTokenMouth$Command;") ∈ lw_all := lw_g (lw_at lw_m3 65 rfl) rfl
theorem q640 : (Jvm.Cond.laysStatic "TokenMouth$Command" "EXPANDAFTER" "LTokenMouth$Command;") ∈ lw_tbl := lw_at lw_m3 66 rfl
theorem q641 : (Jvm.Cond.fieldLink "TokenMouth$Command" (28 : Nat) "TokenMouth$Command" "NOEXPAND" "LTokenMouth$Command;") ∈ lw_all := lw_g (lw_at lw_m3 67 rfl) rfl
theorem q642 : (Jvm.Cond.laysStatic "TokenMouth$Command" "NOEXPAND" "LTokenMouth$Command;") ∈ lw_tbl := lw_at lw_m3 68 rfl
theorem q643 : (Jvm.Cond.fieldLink "TokenMouth$Command" (31 : Nat) "TokenMouth$Command" "CSNAME" "LTokenMouth$Command;") ∈ lw_all := lw_g (lw_at lw_m3 69 rfl) rfl
theorem q644 : (Jvm.Cond.laysStatic "TokenMouth$Command" "CSNAME" "LTokenMouth$Command;") ∈ lw_tbl := lw_at lw_m3 70 rfl
theorem q645 : (Jvm.Cond.fieldLink "TokenMouth$Command" (37 : Nat) "TokenMouth$Command" "STRING" "LTokenMouth$Command;") ∈ lw_all := lw_g (lw_at lw_m3 71 rfl) rfl
theorem q646 : (Jvm.Cond.laysStatic "TokenMouth$Command" "STRING" "LTokenMouth$Command;") ∈ lw_tbl := lw_at lw_m3 72 rfl
theorem q647 : (Jvm.Cond.fieldLink "TokenMouth$Command" (52 : Nat) "TokenMouth$Command" "ELSE" "LTokenMouth$Command;") ∈ lw_all := lw_g (lw_at lw_m3 73 rfl) rfl
theorem q648 : (Jvm.Cond.laysStatic "TokenMouth$Command" "ELSE" "LTokenMouth$Command;") ∈ lw_tbl := lw_at lw_m3 74 rfl
theorem q649 : (Jvm.Cond.fieldLink "TokenMouth$Command" (55 : Nat) "TokenMouth$Command" "FI" "LTokenMouth$Command;") ∈ lw_all := lw_g (lw_at lw_m3 75 rfl) rfl
theorem q650 : (Jvm.Cond.laysStatic "TokenMouth$Command" "FI" "LTokenMouth$Command;") ∈ lw_tbl := lw_at lw_m3 76 rfl
theorem q671 : (Jvm.Cond.selects "TokenMouth$Command" ({ cls := "TokenMouth$Meaning", name := "expand", desc := "(LTokenMouth;)V" } : Jvm.MethodName) ({ cls := "TokenMouth$Command", name := "expand", desc := "(LTokenMouth;)V" } : Jvm.MethodName)) ∈ lw_all := lw_g (lw_at lw_m3 97 rfl) rfl
theorem q672 : (Jvm.Cond.unhidden "TokenMouth$Command" "expand" "(LTokenMouth;)V") ∈ lw_tbl := lw_at lw_m3 98 rfl
theorem q673 : (Jvm.Cond.instanceMethod ({ cls := "TokenMouth$Command", name := "expand", desc := "(LTokenMouth;)V" } : Jvm.MethodName)) ∈ lw_all := lw_g (lw_at lw_m3 99 rfl) rfl
theorem q674 : (Jvm.Cond.publicMethod ({ cls := "TokenMouth$Command", name := "expand", desc := "(LTokenMouth;)V" } : Jvm.MethodName)) ∈ lw_tbl := lw_at lw_m3 100 rfl
theorem q675 : (Jvm.Cond.code ({ cls := "TokenMouth$Command", name := "expand", desc := "(LTokenMouth;)V" } : Jvm.MethodName) prog_3_method_6_code (2 : Nat) (Option.none : Option Jvm.ClassFile.FieldType)) ∈ lw_all := lw_g (lw_at lw_m3 101 rfl) rfl
theorem q676 : (Jvm.Cond.methodLink "TokenMouth$Command" (85 : Nat) ({ cls := "TokenMouth$Command", name := "ordinal", desc := "()I" } : Jvm.MethodName)) ∈ lw_all := lw_g (lw_at lw_m3 102 rfl) rfl
theorem q677 : (Jvm.Cond.sameMethod "TokenMouth$Command" "java/lang/Enum" "ordinal" "()I") ∈ lw_all := lw_g (lw_at lw_m3 103 rfl) rfl
theorem q679 : (Jvm.Cond.selects "TokenMouth$Command" ({ cls := "TokenMouth$Command", name := "ordinal", desc := "()I" } : Jvm.MethodName) ({ cls := "java/lang/Enum", name := "ordinal", desc := "()I" } : Jvm.MethodName)) ∈ lw_all := lw_g (lw_at lw_m3 105 rfl) rfl
theorem q682 : (Jvm.Cond.methodLinkNest "TokenMouth$Command" (89 : Nat) ({ cls := "TokenMouth", name := "expandAfter", desc := "()V" } : Jvm.MethodName) "TokenMouth") ∈ lw_tbl := lw_at lw_m3 108 rfl
theorem q694 : (Jvm.Cond.methodLinkNest "TokenMouth$Command" (95 : Nat) ({ cls := "TokenMouth", name := "mark", desc := "()V" } : Jvm.MethodName) "TokenMouth") ∈ lw_tbl := lw_at lw_m3 120 rfl
theorem q698 : (Jvm.Cond.methodLinkNest "TokenMouth$Command" (98 : Nat) ({ cls := "TokenMouth", name := "spell", desc := "()V" } : Jvm.MethodName) "TokenMouth") ∈ lw_tbl := lw_at lw_m3 124 rfl
theorem q707 : (Jvm.Cond.laysStatic "TokenMouth$Command" "ENDCSNAME" "LTokenMouth$Command;") ∈ lw_tbl := lw_at lw_m3 133 rfl
theorem q719 : (Jvm.Cond.methodLinkNest "TokenMouth$Command" (101 : Nat) ({ cls := "TokenMouth", name := "tell", desc := "()V" } : Jvm.MethodName) "TokenMouth") ∈ lw_tbl := lw_at lw_m3 145 rfl
theorem q726 : (Jvm.Cond.methodLinkNest "TokenMouth$Command" (104 : Nat) ({ cls := "TokenMouth", name := "otherwise", desc := "()V" } : Jvm.MethodName) "TokenMouth") ∈ lw_tbl := lw_at lw_m3 152 rfl
theorem q738 : (Jvm.Cond.methodLinkNest "TokenMouth$Command" (107 : Nat) ({ cls := "TokenMouth", name := "close", desc := "()V" } : Jvm.MethodName) "TokenMouth") ∈ lw_tbl := lw_at lw_m3 164 rfl
theorem q742 : (Jvm.Cond.methodLinkNest "TokenMouth$Command" (110 : Nat) ({ cls := "TokenMouth", name := "test", desc := "(LTokenMouth$Command;)V" } : Jvm.MethodName) "TokenMouth") ∈ lw_tbl := lw_at lw_m3 168 rfl
theorem q766 : (Jvm.Cond.selects "TokenMouth$Command" ({ cls := "TokenMouth$Meaning", name := "isLike", desc := "(LTokenMouth$Meaning;)Z" } : Jvm.MethodName) ({ cls := "TokenMouth$Command", name := "isLike", desc := "(LTokenMouth$Meaning;)Z" } : Jvm.MethodName)) ∈ lw_all := lw_g (lw_at lw_m3 192 rfl) rfl
theorem q767 : (Jvm.Cond.unhidden "TokenMouth$Command" "isLike" "(LTokenMouth$Meaning;)Z") ∈ lw_tbl := lw_at lw_m3 193 rfl
theorem q768 : (Jvm.Cond.instanceMethod ({ cls := "TokenMouth$Command", name := "isLike", desc := "(LTokenMouth$Meaning;)Z" } : Jvm.MethodName)) ∈ lw_all := lw_g (lw_at lw_m3 194 rfl) rfl
theorem q769 : (Jvm.Cond.publicMethod ({ cls := "TokenMouth$Command", name := "isLike", desc := "(LTokenMouth$Meaning;)Z" } : Jvm.MethodName)) ∈ lw_tbl := lw_at lw_m3 195 rfl
theorem q770 : (Jvm.Cond.code ({ cls := "TokenMouth$Command", name := "isLike", desc := "(LTokenMouth$Meaning;)Z" } : Jvm.MethodName) prog_3_method_7_code (2 : Nat) (Option.some Jvm.ClassFile.FieldType.boolean)) ∈ lw_all := lw_g (lw_at lw_m3 196 rfl) rfl
theorem q877 : (Jvm.Cond.laysStatic "TokenMouth$Command" "EDEF" "LTokenMouth$Command;") ∈ lw_tbl := lw_at lw_m4 63 rfl
theorem q910 : (Jvm.Cond.laysStatic "TokenMouth$Command" "GDEF" "LTokenMouth$Command;") ∈ lw_tbl := lw_at lw_m4 96 rfl
theorem q1041 : (Jvm.Cond.selects "TokenMouth$Command" ({ cls := "TokenMouth$Meaning", name := "kind", desc := "()I" } : Jvm.MethodName) ({ cls := "TokenMouth$Command", name := "kind", desc := "()I" } : Jvm.MethodName)) ∈ lw_all := lw_g (lw_at lw_m4 227 rfl) rfl
theorem q1042 : (Jvm.Cond.unhidden "TokenMouth$Command" "kind" "()I") ∈ lw_tbl := lw_at lw_m4 228 rfl
theorem q1043 : (Jvm.Cond.instanceMethod ({ cls := "TokenMouth$Command", name := "kind", desc := "()I" } : Jvm.MethodName)) ∈ lw_all := lw_g (lw_at lw_m4 229 rfl) rfl
theorem q1044 : (Jvm.Cond.publicMethod ({ cls := "TokenMouth$Command", name := "kind", desc := "()I" } : Jvm.MethodName)) ∈ lw_tbl := lw_at lw_m4 230 rfl
theorem q1045 : (Jvm.Cond.code ({ cls := "TokenMouth$Command", name := "kind", desc := "()I" } : Jvm.MethodName) prog_3_method_8_code (1 : Nat) (Option.some Jvm.ClassFile.FieldType.int)) ∈ lw_all := lw_g (lw_at lw_m4 231 rfl) rfl
theorem q1474 : (Jvm.Cond.castable "TokenMouth$Command" "java/lang/Object") ∈ lw_tbl := lw_at lw_m6 180 rfl
theorem q1507 : (Jvm.Cond.laysStatic "TokenMouth$Command" "PAR" "LTokenMouth$Command;") ∈ lw_tbl := lw_at lw_m6 213 rfl
theorem q1508 : (Jvm.Cond.laysStatic "TokenMouth$Command" "DEF" "LTokenMouth$Command;") ∈ lw_tbl := lw_at lw_m6 214 rfl
theorem q1509 : (Jvm.Cond.laysStatic "TokenMouth$Command" "LET" "LTokenMouth$Command;") ∈ lw_tbl := lw_at lw_m6 215 rfl
theorem q1510 : (Jvm.Cond.laysStatic "TokenMouth$Command" "CATCODE" "LTokenMouth$Command;") ∈ lw_tbl := lw_at lw_m6 216 rfl
theorem q1511 : (Jvm.Cond.stringRef "TokenMouth$Command" (121 : Nat) "relax") ∈ lw_tbl := lw_at lw_m6 217 rfl
theorem q1512 : (Jvm.Cond.stringRef "TokenMouth$Command" (154 : Nat) "if") ∈ lw_tbl := lw_at lw_m6 218 rfl
theorem q1513 : (Jvm.Cond.stringRef "TokenMouth$Command" (157 : Nat) "ifx") ∈ lw_tbl := lw_at lw_m6 219 rfl
theorem q1514 : (Jvm.Cond.stringRef "TokenMouth$Command" (160 : Nat) "iftrue") ∈ lw_tbl := lw_at lw_m6 220 rfl
theorem q1515 : (Jvm.Cond.stringRef "TokenMouth$Command" (163 : Nat) "iffalse") ∈ lw_tbl := lw_at lw_m6 221 rfl
theorem q1516 : (Jvm.Cond.stringRef "TokenMouth$Command" (139 : Nat) "expandafter") ∈ lw_tbl := lw_at lw_m6 222 rfl
theorem q1517 : (Jvm.Cond.stringRef "TokenMouth$Command" (142 : Nat) "noexpand") ∈ lw_tbl := lw_at lw_m6 223 rfl
theorem q1518 : (Jvm.Cond.stringRef "TokenMouth$Command" (145 : Nat) "csname") ∈ lw_tbl := lw_at lw_m6 224 rfl
theorem q1519 : (Jvm.Cond.stringRef "TokenMouth$Command" (151 : Nat) "string") ∈ lw_tbl := lw_at lw_m6 225 rfl
theorem q1520 : (Jvm.Cond.stringRef "TokenMouth$Command" (166 : Nat) "else") ∈ lw_tbl := lw_at lw_m6 226 rfl
theorem q1521 : (Jvm.Cond.stringRef "TokenMouth$Command" (169 : Nat) "fi") ∈ lw_tbl := lw_at lw_m6 227 rfl
theorem q1522 : (Jvm.Cond.stringRef "TokenMouth$Command" (148 : Nat) "endcsname") ∈ lw_tbl := lw_at lw_m6 228 rfl
theorem q1523 : (Jvm.Cond.stringRef "TokenMouth$Command" (130 : Nat) "edef") ∈ lw_tbl := lw_at lw_m6 229 rfl
theorem q1524 : (Jvm.Cond.stringRef "TokenMouth$Command" (127 : Nat) "gdef") ∈ lw_tbl := lw_at lw_m6 230 rfl
theorem q1525 : (Jvm.Cond.stringRef "TokenMouth$Command" (115 : Nat) "par") ∈ lw_tbl := lw_at lw_m6 231 rfl
theorem q1526 : (Jvm.Cond.stringRef "TokenMouth$Command" (124 : Nat) "def") ∈ lw_tbl := lw_at lw_m6 232 rfl
theorem q1527 : (Jvm.Cond.stringRef "TokenMouth$Command" (133 : Nat) "let") ∈ lw_tbl := lw_at lw_m6 233 rfl
theorem q1528 : (Jvm.Cond.stringRef "TokenMouth$Command" (136 : Nat) "catcode") ∈ lw_tbl := lw_at lw_m6 234 rfl
/-! TokenMouth$Row -/
set_option maxRecDepth 100000
def RX3 : String := "TokenMouth$Row"
def TX3 : u_T := fun k => match k with
  | 0 => ("TokenMouth$Row", "tokens", "[S", true)
  | _ => ("TokenMouth$Row", "size", "I", false)
def tyX3 : Nat → FieldType := fun k => match k with
  | 0 => .array .short
  | _ => .int
abbrev wsX30 : List Cond := u_ws RX3 TX3 2
theorem nmX3 : ∀ a, a < 2 → ∀ b, b < 2 → a ≠ b → (TX3 a).2.1 ≠ (TX3 b).2.1 := by decide +kernel
theorem tyX3_ok : ∀ k, k < 2 → parseFieldDescriptor (TX3 k).2.2.1 = some (tyX3 k) := by decide +kernel
abbrev cX3_init : ByteArray := prog_7_method_1_code
def yX3_init : MethodName := ⟨RX3, "<init>", "()V"⟩
def dkwX3_init_0 : List UInt8 := [42, 183, 0, 1, 42, 16, 48, 188, 9, 181, 0, 7, 177]
abbrev dktX3_init_0 : List UInt8 := dkwX3_init_0 ++ []
theorem dksX3_init_0 : cX3_init.data.toList.drop 0 = dktX3_init_0 := by decide +kernel
theorem dX3_init_0 : decode cX3_init 0 = .ok (.aload_n 0, 1) := dk_42 (dk_at dksX3_init_0 0 rfl rfl)
theorem dX3_init_1 : decode cX3_init 1 = .ok (.invokespecial 1, 3) := dk_183 0 1 (dk_at dksX3_init_0 1 rfl rfl)
theorem dX3_init_4 : decode cX3_init 4 = .ok (.aload_n 0, 1) := dk_42 (dk_at dksX3_init_0 4 rfl rfl)
theorem dX3_init_5 : decode cX3_init 5 = .ok (.bipush 48, 2) := dk_16 48 (dk_at dksX3_init_0 5 rfl rfl)
theorem dX3_init_7 : decode cX3_init 7 = .ok (.newarray .short, 2) := dk_188_9 (dk_at dksX3_init_0 7 rfl rfl)
theorem dX3_init_9 : decode cX3_init 9 = .ok (.putfield 7, 3) := dk_181 0 7 (dk_at dksX3_init_0 9 rfl rfl)
theorem dX3_init_12 : decode cX3_init 12 = .ok (.return_, 1) := dk_177 (dk_at dksX3_init_0 12 rfl rfl)
abbrev cX3_add : ByteArray := prog_7_method_2_code
def yX3_add : MethodName := ⟨RX3, "add", "(II)Z"⟩
def dkwX3_add_1 : List UInt8 := [42, 89, 180, 0, 13, 4, 96, 181, 0, 13, 4, 172]
abbrev dktX3_add_1 : List UInt8 := dkwX3_add_1 ++ []
def dkwX3_add_0 : List UInt8 := [42, 180, 0, 13, 28, 160, 0, 5, 3, 172, 42, 180, 0, 7, 42, 180, 0, 13, 27, 184, 0, 17, 147, 86]
abbrev dktX3_add_0 : List UInt8 := dkwX3_add_0 ++ dktX3_add_1
theorem dksX3_add_0 : cX3_add.data.toList.drop 0 = dktX3_add_0 := by decide +kernel
theorem dksX3_add_1 : cX3_add.data.toList.drop 24 = dktX3_add_1 := dk_seg dksX3_add_0 24 rfl rfl
theorem dX3_add_0 : decode cX3_add 0 = .ok (.aload_n 0, 1) := dk_42 (dk_at dksX3_add_0 0 rfl rfl)
theorem dX3_add_1 : decode cX3_add 1 = .ok (.getfield 13, 3) := dk_180 0 13 (dk_at dksX3_add_0 1 rfl rfl)
theorem dX3_add_4 : decode cX3_add 4 = .ok (.iload_n 2, 1) := dk_28 (dk_at dksX3_add_0 4 rfl rfl)
theorem dX3_add_5 : decode cX3_add 5 = .ok (.if_icmp .ne 5, 3) := dk_160 0 5 (dk_at dksX3_add_0 5 rfl rfl)
theorem dX3_add_8 : decode cX3_add 8 = .ok (.iconst 0, 1) := dk_3 (dk_at dksX3_add_0 8 rfl rfl)
theorem dX3_add_9 : decode cX3_add 9 = .ok (.ireturn, 1) := dk_172 (dk_at dksX3_add_0 9 rfl rfl)
theorem dX3_add_10 : decode cX3_add 10 = .ok (.aload_n 0, 1) := dk_42 (dk_at dksX3_add_0 10 rfl rfl)
theorem dX3_add_11 : decode cX3_add 11 = .ok (.getfield 7, 3) := dk_180 0 7 (dk_at dksX3_add_0 11 rfl rfl)
theorem dX3_add_14 : decode cX3_add 14 = .ok (.aload_n 0, 1) := dk_42 (dk_at dksX3_add_0 14 rfl rfl)
theorem dX3_add_15 : decode cX3_add 15 = .ok (.getfield 13, 3) := dk_180 0 13 (dk_at dksX3_add_0 15 rfl rfl)
theorem dX3_add_18 : decode cX3_add 18 = .ok (.iload_n 1, 1) := dk_27 (dk_at dksX3_add_0 18 rfl rfl)
theorem dX3_add_19 : decode cX3_add 19 = .ok (.invokestatic 17, 3) := dk_184 0 17 (dk_at dksX3_add_0 19 rfl rfl)
theorem dX3_add_22 : decode cX3_add 22 = .ok (.i2s, 1) := dk_147 (dk_at dksX3_add_0 22 rfl rfl)
theorem dX3_add_23 : decode cX3_add 23 = .ok (.sastore, 1) := dk_86 (dk_at dksX3_add_0 23 rfl rfl)
theorem dX3_add_24 : decode cX3_add 24 = .ok (.aload_n 0, 1) := dk_42 (dk_at dksX3_add_1 0 rfl rfl)
theorem dX3_add_25 : decode cX3_add 25 = .ok (.dup, 1) := dk_89 (dk_at dksX3_add_1 1 rfl rfl)
theorem dX3_add_26 : decode cX3_add 26 = .ok (.getfield 13, 3) := dk_180 0 13 (dk_at dksX3_add_1 2 rfl rfl)
theorem dX3_add_29 : decode cX3_add 29 = .ok (.iconst 1, 1) := dk_4 (dk_at dksX3_add_1 5 rfl rfl)
theorem dX3_add_30 : decode cX3_add 30 = .ok (.iadd, 1) := dk_96 (dk_at dksX3_add_1 6 rfl rfl)
theorem dX3_add_31 : decode cX3_add 31 = .ok (.putfield 13, 3) := dk_181 0 13 (dk_at dksX3_add_1 7 rfl rfl)
theorem dX3_add_34 : decode cX3_add 34 = .ok (.iconst 1, 1) := dk_4 (dk_at dksX3_add_1 10 rfl rfl)
theorem dX3_add_35 : decode cX3_add 35 = .ok (.ireturn, 1) := dk_172 (dk_at dksX3_add_1 11 rfl rfl)
abbrev cX3_endsWith : ByteArray := prog_7_method_4_code
def yX3_endsWith : MethodName := ⟨RX3, "endsWith", "([SII)Z"⟩
def dkwX3_endsWith_3 : List UInt8 := [167, 255, 210, 21, 5, 172]
abbrev dktX3_endsWith_3 : List UInt8 := dkwX3_endsWith_3 ++ []
def dkwX3_endsWith_2 : List UInt8 := [21, 6, 96, 53, 43, 28, 21, 6, 96, 53, 160, 0, 7, 4, 167, 0, 4, 3, 54, 5, 132, 6, 1]
abbrev dktX3_endsWith_2 : List UInt8 := dkwX3_endsWith_2 ++ dktX3_endsWith_3
def dkwX3_endsWith_1 : List UInt8 := [21, 6, 21, 4, 162, 0, 45, 21, 5, 153, 0, 40, 42, 180, 0, 7, 42, 180, 0, 13, 21, 4, 100]
abbrev dktX3_endsWith_1 : List UInt8 := dkwX3_endsWith_1 ++ dktX3_endsWith_2
def dkwX3_endsWith_0 : List UInt8 := [29, 28, 100, 54, 4, 42, 180, 0, 13, 21, 4, 161, 0, 7, 4, 167, 0, 4, 3, 54, 5, 3, 54, 6]
abbrev dktX3_endsWith_0 : List UInt8 := dkwX3_endsWith_0 ++ dktX3_endsWith_1
theorem dksX3_endsWith_0 : cX3_endsWith.data.toList.drop 0 = dktX3_endsWith_0 := by decide +kernel
theorem dksX3_endsWith_1 : cX3_endsWith.data.toList.drop 24 = dktX3_endsWith_1 := dk_seg dksX3_endsWith_0 24 rfl rfl
theorem dksX3_endsWith_2 : cX3_endsWith.data.toList.drop 47 = dktX3_endsWith_2 := dk_seg dksX3_endsWith_1 23 rfl rfl
theorem dksX3_endsWith_3 : cX3_endsWith.data.toList.drop 70 = dktX3_endsWith_3 := dk_seg dksX3_endsWith_2 23 rfl rfl
theorem dX3_endsWith_0 : decode cX3_endsWith 0 = .ok (.iload_n 3, 1) := dk_29 (dk_at dksX3_endsWith_0 0 rfl rfl)
theorem dX3_endsWith_1 : decode cX3_endsWith 1 = .ok (.iload_n 2, 1) := dk_28 (dk_at dksX3_endsWith_0 1 rfl rfl)
theorem dX3_endsWith_2 : decode cX3_endsWith 2 = .ok (.isub, 1) := dk_100 (dk_at dksX3_endsWith_0 2 rfl rfl)
theorem dX3_endsWith_3 : decode cX3_endsWith 3 = .ok (.istore 4, 2) := dk_54 4 (dk_at dksX3_endsWith_0 3 rfl rfl)
theorem dX3_endsWith_5 : decode cX3_endsWith 5 = .ok (.aload_n 0, 1) := dk_42 (dk_at dksX3_endsWith_0 5 rfl rfl)
theorem dX3_endsWith_6 : decode cX3_endsWith 6 = .ok (.getfield 13, 3) := dk_180 0 13 (dk_at dksX3_endsWith_0 6 rfl rfl)
theorem dX3_endsWith_9 : decode cX3_endsWith 9 = .ok (.iload 4, 2) := dk_21 4 (dk_at dksX3_endsWith_0 9 rfl rfl)
theorem dX3_endsWith_11 : decode cX3_endsWith 11 = .ok (.if_icmp .lt 7, 3) := dk_161 0 7 (dk_at dksX3_endsWith_0 11 rfl rfl)
theorem dX3_endsWith_14 : decode cX3_endsWith 14 = .ok (.iconst 1, 1) := dk_4 (dk_at dksX3_endsWith_0 14 rfl rfl)
theorem dX3_endsWith_15 : decode cX3_endsWith 15 = .ok (.goto 4, 3) := dk_167 0 4 (dk_at dksX3_endsWith_0 15 rfl rfl)
theorem dX3_endsWith_18 : decode cX3_endsWith 18 = .ok (.iconst 0, 1) := dk_3 (dk_at dksX3_endsWith_0 18 rfl rfl)
theorem dX3_endsWith_19 : decode cX3_endsWith 19 = .ok (.istore 5, 2) := dk_54 5 (dk_at dksX3_endsWith_0 19 rfl rfl)
theorem dX3_endsWith_21 : decode cX3_endsWith 21 = .ok (.iconst 0, 1) := dk_3 (dk_at dksX3_endsWith_0 21 rfl rfl)
theorem dX3_endsWith_22 : decode cX3_endsWith 22 = .ok (.istore 6, 2) := dk_54 6 (dk_at dksX3_endsWith_0 22 rfl rfl)
theorem dX3_endsWith_24 : decode cX3_endsWith 24 = .ok (.iload 6, 2) := dk_21 6 (dk_at dksX3_endsWith_1 0 rfl rfl)
theorem dX3_endsWith_26 : decode cX3_endsWith 26 = .ok (.iload 4, 2) := dk_21 4 (dk_at dksX3_endsWith_1 2 rfl rfl)
theorem dX3_endsWith_28 : decode cX3_endsWith 28 = .ok (.if_icmp .ge 45, 3) := dk_162 0 45 (dk_at dksX3_endsWith_1 4 rfl rfl)
theorem dX3_endsWith_31 : decode cX3_endsWith 31 = .ok (.iload 5, 2) := dk_21 5 (dk_at dksX3_endsWith_1 7 rfl rfl)
theorem dX3_endsWith_33 : decode cX3_endsWith 33 = .ok (.ifCond .eq 40, 3) := dk_153 0 40 (dk_at dksX3_endsWith_1 9 rfl rfl)
theorem dX3_endsWith_36 : decode cX3_endsWith 36 = .ok (.aload_n 0, 1) := dk_42 (dk_at dksX3_endsWith_1 12 rfl rfl)
theorem dX3_endsWith_37 : decode cX3_endsWith 37 = .ok (.getfield 7, 3) := dk_180 0 7 (dk_at dksX3_endsWith_1 13 rfl rfl)
theorem dX3_endsWith_40 : decode cX3_endsWith 40 = .ok (.aload_n 0, 1) := dk_42 (dk_at dksX3_endsWith_1 16 rfl rfl)
theorem dX3_endsWith_41 : decode cX3_endsWith 41 = .ok (.getfield 13, 3) := dk_180 0 13 (dk_at dksX3_endsWith_1 17 rfl rfl)
theorem dX3_endsWith_44 : decode cX3_endsWith 44 = .ok (.iload 4, 2) := dk_21 4 (dk_at dksX3_endsWith_1 20 rfl rfl)
theorem dX3_endsWith_46 : decode cX3_endsWith 46 = .ok (.isub, 1) := dk_100 (dk_at dksX3_endsWith_1 22 rfl rfl)
theorem dX3_endsWith_47 : decode cX3_endsWith 47 = .ok (.iload 6, 2) := dk_21 6 (dk_at dksX3_endsWith_2 0 rfl rfl)
theorem dX3_endsWith_49 : decode cX3_endsWith 49 = .ok (.iadd, 1) := dk_96 (dk_at dksX3_endsWith_2 2 rfl rfl)
theorem dX3_endsWith_50 : decode cX3_endsWith 50 = .ok (.saload, 1) := dk_53 (dk_at dksX3_endsWith_2 3 rfl rfl)
theorem dX3_endsWith_51 : decode cX3_endsWith 51 = .ok (.aload_n 1, 1) := dk_43 (dk_at dksX3_endsWith_2 4 rfl rfl)
theorem dX3_endsWith_52 : decode cX3_endsWith 52 = .ok (.iload_n 2, 1) := dk_28 (dk_at dksX3_endsWith_2 5 rfl rfl)
theorem dX3_endsWith_53 : decode cX3_endsWith 53 = .ok (.iload 6, 2) := dk_21 6 (dk_at dksX3_endsWith_2 6 rfl rfl)
theorem dX3_endsWith_55 : decode cX3_endsWith 55 = .ok (.iadd, 1) := dk_96 (dk_at dksX3_endsWith_2 8 rfl rfl)
theorem dX3_endsWith_56 : decode cX3_endsWith 56 = .ok (.saload, 1) := dk_53 (dk_at dksX3_endsWith_2 9 rfl rfl)
theorem dX3_endsWith_57 : decode cX3_endsWith 57 = .ok (.if_icmp .ne 7, 3) := dk_160 0 7 (dk_at dksX3_endsWith_2 10 rfl rfl)
theorem dX3_endsWith_60 : decode cX3_endsWith 60 = .ok (.iconst 1, 1) := dk_4 (dk_at dksX3_endsWith_2 13 rfl rfl)
theorem dX3_endsWith_61 : decode cX3_endsWith 61 = .ok (.goto 4, 3) := dk_167 0 4 (dk_at dksX3_endsWith_2 14 rfl rfl)
theorem dX3_endsWith_64 : decode cX3_endsWith 64 = .ok (.iconst 0, 1) := dk_3 (dk_at dksX3_endsWith_2 17 rfl rfl)
theorem dX3_endsWith_65 : decode cX3_endsWith 65 = .ok (.istore 5, 2) := dk_54 5 (dk_at dksX3_endsWith_2 18 rfl rfl)
theorem dX3_endsWith_67 : decode cX3_endsWith 67 = .ok (.iinc 6 1, 3) := dk_132 6 1 (dk_at dksX3_endsWith_2 20 rfl rfl)
theorem dX3_endsWith_70 : decode cX3_endsWith 70 = .ok (.goto (-46), 3) := dk_167 255 210 (dk_at dksX3_endsWith_3 0 rfl rfl)
theorem dX3_endsWith_73 : decode cX3_endsWith 73 = .ok (.iload 5, 2) := dk_21 5 (dk_at dksX3_endsWith_3 3 rfl rfl)
theorem dX3_endsWith_75 : decode cX3_endsWith 75 = .ok (.ireturn, 1) := dk_172 (dk_at dksX3_endsWith_3 5 rfl rfl)
abbrev cX3_isGroup : ByteArray := prog_7_method_5_code
def yX3_isGroup : MethodName := ⟨RX3, "isGroup", "()Z"⟩
def dkwX3_isGroup_2 : List UInt8 := [132, 2, 1, 167, 255, 209, 3, 172]
abbrev dktX3_isGroup_2 : List UInt8 := dkwX3_isGroup_2 ++ []
def dkwX3_isGroup_1 : List UInt8 := [27, 154, 0, 23, 28, 158, 0, 17, 28, 42, 180, 0, 13, 4, 100, 160, 0, 7, 4, 167, 0, 4, 3, 172]
abbrev dktX3_isGroup_1 : List UInt8 := dkwX3_isGroup_1 ++ dktX3_isGroup_2
def dkwX3_isGroup_0 : List UInt8 := [3, 60, 3, 61, 28, 42, 180, 0, 13, 162, 0, 45, 27, 42, 180, 0, 7, 28, 53, 184, 0, 23, 96, 60]
abbrev dktX3_isGroup_0 : List UInt8 := dkwX3_isGroup_0 ++ dktX3_isGroup_1
theorem dksX3_isGroup_0 : cX3_isGroup.data.toList.drop 0 = dktX3_isGroup_0 := by decide +kernel
theorem dksX3_isGroup_1 : cX3_isGroup.data.toList.drop 24 = dktX3_isGroup_1 := dk_seg dksX3_isGroup_0 24 rfl rfl
theorem dksX3_isGroup_2 : cX3_isGroup.data.toList.drop 48 = dktX3_isGroup_2 := dk_seg dksX3_isGroup_1 24 rfl rfl
theorem dX3_isGroup_0 : decode cX3_isGroup 0 = .ok (.iconst 0, 1) := dk_3 (dk_at dksX3_isGroup_0 0 rfl rfl)
theorem dX3_isGroup_1 : decode cX3_isGroup 1 = .ok (.istore_n 1, 1) := dk_60 (dk_at dksX3_isGroup_0 1 rfl rfl)
theorem dX3_isGroup_2 : decode cX3_isGroup 2 = .ok (.iconst 0, 1) := dk_3 (dk_at dksX3_isGroup_0 2 rfl rfl)
theorem dX3_isGroup_3 : decode cX3_isGroup 3 = .ok (.istore_n 2, 1) := dk_61 (dk_at dksX3_isGroup_0 3 rfl rfl)
theorem dX3_isGroup_4 : decode cX3_isGroup 4 = .ok (.iload_n 2, 1) := dk_28 (dk_at dksX3_isGroup_0 4 rfl rfl)
theorem dX3_isGroup_5 : decode cX3_isGroup 5 = .ok (.aload_n 0, 1) := dk_42 (dk_at dksX3_isGroup_0 5 rfl rfl)
theorem dX3_isGroup_6 : decode cX3_isGroup 6 = .ok (.getfield 13, 3) := dk_180 0 13 (dk_at dksX3_isGroup_0 6 rfl rfl)
theorem dX3_isGroup_9 : decode cX3_isGroup 9 = .ok (.if_icmp .ge 45, 3) := dk_162 0 45 (dk_at dksX3_isGroup_0 9 rfl rfl)
theorem dX3_isGroup_12 : decode cX3_isGroup 12 = .ok (.iload_n 1, 1) := dk_27 (dk_at dksX3_isGroup_0 12 rfl rfl)
theorem dX3_isGroup_13 : decode cX3_isGroup 13 = .ok (.aload_n 0, 1) := dk_42 (dk_at dksX3_isGroup_0 13 rfl rfl)
theorem dX3_isGroup_14 : decode cX3_isGroup 14 = .ok (.getfield 7, 3) := dk_180 0 7 (dk_at dksX3_isGroup_0 14 rfl rfl)
theorem dX3_isGroup_17 : decode cX3_isGroup 17 = .ok (.iload_n 2, 1) := dk_28 (dk_at dksX3_isGroup_0 17 rfl rfl)
theorem dX3_isGroup_18 : decode cX3_isGroup 18 = .ok (.saload, 1) := dk_53 (dk_at dksX3_isGroup_0 18 rfl rfl)
theorem dX3_isGroup_19 : decode cX3_isGroup 19 = .ok (.invokestatic 23, 3) := dk_184 0 23 (dk_at dksX3_isGroup_0 19 rfl rfl)
theorem dX3_isGroup_22 : decode cX3_isGroup 22 = .ok (.iadd, 1) := dk_96 (dk_at dksX3_isGroup_0 22 rfl rfl)
theorem dX3_isGroup_23 : decode cX3_isGroup 23 = .ok (.istore_n 1, 1) := dk_60 (dk_at dksX3_isGroup_0 23 rfl rfl)
theorem dX3_isGroup_24 : decode cX3_isGroup 24 = .ok (.iload_n 1, 1) := dk_27 (dk_at dksX3_isGroup_1 0 rfl rfl)
theorem dX3_isGroup_25 : decode cX3_isGroup 25 = .ok (.ifCond .ne 23, 3) := dk_154 0 23 (dk_at dksX3_isGroup_1 1 rfl rfl)
theorem dX3_isGroup_28 : decode cX3_isGroup 28 = .ok (.iload_n 2, 1) := dk_28 (dk_at dksX3_isGroup_1 4 rfl rfl)
theorem dX3_isGroup_29 : decode cX3_isGroup 29 = .ok (.ifCond .le 17, 3) := dk_158 0 17 (dk_at dksX3_isGroup_1 5 rfl rfl)
theorem dX3_isGroup_32 : decode cX3_isGroup 32 = .ok (.iload_n 2, 1) := dk_28 (dk_at dksX3_isGroup_1 8 rfl rfl)
theorem dX3_isGroup_33 : decode cX3_isGroup 33 = .ok (.aload_n 0, 1) := dk_42 (dk_at dksX3_isGroup_1 9 rfl rfl)
theorem dX3_isGroup_34 : decode cX3_isGroup 34 = .ok (.getfield 13, 3) := dk_180 0 13 (dk_at dksX3_isGroup_1 10 rfl rfl)
theorem dX3_isGroup_37 : decode cX3_isGroup 37 = .ok (.iconst 1, 1) := dk_4 (dk_at dksX3_isGroup_1 13 rfl rfl)
theorem dX3_isGroup_38 : decode cX3_isGroup 38 = .ok (.isub, 1) := dk_100 (dk_at dksX3_isGroup_1 14 rfl rfl)
theorem dX3_isGroup_39 : decode cX3_isGroup 39 = .ok (.if_icmp .ne 7, 3) := dk_160 0 7 (dk_at dksX3_isGroup_1 15 rfl rfl)
theorem dX3_isGroup_42 : decode cX3_isGroup 42 = .ok (.iconst 1, 1) := dk_4 (dk_at dksX3_isGroup_1 18 rfl rfl)
theorem dX3_isGroup_43 : decode cX3_isGroup 43 = .ok (.goto 4, 3) := dk_167 0 4 (dk_at dksX3_isGroup_1 19 rfl rfl)
theorem dX3_isGroup_46 : decode cX3_isGroup 46 = .ok (.iconst 0, 1) := dk_3 (dk_at dksX3_isGroup_1 22 rfl rfl)
theorem dX3_isGroup_47 : decode cX3_isGroup 47 = .ok (.ireturn, 1) := dk_172 (dk_at dksX3_isGroup_1 23 rfl rfl)
theorem dX3_isGroup_48 : decode cX3_isGroup 48 = .ok (.iinc 2 1, 3) := dk_132 2 1 (dk_at dksX3_isGroup_2 0 rfl rfl)
theorem dX3_isGroup_51 : decode cX3_isGroup 51 = .ok (.goto (-47), 3) := dk_167 255 209 (dk_at dksX3_isGroup_2 3 rfl rfl)
theorem dX3_isGroup_54 : decode cX3_isGroup 54 = .ok (.iconst 0, 1) := dk_3 (dk_at dksX3_isGroup_2 6 rfl rfl)
theorem dX3_isGroup_55 : decode cX3_isGroup 55 = .ok (.ireturn, 1) := dk_172 (dk_at dksX3_isGroup_2 7 rfl rfl)
abbrev cX3_strip : ByteArray := prog_7_method_6_code
def yX3_strip : MethodName := ⟨RX3, "strip", "()V"⟩
def dkwX3_strip_1 : List UInt8 := [53, 86, 132, 1, 1, 167, 255, 229, 42, 89, 180, 0, 13, 5, 100, 181, 0, 13, 177]
abbrev dktX3_strip_1 : List UInt8 := dkwX3_strip_1 ++ []
def dkwX3_strip_0 : List UInt8 := [5, 60, 27, 42, 180, 0, 13, 162, 0, 25, 42, 180, 0, 7, 27, 5, 100, 42, 180, 0, 7, 27, 4, 100]
abbrev dktX3_strip_0 : List UInt8 := dkwX3_strip_0 ++ dktX3_strip_1
theorem dksX3_strip_0 : cX3_strip.data.toList.drop 0 = dktX3_strip_0 := by decide +kernel
theorem dksX3_strip_1 : cX3_strip.data.toList.drop 24 = dktX3_strip_1 := dk_seg dksX3_strip_0 24 rfl rfl
theorem dX3_strip_0 : decode cX3_strip 0 = .ok (.iconst 2, 1) := dk_5 (dk_at dksX3_strip_0 0 rfl rfl)
theorem dX3_strip_1 : decode cX3_strip 1 = .ok (.istore_n 1, 1) := dk_60 (dk_at dksX3_strip_0 1 rfl rfl)
theorem dX3_strip_2 : decode cX3_strip 2 = .ok (.iload_n 1, 1) := dk_27 (dk_at dksX3_strip_0 2 rfl rfl)
theorem dX3_strip_3 : decode cX3_strip 3 = .ok (.aload_n 0, 1) := dk_42 (dk_at dksX3_strip_0 3 rfl rfl)
theorem dX3_strip_4 : decode cX3_strip 4 = .ok (.getfield 13, 3) := dk_180 0 13 (dk_at dksX3_strip_0 4 rfl rfl)
theorem dX3_strip_7 : decode cX3_strip 7 = .ok (.if_icmp .ge 25, 3) := dk_162 0 25 (dk_at dksX3_strip_0 7 rfl rfl)
theorem dX3_strip_10 : decode cX3_strip 10 = .ok (.aload_n 0, 1) := dk_42 (dk_at dksX3_strip_0 10 rfl rfl)
theorem dX3_strip_11 : decode cX3_strip 11 = .ok (.getfield 7, 3) := dk_180 0 7 (dk_at dksX3_strip_0 11 rfl rfl)
theorem dX3_strip_14 : decode cX3_strip 14 = .ok (.iload_n 1, 1) := dk_27 (dk_at dksX3_strip_0 14 rfl rfl)
theorem dX3_strip_15 : decode cX3_strip 15 = .ok (.iconst 2, 1) := dk_5 (dk_at dksX3_strip_0 15 rfl rfl)
theorem dX3_strip_16 : decode cX3_strip 16 = .ok (.isub, 1) := dk_100 (dk_at dksX3_strip_0 16 rfl rfl)
theorem dX3_strip_17 : decode cX3_strip 17 = .ok (.aload_n 0, 1) := dk_42 (dk_at dksX3_strip_0 17 rfl rfl)
theorem dX3_strip_18 : decode cX3_strip 18 = .ok (.getfield 7, 3) := dk_180 0 7 (dk_at dksX3_strip_0 18 rfl rfl)
theorem dX3_strip_21 : decode cX3_strip 21 = .ok (.iload_n 1, 1) := dk_27 (dk_at dksX3_strip_0 21 rfl rfl)
theorem dX3_strip_22 : decode cX3_strip 22 = .ok (.iconst 1, 1) := dk_4 (dk_at dksX3_strip_0 22 rfl rfl)
theorem dX3_strip_23 : decode cX3_strip 23 = .ok (.isub, 1) := dk_100 (dk_at dksX3_strip_0 23 rfl rfl)
theorem dX3_strip_24 : decode cX3_strip 24 = .ok (.saload, 1) := dk_53 (dk_at dksX3_strip_1 0 rfl rfl)
theorem dX3_strip_25 : decode cX3_strip 25 = .ok (.sastore, 1) := dk_86 (dk_at dksX3_strip_1 1 rfl rfl)
theorem dX3_strip_26 : decode cX3_strip 26 = .ok (.iinc 1 1, 3) := dk_132 1 1 (dk_at dksX3_strip_1 2 rfl rfl)
theorem dX3_strip_29 : decode cX3_strip 29 = .ok (.goto (-27), 3) := dk_167 255 229 (dk_at dksX3_strip_1 5 rfl rfl)
theorem dX3_strip_32 : decode cX3_strip 32 = .ok (.aload_n 0, 1) := dk_42 (dk_at dksX3_strip_1 8 rfl rfl)
theorem dX3_strip_33 : decode cX3_strip 33 = .ok (.dup, 1) := dk_89 (dk_at dksX3_strip_1 9 rfl rfl)
theorem dX3_strip_34 : decode cX3_strip 34 = .ok (.getfield 13, 3) := dk_180 0 13 (dk_at dksX3_strip_1 10 rfl rfl)
theorem dX3_strip_37 : decode cX3_strip 37 = .ok (.iconst 2, 1) := dk_5 (dk_at dksX3_strip_1 13 rfl rfl)
theorem dX3_strip_38 : decode cX3_strip 38 = .ok (.isub, 1) := dk_100 (dk_at dksX3_strip_1 14 rfl rfl)
theorem dX3_strip_39 : decode cX3_strip 39 = .ok (.putfield 13, 3) := dk_181 0 13 (dk_at dksX3_strip_1 15 rfl rfl)
theorem dX3_strip_42 : decode cX3_strip 42 = .ok (.return_, 1) := dk_177 (dk_at dksX3_strip_1 18 rfl rfl)
abbrev cX3_putBack : ByteArray := prog_7_method_7_code
def yX3_putBack : MethodName := ⟨RX3, "putBack", "(LTokenMouth;)V"⟩
def dkwX3_putBack_1 : List UInt8 := [167, 255, 239, 177]
abbrev dktX3_putBack_1 : List UInt8 := dkwX3_putBack_1 ++ []
def dkwX3_putBack_0 : List UInt8 := [42, 180, 0, 13, 4, 100, 61, 28, 155, 0, 19, 43, 42, 180, 0, 7, 28, 53, 182, 0, 26, 132, 2, 255]
abbrev dktX3_putBack_0 : List UInt8 := dkwX3_putBack_0 ++ dktX3_putBack_1
theorem dksX3_putBack_0 : cX3_putBack.data.toList.drop 0 = dktX3_putBack_0 := by decide +kernel
theorem dksX3_putBack_1 : cX3_putBack.data.toList.drop 24 = dktX3_putBack_1 := dk_seg dksX3_putBack_0 24 rfl rfl
theorem dX3_putBack_0 : decode cX3_putBack 0 = .ok (.aload_n 0, 1) := dk_42 (dk_at dksX3_putBack_0 0 rfl rfl)
theorem dX3_putBack_1 : decode cX3_putBack 1 = .ok (.getfield 13, 3) := dk_180 0 13 (dk_at dksX3_putBack_0 1 rfl rfl)
theorem dX3_putBack_4 : decode cX3_putBack 4 = .ok (.iconst 1, 1) := dk_4 (dk_at dksX3_putBack_0 4 rfl rfl)
theorem dX3_putBack_5 : decode cX3_putBack 5 = .ok (.isub, 1) := dk_100 (dk_at dksX3_putBack_0 5 rfl rfl)
theorem dX3_putBack_6 : decode cX3_putBack 6 = .ok (.istore_n 2, 1) := dk_61 (dk_at dksX3_putBack_0 6 rfl rfl)
theorem dX3_putBack_7 : decode cX3_putBack 7 = .ok (.iload_n 2, 1) := dk_28 (dk_at dksX3_putBack_0 7 rfl rfl)
theorem dX3_putBack_8 : decode cX3_putBack 8 = .ok (.ifCond .lt 19, 3) := dk_155 0 19 (dk_at dksX3_putBack_0 8 rfl rfl)
theorem dX3_putBack_11 : decode cX3_putBack 11 = .ok (.aload_n 1, 1) := dk_43 (dk_at dksX3_putBack_0 11 rfl rfl)
theorem dX3_putBack_12 : decode cX3_putBack 12 = .ok (.aload_n 0, 1) := dk_42 (dk_at dksX3_putBack_0 12 rfl rfl)
theorem dX3_putBack_13 : decode cX3_putBack 13 = .ok (.getfield 7, 3) := dk_180 0 7 (dk_at dksX3_putBack_0 13 rfl rfl)
theorem dX3_putBack_16 : decode cX3_putBack 16 = .ok (.iload_n 2, 1) := dk_28 (dk_at dksX3_putBack_0 16 rfl rfl)
theorem dX3_putBack_17 : decode cX3_putBack 17 = .ok (.saload, 1) := dk_53 (dk_at dksX3_putBack_0 17 rfl rfl)
theorem dX3_putBack_18 : decode cX3_putBack 18 = .ok (.invokevirtual 26, 3) := dk_182 0 26 (dk_at dksX3_putBack_0 18 rfl rfl)
theorem dX3_putBack_21 : decode cX3_putBack 21 = .ok (.iinc 2 (-1), 3) := dk_132 2 255 (dk_at dksX3_putBack_0 21 rfl rfl)
theorem dX3_putBack_24 : decode cX3_putBack 24 = .ok (.goto (-17), 3) := dk_167 255 239 (dk_at dksX3_putBack_1 0 rfl rfl)
theorem dX3_putBack_27 : decode cX3_putBack 27 = .ok (.return_, 1) := dk_177 (dk_at dksX3_putBack_1 3 rfl rfl)
abbrev cX3_copy : ByteArray := prog_7_method_3_code
def yX3_copy : MethodName := ⟨RX3, "copy", "()[S"⟩
def dkwX3_copy_1 : List UInt8 := [53, 86, 132, 2, 1, 167, 255, 236, 43, 176]
abbrev dktX3_copy_1 : List UInt8 := dkwX3_copy_1 ++ []
def dkwX3_copy_0 : List UInt8 := [42, 180, 0, 13, 188, 9, 76, 3, 61, 28, 42, 180, 0, 13, 162, 0, 18, 43, 28, 42, 180, 0, 7, 28]
abbrev dktX3_copy_0 : List UInt8 := dkwX3_copy_0 ++ dktX3_copy_1
theorem dksX3_copy_0 : cX3_copy.data.toList.drop 0 = dktX3_copy_0 := by decide +kernel
theorem dksX3_copy_1 : cX3_copy.data.toList.drop 24 = dktX3_copy_1 := dk_seg dksX3_copy_0 24 rfl rfl
theorem dX3_copy_0 : decode cX3_copy 0 = .ok (.aload_n 0, 1) := dk_42 (dk_at dksX3_copy_0 0 rfl rfl)
theorem dX3_copy_1 : decode cX3_copy 1 = .ok (.getfield 13, 3) := dk_180 0 13 (dk_at dksX3_copy_0 1 rfl rfl)
theorem dX3_copy_4 : decode cX3_copy 4 = .ok (.newarray .short, 2) := dk_188_9 (dk_at dksX3_copy_0 4 rfl rfl)
theorem dX3_copy_6 : decode cX3_copy 6 = .ok (.astore_n 1, 1) := dk_76 (dk_at dksX3_copy_0 6 rfl rfl)
theorem dX3_copy_7 : decode cX3_copy 7 = .ok (.iconst 0, 1) := dk_3 (dk_at dksX3_copy_0 7 rfl rfl)
theorem dX3_copy_8 : decode cX3_copy 8 = .ok (.istore_n 2, 1) := dk_61 (dk_at dksX3_copy_0 8 rfl rfl)
theorem dX3_copy_9 : decode cX3_copy 9 = .ok (.iload_n 2, 1) := dk_28 (dk_at dksX3_copy_0 9 rfl rfl)
theorem dX3_copy_10 : decode cX3_copy 10 = .ok (.aload_n 0, 1) := dk_42 (dk_at dksX3_copy_0 10 rfl rfl)
theorem dX3_copy_11 : decode cX3_copy 11 = .ok (.getfield 13, 3) := dk_180 0 13 (dk_at dksX3_copy_0 11 rfl rfl)
theorem dX3_copy_14 : decode cX3_copy 14 = .ok (.if_icmp .ge 18, 3) := dk_162 0 18 (dk_at dksX3_copy_0 14 rfl rfl)
theorem dX3_copy_17 : decode cX3_copy 17 = .ok (.aload_n 1, 1) := dk_43 (dk_at dksX3_copy_0 17 rfl rfl)
theorem dX3_copy_18 : decode cX3_copy 18 = .ok (.iload_n 2, 1) := dk_28 (dk_at dksX3_copy_0 18 rfl rfl)
theorem dX3_copy_19 : decode cX3_copy 19 = .ok (.aload_n 0, 1) := dk_42 (dk_at dksX3_copy_0 19 rfl rfl)
theorem dX3_copy_20 : decode cX3_copy 20 = .ok (.getfield 7, 3) := dk_180 0 7 (dk_at dksX3_copy_0 20 rfl rfl)
theorem dX3_copy_23 : decode cX3_copy 23 = .ok (.iload_n 2, 1) := dk_28 (dk_at dksX3_copy_0 23 rfl rfl)
theorem dX3_copy_24 : decode cX3_copy 24 = .ok (.saload, 1) := dk_53 (dk_at dksX3_copy_1 0 rfl rfl)
theorem dX3_copy_25 : decode cX3_copy 25 = .ok (.sastore, 1) := dk_86 (dk_at dksX3_copy_1 1 rfl rfl)
theorem dX3_copy_26 : decode cX3_copy 26 = .ok (.iinc 2 1, 3) := dk_132 2 1 (dk_at dksX3_copy_1 2 rfl rfl)
theorem dX3_copy_29 : decode cX3_copy 29 = .ok (.goto (-20), 3) := dk_167 255 236 (dk_at dksX3_copy_1 5 rfl rfl)
theorem dX3_copy_32 : decode cX3_copy 32 = .ok (.aload_n 1, 1) := dk_43 (dk_at dksX3_copy_1 8 rfl rfl)
theorem dX3_copy_33 : decode cX3_copy 33 = .ok (.areturn, 1) := dk_176 (dk_at dksX3_copy_1 9 rfl rfl)
theorem q101 : (Jvm.Cond.initialized "TokenMouth$Row") ∈ lw_all := lw_g (lw_at lw_m1 7 rfl) rfl
theorem q178 : (Jvm.Cond.instantiable "TokenMouth$Row" (2 : Nat)) ∈ lw_all := lw_g (lw_at lw_m1 84 rfl) rfl
theorem q180 : (Jvm.Cond.instanceMethod ({ cls := "TokenMouth$Row", name := "<init>", desc := "()V" } : Jvm.MethodName)) ∈ lw_all := lw_g (lw_at lw_m1 86 rfl) rfl
theorem q181 : (Jvm.Cond.code ({ cls := "TokenMouth$Row", name := "<init>", desc := "()V" } : Jvm.MethodName) prog_7_method_1_code (1 : Nat) (Option.none : Option Jvm.ClassFile.FieldType)) ∈ lw_all := lw_g (lw_at lw_m1 87 rfl) rfl
theorem q182 : (Jvm.Cond.methodLink "TokenMouth$Row" (1 : Nat) ({ cls := "java/lang/Object", name := "<init>", desc := "()V" } : Jvm.MethodName)) ∈ lw_all := lw_g (lw_at lw_m1 88 rfl) rfl
theorem q183 : (Jvm.Cond.fieldLink "TokenMouth$Row" (7 : Nat) "TokenMouth$Row" "tokens" "[S") ∈ lw_all := lw_g (lw_at lw_m1 89 rfl) rfl
theorem q184 : (Jvm.Cond.fieldLink "TokenMouth$Row" (13 : Nat) "TokenMouth$Row" "size" "I") ∈ lw_all := lw_g (lw_at lw_m1 90 rfl) rfl
theorem q186 : (Jvm.Cond.laysFinal "TokenMouth$Row" "TokenMouth$Row" "tokens" "[S") ∈ lw_all := lw_g (lw_at lw_m1 92 rfl) rfl
theorem q187 : (Jvm.Cond.soleField "TokenMouth$Row" "tokens") ∈ lw_all := lw_g (lw_at lw_m1 93 rfl) rfl
theorem q188 : (Jvm.Cond.lays "TokenMouth$Row" "TokenMouth$Row" "size" "I") ∈ lw_all := lw_g (lw_at lw_m1 94 rfl) rfl
theorem q189 : (Jvm.Cond.soleField "TokenMouth$Row" "size") ∈ lw_all := lw_g (lw_at lw_m1 95 rfl) rfl
theorem q190 : (Jvm.Cond.superclass "TokenMouth$Row" "java/lang/Object") ∈ lw_all := lw_g (lw_at lw_m1 96 rfl) rfl
theorem q323 : (Jvm.Cond.selects "TokenMouth$Row" ({ cls := "java/lang/Object", name := "getClass", desc := "()Ljava/lang/Class;" } : Jvm.MethodName) ({ cls := "java/lang/Object", name := "getClass", desc := "()Ljava/lang/Class;" } : Jvm.MethodName)) ∈ lw_all := lw_g (lw_at lw_m1 229 rfl) rfl
theorem q815 : (Jvm.Cond.instanceMethod ({ cls := "TokenMouth$Row", name := "add", desc := "(II)Z" } : Jvm.MethodName)) ∈ lw_all := lw_g (lw_at lw_m4 1 rfl) rfl
theorem q816 : (Jvm.Cond.selects "TokenMouth$Row" ({ cls := "TokenMouth$Row", name := "add", desc := "(II)Z" } : Jvm.MethodName) ({ cls := "TokenMouth$Row", name := "add", desc := "(II)Z" } : Jvm.MethodName)) ∈ lw_all := lw_g (lw_at lw_m4 2 rfl) rfl
theorem q817 : (Jvm.Cond.code ({ cls := "TokenMouth$Row", name := "add", desc := "(II)Z" } : Jvm.MethodName) prog_7_method_2_code (3 : Nat) (Option.some Jvm.ClassFile.FieldType.boolean)) ∈ lw_all := lw_g (lw_at lw_m4 3 rfl) rfl
theorem q818 : (Jvm.Cond.methodLinkNest "TokenMouth$Row" (17 : Nat) ({ cls := "TokenMouth", name := "plain", desc := "(I)I" } : Jvm.MethodName) "TokenMouth") ∈ lw_tbl := lw_at lw_m4 4 rfl
theorem q824 : (Jvm.Cond.instanceMethod ({ cls := "TokenMouth$Row", name := "endsWith", desc := "([SII)Z" } : Jvm.MethodName)) ∈ lw_all := lw_g (lw_at lw_m4 10 rfl) rfl
theorem q825 : (Jvm.Cond.selects "TokenMouth$Row" ({ cls := "TokenMouth$Row", name := "endsWith", desc := "([SII)Z" } : Jvm.MethodName) ({ cls := "TokenMouth$Row", name := "endsWith", desc := "([SII)Z" } : Jvm.MethodName)) ∈ lw_all := lw_g (lw_at lw_m4 11 rfl) rfl
theorem q826 : (Jvm.Cond.code ({ cls := "TokenMouth$Row", name := "endsWith", desc := "([SII)Z" } : Jvm.MethodName) prog_7_method_4_code (7 : Nat) (Option.some Jvm.ClassFile.FieldType.boolean)) ∈ lw_all := lw_g (lw_at lw_m4 12 rfl) rfl
theorem q828 : (Jvm.Cond.instanceMethod ({ cls := "TokenMouth$Row", name := "isGroup", desc := "()Z" } : Jvm.MethodName)) ∈ lw_all := lw_g (lw_at lw_m4 14 rfl) rfl
theorem q829 : (Jvm.Cond.selects "TokenMouth$Row" ({ cls := "TokenMouth$Row", name := "isGroup", desc := "()Z" } : Jvm.MethodName) ({ cls := "TokenMouth$Row", name := "isGroup", desc := "()Z" } : Jvm.MethodName)) ∈ lw_all := lw_g (lw_at lw_m4 15 rfl) rfl
theorem q830 : (Jvm.Cond.code ({ cls := "TokenMouth$Row", name := "isGroup", desc := "()Z" } : Jvm.MethodName) prog_7_method_5_code (3 : Nat) (Option.some Jvm.ClassFile.FieldType.boolean)) ∈ lw_all := lw_g (lw_at lw_m4 16 rfl) rfl
theorem q831 : (Jvm.Cond.methodLinkNest "TokenMouth$Row" (23 : Nat) ({ cls := "TokenMouth", name := "levelOf", desc := "(I)I" } : Jvm.MethodName) "TokenMouth") ∈ lw_tbl := lw_at lw_m4 17 rfl
theorem q833 : (Jvm.Cond.instanceMethod ({ cls := "TokenMouth$Row", name := "strip", desc := "()V" } : Jvm.MethodName)) ∈ lw_all := lw_g (lw_at lw_m4 19 rfl) rfl
theorem q834 : (Jvm.Cond.selects "TokenMouth$Row" ({ cls := "TokenMouth$Row", name := "strip", desc := "()V" } : Jvm.MethodName) ({ cls := "TokenMouth$Row", name := "strip", desc := "()V" } : Jvm.MethodName)) ∈ lw_all := lw_g (lw_at lw_m4 20 rfl) rfl
theorem q835 : (Jvm.Cond.code ({ cls := "TokenMouth$Row", name := "strip", desc := "()V" } : Jvm.MethodName) prog_7_method_6_code (2 : Nat) (Option.none : Option Jvm.ClassFile.FieldType)) ∈ lw_all := lw_g (lw_at lw_m4 21 rfl) rfl
theorem q838 : (Jvm.Cond.instanceMethod ({ cls := "TokenMouth$Row", name := "putBack", desc := "(LTokenMouth;)V" } : Jvm.MethodName)) ∈ lw_all := lw_g (lw_at lw_m4 24 rfl) rfl
theorem q839 : (Jvm.Cond.selects "TokenMouth$Row" ({ cls := "TokenMouth$Row", name := "putBack", desc := "(LTokenMouth;)V" } : Jvm.MethodName) ({ cls := "TokenMouth$Row", name := "putBack", desc := "(LTokenMouth;)V" } : Jvm.MethodName)) ∈ lw_all := lw_g (lw_at lw_m4 25 rfl) rfl
theorem q840 : (Jvm.Cond.code ({ cls := "TokenMouth$Row", name := "putBack", desc := "(LTokenMouth;)V" } : Jvm.MethodName) prog_7_method_7_code (3 : Nat) (Option.none : Option Jvm.ClassFile.FieldType)) ∈ lw_all := lw_g (lw_at lw_m4 26 rfl) rfl
theorem q841 : (Jvm.Cond.methodLinkNest "TokenMouth$Row" (26 : Nat) ({ cls := "TokenMouth", name := "back", desc := "(I)V" } : Jvm.MethodName) "TokenMouth") ∈ lw_tbl := lw_at lw_m4 27 rfl
theorem q893 : (Jvm.Cond.instanceMethod ({ cls := "TokenMouth$Row", name := "copy", desc := "()[S" } : Jvm.MethodName)) ∈ lw_all := lw_g (lw_at lw_m4 79 rfl) rfl
theorem q894 : (Jvm.Cond.selects "TokenMouth$Row" ({ cls := "TokenMouth$Row", name := "copy", desc := "()[S" } : Jvm.MethodName) ({ cls := "TokenMouth$Row", name := "copy", desc := "()[S" } : Jvm.MethodName)) ∈ lw_all := lw_g (lw_at lw_m4 80 rfl) rfl
theorem q895 : (Jvm.Cond.code ({ cls := "TokenMouth$Row", name := "copy", desc := "()[S" } : Jvm.MethodName) prog_7_method_3_code (3 : Nat) (Option.some (Jvm.ClassFile.FieldType.array Jvm.ClassFile.FieldType.short))) ∈ lw_all := lw_g (lw_at lw_m4 81 rfl) rfl
theorem q1476 : (Jvm.Cond.castable "TokenMouth$Row" "java/lang/Object") ∈ lw_tbl := lw_at lw_m6 182 rfl
theorem in_X3 : ∀ w ∈ wsX30, w ∈ lw_all := lw_in wsX30 [186, 188] (by decide +kernel) (by decide +kernel)
/-! TokenMouth$Change -/
set_option maxRecDepth 100000
def RX4 : String := "TokenMouth$Change"
def TX4 : u_T := fun k => match k with
  | 0 => ("TokenMouth$Change", "name", "LTokenMouth$Name;", false)
  | 1 => ("TokenMouth$Change", "meaning", "LTokenMouth$Meaning;", false)
  | 2 => ("TokenMouth$Change", "character", "I", false)
  | 3 => ("TokenMouth$Change", "category", "I", false)
  | _ => ("TokenMouth$Change", "group", "I", false)
def tyX4 : Nat → FieldType := fun k => match k with
  | 0 => .object "TokenMouth$Name"
  | 1 => .object "TokenMouth$Meaning"
  | 2 => .int
  | 3 => .int
  | _ => .int
abbrev wsX40 : List Cond := u_ws RX4 TX4 5
theorem nmX4 : ∀ a, a < 5 → ∀ b, b < 5 → a ≠ b → (TX4 a).2.1 ≠ (TX4 b).2.1 := by decide +kernel
theorem tyX4_ok : ∀ k, k < 5 → parseFieldDescriptor (TX4 k).2.2.1 = some (tyX4 k) := by decide +kernel
abbrev cX4_init : ByteArray := prog_2_method_1_code
def yX4_init : MethodName := ⟨RX4, "<init>", "()V"⟩
theorem dX4_init_0 : decode cX4_init 0 = .ok (.aload_n 0, 1) := by decide +kernel
theorem dX4_init_1 : decode cX4_init 1 = .ok (.invokespecial 1, 3) := by decide +kernel
theorem dX4_init_4 : decode cX4_init 4 = .ok (.return_, 1) := by decide +kernel
theorem q102 : (Jvm.Cond.initialized "TokenMouth$Change") ∈ lw_all := lw_g (lw_at lw_m1 8 rfl) rfl
theorem q192 : (Jvm.Cond.instantiable "TokenMouth$Change" (5 : Nat)) ∈ lw_all := lw_g (lw_at lw_m1 98 rfl) rfl
theorem q194 : (Jvm.Cond.instanceMethod ({ cls := "TokenMouth$Change", name := "<init>", desc := "()V" } : Jvm.MethodName)) ∈ lw_all := lw_g (lw_at lw_m1 100 rfl) rfl
theorem q195 : (Jvm.Cond.code ({ cls := "TokenMouth$Change", name := "<init>", desc := "()V" } : Jvm.MethodName) prog_2_method_1_code (1 : Nat) (Option.none : Option Jvm.ClassFile.FieldType)) ∈ lw_all := lw_g (lw_at lw_m1 101 rfl) rfl
theorem q196 : (Jvm.Cond.methodLink "TokenMouth$Change" (1 : Nat) ({ cls := "java/lang/Object", name := "<init>", desc := "()V" } : Jvm.MethodName)) ∈ lw_all := lw_g (lw_at lw_m1 102 rfl) rfl
theorem q202 : (Jvm.Cond.lays "TokenMouth$Change" "TokenMouth$Change" "name" "LTokenMouth$Name;") ∈ lw_all := lw_g (lw_at lw_m1 108 rfl) rfl
theorem q203 : (Jvm.Cond.soleField "TokenMouth$Change" "name") ∈ lw_all := lw_g (lw_at lw_m1 109 rfl) rfl
theorem q204 : (Jvm.Cond.lays "TokenMouth$Change" "TokenMouth$Change" "meaning" "LTokenMouth$Meaning;") ∈ lw_all := lw_g (lw_at lw_m1 110 rfl) rfl
theorem q205 : (Jvm.Cond.soleField "TokenMouth$Change" "meaning") ∈ lw_all := lw_g (lw_at lw_m1 111 rfl) rfl
theorem q206 : (Jvm.Cond.lays "TokenMouth$Change" "TokenMouth$Change" "character" "I") ∈ lw_all := lw_g (lw_at lw_m1 112 rfl) rfl
theorem q207 : (Jvm.Cond.soleField "TokenMouth$Change" "character") ∈ lw_all := lw_g (lw_at lw_m1 113 rfl) rfl
theorem q208 : (Jvm.Cond.lays "TokenMouth$Change" "TokenMouth$Change" "category" "I") ∈ lw_all := lw_g (lw_at lw_m1 114 rfl) rfl
theorem q209 : (Jvm.Cond.soleField "TokenMouth$Change" "category") ∈ lw_all := lw_g (lw_at lw_m1 115 rfl) rfl
theorem q210 : (Jvm.Cond.lays "TokenMouth$Change" "TokenMouth$Change" "group" "I") ∈ lw_all := lw_g (lw_at lw_m1 116 rfl) rfl
theorem q211 : (Jvm.Cond.soleField "TokenMouth$Change" "group") ∈ lw_all := lw_g (lw_at lw_m1 117 rfl) rfl
theorem q212 : (Jvm.Cond.superclass "TokenMouth$Change" "java/lang/Object") ∈ lw_all := lw_g (lw_at lw_m1 118 rfl) rfl
theorem q319 : (Jvm.Cond.selects "TokenMouth$Change" ({ cls := "java/lang/Object", name := "getClass", desc := "()Ljava/lang/Class;" } : Jvm.MethodName) ({ cls := "java/lang/Object", name := "getClass", desc := "()Ljava/lang/Class;" } : Jvm.MethodName)) ∈ lw_all := lw_g (lw_at lw_m1 225 rfl) rfl
theorem q1475 : (Jvm.Cond.castable "TokenMouth$Change" "java/lang/Object") ∈ lw_tbl := lw_at lw_m6 181 rfl
theorem in_X4 : ∀ w ∈ wsX40, w ∈ lw_all := lw_in wsX40 [202, 204, 206, 208, 210] (by decide +kernel) (by decide +kernel)
/-! TokenMouth$Name -/
set_option maxRecDepth 100000
def RX5 : String := "TokenMouth$Name"
def TX5 : u_T := fun k => match k with
  | 0 => ("TokenMouth$Name", "letters", "[B", true)
  | 1 => ("TokenMouth$Name", "active", "Z", true)
  | 2 => ("TokenMouth$Name", "number", "I", true)
  | _ => ("TokenMouth$Name", "meaning", "LTokenMouth$Meaning;", false)
def tyX5 : Nat → FieldType := fun k => match k with
  | 0 => .array .byte
  | 1 => .boolean
  | 2 => .int
  | _ => .object "TokenMouth$Meaning"
abbrev wsX50 : List Cond := u_ws RX5 TX5 4
theorem nmX5 : ∀ a, a < 4 → ∀ b, b < 4 → a ≠ b → (TX5 a).2.1 ≠ (TX5 b).2.1 := by decide +kernel
theorem tyX5_ok : ∀ k, k < 4 → parseFieldDescriptor (TX5 k).2.2.1 = some (tyX5 k) := by decide +kernel
abbrev cX5_init : ByteArray := prog_6_method_1_code
def yX5_init : MethodName := ⟨RX5, "<init>", "([BZI)V"⟩
def dkwX5_init_0 : List UInt8 := [42, 183, 0, 1, 42, 43, 181, 0, 7, 42, 28, 181, 0, 13, 42, 29, 181, 0, 17, 177]
abbrev dktX5_init_0 : List UInt8 := dkwX5_init_0 ++ []
theorem dksX5_init_0 : cX5_init.data.toList.drop 0 = dktX5_init_0 := by decide +kernel
theorem dX5_init_0 : decode cX5_init 0 = .ok (.aload_n 0, 1) := dk_42 (dk_at dksX5_init_0 0 rfl rfl)
theorem dX5_init_1 : decode cX5_init 1 = .ok (.invokespecial 1, 3) := dk_183 0 1 (dk_at dksX5_init_0 1 rfl rfl)
theorem dX5_init_4 : decode cX5_init 4 = .ok (.aload_n 0, 1) := dk_42 (dk_at dksX5_init_0 4 rfl rfl)
theorem dX5_init_5 : decode cX5_init 5 = .ok (.aload_n 1, 1) := dk_43 (dk_at dksX5_init_0 5 rfl rfl)
theorem dX5_init_6 : decode cX5_init 6 = .ok (.putfield 7, 3) := dk_181 0 7 (dk_at dksX5_init_0 6 rfl rfl)
theorem dX5_init_9 : decode cX5_init 9 = .ok (.aload_n 0, 1) := dk_42 (dk_at dksX5_init_0 9 rfl rfl)
theorem dX5_init_10 : decode cX5_init 10 = .ok (.iload_n 2, 1) := dk_28 (dk_at dksX5_init_0 10 rfl rfl)
theorem dX5_init_11 : decode cX5_init 11 = .ok (.putfield 13, 3) := dk_181 0 13 (dk_at dksX5_init_0 11 rfl rfl)
theorem dX5_init_14 : decode cX5_init 14 = .ok (.aload_n 0, 1) := dk_42 (dk_at dksX5_init_0 14 rfl rfl)
theorem dX5_init_15 : decode cX5_init 15 = .ok (.iload_n 3, 1) := dk_29 (dk_at dksX5_init_0 15 rfl rfl)
theorem dX5_init_16 : decode cX5_init 16 = .ok (.putfield 17, 3) := dk_181 0 17 (dk_at dksX5_init_0 16 rfl rfl)
theorem dX5_init_19 : decode cX5_init 19 = .ok (.return_, 1) := dk_177 (dk_at dksX5_init_0 19 rfl rfl)
abbrev cX5_is : ByteArray := prog_6_method_2_code
def yX5_is : MethodName := ⟨RX5, "is", "([BIZ)Z"⟩
def dkwX5_is_2 : List UInt8 := [51, 160, 0, 7, 4, 167, 0, 4, 3, 54, 4, 132, 5, 1, 167, 255, 221, 21, 4, 172]
abbrev dktX5_is_2 : List UInt8 := dkwX5_is_2 ++ []
def dkwX5_is_1 : List UInt8 := [3, 54, 5, 21, 5, 28, 162, 0, 35, 21, 4, 153, 0, 30, 42, 180, 0, 7, 21, 5, 51, 43, 21, 5]
abbrev dktX5_is_1 : List UInt8 := dkwX5_is_1 ++ dktX5_is_2
def dkwX5_is_0 : List UInt8 := [28, 42, 180, 0, 7, 190, 160, 0, 15, 42, 180, 0, 13, 29, 160, 0, 7, 4, 167, 0, 4, 3, 54, 4]
abbrev dktX5_is_0 : List UInt8 := dkwX5_is_0 ++ dktX5_is_1
theorem dksX5_is_0 : cX5_is.data.toList.drop 0 = dktX5_is_0 := by decide +kernel
theorem dksX5_is_1 : cX5_is.data.toList.drop 24 = dktX5_is_1 := dk_seg dksX5_is_0 24 rfl rfl
theorem dksX5_is_2 : cX5_is.data.toList.drop 48 = dktX5_is_2 := dk_seg dksX5_is_1 24 rfl rfl
theorem dX5_is_0 : decode cX5_is 0 = .ok (.iload_n 2, 1) := dk_28 (dk_at dksX5_is_0 0 rfl rfl)
theorem dX5_is_1 : decode cX5_is 1 = .ok (.aload_n 0, 1) := dk_42 (dk_at dksX5_is_0 1 rfl rfl)
theorem dX5_is_2 : decode cX5_is 2 = .ok (.getfield 7, 3) := dk_180 0 7 (dk_at dksX5_is_0 2 rfl rfl)
theorem dX5_is_5 : decode cX5_is 5 = .ok (.arraylength, 1) := dk_190 (dk_at dksX5_is_0 5 rfl rfl)
theorem dX5_is_6 : decode cX5_is 6 = .ok (.if_icmp .ne 15, 3) := dk_160 0 15 (dk_at dksX5_is_0 6 rfl rfl)
theorem dX5_is_9 : decode cX5_is 9 = .ok (.aload_n 0, 1) := dk_42 (dk_at dksX5_is_0 9 rfl rfl)
theorem dX5_is_10 : decode cX5_is 10 = .ok (.getfield 13, 3) := dk_180 0 13 (dk_at dksX5_is_0 10 rfl rfl)
theorem dX5_is_13 : decode cX5_is 13 = .ok (.iload_n 3, 1) := dk_29 (dk_at dksX5_is_0 13 rfl rfl)
theorem dX5_is_14 : decode cX5_is 14 = .ok (.if_icmp .ne 7, 3) := dk_160 0 7 (dk_at dksX5_is_0 14 rfl rfl)
theorem dX5_is_17 : decode cX5_is 17 = .ok (.iconst 1, 1) := dk_4 (dk_at dksX5_is_0 17 rfl rfl)
theorem dX5_is_18 : decode cX5_is 18 = .ok (.goto 4, 3) := dk_167 0 4 (dk_at dksX5_is_0 18 rfl rfl)
theorem dX5_is_21 : decode cX5_is 21 = .ok (.iconst 0, 1) := dk_3 (dk_at dksX5_is_0 21 rfl rfl)
theorem dX5_is_22 : decode cX5_is 22 = .ok (.istore 4, 2) := dk_54 4 (dk_at dksX5_is_0 22 rfl rfl)
theorem dX5_is_24 : decode cX5_is 24 = .ok (.iconst 0, 1) := dk_3 (dk_at dksX5_is_1 0 rfl rfl)
theorem dX5_is_25 : decode cX5_is 25 = .ok (.istore 5, 2) := dk_54 5 (dk_at dksX5_is_1 1 rfl rfl)
theorem dX5_is_27 : decode cX5_is 27 = .ok (.iload 5, 2) := dk_21 5 (dk_at dksX5_is_1 3 rfl rfl)
theorem dX5_is_29 : decode cX5_is 29 = .ok (.iload_n 2, 1) := dk_28 (dk_at dksX5_is_1 5 rfl rfl)
theorem dX5_is_30 : decode cX5_is 30 = .ok (.if_icmp .ge 35, 3) := dk_162 0 35 (dk_at dksX5_is_1 6 rfl rfl)
theorem dX5_is_33 : decode cX5_is 33 = .ok (.iload 4, 2) := dk_21 4 (dk_at dksX5_is_1 9 rfl rfl)
theorem dX5_is_35 : decode cX5_is 35 = .ok (.ifCond .eq 30, 3) := dk_153 0 30 (dk_at dksX5_is_1 11 rfl rfl)
theorem dX5_is_38 : decode cX5_is 38 = .ok (.aload_n 0, 1) := dk_42 (dk_at dksX5_is_1 14 rfl rfl)
theorem dX5_is_39 : decode cX5_is 39 = .ok (.getfield 7, 3) := dk_180 0 7 (dk_at dksX5_is_1 15 rfl rfl)
theorem dX5_is_42 : decode cX5_is 42 = .ok (.iload 5, 2) := dk_21 5 (dk_at dksX5_is_1 18 rfl rfl)
theorem dX5_is_44 : decode cX5_is 44 = .ok (.baload, 1) := dk_51 (dk_at dksX5_is_1 20 rfl rfl)
theorem dX5_is_45 : decode cX5_is 45 = .ok (.aload_n 1, 1) := dk_43 (dk_at dksX5_is_1 21 rfl rfl)
theorem dX5_is_46 : decode cX5_is 46 = .ok (.iload 5, 2) := dk_21 5 (dk_at dksX5_is_1 22 rfl rfl)
theorem dX5_is_48 : decode cX5_is 48 = .ok (.baload, 1) := dk_51 (dk_at dksX5_is_2 0 rfl rfl)
theorem dX5_is_49 : decode cX5_is 49 = .ok (.if_icmp .ne 7, 3) := dk_160 0 7 (dk_at dksX5_is_2 1 rfl rfl)
theorem dX5_is_52 : decode cX5_is 52 = .ok (.iconst 1, 1) := dk_4 (dk_at dksX5_is_2 4 rfl rfl)
theorem dX5_is_53 : decode cX5_is 53 = .ok (.goto 4, 3) := dk_167 0 4 (dk_at dksX5_is_2 5 rfl rfl)
theorem dX5_is_56 : decode cX5_is 56 = .ok (.iconst 0, 1) := dk_3 (dk_at dksX5_is_2 8 rfl rfl)
theorem dX5_is_57 : decode cX5_is 57 = .ok (.istore 4, 2) := dk_54 4 (dk_at dksX5_is_2 9 rfl rfl)
theorem dX5_is_59 : decode cX5_is 59 = .ok (.iinc 5 1, 3) := dk_132 5 1 (dk_at dksX5_is_2 11 rfl rfl)
theorem dX5_is_62 : decode cX5_is 62 = .ok (.goto (-35), 3) := dk_167 255 221 (dk_at dksX5_is_2 14 rfl rfl)
theorem dX5_is_65 : decode cX5_is 65 = .ok (.iload 4, 2) := dk_21 4 (dk_at dksX5_is_2 17 rfl rfl)
theorem dX5_is_67 : decode cX5_is 67 = .ok (.ireturn, 1) := dk_172 (dk_at dksX5_is_2 19 rfl rfl)
theorem q103 : (Jvm.Cond.initialized "TokenMouth$Name") ∈ lw_all := lw_g (lw_at lw_m1 9 rfl) rfl
theorem q214 : (Jvm.Cond.instantiable "TokenMouth$Name" (4 : Nat)) ∈ lw_all := lw_g (lw_at lw_m1 120 rfl) rfl
theorem q267 : (Jvm.Cond.instanceMethod ({ cls := "TokenMouth$Name", name := "<init>", desc := "([BZI)V" } : Jvm.MethodName)) ∈ lw_all := lw_g (lw_at lw_m1 173 rfl) rfl
theorem q268 : (Jvm.Cond.code ({ cls := "TokenMouth$Name", name := "<init>", desc := "([BZI)V" } : Jvm.MethodName) prog_6_method_1_code (4 : Nat) (Option.none : Option Jvm.ClassFile.FieldType)) ∈ lw_all := lw_g (lw_at lw_m1 174 rfl) rfl
theorem q269 : (Jvm.Cond.methodLink "TokenMouth$Name" (1 : Nat) ({ cls := "java/lang/Object", name := "<init>", desc := "()V" } : Jvm.MethodName)) ∈ lw_all := lw_g (lw_at lw_m1 175 rfl) rfl
theorem q270 : (Jvm.Cond.fieldLink "TokenMouth$Name" (7 : Nat) "TokenMouth$Name" "letters" "[B") ∈ lw_all := lw_g (lw_at lw_m1 176 rfl) rfl
theorem q272 : (Jvm.Cond.fieldLink "TokenMouth$Name" (13 : Nat) "TokenMouth$Name" "active" "Z") ∈ lw_all := lw_g (lw_at lw_m1 178 rfl) rfl
theorem q274 : (Jvm.Cond.fieldLink "TokenMouth$Name" (17 : Nat) "TokenMouth$Name" "number" "I") ∈ lw_all := lw_g (lw_at lw_m1 180 rfl) rfl
theorem q277 : (Jvm.Cond.laysFinal "TokenMouth$Name" "TokenMouth$Name" "letters" "[B") ∈ lw_all := lw_g (lw_at lw_m1 183 rfl) rfl
theorem q278 : (Jvm.Cond.soleField "TokenMouth$Name" "letters") ∈ lw_all := lw_g (lw_at lw_m1 184 rfl) rfl
theorem q279 : (Jvm.Cond.laysFinal "TokenMouth$Name" "TokenMouth$Name" "active" "Z") ∈ lw_all := lw_g (lw_at lw_m1 185 rfl) rfl
theorem q280 : (Jvm.Cond.soleField "TokenMouth$Name" "active") ∈ lw_all := lw_g (lw_at lw_m1 186 rfl) rfl
theorem q281 : (Jvm.Cond.laysFinal "TokenMouth$Name" "TokenMouth$Name" "number" "I") ∈ lw_all := lw_g (lw_at lw_m1 187 rfl) rfl
theorem q282 : (Jvm.Cond.soleField "TokenMouth$Name" "number") ∈ lw_all := lw_g (lw_at lw_m1 188 rfl) rfl
theorem q283 : (Jvm.Cond.lays "TokenMouth$Name" "TokenMouth$Name" "meaning" "LTokenMouth$Meaning;") ∈ lw_all := lw_g (lw_at lw_m1 189 rfl) rfl
theorem q284 : (Jvm.Cond.soleField "TokenMouth$Name" "meaning") ∈ lw_all := lw_g (lw_at lw_m1 190 rfl) rfl
theorem q285 : (Jvm.Cond.superclass "TokenMouth$Name" "java/lang/Object") ∈ lw_all := lw_g (lw_at lw_m1 191 rfl) rfl
theorem q322 : (Jvm.Cond.selects "TokenMouth$Name" ({ cls := "java/lang/Object", name := "getClass", desc := "()Ljava/lang/Class;" } : Jvm.MethodName) ({ cls := "java/lang/Object", name := "getClass", desc := "()Ljava/lang/Class;" } : Jvm.MethodName)) ∈ lw_all := lw_g (lw_at lw_m1 228 rfl) rfl
theorem q593 : (Jvm.Cond.instanceMethod ({ cls := "TokenMouth$Name", name := "is", desc := "([BIZ)Z" } : Jvm.MethodName)) ∈ lw_all := lw_g (lw_at lw_m3 19 rfl) rfl
theorem q594 : (Jvm.Cond.selects "TokenMouth$Name" ({ cls := "TokenMouth$Name", name := "is", desc := "([BIZ)Z" } : Jvm.MethodName) ({ cls := "TokenMouth$Name", name := "is", desc := "([BIZ)Z" } : Jvm.MethodName)) ∈ lw_all := lw_g (lw_at lw_m3 20 rfl) rfl
theorem q595 : (Jvm.Cond.code ({ cls := "TokenMouth$Name", name := "is", desc := "([BIZ)Z" } : Jvm.MethodName) prog_6_method_2_code (6 : Nat) (Option.some Jvm.ClassFile.FieldType.boolean)) ∈ lw_all := lw_g (lw_at lw_m3 21 rfl) rfl
theorem q1479 : (Jvm.Cond.castable "TokenMouth$Name" "java/lang/Object") ∈ lw_tbl := lw_at lw_m6 185 rfl
theorem in_X5 : ∀ w ∈ wsX50, w ∈ lw_all := lw_in wsX50 [277, 279, 281, 283] (by decide +kernel) (by decide +kernel)
/-! TokenMouth$Macro -/
set_option maxRecDepth 100000
def RX7 : String := "TokenMouth$Macro"
def TX7 : u_T := fun k => match k with
  | 0 => ("TokenMouth$Macro", "text", "[S", true)
  | 1 => ("TokenMouth$Macro", "body", "[S", true)
  | _ => ("TokenMouth$Macro", "parameters", "I", true)
def tyX7 : Nat → FieldType := fun k => match k with
  | 0 => .array .short
  | 1 => .array .short
  | _ => .int
abbrev wsX70 : List Cond := u_ws RX7 TX7 3
theorem nmX7 : ∀ a, a < 3 → ∀ b, b < 3 → a ≠ b → (TX7 a).2.1 ≠ (TX7 b).2.1 := by decide +kernel
theorem tyX7_ok : ∀ k, k < 3 → parseFieldDescriptor (TX7 k).2.2.1 = some (tyX7 k) := by decide +kernel
abbrev cX7_isExpandable : ByteArray := prog_4_method_2_code
def yX7_isExpandable : MethodName := ⟨RX7, "isExpandable", "()Z"⟩
theorem dX7_isExpandable_0 : decode cX7_isExpandable 0 = .ok (.iconst 1, 1) := by decide +kernel
theorem dX7_isExpandable_1 : decode cX7_isExpandable 1 = .ok (.ireturn, 1) := by decide +kernel
abbrev cX7_isLike : ByteArray := prog_4_method_5_code
def yX7_isLike : MethodName := ⟨RX7, "isLike", "(LTokenMouth$Meaning;)Z"⟩
def dkwX7_isLike_1 : List UInt8 := [43, 192, 0, 16, 180, 0, 21, 42, 180, 0, 21, 184, 0, 59, 153, 0, 7, 4, 167, 0, 4, 3, 172]
abbrev dktX7_isLike_1 : List UInt8 := dkwX7_isLike_1 ++ []
def dkwX7_isLike_0 : List UInt8 := [43, 193, 0, 16, 153, 0, 41, 43, 192, 0, 16, 180, 0, 15, 42, 180, 0, 15, 184, 0, 59, 153, 0, 24]
abbrev dktX7_isLike_0 : List UInt8 := dkwX7_isLike_0 ++ dktX7_isLike_1
theorem dksX7_isLike_0 : cX7_isLike.data.toList.drop 0 = dktX7_isLike_0 := by decide +kernel
theorem dksX7_isLike_1 : cX7_isLike.data.toList.drop 24 = dktX7_isLike_1 := dk_seg dksX7_isLike_0 24 rfl rfl
theorem dX7_isLike_0 : decode cX7_isLike 0 = .ok (.aload_n 1, 1) := dk_43 (dk_at dksX7_isLike_0 0 rfl rfl)
theorem dX7_isLike_1 : decode cX7_isLike 1 = .ok (.instanceof 16, 3) := dk_193 0 16 (dk_at dksX7_isLike_0 1 rfl rfl)
theorem dX7_isLike_4 : decode cX7_isLike 4 = .ok (.ifCond .eq 41, 3) := dk_153 0 41 (dk_at dksX7_isLike_0 4 rfl rfl)
theorem dX7_isLike_7 : decode cX7_isLike 7 = .ok (.aload_n 1, 1) := dk_43 (dk_at dksX7_isLike_0 7 rfl rfl)
theorem dX7_isLike_8 : decode cX7_isLike 8 = .ok (.checkcast 16, 3) := dk_192 0 16 (dk_at dksX7_isLike_0 8 rfl rfl)
theorem dX7_isLike_11 : decode cX7_isLike 11 = .ok (.getfield 15, 3) := dk_180 0 15 (dk_at dksX7_isLike_0 11 rfl rfl)
theorem dX7_isLike_14 : decode cX7_isLike 14 = .ok (.aload_n 0, 1) := dk_42 (dk_at dksX7_isLike_0 14 rfl rfl)
theorem dX7_isLike_15 : decode cX7_isLike 15 = .ok (.getfield 15, 3) := dk_180 0 15 (dk_at dksX7_isLike_0 15 rfl rfl)
theorem dX7_isLike_18 : decode cX7_isLike 18 = .ok (.invokestatic 59, 3) := dk_184 0 59 (dk_at dksX7_isLike_0 18 rfl rfl)
theorem dX7_isLike_21 : decode cX7_isLike 21 = .ok (.ifCond .eq 24, 3) := dk_153 0 24 (dk_at dksX7_isLike_0 21 rfl rfl)
theorem dX7_isLike_24 : decode cX7_isLike 24 = .ok (.aload_n 1, 1) := dk_43 (dk_at dksX7_isLike_1 0 rfl rfl)
theorem dX7_isLike_25 : decode cX7_isLike 25 = .ok (.checkcast 16, 3) := dk_192 0 16 (dk_at dksX7_isLike_1 1 rfl rfl)
theorem dX7_isLike_28 : decode cX7_isLike 28 = .ok (.getfield 21, 3) := dk_180 0 21 (dk_at dksX7_isLike_1 4 rfl rfl)
theorem dX7_isLike_31 : decode cX7_isLike 31 = .ok (.aload_n 0, 1) := dk_42 (dk_at dksX7_isLike_1 7 rfl rfl)
theorem dX7_isLike_32 : decode cX7_isLike 32 = .ok (.getfield 21, 3) := dk_180 0 21 (dk_at dksX7_isLike_1 8 rfl rfl)
theorem dX7_isLike_35 : decode cX7_isLike 35 = .ok (.invokestatic 59, 3) := dk_184 0 59 (dk_at dksX7_isLike_1 11 rfl rfl)
theorem dX7_isLike_38 : decode cX7_isLike 38 = .ok (.ifCond .eq 7, 3) := dk_153 0 7 (dk_at dksX7_isLike_1 14 rfl rfl)
theorem dX7_isLike_41 : decode cX7_isLike 41 = .ok (.iconst 1, 1) := dk_4 (dk_at dksX7_isLike_1 17 rfl rfl)
theorem dX7_isLike_42 : decode cX7_isLike 42 = .ok (.goto 4, 3) := dk_167 0 4 (dk_at dksX7_isLike_1 18 rfl rfl)
theorem dX7_isLike_45 : decode cX7_isLike 45 = .ok (.iconst 0, 1) := dk_3 (dk_at dksX7_isLike_1 21 rfl rfl)
theorem dX7_isLike_46 : decode cX7_isLike 46 = .ok (.ireturn, 1) := dk_172 (dk_at dksX7_isLike_1 22 rfl rfl)
abbrev cX7_alike : ByteArray := prog_4_method_4_code
def yX7_alike : MethodName := ⟨RX7, "alike", "([S[S)Z"⟩
def dkwX7_alike_2 : List UInt8 := [28, 172]
abbrev dktX7_alike_2 : List UInt8 := dkwX7_alike_2 ++ []
def dkwX7_alike_1 : List UInt8 := [153, 0, 24, 42, 29, 53, 43, 29, 53, 160, 0, 7, 4, 167, 0, 4, 3, 61, 132, 3, 1, 167, 255, 228]
abbrev dktX7_alike_1 : List UInt8 := dkwX7_alike_1 ++ dktX7_alike_2
def dkwX7_alike_0 : List UInt8 := [42, 190, 43, 190, 160, 0, 7, 4, 167, 0, 4, 3, 61, 3, 62, 29, 42, 190, 162, 0, 28, 28]
abbrev dktX7_alike_0 : List UInt8 := dkwX7_alike_0 ++ dktX7_alike_1
theorem dksX7_alike_0 : cX7_alike.data.toList.drop 0 = dktX7_alike_0 := by decide +kernel
theorem dksX7_alike_1 : cX7_alike.data.toList.drop 22 = dktX7_alike_1 := dk_seg dksX7_alike_0 22 rfl rfl
theorem dksX7_alike_2 : cX7_alike.data.toList.drop 46 = dktX7_alike_2 := dk_seg dksX7_alike_1 24 rfl rfl
theorem dX7_alike_0 : decode cX7_alike 0 = .ok (.aload_n 0, 1) := dk_42 (dk_at dksX7_alike_0 0 rfl rfl)
theorem dX7_alike_1 : decode cX7_alike 1 = .ok (.arraylength, 1) := dk_190 (dk_at dksX7_alike_0 1 rfl rfl)
theorem dX7_alike_2 : decode cX7_alike 2 = .ok (.aload_n 1, 1) := dk_43 (dk_at dksX7_alike_0 2 rfl rfl)
theorem dX7_alike_3 : decode cX7_alike 3 = .ok (.arraylength, 1) := dk_190 (dk_at dksX7_alike_0 3 rfl rfl)
theorem dX7_alike_4 : decode cX7_alike 4 = .ok (.if_icmp .ne 7, 3) := dk_160 0 7 (dk_at dksX7_alike_0 4 rfl rfl)
theorem dX7_alike_7 : decode cX7_alike 7 = .ok (.iconst 1, 1) := dk_4 (dk_at dksX7_alike_0 7 rfl rfl)
theorem dX7_alike_8 : decode cX7_alike 8 = .ok (.goto 4, 3) := dk_167 0 4 (dk_at dksX7_alike_0 8 rfl rfl)
theorem dX7_alike_11 : decode cX7_alike 11 = .ok (.iconst 0, 1) := dk_3 (dk_at dksX7_alike_0 11 rfl rfl)
theorem dX7_alike_12 : decode cX7_alike 12 = .ok (.istore_n 2, 1) := dk_61 (dk_at dksX7_alike_0 12 rfl rfl)
theorem dX7_alike_13 : decode cX7_alike 13 = .ok (.iconst 0, 1) := dk_3 (dk_at dksX7_alike_0 13 rfl rfl)
theorem dX7_alike_14 : decode cX7_alike 14 = .ok (.istore_n 3, 1) := dk_62 (dk_at dksX7_alike_0 14 rfl rfl)
theorem dX7_alike_15 : decode cX7_alike 15 = .ok (.iload_n 3, 1) := dk_29 (dk_at dksX7_alike_0 15 rfl rfl)
theorem dX7_alike_16 : decode cX7_alike 16 = .ok (.aload_n 0, 1) := dk_42 (dk_at dksX7_alike_0 16 rfl rfl)
theorem dX7_alike_17 : decode cX7_alike 17 = .ok (.arraylength, 1) := dk_190 (dk_at dksX7_alike_0 17 rfl rfl)
theorem dX7_alike_18 : decode cX7_alike 18 = .ok (.if_icmp .ge 28, 3) := dk_162 0 28 (dk_at dksX7_alike_0 18 rfl rfl)
theorem dX7_alike_21 : decode cX7_alike 21 = .ok (.iload_n 2, 1) := dk_28 (dk_at dksX7_alike_0 21 rfl rfl)
theorem dX7_alike_22 : decode cX7_alike 22 = .ok (.ifCond .eq 24, 3) := dk_153 0 24 (dk_at dksX7_alike_1 0 rfl rfl)
theorem dX7_alike_25 : decode cX7_alike 25 = .ok (.aload_n 0, 1) := dk_42 (dk_at dksX7_alike_1 3 rfl rfl)
theorem dX7_alike_26 : decode cX7_alike 26 = .ok (.iload_n 3, 1) := dk_29 (dk_at dksX7_alike_1 4 rfl rfl)
theorem dX7_alike_27 : decode cX7_alike 27 = .ok (.saload, 1) := dk_53 (dk_at dksX7_alike_1 5 rfl rfl)
theorem dX7_alike_28 : decode cX7_alike 28 = .ok (.aload_n 1, 1) := dk_43 (dk_at dksX7_alike_1 6 rfl rfl)
theorem dX7_alike_29 : decode cX7_alike 29 = .ok (.iload_n 3, 1) := dk_29 (dk_at dksX7_alike_1 7 rfl rfl)
theorem dX7_alike_30 : decode cX7_alike 30 = .ok (.saload, 1) := dk_53 (dk_at dksX7_alike_1 8 rfl rfl)
theorem dX7_alike_31 : decode cX7_alike 31 = .ok (.if_icmp .ne 7, 3) := dk_160 0 7 (dk_at dksX7_alike_1 9 rfl rfl)
theorem dX7_alike_34 : decode cX7_alike 34 = .ok (.iconst 1, 1) := dk_4 (dk_at dksX7_alike_1 12 rfl rfl)
theorem dX7_alike_35 : decode cX7_alike 35 = .ok (.goto 4, 3) := dk_167 0 4 (dk_at dksX7_alike_1 13 rfl rfl)
theorem dX7_alike_38 : decode cX7_alike 38 = .ok (.iconst 0, 1) := dk_3 (dk_at dksX7_alike_1 16 rfl rfl)
theorem dX7_alike_39 : decode cX7_alike 39 = .ok (.istore_n 2, 1) := dk_61 (dk_at dksX7_alike_1 17 rfl rfl)
theorem dX7_alike_40 : decode cX7_alike 40 = .ok (.iinc 3 1, 3) := dk_132 3 1 (dk_at dksX7_alike_1 18 rfl rfl)
theorem dX7_alike_43 : decode cX7_alike 43 = .ok (.goto (-28), 3) := dk_167 255 228 (dk_at dksX7_alike_1 21 rfl rfl)
theorem dX7_alike_46 : decode cX7_alike 46 = .ok (.iload_n 2, 1) := dk_28 (dk_at dksX7_alike_2 0 rfl rfl)
theorem dX7_alike_47 : decode cX7_alike 47 = .ok (.ireturn, 1) := dk_172 (dk_at dksX7_alike_2 1 rfl rfl)
abbrev cX7_expand : ByteArray := prog_4_method_3_code
def yX7_expand : MethodName := ⟨RX7, "expand", "(LTokenMouth;)V"⟩
def dkwX7_expand_7 : List UInt8 := [180, 0, 40, 2, 42, 180, 0, 21, 29, 53, 100, 50, 43, 182, 0, 55, 132, 3, 255, 167, 255, 210, 177]
abbrev dktX7_expand_7 : List UInt8 := dkwX7_expand_7 ++ []
def dkwX7_expand_6 : List UInt8 := [42, 180, 0, 21, 29, 53, 155, 0, 16, 43, 42, 180, 0, 21, 29, 53, 182, 0, 52, 167, 0, 20, 43]
abbrev dktX7_expand_6 : List UInt8 := dkwX7_expand_6 ++ dktX7_expand_7
def dkwX7_expand_5 : List UInt8 := [21, 4, 28, 182, 0, 48, 132, 3, 1, 167, 255, 177, 42, 180, 0, 21, 190, 4, 100, 62, 29, 155, 0, 48]
abbrev dktX7_expand_5 : List UInt8 := dkwX7_expand_5 ++ dktX7_expand_6
def dkwX7_expand_4 : List UInt8 := [43, 43, 180, 0, 40, 29, 50, 182, 0, 44, 167, 0, 20, 43, 43, 180, 0, 40, 29, 50, 42, 180, 0, 15]
abbrev dktX7_expand_4 : List UInt8 := dkwX7_expand_4 ++ dktX7_expand_5
def dkwX7_expand_3 : List UInt8 := [162, 0, 18, 42, 180, 0, 15, 28, 53, 155, 0, 9, 132, 2, 1, 167, 255, 235, 28, 21, 4, 160, 0, 16]
abbrev dktX7_expand_3 : List UInt8 := dkwX7_expand_3 ++ dktX7_expand_4
def dkwX7_expand_2 : List UInt8 := [3, 62, 29, 42, 180, 0, 24, 162, 0, 77, 28, 4, 96, 54, 4, 21, 4, 61, 28, 42, 180, 0, 15, 190]
abbrev dktX7_expand_2 : List UInt8 := dkwX7_expand_2 ++ dktX7_expand_3
def dkwX7_expand_1 : List UInt8 := [42, 180, 0, 15, 28, 53, 184, 0, 32, 154, 0, 9, 43, 16, 6, 182, 0, 36, 132, 2, 1, 167, 255, 213]
abbrev dktX7_expand_1 : List UInt8 := dkwX7_expand_1 ++ dktX7_expand_2
def dkwX7_expand_0 : List UInt8 := [3, 61, 28, 42, 180, 0, 15, 190, 162, 0, 40, 42, 180, 0, 15, 28, 53, 155, 0, 31, 43, 182, 0, 28]
abbrev dktX7_expand_0 : List UInt8 := dkwX7_expand_0 ++ dktX7_expand_1
theorem dksX7_expand_0 : cX7_expand.data.toList.drop 0 = dktX7_expand_0 := by decide +kernel
theorem dksX7_expand_1 : cX7_expand.data.toList.drop 24 = dktX7_expand_1 := dk_seg dksX7_expand_0 24 rfl rfl
theorem dksX7_expand_2 : cX7_expand.data.toList.drop 48 = dktX7_expand_2 := dk_seg dksX7_expand_1 24 rfl rfl
theorem dksX7_expand_3 : cX7_expand.data.toList.drop 72 = dktX7_expand_3 := dk_seg dksX7_expand_2 24 rfl rfl
theorem dksX7_expand_4 : cX7_expand.data.toList.drop 96 = dktX7_expand_4 := dk_seg dksX7_expand_3 24 rfl rfl
theorem dksX7_expand_5 : cX7_expand.data.toList.drop 120 = dktX7_expand_5 := dk_seg dksX7_expand_4 24 rfl rfl
theorem dksX7_expand_6 : cX7_expand.data.toList.drop 144 = dktX7_expand_6 := dk_seg dksX7_expand_5 24 rfl rfl
theorem dksX7_expand_7 : cX7_expand.data.toList.drop 167 = dktX7_expand_7 := dk_seg dksX7_expand_6 23 rfl rfl
theorem dX7_expand_0 : decode cX7_expand 0 = .ok (.iconst 0, 1) := dk_3 (dk_at dksX7_expand_0 0 rfl rfl)
theorem dX7_expand_1 : decode cX7_expand 1 = .ok (.istore_n 2, 1) := dk_61 (dk_at dksX7_expand_0 1 rfl rfl)
theorem dX7_expand_2 : decode cX7_expand 2 = .ok (.iload_n 2, 1) := dk_28 (dk_at dksX7_expand_0 2 rfl rfl)
theorem dX7_expand_3 : decode cX7_expand 3 = .ok (.aload_n 0, 1) := dk_42 (dk_at dksX7_expand_0 3 rfl rfl)
theorem dX7_expand_4 : decode cX7_expand 4 = .ok (.getfield 15, 3) := dk_180 0 15 (dk_at dksX7_expand_0 4 rfl rfl)
theorem dX7_expand_7 : decode cX7_expand 7 = .ok (.arraylength, 1) := dk_190 (dk_at dksX7_expand_0 7 rfl rfl)
theorem dX7_expand_8 : decode cX7_expand 8 = .ok (.if_icmp .ge 40, 3) := dk_162 0 40 (dk_at dksX7_expand_0 8 rfl rfl)
theorem dX7_expand_11 : decode cX7_expand 11 = .ok (.aload_n 0, 1) := dk_42 (dk_at dksX7_expand_0 11 rfl rfl)
theorem dX7_expand_12 : decode cX7_expand 12 = .ok (.getfield 15, 3) := dk_180 0 15 (dk_at dksX7_expand_0 12 rfl rfl)
theorem dX7_expand_15 : decode cX7_expand 15 = .ok (.iload_n 2, 1) := dk_28 (dk_at dksX7_expand_0 15 rfl rfl)
theorem dX7_expand_16 : decode cX7_expand 16 = .ok (.saload, 1) := dk_53 (dk_at dksX7_expand_0 16 rfl rfl)
theorem dX7_expand_17 : decode cX7_expand 17 = .ok (.ifCond .lt 31, 3) := dk_155 0 31 (dk_at dksX7_expand_0 17 rfl rfl)
theorem dX7_expand_20 : decode cX7_expand 20 = .ok (.aload_n 1, 1) := dk_43 (dk_at dksX7_expand_0 20 rfl rfl)
theorem dX7_expand_21 : decode cX7_expand 21 = .ok (.invokevirtual 28, 3) := dk_182 0 28 (dk_at dksX7_expand_0 21 rfl rfl)
theorem dX7_expand_24 : decode cX7_expand 24 = .ok (.aload_n 0, 1) := dk_42 (dk_at dksX7_expand_1 0 rfl rfl)
theorem dX7_expand_25 : decode cX7_expand 25 = .ok (.getfield 15, 3) := dk_180 0 15 (dk_at dksX7_expand_1 1 rfl rfl)
theorem dX7_expand_28 : decode cX7_expand 28 = .ok (.iload_n 2, 1) := dk_28 (dk_at dksX7_expand_1 4 rfl rfl)
theorem dX7_expand_29 : decode cX7_expand 29 = .ok (.saload, 1) := dk_53 (dk_at dksX7_expand_1 5 rfl rfl)
theorem dX7_expand_30 : decode cX7_expand 30 = .ok (.invokestatic 32, 3) := dk_184 0 32 (dk_at dksX7_expand_1 6 rfl rfl)
theorem dX7_expand_33 : decode cX7_expand 33 = .ok (.ifCond .ne 9, 3) := dk_154 0 9 (dk_at dksX7_expand_1 9 rfl rfl)
theorem dX7_expand_36 : decode cX7_expand 36 = .ok (.aload_n 1, 1) := dk_43 (dk_at dksX7_expand_1 12 rfl rfl)
theorem dX7_expand_37 : decode cX7_expand 37 = .ok (.bipush 6, 2) := dk_16 6 (dk_at dksX7_expand_1 13 rfl rfl)
theorem dX7_expand_39 : decode cX7_expand 39 = .ok (.invokevirtual 36, 3) := dk_182 0 36 (dk_at dksX7_expand_1 15 rfl rfl)
theorem dX7_expand_42 : decode cX7_expand 42 = .ok (.iinc 2 1, 3) := dk_132 2 1 (dk_at dksX7_expand_1 18 rfl rfl)
theorem dX7_expand_45 : decode cX7_expand 45 = .ok (.goto (-43), 3) := dk_167 255 213 (dk_at dksX7_expand_1 21 rfl rfl)
theorem dX7_expand_48 : decode cX7_expand 48 = .ok (.iconst 0, 1) := dk_3 (dk_at dksX7_expand_2 0 rfl rfl)
theorem dX7_expand_49 : decode cX7_expand 49 = .ok (.istore_n 3, 1) := dk_62 (dk_at dksX7_expand_2 1 rfl rfl)
theorem dX7_expand_50 : decode cX7_expand 50 = .ok (.iload_n 3, 1) := dk_29 (dk_at dksX7_expand_2 2 rfl rfl)
theorem dX7_expand_51 : decode cX7_expand 51 = .ok (.aload_n 0, 1) := dk_42 (dk_at dksX7_expand_2 3 rfl rfl)
theorem dX7_expand_52 : decode cX7_expand 52 = .ok (.getfield 24, 3) := dk_180 0 24 (dk_at dksX7_expand_2 4 rfl rfl)
theorem dX7_expand_55 : decode cX7_expand 55 = .ok (.if_icmp .ge 77, 3) := dk_162 0 77 (dk_at dksX7_expand_2 7 rfl rfl)
theorem dX7_expand_58 : decode cX7_expand 58 = .ok (.iload_n 2, 1) := dk_28 (dk_at dksX7_expand_2 10 rfl rfl)
theorem dX7_expand_59 : decode cX7_expand 59 = .ok (.iconst 1, 1) := dk_4 (dk_at dksX7_expand_2 11 rfl rfl)
theorem dX7_expand_60 : decode cX7_expand 60 = .ok (.iadd, 1) := dk_96 (dk_at dksX7_expand_2 12 rfl rfl)
theorem dX7_expand_61 : decode cX7_expand 61 = .ok (.istore 4, 2) := dk_54 4 (dk_at dksX7_expand_2 13 rfl rfl)
theorem dX7_expand_63 : decode cX7_expand 63 = .ok (.iload 4, 2) := dk_21 4 (dk_at dksX7_expand_2 15 rfl rfl)
theorem dX7_expand_65 : decode cX7_expand 65 = .ok (.istore_n 2, 1) := dk_61 (dk_at dksX7_expand_2 17 rfl rfl)
theorem dX7_expand_66 : decode cX7_expand 66 = .ok (.iload_n 2, 1) := dk_28 (dk_at dksX7_expand_2 18 rfl rfl)
theorem dX7_expand_67 : decode cX7_expand 67 = .ok (.aload_n 0, 1) := dk_42 (dk_at dksX7_expand_2 19 rfl rfl)
theorem dX7_expand_68 : decode cX7_expand 68 = .ok (.getfield 15, 3) := dk_180 0 15 (dk_at dksX7_expand_2 20 rfl rfl)
theorem dX7_expand_71 : decode cX7_expand 71 = .ok (.arraylength, 1) := dk_190 (dk_at dksX7_expand_2 23 rfl rfl)
theorem dX7_expand_72 : decode cX7_expand 72 = .ok (.if_icmp .ge 18, 3) := dk_162 0 18 (dk_at dksX7_expand_3 0 rfl rfl)
theorem dX7_expand_75 : decode cX7_expand 75 = .ok (.aload_n 0, 1) := dk_42 (dk_at dksX7_expand_3 3 rfl rfl)
theorem dX7_expand_76 : decode cX7_expand 76 = .ok (.getfield 15, 3) := dk_180 0 15 (dk_at dksX7_expand_3 4 rfl rfl)
theorem dX7_expand_79 : decode cX7_expand 79 = .ok (.iload_n 2, 1) := dk_28 (dk_at dksX7_expand_3 7 rfl rfl)
theorem dX7_expand_80 : decode cX7_expand 80 = .ok (.saload, 1) := dk_53 (dk_at dksX7_expand_3 8 rfl rfl)
theorem dX7_expand_81 : decode cX7_expand 81 = .ok (.ifCond .lt 9, 3) := dk_155 0 9 (dk_at dksX7_expand_3 9 rfl rfl)
theorem dX7_expand_84 : decode cX7_expand 84 = .ok (.iinc 2 1, 3) := dk_132 2 1 (dk_at dksX7_expand_3 12 rfl rfl)
theorem dX7_expand_87 : decode cX7_expand 87 = .ok (.goto (-21), 3) := dk_167 255 235 (dk_at dksX7_expand_3 15 rfl rfl)
theorem dX7_expand_90 : decode cX7_expand 90 = .ok (.iload_n 2, 1) := dk_28 (dk_at dksX7_expand_3 18 rfl rfl)
theorem dX7_expand_91 : decode cX7_expand 91 = .ok (.iload 4, 2) := dk_21 4 (dk_at dksX7_expand_3 19 rfl rfl)
theorem dX7_expand_93 : decode cX7_expand 93 = .ok (.if_icmp .ne 16, 3) := dk_160 0 16 (dk_at dksX7_expand_3 21 rfl rfl)
theorem dX7_expand_96 : decode cX7_expand 96 = .ok (.aload_n 1, 1) := dk_43 (dk_at dksX7_expand_4 0 rfl rfl)
theorem dX7_expand_97 : decode cX7_expand 97 = .ok (.aload_n 1, 1) := dk_43 (dk_at dksX7_expand_4 1 rfl rfl)
theorem dX7_expand_98 : decode cX7_expand 98 = .ok (.getfield 40, 3) := dk_180 0 40 (dk_at dksX7_expand_4 2 rfl rfl)
theorem dX7_expand_101 : decode cX7_expand 101 = .ok (.iload_n 3, 1) := dk_29 (dk_at dksX7_expand_4 5 rfl rfl)
theorem dX7_expand_102 : decode cX7_expand 102 = .ok (.aaload, 1) := dk_50 (dk_at dksX7_expand_4 6 rfl rfl)
theorem dX7_expand_103 : decode cX7_expand 103 = .ok (.invokevirtual 44, 3) := dk_182 0 44 (dk_at dksX7_expand_4 7 rfl rfl)
theorem dX7_expand_106 : decode cX7_expand 106 = .ok (.goto 20, 3) := dk_167 0 20 (dk_at dksX7_expand_4 10 rfl rfl)
theorem dX7_expand_109 : decode cX7_expand 109 = .ok (.aload_n 1, 1) := dk_43 (dk_at dksX7_expand_4 13 rfl rfl)
theorem dX7_expand_110 : decode cX7_expand 110 = .ok (.aload_n 1, 1) := dk_43 (dk_at dksX7_expand_4 14 rfl rfl)
theorem dX7_expand_111 : decode cX7_expand 111 = .ok (.getfield 40, 3) := dk_180 0 40 (dk_at dksX7_expand_4 15 rfl rfl)
theorem dX7_expand_114 : decode cX7_expand 114 = .ok (.iload_n 3, 1) := dk_29 (dk_at dksX7_expand_4 18 rfl rfl)
theorem dX7_expand_115 : decode cX7_expand 115 = .ok (.aaload, 1) := dk_50 (dk_at dksX7_expand_4 19 rfl rfl)
theorem dX7_expand_116 : decode cX7_expand 116 = .ok (.aload_n 0, 1) := dk_42 (dk_at dksX7_expand_4 20 rfl rfl)
theorem dX7_expand_117 : decode cX7_expand 117 = .ok (.getfield 15, 3) := dk_180 0 15 (dk_at dksX7_expand_4 21 rfl rfl)
theorem dX7_expand_120 : decode cX7_expand 120 = .ok (.iload 4, 2) := dk_21 4 (dk_at dksX7_expand_5 0 rfl rfl)
theorem dX7_expand_122 : decode cX7_expand 122 = .ok (.iload_n 2, 1) := dk_28 (dk_at dksX7_expand_5 2 rfl rfl)
theorem dX7_expand_123 : decode cX7_expand 123 = .ok (.invokevirtual 48, 3) := dk_182 0 48 (dk_at dksX7_expand_5 3 rfl rfl)
theorem dX7_expand_126 : decode cX7_expand 126 = .ok (.iinc 3 1, 3) := dk_132 3 1 (dk_at dksX7_expand_5 6 rfl rfl)
theorem dX7_expand_129 : decode cX7_expand 129 = .ok (.goto (-79), 3) := dk_167 255 177 (dk_at dksX7_expand_5 9 rfl rfl)
theorem dX7_expand_132 : decode cX7_expand 132 = .ok (.aload_n 0, 1) := dk_42 (dk_at dksX7_expand_5 12 rfl rfl)
theorem dX7_expand_133 : decode cX7_expand 133 = .ok (.getfield 21, 3) := dk_180 0 21 (dk_at dksX7_expand_5 13 rfl rfl)
theorem dX7_expand_136 : decode cX7_expand 136 = .ok (.arraylength, 1) := dk_190 (dk_at dksX7_expand_5 16 rfl rfl)
theorem dX7_expand_137 : decode cX7_expand 137 = .ok (.iconst 1, 1) := dk_4 (dk_at dksX7_expand_5 17 rfl rfl)
theorem dX7_expand_138 : decode cX7_expand 138 = .ok (.isub, 1) := dk_100 (dk_at dksX7_expand_5 18 rfl rfl)
theorem dX7_expand_139 : decode cX7_expand 139 = .ok (.istore_n 3, 1) := dk_62 (dk_at dksX7_expand_5 19 rfl rfl)
theorem dX7_expand_140 : decode cX7_expand 140 = .ok (.iload_n 3, 1) := dk_29 (dk_at dksX7_expand_5 20 rfl rfl)
theorem dX7_expand_141 : decode cX7_expand 141 = .ok (.ifCond .lt 48, 3) := dk_155 0 48 (dk_at dksX7_expand_5 21 rfl rfl)
theorem dX7_expand_144 : decode cX7_expand 144 = .ok (.aload_n 0, 1) := dk_42 (dk_at dksX7_expand_6 0 rfl rfl)
theorem dX7_expand_145 : decode cX7_expand 145 = .ok (.getfield 21, 3) := dk_180 0 21 (dk_at dksX7_expand_6 1 rfl rfl)
theorem dX7_expand_148 : decode cX7_expand 148 = .ok (.iload_n 3, 1) := dk_29 (dk_at dksX7_expand_6 4 rfl rfl)
theorem dX7_expand_149 : decode cX7_expand 149 = .ok (.saload, 1) := dk_53 (dk_at dksX7_expand_6 5 rfl rfl)
theorem dX7_expand_150 : decode cX7_expand 150 = .ok (.ifCond .lt 16, 3) := dk_155 0 16 (dk_at dksX7_expand_6 6 rfl rfl)
theorem dX7_expand_153 : decode cX7_expand 153 = .ok (.aload_n 1, 1) := dk_43 (dk_at dksX7_expand_6 9 rfl rfl)
theorem dX7_expand_154 : decode cX7_expand 154 = .ok (.aload_n 0, 1) := dk_42 (dk_at dksX7_expand_6 10 rfl rfl)
theorem dX7_expand_155 : decode cX7_expand 155 = .ok (.getfield 21, 3) := dk_180 0 21 (dk_at dksX7_expand_6 11 rfl rfl)
theorem dX7_expand_158 : decode cX7_expand 158 = .ok (.iload_n 3, 1) := dk_29 (dk_at dksX7_expand_6 14 rfl rfl)
theorem dX7_expand_159 : decode cX7_expand 159 = .ok (.saload, 1) := dk_53 (dk_at dksX7_expand_6 15 rfl rfl)
theorem dX7_expand_160 : decode cX7_expand 160 = .ok (.invokevirtual 52, 3) := dk_182 0 52 (dk_at dksX7_expand_6 16 rfl rfl)
theorem dX7_expand_163 : decode cX7_expand 163 = .ok (.goto 20, 3) := dk_167 0 20 (dk_at dksX7_expand_6 19 rfl rfl)
theorem dX7_expand_166 : decode cX7_expand 166 = .ok (.aload_n 1, 1) := dk_43 (dk_at dksX7_expand_6 22 rfl rfl)
theorem dX7_expand_167 : decode cX7_expand 167 = .ok (.getfield 40, 3) := dk_180 0 40 (dk_at dksX7_expand_7 0 rfl rfl)
theorem dX7_expand_170 : decode cX7_expand 170 = .ok (.iconst (-1), 1) := dk_2 (dk_at dksX7_expand_7 3 rfl rfl)
theorem dX7_expand_171 : decode cX7_expand 171 = .ok (.aload_n 0, 1) := dk_42 (dk_at dksX7_expand_7 4 rfl rfl)
theorem dX7_expand_172 : decode cX7_expand 172 = .ok (.getfield 21, 3) := dk_180 0 21 (dk_at dksX7_expand_7 5 rfl rfl)
theorem dX7_expand_175 : decode cX7_expand 175 = .ok (.iload_n 3, 1) := dk_29 (dk_at dksX7_expand_7 8 rfl rfl)
theorem dX7_expand_176 : decode cX7_expand 176 = .ok (.saload, 1) := dk_53 (dk_at dksX7_expand_7 9 rfl rfl)
theorem dX7_expand_177 : decode cX7_expand 177 = .ok (.isub, 1) := dk_100 (dk_at dksX7_expand_7 10 rfl rfl)
theorem dX7_expand_178 : decode cX7_expand 178 = .ok (.aaload, 1) := dk_50 (dk_at dksX7_expand_7 11 rfl rfl)
theorem dX7_expand_179 : decode cX7_expand 179 = .ok (.aload_n 1, 1) := dk_43 (dk_at dksX7_expand_7 12 rfl rfl)
theorem dX7_expand_180 : decode cX7_expand 180 = .ok (.invokevirtual 55, 3) := dk_182 0 55 (dk_at dksX7_expand_7 13 rfl rfl)
theorem dX7_expand_183 : decode cX7_expand 183 = .ok (.iinc 3 (-1), 3) := dk_132 3 255 (dk_at dksX7_expand_7 16 rfl rfl)
theorem dX7_expand_186 : decode cX7_expand 186 = .ok (.goto (-46), 3) := dk_167 255 210 (dk_at dksX7_expand_7 19 rfl rfl)
theorem dX7_expand_189 : decode cX7_expand 189 = .ok (.return_, 1) := dk_177 (dk_at dksX7_expand_7 22 rfl rfl)
abbrev cX7_init : ByteArray := prog_4_method_1_code
def yX7_init : MethodName := ⟨RX7, "<init>", "(LTokenMouth$Row;LTokenMouth$Row;I)V"⟩
def dkwX7_init_1 : List UInt8 := [181, 0, 24, 177]
abbrev dktX7_init_1 : List UInt8 := dkwX7_init_1 ++ []
def dkwX7_init_0 : List UInt8 := [42, 183, 0, 3, 42, 43, 182, 0, 9, 181, 0, 15, 42, 44, 182, 0, 9, 181, 0, 21, 42, 29]
abbrev dktX7_init_0 : List UInt8 := dkwX7_init_0 ++ dktX7_init_1
theorem dksX7_init_0 : cX7_init.data.toList.drop 0 = dktX7_init_0 := by decide +kernel
theorem dksX7_init_1 : cX7_init.data.toList.drop 22 = dktX7_init_1 := dk_seg dksX7_init_0 22 rfl rfl
theorem dX7_init_0 : decode cX7_init 0 = .ok (.aload_n 0, 1) := dk_42 (dk_at dksX7_init_0 0 rfl rfl)
theorem dX7_init_1 : decode cX7_init 1 = .ok (.invokespecial 3, 3) := dk_183 0 3 (dk_at dksX7_init_0 1 rfl rfl)
theorem dX7_init_4 : decode cX7_init 4 = .ok (.aload_n 0, 1) := dk_42 (dk_at dksX7_init_0 4 rfl rfl)
theorem dX7_init_5 : decode cX7_init 5 = .ok (.aload_n 1, 1) := dk_43 (dk_at dksX7_init_0 5 rfl rfl)
theorem dX7_init_6 : decode cX7_init 6 = .ok (.invokevirtual 9, 3) := dk_182 0 9 (dk_at dksX7_init_0 6 rfl rfl)
theorem dX7_init_9 : decode cX7_init 9 = .ok (.putfield 15, 3) := dk_181 0 15 (dk_at dksX7_init_0 9 rfl rfl)
theorem dX7_init_12 : decode cX7_init 12 = .ok (.aload_n 0, 1) := dk_42 (dk_at dksX7_init_0 12 rfl rfl)
theorem dX7_init_13 : decode cX7_init 13 = .ok (.aload_n 2, 1) := dk_44 (dk_at dksX7_init_0 13 rfl rfl)
theorem dX7_init_14 : decode cX7_init 14 = .ok (.invokevirtual 9, 3) := dk_182 0 9 (dk_at dksX7_init_0 14 rfl rfl)
theorem dX7_init_17 : decode cX7_init 17 = .ok (.putfield 21, 3) := dk_181 0 21 (dk_at dksX7_init_0 17 rfl rfl)
theorem dX7_init_20 : decode cX7_init 20 = .ok (.aload_n 0, 1) := dk_42 (dk_at dksX7_init_0 20 rfl rfl)
theorem dX7_init_21 : decode cX7_init 21 = .ok (.iload_n 3, 1) := dk_29 (dk_at dksX7_init_0 21 rfl rfl)
theorem dX7_init_22 : decode cX7_init 22 = .ok (.putfield 24, 3) := dk_181 0 24 (dk_at dksX7_init_1 0 rfl rfl)
theorem dX7_init_25 : decode cX7_init 25 = .ok (.return_, 1) := dk_177 (dk_at dksX7_init_1 3 rfl rfl)
abbrev cX7_kind : ByteArray := prog_4_method_6_code
def yX7_kind : MethodName := ⟨RX7, "kind", "()I"⟩
theorem dX7_kind_0 : decode cX7_kind 0 = .ok (.iconst 3, 1) := by decide +kernel
theorem dX7_kind_1 : decode cX7_kind 1 = .ok (.ireturn, 1) := by decide +kernel
theorem q119 : (Jvm.Cond.initialized "TokenMouth$Macro") ∈ lw_all := lw_g (lw_at lw_m1 25 rfl) rfl
theorem q321 : (Jvm.Cond.selects "TokenMouth$Macro" ({ cls := "java/lang/Object", name := "getClass", desc := "()Ljava/lang/Class;" } : Jvm.MethodName) ({ cls := "java/lang/Object", name := "getClass", desc := "()Ljava/lang/Class;" } : Jvm.MethodName)) ∈ lw_all := lw_g (lw_at lw_m1 227 rfl) rfl
theorem q403 : (Jvm.Cond.fieldLinkNest "TokenMouth$Macro" (40 : Nat) "TokenMouth" "arguments" "[LTokenMouth$Row;" "TokenMouth") ∈ lw_tbl := lw_at lw_m2 69 rfl
theorem q651 : (Jvm.Cond.castable "TokenMouth$Macro" "TokenMouth$Meaning") ∈ lw_tbl := lw_at lw_m3 77 rfl
theorem q652 : (Jvm.Cond.selects "TokenMouth$Macro" ({ cls := "TokenMouth$Meaning", name := "isExpandable", desc := "()Z" } : Jvm.MethodName) ({ cls := "TokenMouth$Macro", name := "isExpandable", desc := "()Z" } : Jvm.MethodName)) ∈ lw_all := lw_g (lw_at lw_m3 78 rfl) rfl
theorem q653 : (Jvm.Cond.unhidden "TokenMouth$Macro" "isExpandable" "()Z") ∈ lw_tbl := lw_at lw_m3 79 rfl
theorem q654 : (Jvm.Cond.instanceMethod ({ cls := "TokenMouth$Macro", name := "isExpandable", desc := "()Z" } : Jvm.MethodName)) ∈ lw_all := lw_g (lw_at lw_m3 80 rfl) rfl
theorem q655 : (Jvm.Cond.publicMethod ({ cls := "TokenMouth$Macro", name := "isExpandable", desc := "()Z" } : Jvm.MethodName)) ∈ lw_tbl := lw_at lw_m3 81 rfl
theorem q656 : (Jvm.Cond.code ({ cls := "TokenMouth$Macro", name := "isExpandable", desc := "()Z" } : Jvm.MethodName) prog_4_method_2_code (1 : Nat) (Option.some Jvm.ClassFile.FieldType.boolean)) ∈ lw_all := lw_g (lw_at lw_m3 82 rfl) rfl
theorem q771 : (Jvm.Cond.selects "TokenMouth$Macro" ({ cls := "TokenMouth$Meaning", name := "isLike", desc := "(LTokenMouth$Meaning;)Z" } : Jvm.MethodName) ({ cls := "TokenMouth$Macro", name := "isLike", desc := "(LTokenMouth$Meaning;)Z" } : Jvm.MethodName)) ∈ lw_all := lw_g (lw_at lw_m3 197 rfl) rfl
theorem q772 : (Jvm.Cond.unhidden "TokenMouth$Macro" "isLike" "(LTokenMouth$Meaning;)Z") ∈ lw_tbl := lw_at lw_m3 198 rfl
theorem q773 : (Jvm.Cond.instanceMethod ({ cls := "TokenMouth$Macro", name := "isLike", desc := "(LTokenMouth$Meaning;)Z" } : Jvm.MethodName)) ∈ lw_all := lw_g (lw_at lw_m3 199 rfl) rfl
theorem q774 : (Jvm.Cond.publicMethod ({ cls := "TokenMouth$Macro", name := "isLike", desc := "(LTokenMouth$Meaning;)Z" } : Jvm.MethodName)) ∈ lw_tbl := lw_at lw_m3 200 rfl
theorem q775 : (Jvm.Cond.code ({ cls := "TokenMouth$Macro", name := "isLike", desc := "(LTokenMouth$Meaning;)Z" } : Jvm.MethodName) prog_4_method_5_code (2 : Nat) (Option.some Jvm.ClassFile.FieldType.boolean)) ∈ lw_all := lw_g (lw_at lw_m3 201 rfl) rfl
theorem q776 : (Jvm.Cond.classLink "TokenMouth$Macro" (16 : Nat) "TokenMouth$Macro") ∈ lw_all := lw_g (lw_at lw_m3 202 rfl) rfl
theorem q777 : (Jvm.Cond.methodLink "TokenMouth$Macro" (59 : Nat) ({ cls := "TokenMouth$Macro", name := "alike", desc := "([S[S)Z" } : Jvm.MethodName)) ∈ lw_all := lw_g (lw_at lw_m3 203 rfl) rfl
theorem q778 : (Jvm.Cond.static ({ cls := "TokenMouth$Macro", name := "alike", desc := "([S[S)Z" } : Jvm.MethodName)) ∈ lw_all := lw_g (lw_at lw_m3 204 rfl) rfl
theorem q779 : (Jvm.Cond.code ({ cls := "TokenMouth$Macro", name := "alike", desc := "([S[S)Z" } : Jvm.MethodName) prog_4_method_4_code (4 : Nat) (Option.some Jvm.ClassFile.FieldType.boolean)) ∈ lw_all := lw_g (lw_at lw_m3 205 rfl) rfl
theorem q786 : (Jvm.Cond.selects "TokenMouth$Macro" ({ cls := "TokenMouth$Meaning", name := "expand", desc := "(LTokenMouth;)V" } : Jvm.MethodName) ({ cls := "TokenMouth$Macro", name := "expand", desc := "(LTokenMouth;)V" } : Jvm.MethodName)) ∈ lw_all := lw_g (lw_at lw_m3 212 rfl) rfl
theorem q787 : (Jvm.Cond.unhidden "TokenMouth$Macro" "expand" "(LTokenMouth;)V") ∈ lw_tbl := lw_at lw_m3 213 rfl
theorem q788 : (Jvm.Cond.instanceMethod ({ cls := "TokenMouth$Macro", name := "expand", desc := "(LTokenMouth;)V" } : Jvm.MethodName)) ∈ lw_all := lw_g (lw_at lw_m3 214 rfl) rfl
theorem q789 : (Jvm.Cond.publicMethod ({ cls := "TokenMouth$Macro", name := "expand", desc := "(LTokenMouth;)V" } : Jvm.MethodName)) ∈ lw_tbl := lw_at lw_m3 215 rfl
theorem q790 : (Jvm.Cond.code ({ cls := "TokenMouth$Macro", name := "expand", desc := "(LTokenMouth;)V" } : Jvm.MethodName) prog_4_method_3_code (5 : Nat) (Option.none : Option Jvm.ClassFile.FieldType)) ∈ lw_all := lw_g (lw_at lw_m3 216 rfl) rfl
theorem q791 : (Jvm.Cond.methodLinkNest "TokenMouth$Macro" (28 : Nat) ({ cls := "TokenMouth", name := "need", desc := "()I" } : Jvm.MethodName) "TokenMouth") ∈ lw_tbl := lw_at lw_m3 217 rfl
theorem q792 : (Jvm.Cond.methodLinkNest "TokenMouth$Macro" (32 : Nat) ({ cls := "TokenMouth", name := "same", desc := "(II)Z" } : Jvm.MethodName) "TokenMouth") ∈ lw_tbl := lw_at lw_m3 218 rfl
theorem q798 : (Jvm.Cond.methodLinkNest "TokenMouth$Macro" (36 : Nat) ({ cls := "TokenMouth", name := "fail", desc := "(I)V" } : Jvm.MethodName) "TokenMouth") ∈ lw_tbl := lw_at lw_m3 224 rfl
theorem q799 : (Jvm.Cond.methodLinkNest "TokenMouth$Macro" (44 : Nat) ({ cls := "TokenMouth", name := "undelimited", desc := "(LTokenMouth$Row;)V" } : Jvm.MethodName) "TokenMouth") ∈ lw_tbl := lw_at lw_m3 225 rfl
theorem q819 : (Jvm.Cond.methodLinkNest "TokenMouth$Macro" (48 : Nat) ({ cls := "TokenMouth", name := "delimited", desc := "(LTokenMouth$Row;[SII)V" } : Jvm.MethodName) "TokenMouth") ∈ lw_tbl := lw_at lw_m4 5 rfl
theorem q836 : (Jvm.Cond.methodLinkNest "TokenMouth$Macro" (52 : Nat) ({ cls := "TokenMouth", name := "back", desc := "(I)V" } : Jvm.MethodName) "TokenMouth") ∈ lw_tbl := lw_at lw_m4 22 rfl
theorem q837 : (Jvm.Cond.methodLink "TokenMouth$Macro" (55 : Nat) ({ cls := "TokenMouth$Row", name := "putBack", desc := "(LTokenMouth;)V" } : Jvm.MethodName)) ∈ lw_all := lw_g (lw_at lw_m4 23 rfl) rfl
theorem q887 : (Jvm.Cond.instantiable "TokenMouth$Macro" (3 : Nat)) ∈ lw_all := lw_g (lw_at lw_m4 73 rfl) rfl
theorem q889 : (Jvm.Cond.instanceMethod ({ cls := "TokenMouth$Macro", name := "<init>", desc := "(LTokenMouth$Row;LTokenMouth$Row;I)V" } : Jvm.MethodName)) ∈ lw_all := lw_g (lw_at lw_m4 75 rfl) rfl
theorem q890 : (Jvm.Cond.code ({ cls := "TokenMouth$Macro", name := "<init>", desc := "(LTokenMouth$Row;LTokenMouth$Row;I)V" } : Jvm.MethodName) prog_4_method_1_code (4 : Nat) (Option.none : Option Jvm.ClassFile.FieldType)) ∈ lw_all := lw_g (lw_at lw_m4 76 rfl) rfl
theorem q891 : (Jvm.Cond.methodLink "TokenMouth$Macro" (3 : Nat) ({ cls := "java/lang/Object", name := "<init>", desc := "()V" } : Jvm.MethodName)) ∈ lw_all := lw_g (lw_at lw_m4 77 rfl) rfl
theorem q892 : (Jvm.Cond.methodLink "TokenMouth$Macro" (9 : Nat) ({ cls := "TokenMouth$Row", name := "copy", desc := "()[S" } : Jvm.MethodName)) ∈ lw_all := lw_g (lw_at lw_m4 78 rfl) rfl
theorem q896 : (Jvm.Cond.fieldLink "TokenMouth$Macro" (15 : Nat) "TokenMouth$Macro" "text" "[S") ∈ lw_all := lw_g (lw_at lw_m4 82 rfl) rfl
theorem q898 : (Jvm.Cond.fieldLink "TokenMouth$Macro" (21 : Nat) "TokenMouth$Macro" "body" "[S") ∈ lw_all := lw_g (lw_at lw_m4 84 rfl) rfl
theorem q900 : (Jvm.Cond.fieldLink "TokenMouth$Macro" (24 : Nat) "TokenMouth$Macro" "parameters" "I") ∈ lw_all := lw_g (lw_at lw_m4 86 rfl) rfl
theorem q902 : (Jvm.Cond.laysFinal "TokenMouth$Macro" "TokenMouth$Macro" "text" "[S") ∈ lw_all := lw_g (lw_at lw_m4 88 rfl) rfl
theorem q903 : (Jvm.Cond.soleField "TokenMouth$Macro" "text") ∈ lw_all := lw_g (lw_at lw_m4 89 rfl) rfl
theorem q904 : (Jvm.Cond.laysFinal "TokenMouth$Macro" "TokenMouth$Macro" "body" "[S") ∈ lw_all := lw_g (lw_at lw_m4 90 rfl) rfl
theorem q905 : (Jvm.Cond.soleField "TokenMouth$Macro" "body") ∈ lw_all := lw_g (lw_at lw_m4 91 rfl) rfl
theorem q906 : (Jvm.Cond.laysFinal "TokenMouth$Macro" "TokenMouth$Macro" "parameters" "I") ∈ lw_all := lw_g (lw_at lw_m4 92 rfl) rfl
theorem q907 : (Jvm.Cond.soleField "TokenMouth$Macro" "parameters") ∈ lw_all := lw_g (lw_at lw_m4 93 rfl) rfl
theorem q908 : (Jvm.Cond.superclass "TokenMouth$Macro" "java/lang/Object") ∈ lw_all := lw_g (lw_at lw_m4 94 rfl) rfl
theorem q1046 : (Jvm.Cond.selects "TokenMouth$Macro" ({ cls := "TokenMouth$Meaning", name := "kind", desc := "()I" } : Jvm.MethodName) ({ cls := "TokenMouth$Macro", name := "kind", desc := "()I" } : Jvm.MethodName)) ∈ lw_all := lw_g (lw_at lw_m4 232 rfl) rfl
theorem q1047 : (Jvm.Cond.unhidden "TokenMouth$Macro" "kind" "()I") ∈ lw_tbl := lw_at lw_m4 233 rfl
theorem q1048 : (Jvm.Cond.instanceMethod ({ cls := "TokenMouth$Macro", name := "kind", desc := "()I" } : Jvm.MethodName)) ∈ lw_all := lw_g (lw_at lw_m4 234 rfl) rfl
theorem q1049 : (Jvm.Cond.publicMethod ({ cls := "TokenMouth$Macro", name := "kind", desc := "()I" } : Jvm.MethodName)) ∈ lw_tbl := lw_at lw_m4 235 rfl
theorem q1050 : (Jvm.Cond.code ({ cls := "TokenMouth$Macro", name := "kind", desc := "()I" } : Jvm.MethodName) prog_4_method_6_code (1 : Nat) (Option.some Jvm.ClassFile.FieldType.int)) ∈ lw_all := lw_g (lw_at lw_m4 236 rfl) rfl
theorem q1483 : (Jvm.Cond.castable "TokenMouth$Macro" "java/lang/Object") ∈ lw_tbl := lw_at lw_m6 189 rfl
theorem in_X7 : ∀ w ∈ wsX70, w ∈ lw_all := lw_in wsX70 [902, 904, 906] (by decide +kernel) (by decide +kernel)
/-! TokenMouth$Sign -/
set_option maxRecDepth 100000
def RX8 : String := "TokenMouth$Sign"
def TX8 : u_T := fun k => match k with
  | _ => ("TokenMouth$Sign", "token", "I", true)
def tyX8 : Nat → FieldType := fun k => match k with
  | _ => .int
abbrev wsX80 : List Cond := u_ws RX8 TX8 1
theorem nmX8 : ∀ a, a < 1 → ∀ b, b < 1 → a ≠ b → (TX8 a).2.1 ≠ (TX8 b).2.1 := by decide +kernel
theorem tyX8_ok : ∀ k, k < 1 → parseFieldDescriptor (TX8 k).2.2.1 = some (tyX8 k) := by decide +kernel
abbrev cX8_isExpandable : ByteArray := prog_8_method_2_code
def yX8_isExpandable : MethodName := ⟨RX8, "isExpandable", "()Z"⟩
theorem dX8_isExpandable_0 : decode cX8_isExpandable 0 = .ok (.iconst 0, 1) := by decide +kernel
theorem dX8_isExpandable_1 : decode cX8_isExpandable 1 = .ok (.ireturn, 1) := by decide +kernel
abbrev cX8_isLike : ByteArray := prog_8_method_4_code
def yX8_isLike : MethodName := ⟨RX8, "isLike", "(LTokenMouth$Meaning;)Z"⟩
def dkwX8_isLike_1 : List UInt8 := [167, 0, 4, 3, 172]
abbrev dktX8_isLike_1 : List UInt8 := dkwX8_isLike_1 ++ []
def dkwX8_isLike_0 : List UInt8 := [43, 193, 0, 8, 153, 0, 21, 43, 192, 0, 8, 180, 0, 7, 42, 180, 0, 7, 160, 0, 7, 4]
abbrev dktX8_isLike_0 : List UInt8 := dkwX8_isLike_0 ++ dktX8_isLike_1
theorem dksX8_isLike_0 : cX8_isLike.data.toList.drop 0 = dktX8_isLike_0 := by decide +kernel
theorem dksX8_isLike_1 : cX8_isLike.data.toList.drop 22 = dktX8_isLike_1 := dk_seg dksX8_isLike_0 22 rfl rfl
theorem dX8_isLike_0 : decode cX8_isLike 0 = .ok (.aload_n 1, 1) := dk_43 (dk_at dksX8_isLike_0 0 rfl rfl)
theorem dX8_isLike_1 : decode cX8_isLike 1 = .ok (.instanceof 8, 3) := dk_193 0 8 (dk_at dksX8_isLike_0 1 rfl rfl)
theorem dX8_isLike_4 : decode cX8_isLike 4 = .ok (.ifCond .eq 21, 3) := dk_153 0 21 (dk_at dksX8_isLike_0 4 rfl rfl)
theorem dX8_isLike_7 : decode cX8_isLike 7 = .ok (.aload_n 1, 1) := dk_43 (dk_at dksX8_isLike_0 7 rfl rfl)
theorem dX8_isLike_8 : decode cX8_isLike 8 = .ok (.checkcast 8, 3) := dk_192 0 8 (dk_at dksX8_isLike_0 8 rfl rfl)
theorem dX8_isLike_11 : decode cX8_isLike 11 = .ok (.getfield 7, 3) := dk_180 0 7 (dk_at dksX8_isLike_0 11 rfl rfl)
theorem dX8_isLike_14 : decode cX8_isLike 14 = .ok (.aload_n 0, 1) := dk_42 (dk_at dksX8_isLike_0 14 rfl rfl)
theorem dX8_isLike_15 : decode cX8_isLike 15 = .ok (.getfield 7, 3) := dk_180 0 7 (dk_at dksX8_isLike_0 15 rfl rfl)
theorem dX8_isLike_18 : decode cX8_isLike 18 = .ok (.if_icmp .ne 7, 3) := dk_160 0 7 (dk_at dksX8_isLike_0 18 rfl rfl)
theorem dX8_isLike_21 : decode cX8_isLike 21 = .ok (.iconst 1, 1) := dk_4 (dk_at dksX8_isLike_0 21 rfl rfl)
theorem dX8_isLike_22 : decode cX8_isLike 22 = .ok (.goto 4, 3) := dk_167 0 4 (dk_at dksX8_isLike_1 0 rfl rfl)
theorem dX8_isLike_25 : decode cX8_isLike 25 = .ok (.iconst 0, 1) := dk_3 (dk_at dksX8_isLike_1 3 rfl rfl)
theorem dX8_isLike_26 : decode cX8_isLike 26 = .ok (.ireturn, 1) := dk_172 (dk_at dksX8_isLike_1 4 rfl rfl)
abbrev cX8_expand : ByteArray := prog_8_method_3_code
def yX8_expand : MethodName := ⟨RX8, "expand", "(LTokenMouth;)V"⟩
theorem dX8_expand_0 : decode cX8_expand 0 = .ok (.return_, 1) := by decide +kernel
abbrev cX8_init : ByteArray := prog_8_method_1_code
def yX8_init : MethodName := ⟨RX8, "<init>", "(I)V"⟩
def dkwX8_init_0 : List UInt8 := [42, 183, 0, 1, 42, 27, 181, 0, 7, 177]
abbrev dktX8_init_0 : List UInt8 := dkwX8_init_0 ++ []
theorem dksX8_init_0 : cX8_init.data.toList.drop 0 = dktX8_init_0 := by decide +kernel
theorem dX8_init_0 : decode cX8_init 0 = .ok (.aload_n 0, 1) := dk_42 (dk_at dksX8_init_0 0 rfl rfl)
theorem dX8_init_1 : decode cX8_init 1 = .ok (.invokespecial 1, 3) := dk_183 0 1 (dk_at dksX8_init_0 1 rfl rfl)
theorem dX8_init_4 : decode cX8_init 4 = .ok (.aload_n 0, 1) := dk_42 (dk_at dksX8_init_0 4 rfl rfl)
theorem dX8_init_5 : decode cX8_init 5 = .ok (.iload_n 1, 1) := dk_27 (dk_at dksX8_init_0 5 rfl rfl)
theorem dX8_init_6 : decode cX8_init 6 = .ok (.putfield 7, 3) := dk_181 0 7 (dk_at dksX8_init_0 6 rfl rfl)
theorem dX8_init_9 : decode cX8_init 9 = .ok (.return_, 1) := dk_177 (dk_at dksX8_init_0 9 rfl rfl)
abbrev cX8_kind : ByteArray := prog_8_method_5_code
def yX8_kind : MethodName := ⟨RX8, "kind", "()I"⟩
theorem dX8_kind_0 : decode cX8_kind 0 = .ok (.iconst 2, 1) := by decide +kernel
theorem dX8_kind_1 : decode cX8_kind 1 = .ok (.ireturn, 1) := by decide +kernel
theorem q120 : (Jvm.Cond.initialized "TokenMouth$Sign") ∈ lw_all := lw_g (lw_at lw_m1 26 rfl) rfl
theorem q324 : (Jvm.Cond.selects "TokenMouth$Sign" ({ cls := "java/lang/Object", name := "getClass", desc := "()Ljava/lang/Class;" } : Jvm.MethodName) ({ cls := "java/lang/Object", name := "getClass", desc := "()Ljava/lang/Class;" } : Jvm.MethodName)) ∈ lw_all := lw_g (lw_at lw_m1 230 rfl) rfl
theorem q657 : (Jvm.Cond.castable "TokenMouth$Sign" "TokenMouth$Meaning") ∈ lw_tbl := lw_at lw_m3 83 rfl
theorem q658 : (Jvm.Cond.selects "TokenMouth$Sign" ({ cls := "TokenMouth$Meaning", name := "isExpandable", desc := "()Z" } : Jvm.MethodName) ({ cls := "TokenMouth$Sign", name := "isExpandable", desc := "()Z" } : Jvm.MethodName)) ∈ lw_all := lw_g (lw_at lw_m3 84 rfl) rfl
theorem q659 : (Jvm.Cond.unhidden "TokenMouth$Sign" "isExpandable" "()Z") ∈ lw_tbl := lw_at lw_m3 85 rfl
theorem q660 : (Jvm.Cond.instanceMethod ({ cls := "TokenMouth$Sign", name := "isExpandable", desc := "()Z" } : Jvm.MethodName)) ∈ lw_all := lw_g (lw_at lw_m3 86 rfl) rfl
theorem q661 : (Jvm.Cond.publicMethod ({ cls := "TokenMouth$Sign", name := "isExpandable", desc := "()Z" } : Jvm.MethodName)) ∈ lw_tbl := lw_at lw_m3 87 rfl
theorem q662 : (Jvm.Cond.code ({ cls := "TokenMouth$Sign", name := "isExpandable", desc := "()Z" } : Jvm.MethodName) prog_8_method_2_code (1 : Nat) (Option.some Jvm.ClassFile.FieldType.boolean)) ∈ lw_all := lw_g (lw_at lw_m3 88 rfl) rfl
theorem q780 : (Jvm.Cond.selects "TokenMouth$Sign" ({ cls := "TokenMouth$Meaning", name := "isLike", desc := "(LTokenMouth$Meaning;)Z" } : Jvm.MethodName) ({ cls := "TokenMouth$Sign", name := "isLike", desc := "(LTokenMouth$Meaning;)Z" } : Jvm.MethodName)) ∈ lw_all := lw_g (lw_at lw_m3 206 rfl) rfl
theorem q781 : (Jvm.Cond.unhidden "TokenMouth$Sign" "isLike" "(LTokenMouth$Meaning;)Z") ∈ lw_tbl := lw_at lw_m3 207 rfl
theorem q782 : (Jvm.Cond.instanceMethod ({ cls := "TokenMouth$Sign", name := "isLike", desc := "(LTokenMouth$Meaning;)Z" } : Jvm.MethodName)) ∈ lw_all := lw_g (lw_at lw_m3 208 rfl) rfl
theorem q783 : (Jvm.Cond.publicMethod ({ cls := "TokenMouth$Sign", name := "isLike", desc := "(LTokenMouth$Meaning;)Z" } : Jvm.MethodName)) ∈ lw_tbl := lw_at lw_m3 209 rfl
theorem q784 : (Jvm.Cond.code ({ cls := "TokenMouth$Sign", name := "isLike", desc := "(LTokenMouth$Meaning;)Z" } : Jvm.MethodName) prog_8_method_4_code (2 : Nat) (Option.some Jvm.ClassFile.FieldType.boolean)) ∈ lw_all := lw_g (lw_at lw_m3 210 rfl) rfl
theorem q785 : (Jvm.Cond.classLink "TokenMouth$Sign" (8 : Nat) "TokenMouth$Sign") ∈ lw_all := lw_g (lw_at lw_m3 211 rfl) rfl
theorem q842 : (Jvm.Cond.selects "TokenMouth$Sign" ({ cls := "TokenMouth$Meaning", name := "expand", desc := "(LTokenMouth;)V" } : Jvm.MethodName) ({ cls := "TokenMouth$Sign", name := "expand", desc := "(LTokenMouth;)V" } : Jvm.MethodName)) ∈ lw_all := lw_g (lw_at lw_m4 28 rfl) rfl
theorem q843 : (Jvm.Cond.unhidden "TokenMouth$Sign" "expand" "(LTokenMouth;)V") ∈ lw_tbl := lw_at lw_m4 29 rfl
theorem q844 : (Jvm.Cond.instanceMethod ({ cls := "TokenMouth$Sign", name := "expand", desc := "(LTokenMouth;)V" } : Jvm.MethodName)) ∈ lw_all := lw_g (lw_at lw_m4 30 rfl) rfl
theorem q845 : (Jvm.Cond.publicMethod ({ cls := "TokenMouth$Sign", name := "expand", desc := "(LTokenMouth;)V" } : Jvm.MethodName)) ∈ lw_tbl := lw_at lw_m4 31 rfl
theorem q846 : (Jvm.Cond.code ({ cls := "TokenMouth$Sign", name := "expand", desc := "(LTokenMouth;)V" } : Jvm.MethodName) prog_8_method_3_code (2 : Nat) (Option.none : Option Jvm.ClassFile.FieldType)) ∈ lw_all := lw_g (lw_at lw_m4 32 rfl) rfl
theorem q915 : (Jvm.Cond.instantiable "TokenMouth$Sign" (1 : Nat)) ∈ lw_all := lw_g (lw_at lw_m4 101 rfl) rfl
theorem q917 : (Jvm.Cond.instanceMethod ({ cls := "TokenMouth$Sign", name := "<init>", desc := "(I)V" } : Jvm.MethodName)) ∈ lw_all := lw_g (lw_at lw_m4 103 rfl) rfl
theorem q918 : (Jvm.Cond.code ({ cls := "TokenMouth$Sign", name := "<init>", desc := "(I)V" } : Jvm.MethodName) prog_8_method_1_code (2 : Nat) (Option.none : Option Jvm.ClassFile.FieldType)) ∈ lw_all := lw_g (lw_at lw_m4 104 rfl) rfl
theorem q919 : (Jvm.Cond.methodLink "TokenMouth$Sign" (1 : Nat) ({ cls := "java/lang/Object", name := "<init>", desc := "()V" } : Jvm.MethodName)) ∈ lw_all := lw_g (lw_at lw_m4 105 rfl) rfl
theorem q920 : (Jvm.Cond.fieldLink "TokenMouth$Sign" (7 : Nat) "TokenMouth$Sign" "token" "I") ∈ lw_all := lw_g (lw_at lw_m4 106 rfl) rfl
theorem q922 : (Jvm.Cond.laysFinal "TokenMouth$Sign" "TokenMouth$Sign" "token" "I") ∈ lw_all := lw_g (lw_at lw_m4 108 rfl) rfl
theorem q923 : (Jvm.Cond.soleField "TokenMouth$Sign" "token") ∈ lw_all := lw_g (lw_at lw_m4 109 rfl) rfl
theorem q924 : (Jvm.Cond.superclass "TokenMouth$Sign" "java/lang/Object") ∈ lw_all := lw_g (lw_at lw_m4 110 rfl) rfl
theorem q1051 : (Jvm.Cond.selects "TokenMouth$Sign" ({ cls := "TokenMouth$Meaning", name := "kind", desc := "()I" } : Jvm.MethodName) ({ cls := "TokenMouth$Sign", name := "kind", desc := "()I" } : Jvm.MethodName)) ∈ lw_all := lw_g (lw_at lw_m4 237 rfl) rfl
theorem q1052 : (Jvm.Cond.unhidden "TokenMouth$Sign" "kind" "()I") ∈ lw_tbl := lw_at lw_m4 238 rfl
theorem q1053 : (Jvm.Cond.instanceMethod ({ cls := "TokenMouth$Sign", name := "kind", desc := "()I" } : Jvm.MethodName)) ∈ lw_all := lw_g (lw_at lw_m4 239 rfl) rfl
theorem q1054 : (Jvm.Cond.publicMethod ({ cls := "TokenMouth$Sign", name := "kind", desc := "()I" } : Jvm.MethodName)) ∈ lw_tbl := lw_at lw_m5 0 rfl
theorem q1055 : (Jvm.Cond.code ({ cls := "TokenMouth$Sign", name := "kind", desc := "()I" } : Jvm.MethodName) prog_8_method_5_code (1 : Nat) (Option.some Jvm.ClassFile.FieldType.int)) ∈ lw_all := lw_g (lw_at lw_m5 1 rfl) rfl
theorem q1484 : (Jvm.Cond.castable "TokenMouth$Sign" "java/lang/Object") ∈ lw_tbl := lw_at lw_m6 190 rfl
theorem in_X8 : ∀ w ∈ wsX80, w ∈ lw_all := lw_in wsX80 [922] (by decide +kernel) (by decide +kernel)
/-! java/lang/Enum -/
set_option maxRecDepth 100000
def RJ0 : String := "java/lang/Enum"
abbrev cJ0_ordinal : ByteArray := prog_16_method_2_code
def yJ0_ordinal : MethodName := ⟨RJ0, "ordinal", "()I"⟩
theorem dJ0_ordinal_0 : decode cJ0_ordinal 0 = .ok (.aload_n 0, 1) := by decide +kernel
theorem dJ0_ordinal_1 : decode cJ0_ordinal 1 = .ok (.getfield 7, 3) := by decide +kernel
theorem dJ0_ordinal_4 : decode cJ0_ordinal 4 = .ok (.ireturn, 1) := by decide +kernel
theorem q96 : (Jvm.Cond.initialized "java/lang/Enum") ∈ lw_all := lw_g (lw_at lw_m1 2 rfl) rfl
theorem q678 : (Jvm.Cond.declares ({ cls := "java/lang/Enum", name := "ordinal", desc := "()I" } : Jvm.MethodName)) ∈ lw_tbl := lw_at lw_m3 104 rfl
theorem q680 : (Jvm.Cond.instanceMethod ({ cls := "java/lang/Enum", name := "ordinal", desc := "()I" } : Jvm.MethodName)) ∈ lw_all := lw_g (lw_at lw_m3 106 rfl) rfl
theorem q681 : (Jvm.Cond.code ({ cls := "java/lang/Enum", name := "ordinal", desc := "()I" } : Jvm.MethodName) prog_16_method_2_code (1 : Nat) (Option.some Jvm.ClassFile.FieldType.int)) ∈ lw_all := lw_g (lw_at lw_m3 107 rfl) rfl
theorem q1506 : (Jvm.Cond.fieldLink "java/lang/Enum" (7 : Nat) "java/lang/Enum" "ordinal" "I") ∈ lw_all := lw_g (lw_at lw_m6 212 rfl) rfl
/-! java/util/AbstractCollection -/
set_option maxRecDepth 100000
def RJ1 : String := "java/util/AbstractCollection"
abbrev cJ1_init : ByteArray := prog_31_method_1_code
def yJ1_init : MethodName := ⟨RJ1, "<init>", "()V"⟩
theorem dJ1_init_0 : decode cJ1_init 0 = .ok (.aload_n 0, 1) := by decide +kernel
theorem dJ1_init_1 : decode cJ1_init 1 = .ok (.invokespecial 1, 3) := by decide +kernel
theorem dJ1_init_4 : decode cJ1_init 4 = .ok (.return_, 1) := by decide +kernel
theorem q98 : (Jvm.Cond.initialized "java/util/AbstractCollection") ∈ lw_all := lw_g (lw_at lw_m1 4 rfl) rfl
theorem q154 : (Jvm.Cond.instanceMethod ({ cls := "java/util/AbstractCollection", name := "<init>", desc := "()V" } : Jvm.MethodName)) ∈ lw_all := lw_g (lw_at lw_m1 60 rfl) rfl
theorem q155 : (Jvm.Cond.code ({ cls := "java/util/AbstractCollection", name := "<init>", desc := "()V" } : Jvm.MethodName) prog_31_method_1_code (1 : Nat) (Option.none : Option Jvm.ClassFile.FieldType)) ∈ lw_all := lw_g (lw_at lw_m1 61 rfl) rfl
theorem q156 : (Jvm.Cond.methodLink "java/util/AbstractCollection" (1 : Nat) ({ cls := "java/lang/Object", name := "<init>", desc := "()V" } : Jvm.MethodName)) ∈ lw_all := lw_g (lw_at lw_m1 62 rfl) rfl
/-! java/util/Arrays -/
set_option maxRecDepth 100000
def RJ10 : String := "java/util/Arrays"
abbrev cJ10_copyOf : ByteArray := prog_34_method_119_code
def yJ10_copyOf : MethodName := ⟨RJ10, "copyOf", "([Ljava/lang/Object;I)[Ljava/lang/Object;"⟩
def dkwJ10_copyOf_0 : List UInt8 := [42, 27, 42, 182, 0, 86, 184, 1, 44, 176]
abbrev dktJ10_copyOf_0 : List UInt8 := dkwJ10_copyOf_0 ++ []
theorem dksJ10_copyOf_0 : cJ10_copyOf.data.toList.drop 0 = dktJ10_copyOf_0 := by decide +kernel
theorem dJ10_copyOf_0 : decode cJ10_copyOf 0 = .ok (.aload_n 0, 1) := dk_42 (dk_at dksJ10_copyOf_0 0 rfl rfl)
theorem dJ10_copyOf_1 : decode cJ10_copyOf 1 = .ok (.iload_n 1, 1) := dk_27 (dk_at dksJ10_copyOf_0 1 rfl rfl)
theorem dJ10_copyOf_2 : decode cJ10_copyOf 2 = .ok (.aload_n 0, 1) := dk_42 (dk_at dksJ10_copyOf_0 2 rfl rfl)
theorem dJ10_copyOf_3 : decode cJ10_copyOf 3 = .ok (.invokevirtual 86, 3) := dk_182 0 86 (dk_at dksJ10_copyOf_0 3 rfl rfl)
theorem dJ10_copyOf_6 : decode cJ10_copyOf 6 = .ok (.invokestatic 300, 3) := dk_184 1 44 (dk_at dksJ10_copyOf_0 6 rfl rfl)
theorem dJ10_copyOf_9 : decode cJ10_copyOf 9 = .ok (.areturn, 1) := dk_176 (dk_at dksJ10_copyOf_0 9 rfl rfl)
abbrev cJ10_copyOf_2 : ByteArray := prog_34_method_120_code
def yJ10_copyOf_2 : MethodName := ⟨RJ10, "copyOf", "([Ljava/lang/Object;ILjava/lang/Class;)[Ljava/lang/Object;"⟩
def dkwJ10_copyOf_2_1 : List UInt8 := [78, 42, 3, 45, 3, 42, 190, 27, 184, 1, 48, 184, 0, 150, 45, 176]
abbrev dktJ10_copyOf_2_1 : List UInt8 := dkwJ10_copyOf_2_1 ++ []
def dkwJ10_copyOf_2_0 : List UInt8 := [44, 18, 110, 166, 0, 10, 27, 189, 0, 2, 167, 0, 14, 44, 182, 0, 90, 27, 184, 0, 95, 192, 0, 110]
abbrev dktJ10_copyOf_2_0 : List UInt8 := dkwJ10_copyOf_2_0 ++ dktJ10_copyOf_2_1
theorem dksJ10_copyOf_2_0 : cJ10_copyOf_2.data.toList.drop 0 = dktJ10_copyOf_2_0 := by decide +kernel
theorem dksJ10_copyOf_2_1 : cJ10_copyOf_2.data.toList.drop 24 = dktJ10_copyOf_2_1 := dk_seg dksJ10_copyOf_2_0 24 rfl rfl
theorem dJ10_copyOf_2_0 : decode cJ10_copyOf_2 0 = .ok (.aload_n 2, 1) := dk_44 (dk_at dksJ10_copyOf_2_0 0 rfl rfl)
theorem dJ10_copyOf_2_1 : decode cJ10_copyOf_2 1 = .ok (.ldc 110, 2) := dk_18 110 (dk_at dksJ10_copyOf_2_0 1 rfl rfl)
theorem dJ10_copyOf_2_3 : decode cJ10_copyOf_2 3 = .ok (.if_acmp .ne 10, 3) := dk_166 0 10 (dk_at dksJ10_copyOf_2_0 3 rfl rfl)
theorem dJ10_copyOf_2_6 : decode cJ10_copyOf_2 6 = .ok (.iload_n 1, 1) := dk_27 (dk_at dksJ10_copyOf_2_0 6 rfl rfl)
theorem dJ10_copyOf_2_7 : decode cJ10_copyOf_2 7 = .ok (.anewarray 2, 3) := dk_189 0 2 (dk_at dksJ10_copyOf_2_0 7 rfl rfl)
theorem dJ10_copyOf_2_10 : decode cJ10_copyOf_2 10 = .ok (.goto 14, 3) := dk_167 0 14 (dk_at dksJ10_copyOf_2_0 10 rfl rfl)
theorem dJ10_copyOf_2_13 : decode cJ10_copyOf_2 13 = .ok (.aload_n 2, 1) := dk_44 (dk_at dksJ10_copyOf_2_0 13 rfl rfl)
theorem dJ10_copyOf_2_14 : decode cJ10_copyOf_2 14 = .ok (.invokevirtual 90, 3) := dk_182 0 90 (dk_at dksJ10_copyOf_2_0 14 rfl rfl)
theorem dJ10_copyOf_2_17 : decode cJ10_copyOf_2 17 = .ok (.iload_n 1, 1) := dk_27 (dk_at dksJ10_copyOf_2_0 17 rfl rfl)
theorem dJ10_copyOf_2_18 : decode cJ10_copyOf_2 18 = .ok (.invokestatic 95, 3) := dk_184 0 95 (dk_at dksJ10_copyOf_2_0 18 rfl rfl)
theorem dJ10_copyOf_2_21 : decode cJ10_copyOf_2 21 = .ok (.checkcast 110, 3) := dk_192 0 110 (dk_at dksJ10_copyOf_2_0 21 rfl rfl)
theorem dJ10_copyOf_2_24 : decode cJ10_copyOf_2 24 = .ok (.astore_n 3, 1) := dk_78 (dk_at dksJ10_copyOf_2_1 0 rfl rfl)
theorem dJ10_copyOf_2_25 : decode cJ10_copyOf_2 25 = .ok (.aload_n 0, 1) := dk_42 (dk_at dksJ10_copyOf_2_1 1 rfl rfl)
theorem dJ10_copyOf_2_26 : decode cJ10_copyOf_2 26 = .ok (.iconst 0, 1) := dk_3 (dk_at dksJ10_copyOf_2_1 2 rfl rfl)
theorem dJ10_copyOf_2_27 : decode cJ10_copyOf_2 27 = .ok (.aload_n 3, 1) := dk_45 (dk_at dksJ10_copyOf_2_1 3 rfl rfl)
theorem dJ10_copyOf_2_28 : decode cJ10_copyOf_2 28 = .ok (.iconst 0, 1) := dk_3 (dk_at dksJ10_copyOf_2_1 4 rfl rfl)
theorem dJ10_copyOf_2_29 : decode cJ10_copyOf_2 29 = .ok (.aload_n 0, 1) := dk_42 (dk_at dksJ10_copyOf_2_1 5 rfl rfl)
theorem dJ10_copyOf_2_30 : decode cJ10_copyOf_2 30 = .ok (.arraylength, 1) := dk_190 (dk_at dksJ10_copyOf_2_1 6 rfl rfl)
theorem dJ10_copyOf_2_31 : decode cJ10_copyOf_2 31 = .ok (.iload_n 1, 1) := dk_27 (dk_at dksJ10_copyOf_2_1 7 rfl rfl)
theorem dJ10_copyOf_2_32 : decode cJ10_copyOf_2 32 = .ok (.invokestatic 304, 3) := dk_184 1 48 (dk_at dksJ10_copyOf_2_1 8 rfl rfl)
theorem dJ10_copyOf_2_35 : decode cJ10_copyOf_2 35 = .ok (.invokestatic 150, 3) := dk_184 0 150 (dk_at dksJ10_copyOf_2_1 11 rfl rfl)
theorem dJ10_copyOf_2_38 : decode cJ10_copyOf_2 38 = .ok (.aload_n 3, 1) := dk_45 (dk_at dksJ10_copyOf_2_1 14 rfl rfl)
theorem dJ10_copyOf_2_39 : decode cJ10_copyOf_2 39 = .ok (.areturn, 1) := dk_176 (dk_at dksJ10_copyOf_2_1 15 rfl rfl)
theorem q110 : (Jvm.Cond.initialized "java/util/Arrays") ∈ lw_all := lw_g (lw_at lw_m1 16 rfl) rfl
theorem q313 : (Jvm.Cond.static ({ cls := "java/util/Arrays", name := "copyOf", desc := "([Ljava/lang/Object;I)[Ljava/lang/Object;" } : Jvm.MethodName)) ∈ lw_all := lw_g (lw_at lw_m1 219 rfl) rfl
theorem q314 : (Jvm.Cond.code ({ cls := "java/util/Arrays", name := "copyOf", desc := "([Ljava/lang/Object;I)[Ljava/lang/Object;" } : Jvm.MethodName) prog_34_method_119_code (2 : Nat) (Option.some (Jvm.ClassFile.FieldType.array (Jvm.ClassFile.FieldType.object "java/lang/Object")))) ∈ lw_all := lw_g (lw_at lw_m1 220 rfl) rfl
theorem q315 : (Jvm.Cond.methodLink "java/util/Arrays" (86 : Nat) ({ cls := "java/lang/Object", name := "getClass", desc := "()Ljava/lang/Class;" } : Jvm.MethodName)) ∈ lw_all := lw_g (lw_at lw_m1 221 rfl) rfl
theorem q333 : (Jvm.Cond.methodLink "java/util/Arrays" (300 : Nat) ({ cls := "java/util/Arrays", name := "copyOf", desc := "([Ljava/lang/Object;ILjava/lang/Class;)[Ljava/lang/Object;" } : Jvm.MethodName)) ∈ lw_all := lw_g (lw_at lw_m1 239 rfl) rfl
theorem q334 : (Jvm.Cond.static ({ cls := "java/util/Arrays", name := "copyOf", desc := "([Ljava/lang/Object;ILjava/lang/Class;)[Ljava/lang/Object;" } : Jvm.MethodName)) ∈ lw_all := lw_g (lw_at lw_m2 0 rfl) rfl
theorem q335 : (Jvm.Cond.code ({ cls := "java/util/Arrays", name := "copyOf", desc := "([Ljava/lang/Object;ILjava/lang/Class;)[Ljava/lang/Object;" } : Jvm.MethodName) prog_34_method_120_code (4 : Nat) (Option.some (Jvm.ClassFile.FieldType.array (Jvm.ClassFile.FieldType.object "java/lang/Object")))) ∈ lw_all := lw_g (lw_at lw_m2 1 rfl) rfl
theorem q336 : (Jvm.Cond.classLink "java/util/Arrays" (110 : Nat) "[Ljava/lang/Object;") ∈ lw_all := lw_g (lw_at lw_m2 2 rfl) rfl
theorem q338 : (Jvm.Cond.classLink "java/util/Arrays" (2 : Nat) "java/lang/Object") ∈ lw_all := lw_g (lw_at lw_m2 4 rfl) rfl
theorem q339 : (Jvm.Cond.methodLink "java/util/Arrays" (304 : Nat) ({ cls := "java/lang/Math", name := "min", desc := "(II)I" } : Jvm.MethodName)) ∈ lw_all := lw_g (lw_at lw_m2 5 rfl) rfl
theorem q342 : (Jvm.Cond.methodLink "java/util/Arrays" (150 : Nat) ({ cls := "java/lang/System", name := "arraycopy", desc := "(Ljava/lang/Object;ILjava/lang/Object;II)V" } : Jvm.MethodName)) ∈ lw_all := lw_g (lw_at lw_m2 8 rfl) rfl
/-! java/util/Objects -/
set_option maxRecDepth 100000
def RJ11 : String := "java/util/Objects"
abbrev cJ11_checkIndex : ByteArray := prog_38_method_17_code
def yJ11_checkIndex : MethodName := ⟨RJ11, "checkIndex", "(II)I"⟩
def dkwJ11_checkIndex_0 : List UInt8 := [26, 27, 1, 184, 0, 105, 172]
abbrev dktJ11_checkIndex_0 : List UInt8 := dkwJ11_checkIndex_0 ++ []
theorem dksJ11_checkIndex_0 : cJ11_checkIndex.data.toList.drop 0 = dktJ11_checkIndex_0 := by decide +kernel
theorem dJ11_checkIndex_0 : decode cJ11_checkIndex 0 = .ok (.iload_n 0, 1) := dk_26 (dk_at dksJ11_checkIndex_0 0 rfl rfl)
theorem dJ11_checkIndex_1 : decode cJ11_checkIndex 1 = .ok (.iload_n 1, 1) := dk_27 (dk_at dksJ11_checkIndex_0 1 rfl rfl)
theorem dJ11_checkIndex_2 : decode cJ11_checkIndex 2 = .ok (.aconst_null, 1) := dk_1 (dk_at dksJ11_checkIndex_0 2 rfl rfl)
theorem dJ11_checkIndex_3 : decode cJ11_checkIndex 3 = .ok (.invokestatic 105, 3) := dk_184 0 105 (dk_at dksJ11_checkIndex_0 3 rfl rfl)
theorem dJ11_checkIndex_6 : decode cJ11_checkIndex 6 = .ok (.ireturn, 1) := dk_172 (dk_at dksJ11_checkIndex_0 6 rfl rfl)
theorem q112 : (Jvm.Cond.initialized "java/util/Objects") ∈ lw_all := lw_g (lw_at lw_m1 18 rfl) rfl
theorem q363 : (Jvm.Cond.static ({ cls := "java/util/Objects", name := "checkIndex", desc := "(II)I" } : Jvm.MethodName)) ∈ lw_all := lw_g (lw_at lw_m2 29 rfl) rfl
theorem q364 : (Jvm.Cond.code ({ cls := "java/util/Objects", name := "checkIndex", desc := "(II)I" } : Jvm.MethodName) prog_38_method_17_code (2 : Nat) (Option.some Jvm.ClassFile.FieldType.int)) ∈ lw_all := lw_g (lw_at lw_m2 30 rfl) rfl
theorem q365 : (Jvm.Cond.methodLink "java/util/Objects" (105 : Nat) ({ cls := "jdk/internal/util/Preconditions", name := "checkIndex", desc := "(IILjava/util/function/BiFunction;)I" } : Jvm.MethodName)) ∈ lw_all := lw_g (lw_at lw_m2 31 rfl) rfl
/-! java/lang/Throwable -/
set_option maxRecDepth 100000
def RJ12 : String := "java/lang/Throwable"
def TJ12 : u_T := fun k => match k with
  | 0 => ("java/lang/Throwable", "cause", "Ljava/lang/Throwable;", false)
  | 1 => ("java/lang/Throwable", "stackTrace", "[Ljava/lang/StackTraceElement;", false)
  | 2 => ("java/lang/Throwable", "suppressedExceptions", "Ljava/util/List;", false)
  | 3 => ("java/lang/Throwable", "detailMessage", "Ljava/lang/String;", false)
  | _ => ("java/lang/Throwable", "backtrace", "Ljava/lang/Object;", false)
def tyJ12 : Nat → FieldType := fun k => match k with
  | 0 => .object "java/lang/Throwable"
  | 1 => .array (.object "java/lang/StackTraceElement")
  | 2 => .object "java/util/List"
  | 3 => .object "java/lang/String"
  | _ => .object "java/lang/Object"
abbrev wsJ120 : List Cond := u_ws RJ12 TJ12 5
theorem nmJ12 : ∀ a, a < 5 → ∀ b, b < 5 → a ≠ b → (TJ12 a).2.1 ≠ (TJ12 b).2.1 := by decide +kernel
theorem tyJ12_ok : ∀ k, k < 5 → parseFieldDescriptor (TJ12 k).2.2.1 = some (tyJ12 k) := by decide +kernel
abbrev cJ12_init : ByteArray := prog_28_method_1_code
def yJ12_init : MethodName := ⟨RJ12, "<init>", "()V"⟩
def dkwJ12_init_1 : List UInt8 := [182, 0, 27, 87, 177]
abbrev dktJ12_init_1 : List UInt8 := dkwJ12_init_1 ++ []
def dkwJ12_init_0 : List UInt8 := [42, 183, 0, 1, 42, 42, 181, 0, 7, 42, 178, 0, 13, 181, 0, 17, 42, 178, 0, 20, 181, 0, 24, 42]
abbrev dktJ12_init_0 : List UInt8 := dkwJ12_init_0 ++ dktJ12_init_1
theorem dksJ12_init_0 : cJ12_init.data.toList.drop 0 = dktJ12_init_0 := by decide +kernel
theorem dksJ12_init_1 : cJ12_init.data.toList.drop 24 = dktJ12_init_1 := dk_seg dksJ12_init_0 24 rfl rfl
theorem dJ12_init_0 : decode cJ12_init 0 = .ok (.aload_n 0, 1) := dk_42 (dk_at dksJ12_init_0 0 rfl rfl)
theorem dJ12_init_1 : decode cJ12_init 1 = .ok (.invokespecial 1, 3) := dk_183 0 1 (dk_at dksJ12_init_0 1 rfl rfl)
theorem dJ12_init_4 : decode cJ12_init 4 = .ok (.aload_n 0, 1) := dk_42 (dk_at dksJ12_init_0 4 rfl rfl)
theorem dJ12_init_5 : decode cJ12_init 5 = .ok (.aload_n 0, 1) := dk_42 (dk_at dksJ12_init_0 5 rfl rfl)
theorem dJ12_init_6 : decode cJ12_init 6 = .ok (.putfield 7, 3) := dk_181 0 7 (dk_at dksJ12_init_0 6 rfl rfl)
theorem dJ12_init_9 : decode cJ12_init 9 = .ok (.aload_n 0, 1) := dk_42 (dk_at dksJ12_init_0 9 rfl rfl)
theorem dJ12_init_10 : decode cJ12_init 10 = .ok (.getstatic 13, 3) := dk_178 0 13 (dk_at dksJ12_init_0 10 rfl rfl)
theorem dJ12_init_13 : decode cJ12_init 13 = .ok (.putfield 17, 3) := dk_181 0 17 (dk_at dksJ12_init_0 13 rfl rfl)
theorem dJ12_init_16 : decode cJ12_init 16 = .ok (.aload_n 0, 1) := dk_42 (dk_at dksJ12_init_0 16 rfl rfl)
theorem dJ12_init_17 : decode cJ12_init 17 = .ok (.getstatic 20, 3) := dk_178 0 20 (dk_at dksJ12_init_0 17 rfl rfl)
theorem dJ12_init_20 : decode cJ12_init 20 = .ok (.putfield 24, 3) := dk_181 0 24 (dk_at dksJ12_init_0 20 rfl rfl)
theorem dJ12_init_23 : decode cJ12_init 23 = .ok (.aload_n 0, 1) := dk_42 (dk_at dksJ12_init_0 23 rfl rfl)
theorem dJ12_init_24 : decode cJ12_init 24 = .ok (.invokevirtual 27, 3) := dk_182 0 27 (dk_at dksJ12_init_1 0 rfl rfl)
theorem dJ12_init_27 : decode cJ12_init 27 = .ok (.pop, 1) := dk_87 (dk_at dksJ12_init_1 3 rfl rfl)
theorem dJ12_init_28 : decode cJ12_init 28 = .ok (.return_, 1) := dk_177 (dk_at dksJ12_init_1 4 rfl rfl)
abbrev cJ12_init_2 : ByteArray := prog_28_method_2_code
def yJ12_init_2 : MethodName := ⟨RJ12, "<init>", "(Ljava/lang/String;)V"⟩
def dkwJ12_init_2_1 : List UInt8 := [182, 0, 27, 87, 42, 43, 181, 0, 31, 177]
abbrev dktJ12_init_2_1 : List UInt8 := dkwJ12_init_2_1 ++ []
def dkwJ12_init_2_0 : List UInt8 := [42, 183, 0, 1, 42, 42, 181, 0, 7, 42, 178, 0, 13, 181, 0, 17, 42, 178, 0, 20, 181, 0, 24, 42]
abbrev dktJ12_init_2_0 : List UInt8 := dkwJ12_init_2_0 ++ dktJ12_init_2_1
theorem dksJ12_init_2_0 : cJ12_init_2.data.toList.drop 0 = dktJ12_init_2_0 := by decide +kernel
theorem dksJ12_init_2_1 : cJ12_init_2.data.toList.drop 24 = dktJ12_init_2_1 := dk_seg dksJ12_init_2_0 24 rfl rfl
theorem dJ12_init_2_0 : decode cJ12_init_2 0 = .ok (.aload_n 0, 1) := dk_42 (dk_at dksJ12_init_2_0 0 rfl rfl)
theorem dJ12_init_2_1 : decode cJ12_init_2 1 = .ok (.invokespecial 1, 3) := dk_183 0 1 (dk_at dksJ12_init_2_0 1 rfl rfl)
theorem dJ12_init_2_4 : decode cJ12_init_2 4 = .ok (.aload_n 0, 1) := dk_42 (dk_at dksJ12_init_2_0 4 rfl rfl)
theorem dJ12_init_2_5 : decode cJ12_init_2 5 = .ok (.aload_n 0, 1) := dk_42 (dk_at dksJ12_init_2_0 5 rfl rfl)
theorem dJ12_init_2_6 : decode cJ12_init_2 6 = .ok (.putfield 7, 3) := dk_181 0 7 (dk_at dksJ12_init_2_0 6 rfl rfl)
theorem dJ12_init_2_9 : decode cJ12_init_2 9 = .ok (.aload_n 0, 1) := dk_42 (dk_at dksJ12_init_2_0 9 rfl rfl)
theorem dJ12_init_2_10 : decode cJ12_init_2 10 = .ok (.getstatic 13, 3) := dk_178 0 13 (dk_at dksJ12_init_2_0 10 rfl rfl)
theorem dJ12_init_2_13 : decode cJ12_init_2 13 = .ok (.putfield 17, 3) := dk_181 0 17 (dk_at dksJ12_init_2_0 13 rfl rfl)
theorem dJ12_init_2_16 : decode cJ12_init_2 16 = .ok (.aload_n 0, 1) := dk_42 (dk_at dksJ12_init_2_0 16 rfl rfl)
theorem dJ12_init_2_17 : decode cJ12_init_2 17 = .ok (.getstatic 20, 3) := dk_178 0 20 (dk_at dksJ12_init_2_0 17 rfl rfl)
theorem dJ12_init_2_20 : decode cJ12_init_2 20 = .ok (.putfield 24, 3) := dk_181 0 24 (dk_at dksJ12_init_2_0 20 rfl rfl)
theorem dJ12_init_2_23 : decode cJ12_init_2 23 = .ok (.aload_n 0, 1) := dk_42 (dk_at dksJ12_init_2_0 23 rfl rfl)
theorem dJ12_init_2_24 : decode cJ12_init_2 24 = .ok (.invokevirtual 27, 3) := dk_182 0 27 (dk_at dksJ12_init_2_1 0 rfl rfl)
theorem dJ12_init_2_27 : decode cJ12_init_2 27 = .ok (.pop, 1) := dk_87 (dk_at dksJ12_init_2_1 3 rfl rfl)
theorem dJ12_init_2_28 : decode cJ12_init_2 28 = .ok (.aload_n 0, 1) := dk_42 (dk_at dksJ12_init_2_1 4 rfl rfl)
theorem dJ12_init_2_29 : decode cJ12_init_2 29 = .ok (.aload_n 1, 1) := dk_43 (dk_at dksJ12_init_2_1 5 rfl rfl)
theorem dJ12_init_2_30 : decode cJ12_init_2 30 = .ok (.putfield 31, 3) := dk_181 0 31 (dk_at dksJ12_init_2_1 6 rfl rfl)
theorem dJ12_init_2_33 : decode cJ12_init_2 33 = .ok (.return_, 1) := dk_177 (dk_at dksJ12_init_2_1 9 rfl rfl)
theorem q114 : (Jvm.Cond.initialized "java/lang/Throwable") ∈ lw_all := lw_g (lw_at lw_m1 20 rfl) rfl
theorem q490 : (Jvm.Cond.declares ({ cls := "java/lang/Throwable", name := "<init>", desc := "()V" } : Jvm.MethodName)) ∈ lw_tbl := lw_at lw_m2 156 rfl
theorem q491 : (Jvm.Cond.declares ({ cls := "java/lang/Throwable", name := "<init>", desc := "(Ljava/lang/String;)V" } : Jvm.MethodName)) ∈ lw_tbl := lw_at lw_m2 157 rfl
theorem q495 : (Jvm.Cond.lays "java/lang/Throwable" "java/lang/Throwable" "cause" "Ljava/lang/Throwable;") ∈ lw_all := lw_g (lw_at lw_m2 161 rfl) rfl
theorem q497 : (Jvm.Cond.lays "java/lang/Throwable" "java/lang/Throwable" "stackTrace" "[Ljava/lang/StackTraceElement;") ∈ lw_all := lw_g (lw_at lw_m2 163 rfl) rfl
theorem q499 : (Jvm.Cond.lays "java/lang/Throwable" "java/lang/Throwable" "suppressedExceptions" "Ljava/util/List;") ∈ lw_all := lw_g (lw_at lw_m2 165 rfl) rfl
theorem q501 : (Jvm.Cond.lays "java/lang/Throwable" "java/lang/Throwable" "detailMessage" "Ljava/lang/String;") ∈ lw_all := lw_g (lw_at lw_m2 167 rfl) rfl
theorem q503 : (Jvm.Cond.lays "java/lang/Throwable" "java/lang/Throwable" "backtrace" "Ljava/lang/Object;") ∈ lw_all := lw_g (lw_at lw_m2 169 rfl) rfl
theorem q504 : (Jvm.Cond.fieldLink "java/lang/Throwable" (198 : Nat) "java/lang/Throwable" "backtrace" "Ljava/lang/Object;") ∈ lw_all := lw_g (lw_at lw_m2 170 rfl) rfl
theorem q505 : (Jvm.Cond.superclass "java/lang/Throwable" "java/lang/Object") ∈ lw_all := lw_g (lw_at lw_m2 171 rfl) rfl
theorem q506 : (Jvm.Cond.instanceMethod ({ cls := "java/lang/Throwable", name := "<init>", desc := "()V" } : Jvm.MethodName)) ∈ lw_all := lw_g (lw_at lw_m2 172 rfl) rfl
theorem q507 : (Jvm.Cond.code ({ cls := "java/lang/Throwable", name := "<init>", desc := "()V" } : Jvm.MethodName) prog_28_method_1_code (1 : Nat) (Option.none : Option Jvm.ClassFile.FieldType)) ∈ lw_all := lw_g (lw_at lw_m2 173 rfl) rfl
theorem q508 : (Jvm.Cond.methodLink "java/lang/Throwable" (1 : Nat) ({ cls := "java/lang/Object", name := "<init>", desc := "()V" } : Jvm.MethodName)) ∈ lw_all := lw_g (lw_at lw_m2 174 rfl) rfl
theorem q509 : (Jvm.Cond.fieldLink "java/lang/Throwable" (13 : Nat) "java/lang/Throwable" "UNASSIGNED_STACK" "[Ljava/lang/StackTraceElement;") ∈ lw_all := lw_g (lw_at lw_m2 175 rfl) rfl
theorem q510 : (Jvm.Cond.laysStatic "java/lang/Throwable" "UNASSIGNED_STACK" "[Ljava/lang/StackTraceElement;") ∈ lw_tbl := lw_at lw_m2 176 rfl
theorem q511 : (Jvm.Cond.fieldLink "java/lang/Throwable" (20 : Nat) "java/lang/Throwable" "SUPPRESSED_SENTINEL" "Ljava/util/List;") ∈ lw_all := lw_g (lw_at lw_m2 177 rfl) rfl
theorem q512 : (Jvm.Cond.laysStatic "java/lang/Throwable" "SUPPRESSED_SENTINEL" "Ljava/util/List;") ∈ lw_tbl := lw_at lw_m2 178 rfl
theorem q513 : (Jvm.Cond.methodLink "java/lang/Throwable" (27 : Nat) ({ cls := "java/lang/Throwable", name := "fillInStackTrace", desc := "()Ljava/lang/Throwable;" } : Jvm.MethodName)) ∈ lw_all := lw_g (lw_at lw_m2 179 rfl) rfl
theorem q514 : (Jvm.Cond.instanceMethod ({ cls := "java/lang/Throwable", name := "fillInStackTrace", desc := "()Ljava/lang/Throwable;" } : Jvm.MethodName)) ∈ lw_all := lw_g (lw_at lw_m2 180 rfl) rfl
theorem q515 : (Jvm.Cond.sameMethod "java/lang/Throwable" "java/lang/Throwable" "fillInStackTrace" "()Ljava/lang/Throwable;") ∈ lw_all := lw_g (lw_at lw_m2 181 rfl) rfl
theorem q520 : (Jvm.Cond.codeSync ({ cls := "java/lang/Throwable", name := "fillInStackTrace", desc := "()Ljava/lang/Throwable;" } : Jvm.MethodName) prog_28_method_18_code (1 : Nat) (Option.some (Jvm.ClassFile.FieldType.object "java/lang/Throwable"))) ∈ lw_all := lw_g (lw_at lw_m2 186 rfl) rfl
theorem q521 : (Jvm.Cond.methodLink "java/lang/Throwable" (202 : Nat) ({ cls := "java/lang/Throwable", name := "fillInStackTrace", desc := "(I)Ljava/lang/Throwable;" } : Jvm.MethodName)) ∈ lw_all := lw_g (lw_at lw_m2 187 rfl) rfl
theorem q522 : (Jvm.Cond.privateMethod ({ cls := "java/lang/Throwable", name := "fillInStackTrace", desc := "(I)Ljava/lang/Throwable;" } : Jvm.MethodName)) ∈ lw_tbl := lw_at lw_m2 188 rfl
theorem q523 : (Jvm.Cond.instanceMethod ({ cls := "java/lang/Throwable", name := "fillInStackTrace", desc := "(I)Ljava/lang/Throwable;" } : Jvm.MethodName)) ∈ lw_all := lw_g (lw_at lw_m2 189 rfl) rfl
theorem q524 : (Jvm.Cond.instantiable "java/lang/Throwable" (6 : Nat)) ∈ lw_all := lw_g (lw_at lw_m2 190 rfl) rfl
theorem q525 : (Jvm.Cond.native ({ cls := "java/lang/Throwable", name := "fillInStackTrace", desc := "(I)Ljava/lang/Throwable;" } : Jvm.MethodName)) ∈ lw_all := lw_g (lw_at lw_m2 191 rfl) rfl
theorem q536 : (Jvm.Cond.fieldLink "java/lang/Throwable" (198 : Nat) "java/lang/Throwable" "backtrace" "Ljava/lang/Object;") ∈ lw_all := lw_g (lw_at lw_m2 202 rfl) rfl
theorem q537 : (Jvm.Cond.fieldLink "java/lang/Throwable" (31 : Nat) "java/lang/Throwable" "detailMessage" "Ljava/lang/String;") ∈ lw_all := lw_g (lw_at lw_m2 203 rfl) rfl
theorem q538 : (Jvm.Cond.fieldLink "java/lang/Throwable" (7 : Nat) "java/lang/Throwable" "cause" "Ljava/lang/Throwable;") ∈ lw_all := lw_g (lw_at lw_m2 204 rfl) rfl
theorem q539 : (Jvm.Cond.fieldLink "java/lang/Throwable" (17 : Nat) "java/lang/Throwable" "stackTrace" "[Ljava/lang/StackTraceElement;") ∈ lw_all := lw_g (lw_at lw_m2 205 rfl) rfl
theorem q540 : (Jvm.Cond.fieldLink "java/lang/Throwable" (24 : Nat) "java/lang/Throwable" "suppressedExceptions" "Ljava/util/List;") ∈ lw_all := lw_g (lw_at lw_m2 206 rfl) rfl
theorem q541 : (Jvm.Cond.soleField "java/lang/Throwable" "backtrace") ∈ lw_all := lw_g (lw_at lw_m2 207 rfl) rfl
theorem q542 : (Jvm.Cond.soleField "java/lang/Throwable" "detailMessage") ∈ lw_all := lw_g (lw_at lw_m2 208 rfl) rfl
theorem q543 : (Jvm.Cond.soleField "java/lang/Throwable" "cause") ∈ lw_all := lw_g (lw_at lw_m2 209 rfl) rfl
theorem q544 : (Jvm.Cond.soleField "java/lang/Throwable" "stackTrace") ∈ lw_all := lw_g (lw_at lw_m2 210 rfl) rfl
theorem q546 : (Jvm.Cond.soleField "java/lang/Throwable" "depth") ∈ lw_all := lw_g (lw_at lw_m2 212 rfl) rfl
theorem q547 : (Jvm.Cond.soleField "java/lang/Throwable" "suppressedExceptions") ∈ lw_all := lw_g (lw_at lw_m2 213 rfl) rfl
theorem q949 : (Jvm.Cond.instanceMethod ({ cls := "java/lang/Throwable", name := "<init>", desc := "(Ljava/lang/String;)V" } : Jvm.MethodName)) ∈ lw_all := lw_g (lw_at lw_m4 135 rfl) rfl
theorem q950 : (Jvm.Cond.code ({ cls := "java/lang/Throwable", name := "<init>", desc := "(Ljava/lang/String;)V" } : Jvm.MethodName) prog_28_method_2_code (2 : Nat) (Option.none : Option Jvm.ClassFile.FieldType)) ∈ lw_all := lw_g (lw_at lw_m4 136 rfl) rfl
theorem q1471 : (Jvm.Cond.sameMethod "java/lang/Throwable" "java/lang/Throwable" "fillInStackTrace" "(I)Ljava/lang/Throwable;") ∈ lw_all := lw_g (lw_at lw_m6 177 rfl) rfl
theorem q1488 : (Jvm.Cond.castable "java/lang/Throwable" "java/lang/Object") ∈ lw_tbl := lw_at lw_m6 194 rfl
theorem in_J12 : ∀ w ∈ wsJ120, w ∈ lw_all := lw_in wsJ120 [495, 497, 499, 501, 503] (by decide +kernel) (by decide +kernel)
/-! java/lang/Exception -/
set_option maxRecDepth 100000
def RJ13 : String := "java/lang/Exception"
abbrev cJ13_init : ByteArray := prog_17_method_1_code
def yJ13_init : MethodName := ⟨RJ13, "<init>", "()V"⟩
theorem dJ13_init_0 : decode cJ13_init 0 = .ok (.aload_n 0, 1) := by decide +kernel
theorem dJ13_init_1 : decode cJ13_init 1 = .ok (.invokespecial 1, 3) := by decide +kernel
theorem dJ13_init_4 : decode cJ13_init 4 = .ok (.return_, 1) := by decide +kernel
abbrev cJ13_init_2 : ByteArray := prog_17_method_2_code
def yJ13_init_2 : MethodName := ⟨RJ13, "<init>", "(Ljava/lang/String;)V"⟩
def dkwJ13_init_2_0 : List UInt8 := [42, 43, 183, 0, 7, 177]
abbrev dktJ13_init_2_0 : List UInt8 := dkwJ13_init_2_0 ++ []
theorem dksJ13_init_2_0 : cJ13_init_2.data.toList.drop 0 = dktJ13_init_2_0 := by decide +kernel
theorem dJ13_init_2_0 : decode cJ13_init_2 0 = .ok (.aload_n 0, 1) := dk_42 (dk_at dksJ13_init_2_0 0 rfl rfl)
theorem dJ13_init_2_1 : decode cJ13_init_2 1 = .ok (.aload_n 1, 1) := dk_43 (dk_at dksJ13_init_2_0 1 rfl rfl)
theorem dJ13_init_2_2 : decode cJ13_init_2 2 = .ok (.invokespecial 7, 3) := dk_183 0 7 (dk_at dksJ13_init_2_0 2 rfl rfl)
theorem dJ13_init_2_5 : decode cJ13_init_2 5 = .ok (.return_, 1) := dk_177 (dk_at dksJ13_init_2_0 5 rfl rfl)
theorem q115 : (Jvm.Cond.initialized "java/lang/Exception") ∈ lw_all := lw_g (lw_at lw_m1 21 rfl) rfl
theorem q488 : (Jvm.Cond.declares ({ cls := "java/lang/Exception", name := "<init>", desc := "()V" } : Jvm.MethodName)) ∈ lw_tbl := lw_at lw_m2 154 rfl
theorem q489 : (Jvm.Cond.declares ({ cls := "java/lang/Exception", name := "<init>", desc := "(Ljava/lang/String;)V" } : Jvm.MethodName)) ∈ lw_tbl := lw_at lw_m2 155 rfl
theorem q533 : (Jvm.Cond.instanceMethod ({ cls := "java/lang/Exception", name := "<init>", desc := "()V" } : Jvm.MethodName)) ∈ lw_all := lw_g (lw_at lw_m2 199 rfl) rfl
theorem q534 : (Jvm.Cond.code ({ cls := "java/lang/Exception", name := "<init>", desc := "()V" } : Jvm.MethodName) prog_17_method_1_code (1 : Nat) (Option.none : Option Jvm.ClassFile.FieldType)) ∈ lw_all := lw_g (lw_at lw_m2 200 rfl) rfl
theorem q535 : (Jvm.Cond.methodLink "java/lang/Exception" (1 : Nat) ({ cls := "java/lang/Throwable", name := "<init>", desc := "()V" } : Jvm.MethodName)) ∈ lw_all := lw_g (lw_at lw_m2 201 rfl) rfl
theorem q946 : (Jvm.Cond.instanceMethod ({ cls := "java/lang/Exception", name := "<init>", desc := "(Ljava/lang/String;)V" } : Jvm.MethodName)) ∈ lw_all := lw_g (lw_at lw_m4 132 rfl) rfl
theorem q947 : (Jvm.Cond.code ({ cls := "java/lang/Exception", name := "<init>", desc := "(Ljava/lang/String;)V" } : Jvm.MethodName) prog_17_method_2_code (2 : Nat) (Option.none : Option Jvm.ClassFile.FieldType)) ∈ lw_all := lw_g (lw_at lw_m4 133 rfl) rfl
theorem q948 : (Jvm.Cond.methodLink "java/lang/Exception" (7 : Nat) ({ cls := "java/lang/Throwable", name := "<init>", desc := "(Ljava/lang/String;)V" } : Jvm.MethodName)) ∈ lw_all := lw_g (lw_at lw_m4 134 rfl) rfl
/-! java/lang/RuntimeException -/
set_option maxRecDepth 100000
def RJ14 : String := "java/lang/RuntimeException"
abbrev cJ14_init : ByteArray := prog_23_method_1_code
def yJ14_init : MethodName := ⟨RJ14, "<init>", "()V"⟩
theorem dJ14_init_0 : decode cJ14_init 0 = .ok (.aload_n 0, 1) := by decide +kernel
theorem dJ14_init_1 : decode cJ14_init 1 = .ok (.invokespecial 1, 3) := by decide +kernel
theorem dJ14_init_4 : decode cJ14_init 4 = .ok (.return_, 1) := by decide +kernel
abbrev cJ14_init_2 : ByteArray := prog_23_method_2_code
def yJ14_init_2 : MethodName := ⟨RJ14, "<init>", "(Ljava/lang/String;)V"⟩
def dkwJ14_init_2_0 : List UInt8 := [42, 43, 183, 0, 7, 177]
abbrev dktJ14_init_2_0 : List UInt8 := dkwJ14_init_2_0 ++ []
theorem dksJ14_init_2_0 : cJ14_init_2.data.toList.drop 0 = dktJ14_init_2_0 := by decide +kernel
theorem dJ14_init_2_0 : decode cJ14_init_2 0 = .ok (.aload_n 0, 1) := dk_42 (dk_at dksJ14_init_2_0 0 rfl rfl)
theorem dJ14_init_2_1 : decode cJ14_init_2 1 = .ok (.aload_n 1, 1) := dk_43 (dk_at dksJ14_init_2_0 1 rfl rfl)
theorem dJ14_init_2_2 : decode cJ14_init_2 2 = .ok (.invokespecial 7, 3) := dk_183 0 7 (dk_at dksJ14_init_2_0 2 rfl rfl)
theorem dJ14_init_2_5 : decode cJ14_init_2 5 = .ok (.return_, 1) := dk_177 (dk_at dksJ14_init_2_0 5 rfl rfl)
theorem q116 : (Jvm.Cond.initialized "java/lang/RuntimeException") ∈ lw_all := lw_g (lw_at lw_m1 22 rfl) rfl
theorem q486 : (Jvm.Cond.declares ({ cls := "java/lang/RuntimeException", name := "<init>", desc := "()V" } : Jvm.MethodName)) ∈ lw_tbl := lw_at lw_m2 152 rfl
theorem q487 : (Jvm.Cond.declares ({ cls := "java/lang/RuntimeException", name := "<init>", desc := "(Ljava/lang/String;)V" } : Jvm.MethodName)) ∈ lw_tbl := lw_at lw_m2 153 rfl
theorem q530 : (Jvm.Cond.instanceMethod ({ cls := "java/lang/RuntimeException", name := "<init>", desc := "()V" } : Jvm.MethodName)) ∈ lw_all := lw_g (lw_at lw_m2 196 rfl) rfl
theorem q531 : (Jvm.Cond.code ({ cls := "java/lang/RuntimeException", name := "<init>", desc := "()V" } : Jvm.MethodName) prog_23_method_1_code (1 : Nat) (Option.none : Option Jvm.ClassFile.FieldType)) ∈ lw_all := lw_g (lw_at lw_m2 197 rfl) rfl
theorem q532 : (Jvm.Cond.methodLink "java/lang/RuntimeException" (1 : Nat) ({ cls := "java/lang/Exception", name := "<init>", desc := "()V" } : Jvm.MethodName)) ∈ lw_all := lw_g (lw_at lw_m2 198 rfl) rfl
theorem q943 : (Jvm.Cond.instanceMethod ({ cls := "java/lang/RuntimeException", name := "<init>", desc := "(Ljava/lang/String;)V" } : Jvm.MethodName)) ∈ lw_all := lw_g (lw_at lw_m4 129 rfl) rfl
theorem q944 : (Jvm.Cond.code ({ cls := "java/lang/RuntimeException", name := "<init>", desc := "(Ljava/lang/String;)V" } : Jvm.MethodName) prog_23_method_2_code (2 : Nat) (Option.none : Option Jvm.ClassFile.FieldType)) ∈ lw_all := lw_g (lw_at lw_m4 130 rfl) rfl
theorem q945 : (Jvm.Cond.methodLink "java/lang/RuntimeException" (7 : Nat) ({ cls := "java/lang/Exception", name := "<init>", desc := "(Ljava/lang/String;)V" } : Jvm.MethodName)) ∈ lw_all := lw_g (lw_at lw_m4 131 rfl) rfl
/-! java/lang/IllegalArgumentException -/
set_option maxRecDepth 100000
def RJ15 : String := "java/lang/IllegalArgumentException"
def TJ15 : u_T := fun k => match k with
  | 0 => ("java/lang/Throwable", "cause", "Ljava/lang/Throwable;", false)
  | 1 => ("java/lang/Throwable", "stackTrace", "[Ljava/lang/StackTraceElement;", false)
  | 2 => ("java/lang/Throwable", "suppressedExceptions", "Ljava/util/List;", false)
  | 3 => ("java/lang/Throwable", "detailMessage", "Ljava/lang/String;", false)
  | 4 => ("java/lang/Throwable", "backtrace", "Ljava/lang/Object;", false)
  | _ => ("java/lang/Throwable", "depth", "I", false)
def tyJ15 : Nat → FieldType := fun k => match k with
  | 0 => .object "java/lang/Throwable"
  | 1 => .array (.object "java/lang/StackTraceElement")
  | 2 => .object "java/util/List"
  | 3 => .object "java/lang/String"
  | 4 => .object "java/lang/Object"
  | _ => .int
abbrev wsJ150 : List Cond := u_ws RJ15 TJ15 6
theorem nmJ15 : ∀ a, a < 6 → ∀ b, b < 6 → a ≠ b → (TJ15 a).2.1 ≠ (TJ15 b).2.1 := by decide +kernel
theorem tyJ15_ok : ∀ k, k < 6 → parseFieldDescriptor (TJ15 k).2.2.1 = some (tyJ15 k) := by decide +kernel
abbrev cJ15_init : ByteArray := prog_18_method_1_code
def yJ15_init : MethodName := ⟨RJ15, "<init>", "()V"⟩
theorem dJ15_init_0 : decode cJ15_init 0 = .ok (.aload_n 0, 1) := by decide +kernel
theorem dJ15_init_1 : decode cJ15_init 1 = .ok (.invokespecial 1, 3) := by decide +kernel
theorem dJ15_init_4 : decode cJ15_init 4 = .ok (.return_, 1) := by decide +kernel
theorem q117 : (Jvm.Cond.initialized "java/lang/IllegalArgumentException") ∈ lw_all := lw_g (lw_at lw_m1 23 rfl) rfl
theorem q327 : (Jvm.Cond.selects "java/lang/IllegalArgumentException" ({ cls := "java/lang/Object", name := "getClass", desc := "()Ljava/lang/Class;" } : Jvm.MethodName) ({ cls := "java/lang/Object", name := "getClass", desc := "()Ljava/lang/Class;" } : Jvm.MethodName)) ∈ lw_all := lw_g (lw_at lw_m1 233 rfl) rfl
theorem q484 : (Jvm.Cond.instantiable "java/lang/IllegalArgumentException" (6 : Nat)) ∈ lw_all := lw_g (lw_at lw_m2 150 rfl) rfl
theorem q485 : (Jvm.Cond.castable "java/lang/IllegalArgumentException" "java/lang/IllegalArgumentException") ∈ lw_tbl := lw_at lw_m2 151 rfl
theorem q492 : (Jvm.Cond.selects "java/lang/IllegalArgumentException" ({ cls := "java/lang/Throwable", name := "fillInStackTrace", desc := "(I)Ljava/lang/Throwable;" } : Jvm.MethodName) ({ cls := "java/lang/Throwable", name := "fillInStackTrace", desc := "(I)Ljava/lang/Throwable;" } : Jvm.MethodName)) ∈ lw_all := lw_g (lw_at lw_m2 158 rfl) rfl
theorem q493 : (Jvm.Cond.selects "java/lang/IllegalArgumentException" ({ cls := "java/lang/Throwable", name := "fillInStackTrace", desc := "()Ljava/lang/Throwable;" } : Jvm.MethodName) ({ cls := "java/lang/Throwable", name := "fillInStackTrace", desc := "()Ljava/lang/Throwable;" } : Jvm.MethodName)) ∈ lw_all := lw_g (lw_at lw_m2 159 rfl) rfl
theorem q494 : (Jvm.Cond.lays "java/lang/IllegalArgumentException" "java/lang/Throwable" "cause" "Ljava/lang/Throwable;") ∈ lw_all := lw_g (lw_at lw_m2 160 rfl) rfl
theorem q496 : (Jvm.Cond.lays "java/lang/IllegalArgumentException" "java/lang/Throwable" "stackTrace" "[Ljava/lang/StackTraceElement;") ∈ lw_all := lw_g (lw_at lw_m2 162 rfl) rfl
theorem q498 : (Jvm.Cond.lays "java/lang/IllegalArgumentException" "java/lang/Throwable" "suppressedExceptions" "Ljava/util/List;") ∈ lw_all := lw_g (lw_at lw_m2 164 rfl) rfl
theorem q500 : (Jvm.Cond.lays "java/lang/IllegalArgumentException" "java/lang/Throwable" "detailMessage" "Ljava/lang/String;") ∈ lw_all := lw_g (lw_at lw_m2 166 rfl) rfl
theorem q502 : (Jvm.Cond.lays "java/lang/IllegalArgumentException" "java/lang/Throwable" "backtrace" "Ljava/lang/Object;") ∈ lw_all := lw_g (lw_at lw_m2 168 rfl) rfl
theorem q527 : (Jvm.Cond.instanceMethod ({ cls := "java/lang/IllegalArgumentException", name := "<init>", desc := "()V" } : Jvm.MethodName)) ∈ lw_all := lw_g (lw_at lw_m2 193 rfl) rfl
theorem q528 : (Jvm.Cond.code ({ cls := "java/lang/IllegalArgumentException", name := "<init>", desc := "()V" } : Jvm.MethodName) prog_18_method_1_code (1 : Nat) (Option.none : Option Jvm.ClassFile.FieldType)) ∈ lw_all := lw_g (lw_at lw_m2 194 rfl) rfl
theorem q529 : (Jvm.Cond.methodLink "java/lang/IllegalArgumentException" (1 : Nat) ({ cls := "java/lang/RuntimeException", name := "<init>", desc := "()V" } : Jvm.MethodName)) ∈ lw_all := lw_g (lw_at lw_m2 195 rfl) rfl
theorem q545 : (Jvm.Cond.lays "java/lang/IllegalArgumentException" "java/lang/Throwable" "depth" "I") ∈ lw_all := lw_g (lw_at lw_m2 211 rfl) rfl
theorem q548 : (Jvm.Cond.superclass "java/lang/IllegalArgumentException" "java/lang/RuntimeException") ∈ lw_all := lw_g (lw_at lw_m2 214 rfl) rfl
theorem q1481 : (Jvm.Cond.castable "java/lang/IllegalArgumentException" "java/lang/Object") ∈ lw_tbl := lw_at lw_m6 187 rfl
theorem in_J15 : ∀ w ∈ wsJ150, w ∈ lw_all := lw_in wsJ150 [494, 496, 498, 500, 502, 545] (by decide +kernel) (by decide +kernel)
/-! java/lang/IllegalStateException -/
set_option maxRecDepth 100000
def RJ16 : String := "java/lang/IllegalStateException"
def TJ16 : u_T := fun k => match k with
  | 0 => ("java/lang/Throwable", "cause", "Ljava/lang/Throwable;", false)
  | 1 => ("java/lang/Throwable", "stackTrace", "[Ljava/lang/StackTraceElement;", false)
  | 2 => ("java/lang/Throwable", "suppressedExceptions", "Ljava/util/List;", false)
  | 3 => ("java/lang/Throwable", "detailMessage", "Ljava/lang/String;", false)
  | 4 => ("java/lang/Throwable", "backtrace", "Ljava/lang/Object;", false)
  | _ => ("java/lang/Throwable", "depth", "I", false)
def tyJ16 : Nat → FieldType := fun k => match k with
  | 0 => .object "java/lang/Throwable"
  | 1 => .array (.object "java/lang/StackTraceElement")
  | 2 => .object "java/util/List"
  | 3 => .object "java/lang/String"
  | 4 => .object "java/lang/Object"
  | _ => .int
abbrev wsJ160 : List Cond := u_ws RJ16 TJ16 6
theorem nmJ16 : ∀ a, a < 6 → ∀ b, b < 6 → a ≠ b → (TJ16 a).2.1 ≠ (TJ16 b).2.1 := by decide +kernel
theorem tyJ16_ok : ∀ k, k < 6 → parseFieldDescriptor (TJ16 k).2.2.1 = some (tyJ16 k) := by decide +kernel
abbrev cJ16_init : ByteArray := prog_19_method_1_code
def yJ16_init : MethodName := ⟨RJ16, "<init>", "()V"⟩
theorem dJ16_init_0 : decode cJ16_init 0 = .ok (.aload_n 0, 1) := by decide +kernel
theorem dJ16_init_1 : decode cJ16_init 1 = .ok (.invokespecial 1, 3) := by decide +kernel
theorem dJ16_init_4 : decode cJ16_init 4 = .ok (.return_, 1) := by decide +kernel
theorem q118 : (Jvm.Cond.initialized "java/lang/IllegalStateException") ∈ lw_all := lw_g (lw_at lw_m1 24 rfl) rfl
theorem q328 : (Jvm.Cond.selects "java/lang/IllegalStateException" ({ cls := "java/lang/Object", name := "getClass", desc := "()Ljava/lang/Class;" } : Jvm.MethodName) ({ cls := "java/lang/Object", name := "getClass", desc := "()Ljava/lang/Class;" } : Jvm.MethodName)) ∈ lw_all := lw_g (lw_at lw_m1 234 rfl) rfl
theorem q517 : (Jvm.Cond.selects "java/lang/IllegalStateException" ({ cls := "java/lang/Throwable", name := "fillInStackTrace", desc := "()Ljava/lang/Throwable;" } : Jvm.MethodName) ({ cls := "java/lang/Throwable", name := "fillInStackTrace", desc := "()Ljava/lang/Throwable;" } : Jvm.MethodName)) ∈ lw_all := lw_g (lw_at lw_m2 183 rfl) rfl
theorem q550 : (Jvm.Cond.instantiable "java/lang/IllegalStateException" (6 : Nat)) ∈ lw_all := lw_g (lw_at lw_m2 216 rfl) rfl
theorem q551 : (Jvm.Cond.castable "java/lang/IllegalStateException" "java/lang/IllegalStateException") ∈ lw_tbl := lw_at lw_m2 217 rfl
theorem q552 : (Jvm.Cond.selects "java/lang/IllegalStateException" ({ cls := "java/lang/Throwable", name := "fillInStackTrace", desc := "(I)Ljava/lang/Throwable;" } : Jvm.MethodName) ({ cls := "java/lang/Throwable", name := "fillInStackTrace", desc := "(I)Ljava/lang/Throwable;" } : Jvm.MethodName)) ∈ lw_all := lw_g (lw_at lw_m2 218 rfl) rfl
theorem q553 : (Jvm.Cond.lays "java/lang/IllegalStateException" "java/lang/Throwable" "cause" "Ljava/lang/Throwable;") ∈ lw_all := lw_g (lw_at lw_m2 219 rfl) rfl
theorem q554 : (Jvm.Cond.lays "java/lang/IllegalStateException" "java/lang/Throwable" "stackTrace" "[Ljava/lang/StackTraceElement;") ∈ lw_all := lw_g (lw_at lw_m2 220 rfl) rfl
theorem q555 : (Jvm.Cond.lays "java/lang/IllegalStateException" "java/lang/Throwable" "suppressedExceptions" "Ljava/util/List;") ∈ lw_all := lw_g (lw_at lw_m2 221 rfl) rfl
theorem q556 : (Jvm.Cond.lays "java/lang/IllegalStateException" "java/lang/Throwable" "detailMessage" "Ljava/lang/String;") ∈ lw_all := lw_g (lw_at lw_m2 222 rfl) rfl
theorem q557 : (Jvm.Cond.lays "java/lang/IllegalStateException" "java/lang/Throwable" "backtrace" "Ljava/lang/Object;") ∈ lw_all := lw_g (lw_at lw_m2 223 rfl) rfl
theorem q559 : (Jvm.Cond.instanceMethod ({ cls := "java/lang/IllegalStateException", name := "<init>", desc := "()V" } : Jvm.MethodName)) ∈ lw_all := lw_g (lw_at lw_m2 225 rfl) rfl
theorem q560 : (Jvm.Cond.code ({ cls := "java/lang/IllegalStateException", name := "<init>", desc := "()V" } : Jvm.MethodName) prog_19_method_1_code (1 : Nat) (Option.none : Option Jvm.ClassFile.FieldType)) ∈ lw_all := lw_g (lw_at lw_m2 226 rfl) rfl
theorem q561 : (Jvm.Cond.methodLink "java/lang/IllegalStateException" (1 : Nat) ({ cls := "java/lang/RuntimeException", name := "<init>", desc := "()V" } : Jvm.MethodName)) ∈ lw_all := lw_g (lw_at lw_m2 227 rfl) rfl
theorem q562 : (Jvm.Cond.lays "java/lang/IllegalStateException" "java/lang/Throwable" "depth" "I") ∈ lw_all := lw_g (lw_at lw_m2 228 rfl) rfl
theorem q563 : (Jvm.Cond.superclass "java/lang/IllegalStateException" "java/lang/RuntimeException") ∈ lw_all := lw_g (lw_at lw_m2 229 rfl) rfl
theorem q1482 : (Jvm.Cond.castable "java/lang/IllegalStateException" "java/lang/Object") ∈ lw_tbl := lw_at lw_m6 188 rfl
theorem in_J16 : ∀ w ∈ wsJ160, w ∈ lw_all := lw_in wsJ160 [553, 554, 555, 556, 557, 562] (by decide +kernel) (by decide +kernel)
/-! java/lang/IndexOutOfBoundsException -/
set_option maxRecDepth 100000
def RJ17 : String := "java/lang/IndexOutOfBoundsException"
def TJ17 : u_T := fun k => match k with
  | 0 => ("java/lang/Throwable", "cause", "Ljava/lang/Throwable;", false)
  | 1 => ("java/lang/Throwable", "stackTrace", "[Ljava/lang/StackTraceElement;", false)
  | 2 => ("java/lang/Throwable", "suppressedExceptions", "Ljava/util/List;", false)
  | 3 => ("java/lang/Throwable", "detailMessage", "Ljava/lang/String;", false)
  | 4 => ("java/lang/Throwable", "backtrace", "Ljava/lang/Object;", false)
  | _ => ("java/lang/Throwable", "depth", "I", false)
def tyJ17 : Nat → FieldType := fun k => match k with
  | 0 => .object "java/lang/Throwable"
  | 1 => .array (.object "java/lang/StackTraceElement")
  | 2 => .object "java/util/List"
  | 3 => .object "java/lang/String"
  | 4 => .object "java/lang/Object"
  | _ => .int
abbrev wsJ170 : List Cond := u_ws RJ17 TJ17 6
theorem nmJ17 : ∀ a, a < 6 → ∀ b, b < 6 → a ≠ b → (TJ17 a).2.1 ≠ (TJ17 b).2.1 := by decide +kernel
theorem tyJ17_ok : ∀ k, k < 6 → parseFieldDescriptor (TJ17 k).2.2.1 = some (tyJ17 k) := by decide +kernel
abbrev cJ17_init : ByteArray := prog_20_method_2_code
def yJ17_init : MethodName := ⟨RJ17, "<init>", "(Ljava/lang/String;)V"⟩
def dkwJ17_init_0 : List UInt8 := [42, 43, 183, 0, 7, 177]
abbrev dktJ17_init_0 : List UInt8 := dkwJ17_init_0 ++ []
theorem dksJ17_init_0 : cJ17_init.data.toList.drop 0 = dktJ17_init_0 := by decide +kernel
theorem dJ17_init_0 : decode cJ17_init 0 = .ok (.aload_n 0, 1) := dk_42 (dk_at dksJ17_init_0 0 rfl rfl)
theorem dJ17_init_1 : decode cJ17_init 1 = .ok (.aload_n 1, 1) := dk_43 (dk_at dksJ17_init_0 1 rfl rfl)
theorem dJ17_init_2 : decode cJ17_init 2 = .ok (.invokespecial 7, 3) := dk_183 0 7 (dk_at dksJ17_init_0 2 rfl rfl)
theorem dJ17_init_5 : decode cJ17_init 5 = .ok (.return_, 1) := dk_177 (dk_at dksJ17_init_0 5 rfl rfl)
abbrev cJ17_init_2 : ByteArray := prog_20_method_1_code
def yJ17_init_2 : MethodName := ⟨RJ17, "<init>", "()V"⟩
theorem dJ17_init_2_0 : decode cJ17_init_2 0 = .ok (.aload_n 0, 1) := by decide +kernel
theorem dJ17_init_2_1 : decode cJ17_init_2 1 = .ok (.invokespecial 1, 3) := by decide +kernel
theorem dJ17_init_2_4 : decode cJ17_init_2 4 = .ok (.return_, 1) := by decide +kernel
theorem q121 : (Jvm.Cond.initialized "java/lang/IndexOutOfBoundsException") ∈ lw_all := lw_g (lw_at lw_m1 27 rfl) rfl
theorem q329 : (Jvm.Cond.selects "java/lang/IndexOutOfBoundsException" ({ cls := "java/lang/Object", name := "getClass", desc := "()Ljava/lang/Class;" } : Jvm.MethodName) ({ cls := "java/lang/Object", name := "getClass", desc := "()Ljava/lang/Class;" } : Jvm.MethodName)) ∈ lw_all := lw_g (lw_at lw_m1 235 rfl) rfl
theorem q518 : (Jvm.Cond.selects "java/lang/IndexOutOfBoundsException" ({ cls := "java/lang/Throwable", name := "fillInStackTrace", desc := "()Ljava/lang/Throwable;" } : Jvm.MethodName) ({ cls := "java/lang/Throwable", name := "fillInStackTrace", desc := "()Ljava/lang/Throwable;" } : Jvm.MethodName)) ∈ lw_all := lw_g (lw_at lw_m2 184 rfl) rfl
theorem q940 : (Jvm.Cond.instanceMethod ({ cls := "java/lang/IndexOutOfBoundsException", name := "<init>", desc := "(Ljava/lang/String;)V" } : Jvm.MethodName)) ∈ lw_all := lw_g (lw_at lw_m4 126 rfl) rfl
theorem q941 : (Jvm.Cond.code ({ cls := "java/lang/IndexOutOfBoundsException", name := "<init>", desc := "(Ljava/lang/String;)V" } : Jvm.MethodName) prog_20_method_2_code (2 : Nat) (Option.none : Option Jvm.ClassFile.FieldType)) ∈ lw_all := lw_g (lw_at lw_m4 127 rfl) rfl
theorem q942 : (Jvm.Cond.methodLink "java/lang/IndexOutOfBoundsException" (7 : Nat) ({ cls := "java/lang/RuntimeException", name := "<init>", desc := "(Ljava/lang/String;)V" } : Jvm.MethodName)) ∈ lw_all := lw_g (lw_at lw_m4 128 rfl) rfl
theorem q959 : (Jvm.Cond.declares ({ cls := "java/lang/IndexOutOfBoundsException", name := "<init>", desc := "()V" } : Jvm.MethodName)) ∈ lw_tbl := lw_at lw_m4 145 rfl
theorem q960 : (Jvm.Cond.declares ({ cls := "java/lang/IndexOutOfBoundsException", name := "<init>", desc := "(Ljava/lang/String;)V" } : Jvm.MethodName)) ∈ lw_tbl := lw_at lw_m4 146 rfl
theorem q975 : (Jvm.Cond.instantiable "java/lang/IndexOutOfBoundsException" (6 : Nat)) ∈ lw_all := lw_g (lw_at lw_m4 161 rfl) rfl
theorem q976 : (Jvm.Cond.castable "java/lang/IndexOutOfBoundsException" "java/lang/IndexOutOfBoundsException") ∈ lw_tbl := lw_at lw_m4 162 rfl
theorem q977 : (Jvm.Cond.selects "java/lang/IndexOutOfBoundsException" ({ cls := "java/lang/Throwable", name := "fillInStackTrace", desc := "(I)Ljava/lang/Throwable;" } : Jvm.MethodName) ({ cls := "java/lang/Throwable", name := "fillInStackTrace", desc := "(I)Ljava/lang/Throwable;" } : Jvm.MethodName)) ∈ lw_all := lw_g (lw_at lw_m4 163 rfl) rfl
theorem q978 : (Jvm.Cond.lays "java/lang/IndexOutOfBoundsException" "java/lang/Throwable" "cause" "Ljava/lang/Throwable;") ∈ lw_all := lw_g (lw_at lw_m4 164 rfl) rfl
theorem q979 : (Jvm.Cond.lays "java/lang/IndexOutOfBoundsException" "java/lang/Throwable" "stackTrace" "[Ljava/lang/StackTraceElement;") ∈ lw_all := lw_g (lw_at lw_m4 165 rfl) rfl
theorem q980 : (Jvm.Cond.lays "java/lang/IndexOutOfBoundsException" "java/lang/Throwable" "suppressedExceptions" "Ljava/util/List;") ∈ lw_all := lw_g (lw_at lw_m4 166 rfl) rfl
theorem q981 : (Jvm.Cond.lays "java/lang/IndexOutOfBoundsException" "java/lang/Throwable" "detailMessage" "Ljava/lang/String;") ∈ lw_all := lw_g (lw_at lw_m4 167 rfl) rfl
theorem q982 : (Jvm.Cond.lays "java/lang/IndexOutOfBoundsException" "java/lang/Throwable" "backtrace" "Ljava/lang/Object;") ∈ lw_all := lw_g (lw_at lw_m4 168 rfl) rfl
theorem q984 : (Jvm.Cond.instanceMethod ({ cls := "java/lang/IndexOutOfBoundsException", name := "<init>", desc := "()V" } : Jvm.MethodName)) ∈ lw_all := lw_g (lw_at lw_m4 170 rfl) rfl
theorem q985 : (Jvm.Cond.code ({ cls := "java/lang/IndexOutOfBoundsException", name := "<init>", desc := "()V" } : Jvm.MethodName) prog_20_method_1_code (1 : Nat) (Option.none : Option Jvm.ClassFile.FieldType)) ∈ lw_all := lw_g (lw_at lw_m4 171 rfl) rfl
theorem q986 : (Jvm.Cond.methodLink "java/lang/IndexOutOfBoundsException" (1 : Nat) ({ cls := "java/lang/RuntimeException", name := "<init>", desc := "()V" } : Jvm.MethodName)) ∈ lw_all := lw_g (lw_at lw_m4 172 rfl) rfl
theorem q987 : (Jvm.Cond.lays "java/lang/IndexOutOfBoundsException" "java/lang/Throwable" "depth" "I") ∈ lw_all := lw_g (lw_at lw_m4 173 rfl) rfl
theorem q988 : (Jvm.Cond.superclass "java/lang/IndexOutOfBoundsException" "java/lang/RuntimeException") ∈ lw_all := lw_g (lw_at lw_m4 174 rfl) rfl
theorem q1486 : (Jvm.Cond.castable "java/lang/IndexOutOfBoundsException" "java/lang/Object") ∈ lw_tbl := lw_at lw_m6 192 rfl
theorem in_J17 : ∀ w ∈ wsJ170, w ∈ lw_all := lw_in wsJ170 [978, 979, 980, 981, 982, 987] (by decide +kernel) (by decide +kernel)
/-! java/lang/ArrayIndexOutOfBoundsException -/
set_option maxRecDepth 100000
def RJ18 : String := "java/lang/ArrayIndexOutOfBoundsException"
def TJ18 : u_T := fun k => match k with
  | 0 => ("java/lang/Throwable", "backtrace", "Ljava/lang/Object;", false)
  | 1 => ("java/lang/Throwable", "detailMessage", "Ljava/lang/String;", false)
  | 2 => ("java/lang/Throwable", "cause", "Ljava/lang/Throwable;", false)
  | 3 => ("java/lang/Throwable", "stackTrace", "[Ljava/lang/StackTraceElement;", false)
  | 4 => ("java/lang/Throwable", "depth", "I", false)
  | _ => ("java/lang/Throwable", "suppressedExceptions", "Ljava/util/List;", false)
def tyJ18 : Nat → FieldType := fun k => match k with
  | 0 => .object "java/lang/Object"
  | 1 => .object "java/lang/String"
  | 2 => .object "java/lang/Throwable"
  | 3 => .array (.object "java/lang/StackTraceElement")
  | 4 => .int
  | _ => .object "java/util/List"
abbrev wsJ180 : List Cond := u_ws RJ18 TJ18 6
theorem nmJ18 : ∀ a, a < 6 → ∀ b, b < 6 → a ≠ b → (TJ18 a).2.1 ≠ (TJ18 b).2.1 := by decide +kernel
theorem tyJ18_ok : ∀ k, k < 6 → parseFieldDescriptor (TJ18 k).2.2.1 = some (tyJ18 k) := by decide +kernel
abbrev cJ18_init : ByteArray := prog_12_method_2_code
def yJ18_init : MethodName := ⟨RJ18, "<init>", "(Ljava/lang/String;)V"⟩
def dkwJ18_init_0 : List UInt8 := [42, 43, 183, 0, 7, 177]
abbrev dktJ18_init_0 : List UInt8 := dkwJ18_init_0 ++ []
theorem dksJ18_init_0 : cJ18_init.data.toList.drop 0 = dktJ18_init_0 := by decide +kernel
theorem dJ18_init_0 : decode cJ18_init 0 = .ok (.aload_n 0, 1) := dk_42 (dk_at dksJ18_init_0 0 rfl rfl)
theorem dJ18_init_1 : decode cJ18_init 1 = .ok (.aload_n 1, 1) := dk_43 (dk_at dksJ18_init_0 1 rfl rfl)
theorem dJ18_init_2 : decode cJ18_init 2 = .ok (.invokespecial 7, 3) := dk_183 0 7 (dk_at dksJ18_init_0 2 rfl rfl)
theorem dJ18_init_5 : decode cJ18_init 5 = .ok (.return_, 1) := dk_177 (dk_at dksJ18_init_0 5 rfl rfl)
theorem q122 : (Jvm.Cond.initialized "java/lang/ArrayIndexOutOfBoundsException") ∈ lw_all := lw_g (lw_at lw_m1 28 rfl) rfl
theorem q326 : (Jvm.Cond.selects "java/lang/ArrayIndexOutOfBoundsException" ({ cls := "java/lang/Object", name := "getClass", desc := "()Ljava/lang/Class;" } : Jvm.MethodName) ({ cls := "java/lang/Object", name := "getClass", desc := "()Ljava/lang/Class;" } : Jvm.MethodName)) ∈ lw_all := lw_g (lw_at lw_m1 232 rfl) rfl
theorem q516 : (Jvm.Cond.selects "java/lang/ArrayIndexOutOfBoundsException" ({ cls := "java/lang/Throwable", name := "fillInStackTrace", desc := "()Ljava/lang/Throwable;" } : Jvm.MethodName) ({ cls := "java/lang/Throwable", name := "fillInStackTrace", desc := "()Ljava/lang/Throwable;" } : Jvm.MethodName)) ∈ lw_all := lw_g (lw_at lw_m2 182 rfl) rfl
theorem q936 : (Jvm.Cond.instantiable "java/lang/ArrayIndexOutOfBoundsException" (6 : Nat)) ∈ lw_all := lw_g (lw_at lw_m4 122 rfl) rfl
theorem q937 : (Jvm.Cond.instanceMethod ({ cls := "java/lang/ArrayIndexOutOfBoundsException", name := "<init>", desc := "(Ljava/lang/String;)V" } : Jvm.MethodName)) ∈ lw_all := lw_g (lw_at lw_m4 123 rfl) rfl
theorem q938 : (Jvm.Cond.code ({ cls := "java/lang/ArrayIndexOutOfBoundsException", name := "<init>", desc := "(Ljava/lang/String;)V" } : Jvm.MethodName) prog_12_method_2_code (2 : Nat) (Option.none : Option Jvm.ClassFile.FieldType)) ∈ lw_all := lw_g (lw_at lw_m4 124 rfl) rfl
theorem q939 : (Jvm.Cond.methodLink "java/lang/ArrayIndexOutOfBoundsException" (7 : Nat) ({ cls := "java/lang/IndexOutOfBoundsException", name := "<init>", desc := "(Ljava/lang/String;)V" } : Jvm.MethodName)) ∈ lw_all := lw_g (lw_at lw_m4 125 rfl) rfl
theorem q951 : (Jvm.Cond.lays "java/lang/ArrayIndexOutOfBoundsException" "java/lang/Throwable" "backtrace" "Ljava/lang/Object;") ∈ lw_all := lw_g (lw_at lw_m4 137 rfl) rfl
theorem q952 : (Jvm.Cond.lays "java/lang/ArrayIndexOutOfBoundsException" "java/lang/Throwable" "detailMessage" "Ljava/lang/String;") ∈ lw_all := lw_g (lw_at lw_m4 138 rfl) rfl
theorem q953 : (Jvm.Cond.lays "java/lang/ArrayIndexOutOfBoundsException" "java/lang/Throwable" "cause" "Ljava/lang/Throwable;") ∈ lw_all := lw_g (lw_at lw_m4 139 rfl) rfl
theorem q954 : (Jvm.Cond.lays "java/lang/ArrayIndexOutOfBoundsException" "java/lang/Throwable" "stackTrace" "[Ljava/lang/StackTraceElement;") ∈ lw_all := lw_g (lw_at lw_m4 140 rfl) rfl
theorem q955 : (Jvm.Cond.lays "java/lang/ArrayIndexOutOfBoundsException" "java/lang/Throwable" "depth" "I") ∈ lw_all := lw_g (lw_at lw_m4 141 rfl) rfl
theorem q956 : (Jvm.Cond.lays "java/lang/ArrayIndexOutOfBoundsException" "java/lang/Throwable" "suppressedExceptions" "Ljava/util/List;") ∈ lw_all := lw_g (lw_at lw_m4 142 rfl) rfl
theorem q957 : (Jvm.Cond.superclass "java/lang/ArrayIndexOutOfBoundsException" "java/lang/IndexOutOfBoundsException") ∈ lw_all := lw_g (lw_at lw_m4 143 rfl) rfl
theorem q958 : (Jvm.Cond.castable "java/lang/ArrayIndexOutOfBoundsException" "java/lang/ArrayIndexOutOfBoundsException") ∈ lw_tbl := lw_at lw_m4 144 rfl
theorem q961 : (Jvm.Cond.selects "java/lang/ArrayIndexOutOfBoundsException" ({ cls := "java/lang/Throwable", name := "fillInStackTrace", desc := "(I)Ljava/lang/Throwable;" } : Jvm.MethodName) ({ cls := "java/lang/Throwable", name := "fillInStackTrace", desc := "(I)Ljava/lang/Throwable;" } : Jvm.MethodName)) ∈ lw_all := lw_g (lw_at lw_m4 147 rfl) rfl
theorem q1473 : (Jvm.Cond.castable "java/lang/ArrayIndexOutOfBoundsException" "java/lang/IndexOutOfBoundsException") ∈ lw_tbl := lw_at lw_m6 179 rfl
theorem q1485 : (Jvm.Cond.castable "java/lang/ArrayIndexOutOfBoundsException" "java/lang/Object") ∈ lw_tbl := lw_at lw_m6 191 rfl
theorem in_J18 : ∀ w ∈ wsJ180, w ∈ lw_all := lw_in wsJ180 [951, 952, 953, 954, 955, 956] (by decide +kernel) (by decide +kernel)
/-! java/util/NoSuchElementException -/
set_option maxRecDepth 100000
def RJ19 : String := "java/util/NoSuchElementException"
def TJ19 : u_T := fun k => match k with
  | 0 => ("java/lang/Throwable", "cause", "Ljava/lang/Throwable;", false)
  | 1 => ("java/lang/Throwable", "stackTrace", "[Ljava/lang/StackTraceElement;", false)
  | 2 => ("java/lang/Throwable", "suppressedExceptions", "Ljava/util/List;", false)
  | 3 => ("java/lang/Throwable", "detailMessage", "Ljava/lang/String;", false)
  | 4 => ("java/lang/Throwable", "backtrace", "Ljava/lang/Object;", false)
  | _ => ("java/lang/Throwable", "depth", "I", false)
def tyJ19 : Nat → FieldType := fun k => match k with
  | 0 => .object "java/lang/Throwable"
  | 1 => .array (.object "java/lang/StackTraceElement")
  | 2 => .object "java/util/List"
  | 3 => .object "java/lang/String"
  | 4 => .object "java/lang/Object"
  | _ => .int
abbrev wsJ190 : List Cond := u_ws RJ19 TJ19 6
theorem nmJ19 : ∀ a, a < 6 → ∀ b, b < 6 → a ≠ b → (TJ19 a).2.1 ≠ (TJ19 b).2.1 := by decide +kernel
theorem tyJ19_ok : ∀ k, k < 6 → parseFieldDescriptor (TJ19 k).2.2.1 = some (tyJ19 k) := by decide +kernel
abbrev cJ19_init : ByteArray := prog_37_method_1_code
def yJ19_init : MethodName := ⟨RJ19, "<init>", "()V"⟩
theorem dJ19_init_0 : decode cJ19_init 0 = .ok (.aload_n 0, 1) := by decide +kernel
theorem dJ19_init_1 : decode cJ19_init 1 = .ok (.invokespecial 1, 3) := by decide +kernel
theorem dJ19_init_4 : decode cJ19_init 4 = .ok (.return_, 1) := by decide +kernel
theorem q123 : (Jvm.Cond.initialized "java/util/NoSuchElementException") ∈ lw_all := lw_g (lw_at lw_m1 29 rfl) rfl
theorem q331 : (Jvm.Cond.selects "java/util/NoSuchElementException" ({ cls := "java/lang/Object", name := "getClass", desc := "()Ljava/lang/Class;" } : Jvm.MethodName) ({ cls := "java/lang/Object", name := "getClass", desc := "()Ljava/lang/Class;" } : Jvm.MethodName)) ∈ lw_all := lw_g (lw_at lw_m1 237 rfl) rfl
theorem q519 : (Jvm.Cond.selects "java/util/NoSuchElementException" ({ cls := "java/lang/Throwable", name := "fillInStackTrace", desc := "()Ljava/lang/Throwable;" } : Jvm.MethodName) ({ cls := "java/lang/Throwable", name := "fillInStackTrace", desc := "()Ljava/lang/Throwable;" } : Jvm.MethodName)) ∈ lw_all := lw_g (lw_at lw_m2 185 rfl) rfl
theorem q1023 : (Jvm.Cond.instantiable "java/util/NoSuchElementException" (6 : Nat)) ∈ lw_all := lw_g (lw_at lw_m4 209 rfl) rfl
theorem q1024 : (Jvm.Cond.castable "java/util/NoSuchElementException" "java/util/NoSuchElementException") ∈ lw_tbl := lw_at lw_m4 210 rfl
theorem q1025 : (Jvm.Cond.selects "java/util/NoSuchElementException" ({ cls := "java/lang/Throwable", name := "fillInStackTrace", desc := "(I)Ljava/lang/Throwable;" } : Jvm.MethodName) ({ cls := "java/lang/Throwable", name := "fillInStackTrace", desc := "(I)Ljava/lang/Throwable;" } : Jvm.MethodName)) ∈ lw_all := lw_g (lw_at lw_m4 211 rfl) rfl
theorem q1026 : (Jvm.Cond.lays "java/util/NoSuchElementException" "java/lang/Throwable" "cause" "Ljava/lang/Throwable;") ∈ lw_all := lw_g (lw_at lw_m4 212 rfl) rfl
theorem q1027 : (Jvm.Cond.lays "java/util/NoSuchElementException" "java/lang/Throwable" "stackTrace" "[Ljava/lang/StackTraceElement;") ∈ lw_all := lw_g (lw_at lw_m4 213 rfl) rfl
theorem q1028 : (Jvm.Cond.lays "java/util/NoSuchElementException" "java/lang/Throwable" "suppressedExceptions" "Ljava/util/List;") ∈ lw_all := lw_g (lw_at lw_m4 214 rfl) rfl
theorem q1029 : (Jvm.Cond.lays "java/util/NoSuchElementException" "java/lang/Throwable" "detailMessage" "Ljava/lang/String;") ∈ lw_all := lw_g (lw_at lw_m4 215 rfl) rfl
theorem q1030 : (Jvm.Cond.lays "java/util/NoSuchElementException" "java/lang/Throwable" "backtrace" "Ljava/lang/Object;") ∈ lw_all := lw_g (lw_at lw_m4 216 rfl) rfl
theorem q1032 : (Jvm.Cond.instanceMethod ({ cls := "java/util/NoSuchElementException", name := "<init>", desc := "()V" } : Jvm.MethodName)) ∈ lw_all := lw_g (lw_at lw_m4 218 rfl) rfl
theorem q1033 : (Jvm.Cond.code ({ cls := "java/util/NoSuchElementException", name := "<init>", desc := "()V" } : Jvm.MethodName) prog_37_method_1_code (1 : Nat) (Option.none : Option Jvm.ClassFile.FieldType)) ∈ lw_all := lw_g (lw_at lw_m4 219 rfl) rfl
theorem q1034 : (Jvm.Cond.methodLink "java/util/NoSuchElementException" (1 : Nat) ({ cls := "java/lang/RuntimeException", name := "<init>", desc := "()V" } : Jvm.MethodName)) ∈ lw_all := lw_g (lw_at lw_m4 220 rfl) rfl
theorem q1035 : (Jvm.Cond.lays "java/util/NoSuchElementException" "java/lang/Throwable" "depth" "I") ∈ lw_all := lw_g (lw_at lw_m4 221 rfl) rfl
theorem q1036 : (Jvm.Cond.superclass "java/util/NoSuchElementException" "java/lang/RuntimeException") ∈ lw_all := lw_g (lw_at lw_m4 222 rfl) rfl
theorem q1487 : (Jvm.Cond.castable "java/util/NoSuchElementException" "java/lang/Object") ∈ lw_tbl := lw_at lw_m6 193 rfl
theorem in_J19 : ∀ w ∈ wsJ190, w ∈ lw_all := lw_in wsJ190 [1026, 1027, 1028, 1029, 1030, 1035] (by decide +kernel) (by decide +kernel)
/-! java/util/AbstractList -/
set_option maxRecDepth 100000
def RJ2 : String := "java/util/AbstractList"
abbrev cJ2_init : ByteArray := prog_32_method_1_code
def yJ2_init : MethodName := ⟨RJ2, "<init>", "()V"⟩
def dkwJ2_init_0 : List UInt8 := [42, 183, 0, 1, 42, 3, 181, 0, 7, 177]
abbrev dktJ2_init_0 : List UInt8 := dkwJ2_init_0 ++ []
theorem dksJ2_init_0 : cJ2_init.data.toList.drop 0 = dktJ2_init_0 := by decide +kernel
theorem dJ2_init_0 : decode cJ2_init 0 = .ok (.aload_n 0, 1) := dk_42 (dk_at dksJ2_init_0 0 rfl rfl)
theorem dJ2_init_1 : decode cJ2_init 1 = .ok (.invokespecial 1, 3) := dk_183 0 1 (dk_at dksJ2_init_0 1 rfl rfl)
theorem dJ2_init_4 : decode cJ2_init 4 = .ok (.aload_n 0, 1) := dk_42 (dk_at dksJ2_init_0 4 rfl rfl)
theorem dJ2_init_5 : decode cJ2_init 5 = .ok (.iconst 0, 1) := dk_3 (dk_at dksJ2_init_0 5 rfl rfl)
theorem dJ2_init_6 : decode cJ2_init 6 = .ok (.putfield 7, 3) := dk_181 0 7 (dk_at dksJ2_init_0 6 rfl rfl)
theorem dJ2_init_9 : decode cJ2_init 9 = .ok (.return_, 1) := dk_177 (dk_at dksJ2_init_0 9 rfl rfl)
theorem q99 : (Jvm.Cond.initialized "java/util/AbstractList") ∈ lw_all := lw_g (lw_at lw_m1 5 rfl) rfl
theorem q151 : (Jvm.Cond.instanceMethod ({ cls := "java/util/AbstractList", name := "<init>", desc := "()V" } : Jvm.MethodName)) ∈ lw_all := lw_g (lw_at lw_m1 57 rfl) rfl
theorem q152 : (Jvm.Cond.code ({ cls := "java/util/AbstractList", name := "<init>", desc := "()V" } : Jvm.MethodName) prog_32_method_1_code (1 : Nat) (Option.none : Option Jvm.ClassFile.FieldType)) ∈ lw_all := lw_g (lw_at lw_m1 58 rfl) rfl
theorem q153 : (Jvm.Cond.methodLink "java/util/AbstractList" (1 : Nat) ({ cls := "java/util/AbstractCollection", name := "<init>", desc := "()V" } : Jvm.MethodName)) ∈ lw_all := lw_g (lw_at lw_m1 59 rfl) rfl
theorem q161 : (Jvm.Cond.fieldLink "java/util/AbstractList" (7 : Nat) "java/util/AbstractList" "modCount" "I") ∈ lw_all := lw_g (lw_at lw_m1 67 rfl) rfl
theorem q169 : (Jvm.Cond.soleField "java/util/AbstractList" "modCount") ∈ lw_all := lw_g (lw_at lw_m1 75 rfl) rfl
/-! java/lang/Object -/
set_option maxRecDepth 100000
def RJ20 : String := "java/lang/Object"
abbrev cJ20_init : ByteArray := object_method_1_code
def yJ20_init : MethodName := ⟨RJ20, "<init>", "()V"⟩
theorem dJ20_init_0 : decode cJ20_init 0 = .ok (.return_, 1) := by decide +kernel
theorem q130 : (Jvm.Cond.instanceMethod ({ cls := "java/lang/Object", name := "<init>", desc := "()V" } : Jvm.MethodName)) ∈ lw_all := lw_g (lw_at lw_m1 36 rfl) rfl
theorem q131 : (Jvm.Cond.code ({ cls := "java/lang/Object", name := "<init>", desc := "()V" } : Jvm.MethodName) object_method_1_code (1 : Nat) (Option.none : Option Jvm.ClassFile.FieldType)) ∈ lw_all := lw_g (lw_at lw_m1 37 rfl) rfl
theorem q139 : (Jvm.Cond.native ({ cls := "java/lang/Object", name := "clone", desc := "()Ljava/lang/Object;" } : Jvm.MethodName)) ∈ lw_all := lw_g (lw_at lw_m1 45 rfl) rfl
theorem q140 : (Jvm.Cond.instanceMethod ({ cls := "java/lang/Object", name := "clone", desc := "()Ljava/lang/Object;" } : Jvm.MethodName)) ∈ lw_all := lw_g (lw_at lw_m1 46 rfl) rfl
theorem q316 : (Jvm.Cond.instanceMethod ({ cls := "java/lang/Object", name := "getClass", desc := "()Ljava/lang/Class;" } : Jvm.MethodName)) ∈ lw_all := lw_g (lw_at lw_m1 222 rfl) rfl
theorem q317 : (Jvm.Cond.sameMethod "java/lang/Object" "java/lang/Object" "getClass" "()Ljava/lang/Class;") ∈ lw_all := lw_g (lw_at lw_m1 223 rfl) rfl
theorem q332 : (Jvm.Cond.native ({ cls := "java/lang/Object", name := "getClass", desc := "()Ljava/lang/Class;" } : Jvm.MethodName)) ∈ lw_all := lw_g (lw_at lw_m1 238 rfl) rfl
theorem q1472 : (Jvm.Cond.initialized "java/lang/Object") ∈ lw_all := lw_g (lw_at lw_m6 178 rfl) rfl
theorem q1492 : (Jvm.Cond.declares ({ cls := "java/lang/Object", name := "getClass", desc := "()Ljava/lang/Class;" } : Jvm.MethodName)) ∈ lw_tbl := lw_at lw_m6 198 rfl
/-! java/util/ArrayList -/
set_option maxRecDepth 100000
def RJ3 : String := "java/util/ArrayList"
def TJ3 : u_T := fun k => match k with
  | 0 => ("java/util/AbstractList", "modCount", "I", false)
  | 1 => ("java/util/ArrayList", "elementData", "[Ljava/lang/Object;", false)
  | _ => ("java/util/ArrayList", "size", "I", false)
def tyJ3 : Nat → FieldType := fun k => match k with
  | 0 => .int
  | 1 => .array (.object "java/lang/Object")
  | _ => .int
abbrev wsJ30 : List Cond := u_ws RJ3 TJ3 3
theorem nmJ3 : ∀ a, a < 3 → ∀ b, b < 3 → a ≠ b → (TJ3 a).2.1 ≠ (TJ3 b).2.1 := by decide +kernel
theorem tyJ3_ok : ∀ k, k < 3 → parseFieldDescriptor (TJ3 k).2.2.1 = some (tyJ3 k) := by decide +kernel
abbrev cJ3_init : ByteArray := prog_33_method_2_code
def yJ3_init : MethodName := ⟨RJ3, "<init>", "()V"⟩
def dkwJ3_init_0 : List UInt8 := [42, 183, 0, 1, 42, 178, 0, 39, 181, 0, 9, 177]
abbrev dktJ3_init_0 : List UInt8 := dkwJ3_init_0 ++ []
theorem dksJ3_init_0 : cJ3_init.data.toList.drop 0 = dktJ3_init_0 := by decide +kernel
theorem dJ3_init_0 : decode cJ3_init 0 = .ok (.aload_n 0, 1) := dk_42 (dk_at dksJ3_init_0 0 rfl rfl)
theorem dJ3_init_1 : decode cJ3_init 1 = .ok (.invokespecial 1, 3) := dk_183 0 1 (dk_at dksJ3_init_0 1 rfl rfl)
theorem dJ3_init_4 : decode cJ3_init 4 = .ok (.aload_n 0, 1) := dk_42 (dk_at dksJ3_init_0 4 rfl rfl)
theorem dJ3_init_5 : decode cJ3_init 5 = .ok (.getstatic 39, 3) := dk_178 0 39 (dk_at dksJ3_init_0 5 rfl rfl)
theorem dJ3_init_8 : decode cJ3_init 8 = .ok (.putfield 9, 3) := dk_181 0 9 (dk_at dksJ3_init_0 8 rfl rfl)
theorem dJ3_init_11 : decode cJ3_init 11 = .ok (.return_, 1) := dk_177 (dk_at dksJ3_init_0 11 rfl rfl)
abbrev cJ3_add : ByteArray := prog_33_method_25_code
def yJ3_add : MethodName := ⟨RJ3, "add", "(Ljava/lang/Object;)Z"⟩
def dkwJ3_add_1 : List UInt8 := [172]
abbrev dktJ3_add_1 : List UInt8 := dkwJ3_add_1 ++ []
def dkwJ3_add_0 : List UInt8 := [42, 89, 180, 0, 63, 4, 96, 181, 0, 63, 42, 43, 42, 180, 0, 9, 42, 180, 0, 48, 182, 0, 131, 4]
abbrev dktJ3_add_0 : List UInt8 := dkwJ3_add_0 ++ dktJ3_add_1
theorem dksJ3_add_0 : cJ3_add.data.toList.drop 0 = dktJ3_add_0 := by decide +kernel
theorem dksJ3_add_1 : cJ3_add.data.toList.drop 24 = dktJ3_add_1 := dk_seg dksJ3_add_0 24 rfl rfl
theorem dJ3_add_0 : decode cJ3_add 0 = .ok (.aload_n 0, 1) := dk_42 (dk_at dksJ3_add_0 0 rfl rfl)
theorem dJ3_add_1 : decode cJ3_add 1 = .ok (.dup, 1) := dk_89 (dk_at dksJ3_add_0 1 rfl rfl)
theorem dJ3_add_2 : decode cJ3_add 2 = .ok (.getfield 63, 3) := dk_180 0 63 (dk_at dksJ3_add_0 2 rfl rfl)
theorem dJ3_add_5 : decode cJ3_add 5 = .ok (.iconst 1, 1) := dk_4 (dk_at dksJ3_add_0 5 rfl rfl)
theorem dJ3_add_6 : decode cJ3_add 6 = .ok (.iadd, 1) := dk_96 (dk_at dksJ3_add_0 6 rfl rfl)
theorem dJ3_add_7 : decode cJ3_add 7 = .ok (.putfield 63, 3) := dk_181 0 63 (dk_at dksJ3_add_0 7 rfl rfl)
theorem dJ3_add_10 : decode cJ3_add 10 = .ok (.aload_n 0, 1) := dk_42 (dk_at dksJ3_add_0 10 rfl rfl)
theorem dJ3_add_11 : decode cJ3_add 11 = .ok (.aload_n 1, 1) := dk_43 (dk_at dksJ3_add_0 11 rfl rfl)
theorem dJ3_add_12 : decode cJ3_add 12 = .ok (.aload_n 0, 1) := dk_42 (dk_at dksJ3_add_0 12 rfl rfl)
theorem dJ3_add_13 : decode cJ3_add 13 = .ok (.getfield 9, 3) := dk_180 0 9 (dk_at dksJ3_add_0 13 rfl rfl)
theorem dJ3_add_16 : decode cJ3_add 16 = .ok (.aload_n 0, 1) := dk_42 (dk_at dksJ3_add_0 16 rfl rfl)
theorem dJ3_add_17 : decode cJ3_add 17 = .ok (.getfield 48, 3) := dk_180 0 48 (dk_at dksJ3_add_0 17 rfl rfl)
theorem dJ3_add_20 : decode cJ3_add 20 = .ok (.invokevirtual 131, 3) := dk_182 0 131 (dk_at dksJ3_add_0 20 rfl rfl)
theorem dJ3_add_23 : decode cJ3_add 23 = .ok (.iconst 1, 1) := dk_4 (dk_at dksJ3_add_0 23 rfl rfl)
theorem dJ3_add_24 : decode cJ3_add 24 = .ok (.ireturn, 1) := dk_172 (dk_at dksJ3_add_1 0 rfl rfl)
abbrev cJ3_add_2 : ByteArray := prog_33_method_24_code
def yJ3_add_2 : MethodName := ⟨RJ3, "add", "(Ljava/lang/Object;[Ljava/lang/Object;I)V"⟩
def dkwJ3_add_2_0 : List UInt8 := [29, 44, 190, 160, 0, 8, 42, 182, 0, 129, 77, 44, 29, 43, 83, 42, 29, 4, 96, 181, 0, 48, 177]
abbrev dktJ3_add_2_0 : List UInt8 := dkwJ3_add_2_0 ++ []
theorem dksJ3_add_2_0 : cJ3_add_2.data.toList.drop 0 = dktJ3_add_2_0 := by decide +kernel
theorem dJ3_add_2_0 : decode cJ3_add_2 0 = .ok (.iload_n 3, 1) := dk_29 (dk_at dksJ3_add_2_0 0 rfl rfl)
theorem dJ3_add_2_1 : decode cJ3_add_2 1 = .ok (.aload_n 2, 1) := dk_44 (dk_at dksJ3_add_2_0 1 rfl rfl)
theorem dJ3_add_2_2 : decode cJ3_add_2 2 = .ok (.arraylength, 1) := dk_190 (dk_at dksJ3_add_2_0 2 rfl rfl)
theorem dJ3_add_2_3 : decode cJ3_add_2 3 = .ok (.if_icmp .ne 8, 3) := dk_160 0 8 (dk_at dksJ3_add_2_0 3 rfl rfl)
theorem dJ3_add_2_6 : decode cJ3_add_2 6 = .ok (.aload_n 0, 1) := dk_42 (dk_at dksJ3_add_2_0 6 rfl rfl)
theorem dJ3_add_2_7 : decode cJ3_add_2 7 = .ok (.invokevirtual 129, 3) := dk_182 0 129 (dk_at dksJ3_add_2_0 7 rfl rfl)
theorem dJ3_add_2_10 : decode cJ3_add_2 10 = .ok (.astore_n 2, 1) := dk_77 (dk_at dksJ3_add_2_0 10 rfl rfl)
theorem dJ3_add_2_11 : decode cJ3_add_2 11 = .ok (.aload_n 2, 1) := dk_44 (dk_at dksJ3_add_2_0 11 rfl rfl)
theorem dJ3_add_2_12 : decode cJ3_add_2 12 = .ok (.iload_n 3, 1) := dk_29 (dk_at dksJ3_add_2_0 12 rfl rfl)
theorem dJ3_add_2_13 : decode cJ3_add_2 13 = .ok (.aload_n 1, 1) := dk_43 (dk_at dksJ3_add_2_0 13 rfl rfl)
theorem dJ3_add_2_14 : decode cJ3_add_2 14 = .ok (.aastore, 1) := dk_83 (dk_at dksJ3_add_2_0 14 rfl rfl)
theorem dJ3_add_2_15 : decode cJ3_add_2 15 = .ok (.aload_n 0, 1) := dk_42 (dk_at dksJ3_add_2_0 15 rfl rfl)
theorem dJ3_add_2_16 : decode cJ3_add_2 16 = .ok (.iload_n 3, 1) := dk_29 (dk_at dksJ3_add_2_0 16 rfl rfl)
theorem dJ3_add_2_17 : decode cJ3_add_2 17 = .ok (.iconst 1, 1) := dk_4 (dk_at dksJ3_add_2_0 17 rfl rfl)
theorem dJ3_add_2_18 : decode cJ3_add_2 18 = .ok (.iadd, 1) := dk_96 (dk_at dksJ3_add_2_0 18 rfl rfl)
theorem dJ3_add_2_19 : decode cJ3_add_2 19 = .ok (.putfield 48, 3) := dk_181 0 48 (dk_at dksJ3_add_2_0 19 rfl rfl)
theorem dJ3_add_2_22 : decode cJ3_add_2 22 = .ok (.return_, 1) := dk_177 (dk_at dksJ3_add_2_0 22 rfl rfl)
abbrev cJ3_grow : ByteArray := prog_33_method_7_code
def yJ3_grow : MethodName := ⟨RJ3, "grow", "()[Ljava/lang/Object;"⟩
def dkwJ3_grow_0 : List UInt8 := [42, 42, 180, 0, 48, 4, 96, 182, 0, 69, 176]
abbrev dktJ3_grow_0 : List UInt8 := dkwJ3_grow_0 ++ []
theorem dksJ3_grow_0 : cJ3_grow.data.toList.drop 0 = dktJ3_grow_0 := by decide +kernel
theorem dJ3_grow_0 : decode cJ3_grow 0 = .ok (.aload_n 0, 1) := dk_42 (dk_at dksJ3_grow_0 0 rfl rfl)
theorem dJ3_grow_1 : decode cJ3_grow 1 = .ok (.aload_n 0, 1) := dk_42 (dk_at dksJ3_grow_0 1 rfl rfl)
theorem dJ3_grow_2 : decode cJ3_grow 2 = .ok (.getfield 48, 3) := dk_180 0 48 (dk_at dksJ3_grow_0 2 rfl rfl)
theorem dJ3_grow_5 : decode cJ3_grow 5 = .ok (.iconst 1, 1) := dk_4 (dk_at dksJ3_grow_0 5 rfl rfl)
theorem dJ3_grow_6 : decode cJ3_grow 6 = .ok (.iadd, 1) := dk_96 (dk_at dksJ3_grow_0 6 rfl rfl)
theorem dJ3_grow_7 : decode cJ3_grow 7 = .ok (.invokevirtual 69, 3) := dk_182 0 69 (dk_at dksJ3_grow_0 7 rfl rfl)
theorem dJ3_grow_10 : decode cJ3_grow 10 = .ok (.areturn, 1) := dk_176 (dk_at dksJ3_grow_0 10 rfl rfl)
abbrev cJ3_grow_2 : ByteArray := prog_33_method_6_code
def yJ3_grow_2 : MethodName := ⟨RJ3, "grow", "(I)[Ljava/lang/Object;"⟩
def dkwJ3_grow_2_2 : List UInt8 := [27, 184, 0, 79, 189, 0, 7, 90, 181, 0, 9, 176]
abbrev dktJ3_grow_2_2 : List UInt8 := dkwJ3_grow_2_2 ++ []
def dkwJ3_grow_2_1 : List UInt8 := [28, 4, 122, 184, 0, 73, 62, 42, 42, 180, 0, 9, 29, 184, 0, 66, 90, 181, 0, 9, 176, 42, 16, 10]
abbrev dktJ3_grow_2_1 : List UInt8 := dkwJ3_grow_2_1 ++ dktJ3_grow_2_2
def dkwJ3_grow_2_0 : List UInt8 := [42, 180, 0, 9, 190, 61, 28, 157, 0, 13, 42, 180, 0, 9, 178, 0, 39, 165, 0, 28, 28, 27, 28, 100]
abbrev dktJ3_grow_2_0 : List UInt8 := dkwJ3_grow_2_0 ++ dktJ3_grow_2_1
theorem dksJ3_grow_2_0 : cJ3_grow_2.data.toList.drop 0 = dktJ3_grow_2_0 := by decide +kernel
theorem dksJ3_grow_2_1 : cJ3_grow_2.data.toList.drop 24 = dktJ3_grow_2_1 := dk_seg dksJ3_grow_2_0 24 rfl rfl
theorem dksJ3_grow_2_2 : cJ3_grow_2.data.toList.drop 48 = dktJ3_grow_2_2 := dk_seg dksJ3_grow_2_1 24 rfl rfl
theorem dJ3_grow_2_0 : decode cJ3_grow_2 0 = .ok (.aload_n 0, 1) := dk_42 (dk_at dksJ3_grow_2_0 0 rfl rfl)
theorem dJ3_grow_2_1 : decode cJ3_grow_2 1 = .ok (.getfield 9, 3) := dk_180 0 9 (dk_at dksJ3_grow_2_0 1 rfl rfl)
theorem dJ3_grow_2_4 : decode cJ3_grow_2 4 = .ok (.arraylength, 1) := dk_190 (dk_at dksJ3_grow_2_0 4 rfl rfl)
theorem dJ3_grow_2_5 : decode cJ3_grow_2 5 = .ok (.istore_n 2, 1) := dk_61 (dk_at dksJ3_grow_2_0 5 rfl rfl)
theorem dJ3_grow_2_6 : decode cJ3_grow_2 6 = .ok (.iload_n 2, 1) := dk_28 (dk_at dksJ3_grow_2_0 6 rfl rfl)
theorem dJ3_grow_2_7 : decode cJ3_grow_2 7 = .ok (.ifCond .gt 13, 3) := dk_157 0 13 (dk_at dksJ3_grow_2_0 7 rfl rfl)
theorem dJ3_grow_2_10 : decode cJ3_grow_2 10 = .ok (.aload_n 0, 1) := dk_42 (dk_at dksJ3_grow_2_0 10 rfl rfl)
theorem dJ3_grow_2_11 : decode cJ3_grow_2 11 = .ok (.getfield 9, 3) := dk_180 0 9 (dk_at dksJ3_grow_2_0 11 rfl rfl)
theorem dJ3_grow_2_14 : decode cJ3_grow_2 14 = .ok (.getstatic 39, 3) := dk_178 0 39 (dk_at dksJ3_grow_2_0 14 rfl rfl)
theorem dJ3_grow_2_17 : decode cJ3_grow_2 17 = .ok (.if_acmp .eq 28, 3) := dk_165 0 28 (dk_at dksJ3_grow_2_0 17 rfl rfl)
theorem dJ3_grow_2_20 : decode cJ3_grow_2 20 = .ok (.iload_n 2, 1) := dk_28 (dk_at dksJ3_grow_2_0 20 rfl rfl)
theorem dJ3_grow_2_21 : decode cJ3_grow_2 21 = .ok (.iload_n 1, 1) := dk_27 (dk_at dksJ3_grow_2_0 21 rfl rfl)
theorem dJ3_grow_2_22 : decode cJ3_grow_2 22 = .ok (.iload_n 2, 1) := dk_28 (dk_at dksJ3_grow_2_0 22 rfl rfl)
theorem dJ3_grow_2_23 : decode cJ3_grow_2 23 = .ok (.isub, 1) := dk_100 (dk_at dksJ3_grow_2_0 23 rfl rfl)
theorem dJ3_grow_2_24 : decode cJ3_grow_2 24 = .ok (.iload_n 2, 1) := dk_28 (dk_at dksJ3_grow_2_1 0 rfl rfl)
theorem dJ3_grow_2_25 : decode cJ3_grow_2 25 = .ok (.iconst 1, 1) := dk_4 (dk_at dksJ3_grow_2_1 1 rfl rfl)
theorem dJ3_grow_2_26 : decode cJ3_grow_2 26 = .ok (.ishr, 1) := dk_122 (dk_at dksJ3_grow_2_1 2 rfl rfl)
theorem dJ3_grow_2_27 : decode cJ3_grow_2 27 = .ok (.invokestatic 73, 3) := dk_184 0 73 (dk_at dksJ3_grow_2_1 3 rfl rfl)
theorem dJ3_grow_2_30 : decode cJ3_grow_2 30 = .ok (.istore_n 3, 1) := dk_62 (dk_at dksJ3_grow_2_1 6 rfl rfl)
theorem dJ3_grow_2_31 : decode cJ3_grow_2 31 = .ok (.aload_n 0, 1) := dk_42 (dk_at dksJ3_grow_2_1 7 rfl rfl)
theorem dJ3_grow_2_32 : decode cJ3_grow_2 32 = .ok (.aload_n 0, 1) := dk_42 (dk_at dksJ3_grow_2_1 8 rfl rfl)
theorem dJ3_grow_2_33 : decode cJ3_grow_2 33 = .ok (.getfield 9, 3) := dk_180 0 9 (dk_at dksJ3_grow_2_1 9 rfl rfl)
theorem dJ3_grow_2_36 : decode cJ3_grow_2 36 = .ok (.iload_n 3, 1) := dk_29 (dk_at dksJ3_grow_2_1 12 rfl rfl)
theorem dJ3_grow_2_37 : decode cJ3_grow_2 37 = .ok (.invokestatic 66, 3) := dk_184 0 66 (dk_at dksJ3_grow_2_1 13 rfl rfl)
theorem dJ3_grow_2_40 : decode cJ3_grow_2 40 = .ok (.dup_x1, 1) := dk_90 (dk_at dksJ3_grow_2_1 16 rfl rfl)
theorem dJ3_grow_2_41 : decode cJ3_grow_2 41 = .ok (.putfield 9, 3) := dk_181 0 9 (dk_at dksJ3_grow_2_1 17 rfl rfl)
theorem dJ3_grow_2_44 : decode cJ3_grow_2 44 = .ok (.areturn, 1) := dk_176 (dk_at dksJ3_grow_2_1 20 rfl rfl)
theorem dJ3_grow_2_45 : decode cJ3_grow_2 45 = .ok (.aload_n 0, 1) := dk_42 (dk_at dksJ3_grow_2_1 21 rfl rfl)
theorem dJ3_grow_2_46 : decode cJ3_grow_2 46 = .ok (.bipush 10, 2) := dk_16 10 (dk_at dksJ3_grow_2_1 22 rfl rfl)
theorem dJ3_grow_2_48 : decode cJ3_grow_2 48 = .ok (.iload_n 1, 1) := dk_27 (dk_at dksJ3_grow_2_2 0 rfl rfl)
theorem dJ3_grow_2_49 : decode cJ3_grow_2 49 = .ok (.invokestatic 79, 3) := dk_184 0 79 (dk_at dksJ3_grow_2_2 1 rfl rfl)
theorem dJ3_grow_2_52 : decode cJ3_grow_2 52 = .ok (.anewarray 7, 3) := dk_189 0 7 (dk_at dksJ3_grow_2_2 4 rfl rfl)
theorem dJ3_grow_2_55 : decode cJ3_grow_2 55 = .ok (.dup_x1, 1) := dk_90 (dk_at dksJ3_grow_2_2 7 rfl rfl)
theorem dJ3_grow_2_56 : decode cJ3_grow_2 56 = .ok (.putfield 9, 3) := dk_181 0 9 (dk_at dksJ3_grow_2_2 8 rfl rfl)
theorem dJ3_grow_2_59 : decode cJ3_grow_2 59 = .ok (.areturn, 1) := dk_176 (dk_at dksJ3_grow_2_2 11 rfl rfl)
abbrev cJ3_size : ByteArray := prog_33_method_8_code
def yJ3_size : MethodName := ⟨RJ3, "size", "()I"⟩
theorem dJ3_size_0 : decode cJ3_size 0 = .ok (.aload_n 0, 1) := by decide +kernel
theorem dJ3_size_1 : decode cJ3_size 1 = .ok (.getfield 48, 3) := by decide +kernel
theorem dJ3_size_4 : decode cJ3_size 4 = .ok (.ireturn, 1) := by decide +kernel
abbrev cJ3_remove : ByteArray := prog_33_method_29_code
def yJ3_remove : MethodName := ⟨RJ3, "remove", "(I)Ljava/lang/Object;"⟩
def dkwJ3_remove_1 : List UInt8 := [45, 176]
abbrev dktJ3_remove_1 : List UInt8 := dkwJ3_remove_1 ++ []
def dkwJ3_remove_0 : List UInt8 := [27, 42, 180, 0, 48, 184, 0, 118, 87, 42, 180, 0, 9, 77, 44, 27, 50, 78, 42, 44, 27, 182, 0, 144]
abbrev dktJ3_remove_0 : List UInt8 := dkwJ3_remove_0 ++ dktJ3_remove_1
theorem dksJ3_remove_0 : cJ3_remove.data.toList.drop 0 = dktJ3_remove_0 := by decide +kernel
theorem dksJ3_remove_1 : cJ3_remove.data.toList.drop 24 = dktJ3_remove_1 := dk_seg dksJ3_remove_0 24 rfl rfl
theorem dJ3_remove_0 : decode cJ3_remove 0 = .ok (.iload_n 1, 1) := dk_27 (dk_at dksJ3_remove_0 0 rfl rfl)
theorem dJ3_remove_1 : decode cJ3_remove 1 = .ok (.aload_n 0, 1) := dk_42 (dk_at dksJ3_remove_0 1 rfl rfl)
theorem dJ3_remove_2 : decode cJ3_remove 2 = .ok (.getfield 48, 3) := dk_180 0 48 (dk_at dksJ3_remove_0 2 rfl rfl)
theorem dJ3_remove_5 : decode cJ3_remove 5 = .ok (.invokestatic 118, 3) := dk_184 0 118 (dk_at dksJ3_remove_0 5 rfl rfl)
theorem dJ3_remove_8 : decode cJ3_remove 8 = .ok (.pop, 1) := dk_87 (dk_at dksJ3_remove_0 8 rfl rfl)
theorem dJ3_remove_9 : decode cJ3_remove 9 = .ok (.aload_n 0, 1) := dk_42 (dk_at dksJ3_remove_0 9 rfl rfl)
theorem dJ3_remove_10 : decode cJ3_remove 10 = .ok (.getfield 9, 3) := dk_180 0 9 (dk_at dksJ3_remove_0 10 rfl rfl)
theorem dJ3_remove_13 : decode cJ3_remove 13 = .ok (.astore_n 2, 1) := dk_77 (dk_at dksJ3_remove_0 13 rfl rfl)
theorem dJ3_remove_14 : decode cJ3_remove 14 = .ok (.aload_n 2, 1) := dk_44 (dk_at dksJ3_remove_0 14 rfl rfl)
theorem dJ3_remove_15 : decode cJ3_remove 15 = .ok (.iload_n 1, 1) := dk_27 (dk_at dksJ3_remove_0 15 rfl rfl)
theorem dJ3_remove_16 : decode cJ3_remove 16 = .ok (.aaload, 1) := dk_50 (dk_at dksJ3_remove_0 16 rfl rfl)
theorem dJ3_remove_17 : decode cJ3_remove 17 = .ok (.astore_n 3, 1) := dk_78 (dk_at dksJ3_remove_0 17 rfl rfl)
theorem dJ3_remove_18 : decode cJ3_remove 18 = .ok (.aload_n 0, 1) := dk_42 (dk_at dksJ3_remove_0 18 rfl rfl)
theorem dJ3_remove_19 : decode cJ3_remove 19 = .ok (.aload_n 2, 1) := dk_44 (dk_at dksJ3_remove_0 19 rfl rfl)
theorem dJ3_remove_20 : decode cJ3_remove 20 = .ok (.iload_n 1, 1) := dk_27 (dk_at dksJ3_remove_0 20 rfl rfl)
theorem dJ3_remove_21 : decode cJ3_remove 21 = .ok (.invokevirtual 144, 3) := dk_182 0 144 (dk_at dksJ3_remove_0 21 rfl rfl)
theorem dJ3_remove_24 : decode cJ3_remove 24 = .ok (.aload_n 3, 1) := dk_45 (dk_at dksJ3_remove_1 0 rfl rfl)
theorem dJ3_remove_25 : decode cJ3_remove 25 = .ok (.areturn, 1) := dk_176 (dk_at dksJ3_remove_1 1 rfl rfl)
abbrev cJ3_fastRemove : ByteArray := prog_33_method_39_code
def yJ3_fastRemove : MethodName := ⟨RJ3, "fastRemove", "([Ljava/lang/Object;I)V"⟩
def dkwJ3_fastRemove_1 : List UInt8 := [4, 96, 43, 28, 29, 28, 100, 184, 0, 112, 43, 42, 29, 90, 181, 0, 48, 1, 83, 177]
abbrev dktJ3_fastRemove_1 : List UInt8 := dkwJ3_fastRemove_1 ++ []
def dkwJ3_fastRemove_0 : List UInt8 := [42, 89, 180, 0, 63, 4, 96, 181, 0, 63, 42, 180, 0, 48, 4, 100, 89, 62, 28, 164, 0, 15, 43, 28]
abbrev dktJ3_fastRemove_0 : List UInt8 := dkwJ3_fastRemove_0 ++ dktJ3_fastRemove_1
theorem dksJ3_fastRemove_0 : cJ3_fastRemove.data.toList.drop 0 = dktJ3_fastRemove_0 := by decide +kernel
theorem dksJ3_fastRemove_1 : cJ3_fastRemove.data.toList.drop 24 = dktJ3_fastRemove_1 := dk_seg dksJ3_fastRemove_0 24 rfl rfl
theorem dJ3_fastRemove_0 : decode cJ3_fastRemove 0 = .ok (.aload_n 0, 1) := dk_42 (dk_at dksJ3_fastRemove_0 0 rfl rfl)
theorem dJ3_fastRemove_1 : decode cJ3_fastRemove 1 = .ok (.dup, 1) := dk_89 (dk_at dksJ3_fastRemove_0 1 rfl rfl)
theorem dJ3_fastRemove_2 : decode cJ3_fastRemove 2 = .ok (.getfield 63, 3) := dk_180 0 63 (dk_at dksJ3_fastRemove_0 2 rfl rfl)
theorem dJ3_fastRemove_5 : decode cJ3_fastRemove 5 = .ok (.iconst 1, 1) := dk_4 (dk_at dksJ3_fastRemove_0 5 rfl rfl)
theorem dJ3_fastRemove_6 : decode cJ3_fastRemove 6 = .ok (.iadd, 1) := dk_96 (dk_at dksJ3_fastRemove_0 6 rfl rfl)
theorem dJ3_fastRemove_7 : decode cJ3_fastRemove 7 = .ok (.putfield 63, 3) := dk_181 0 63 (dk_at dksJ3_fastRemove_0 7 rfl rfl)
theorem dJ3_fastRemove_10 : decode cJ3_fastRemove 10 = .ok (.aload_n 0, 1) := dk_42 (dk_at dksJ3_fastRemove_0 10 rfl rfl)
theorem dJ3_fastRemove_11 : decode cJ3_fastRemove 11 = .ok (.getfield 48, 3) := dk_180 0 48 (dk_at dksJ3_fastRemove_0 11 rfl rfl)
theorem dJ3_fastRemove_14 : decode cJ3_fastRemove 14 = .ok (.iconst 1, 1) := dk_4 (dk_at dksJ3_fastRemove_0 14 rfl rfl)
theorem dJ3_fastRemove_15 : decode cJ3_fastRemove 15 = .ok (.isub, 1) := dk_100 (dk_at dksJ3_fastRemove_0 15 rfl rfl)
theorem dJ3_fastRemove_16 : decode cJ3_fastRemove 16 = .ok (.dup, 1) := dk_89 (dk_at dksJ3_fastRemove_0 16 rfl rfl)
theorem dJ3_fastRemove_17 : decode cJ3_fastRemove 17 = .ok (.istore_n 3, 1) := dk_62 (dk_at dksJ3_fastRemove_0 17 rfl rfl)
theorem dJ3_fastRemove_18 : decode cJ3_fastRemove 18 = .ok (.iload_n 2, 1) := dk_28 (dk_at dksJ3_fastRemove_0 18 rfl rfl)
theorem dJ3_fastRemove_19 : decode cJ3_fastRemove 19 = .ok (.if_icmp .le 15, 3) := dk_164 0 15 (dk_at dksJ3_fastRemove_0 19 rfl rfl)
theorem dJ3_fastRemove_22 : decode cJ3_fastRemove 22 = .ok (.aload_n 1, 1) := dk_43 (dk_at dksJ3_fastRemove_0 22 rfl rfl)
theorem dJ3_fastRemove_23 : decode cJ3_fastRemove 23 = .ok (.iload_n 2, 1) := dk_28 (dk_at dksJ3_fastRemove_0 23 rfl rfl)
theorem dJ3_fastRemove_24 : decode cJ3_fastRemove 24 = .ok (.iconst 1, 1) := dk_4 (dk_at dksJ3_fastRemove_1 0 rfl rfl)
theorem dJ3_fastRemove_25 : decode cJ3_fastRemove 25 = .ok (.iadd, 1) := dk_96 (dk_at dksJ3_fastRemove_1 1 rfl rfl)
theorem dJ3_fastRemove_26 : decode cJ3_fastRemove 26 = .ok (.aload_n 1, 1) := dk_43 (dk_at dksJ3_fastRemove_1 2 rfl rfl)
theorem dJ3_fastRemove_27 : decode cJ3_fastRemove 27 = .ok (.iload_n 2, 1) := dk_28 (dk_at dksJ3_fastRemove_1 3 rfl rfl)
theorem dJ3_fastRemove_28 : decode cJ3_fastRemove 28 = .ok (.iload_n 3, 1) := dk_29 (dk_at dksJ3_fastRemove_1 4 rfl rfl)
theorem dJ3_fastRemove_29 : decode cJ3_fastRemove 29 = .ok (.iload_n 2, 1) := dk_28 (dk_at dksJ3_fastRemove_1 5 rfl rfl)
theorem dJ3_fastRemove_30 : decode cJ3_fastRemove 30 = .ok (.isub, 1) := dk_100 (dk_at dksJ3_fastRemove_1 6 rfl rfl)
theorem dJ3_fastRemove_31 : decode cJ3_fastRemove 31 = .ok (.invokestatic 112, 3) := dk_184 0 112 (dk_at dksJ3_fastRemove_1 7 rfl rfl)
theorem dJ3_fastRemove_34 : decode cJ3_fastRemove 34 = .ok (.aload_n 1, 1) := dk_43 (dk_at dksJ3_fastRemove_1 10 rfl rfl)
theorem dJ3_fastRemove_35 : decode cJ3_fastRemove 35 = .ok (.aload_n 0, 1) := dk_42 (dk_at dksJ3_fastRemove_1 11 rfl rfl)
theorem dJ3_fastRemove_36 : decode cJ3_fastRemove 36 = .ok (.iload_n 3, 1) := dk_29 (dk_at dksJ3_fastRemove_1 12 rfl rfl)
theorem dJ3_fastRemove_37 : decode cJ3_fastRemove 37 = .ok (.dup_x1, 1) := dk_90 (dk_at dksJ3_fastRemove_1 13 rfl rfl)
theorem dJ3_fastRemove_38 : decode cJ3_fastRemove 38 = .ok (.putfield 48, 3) := dk_181 0 48 (dk_at dksJ3_fastRemove_1 14 rfl rfl)
theorem dJ3_fastRemove_41 : decode cJ3_fastRemove 41 = .ok (.aconst_null, 1) := dk_1 (dk_at dksJ3_fastRemove_1 17 rfl rfl)
theorem dJ3_fastRemove_42 : decode cJ3_fastRemove 42 = .ok (.aastore, 1) := dk_83 (dk_at dksJ3_fastRemove_1 18 rfl rfl)
theorem dJ3_fastRemove_43 : decode cJ3_fastRemove 43 = .ok (.return_, 1) := dk_177 (dk_at dksJ3_fastRemove_1 19 rfl rfl)
abbrev cJ3_get : ByteArray := prog_33_method_20_code
def yJ3_get : MethodName := ⟨RJ3, "get", "(I)Ljava/lang/Object;"⟩
def dkwJ3_get_0 : List UInt8 := [27, 42, 180, 0, 48, 184, 0, 118, 87, 42, 27, 182, 0, 123, 176]
abbrev dktJ3_get_0 : List UInt8 := dkwJ3_get_0 ++ []
theorem dksJ3_get_0 : cJ3_get.data.toList.drop 0 = dktJ3_get_0 := by decide +kernel
theorem dJ3_get_0 : decode cJ3_get 0 = .ok (.iload_n 1, 1) := dk_27 (dk_at dksJ3_get_0 0 rfl rfl)
theorem dJ3_get_1 : decode cJ3_get 1 = .ok (.aload_n 0, 1) := dk_42 (dk_at dksJ3_get_0 1 rfl rfl)
theorem dJ3_get_2 : decode cJ3_get 2 = .ok (.getfield 48, 3) := dk_180 0 48 (dk_at dksJ3_get_0 2 rfl rfl)
theorem dJ3_get_5 : decode cJ3_get 5 = .ok (.invokestatic 118, 3) := dk_184 0 118 (dk_at dksJ3_get_0 5 rfl rfl)
theorem dJ3_get_8 : decode cJ3_get 8 = .ok (.pop, 1) := dk_87 (dk_at dksJ3_get_0 8 rfl rfl)
theorem dJ3_get_9 : decode cJ3_get 9 = .ok (.aload_n 0, 1) := dk_42 (dk_at dksJ3_get_0 9 rfl rfl)
theorem dJ3_get_10 : decode cJ3_get 10 = .ok (.iload_n 1, 1) := dk_27 (dk_at dksJ3_get_0 10 rfl rfl)
theorem dJ3_get_11 : decode cJ3_get 11 = .ok (.invokevirtual 123, 3) := dk_182 0 123 (dk_at dksJ3_get_0 11 rfl rfl)
theorem dJ3_get_14 : decode cJ3_get 14 = .ok (.areturn, 1) := dk_176 (dk_at dksJ3_get_0 14 rfl rfl)
abbrev cJ3_elementData : ByteArray := prog_33_method_18_code
def yJ3_elementData : MethodName := ⟨RJ3, "elementData", "(I)Ljava/lang/Object;"⟩
def dkwJ3_elementData_0 : List UInt8 := [42, 180, 0, 9, 27, 50, 176]
abbrev dktJ3_elementData_0 : List UInt8 := dkwJ3_elementData_0 ++ []
theorem dksJ3_elementData_0 : cJ3_elementData.data.toList.drop 0 = dktJ3_elementData_0 := by decide +kernel
theorem dJ3_elementData_0 : decode cJ3_elementData 0 = .ok (.aload_n 0, 1) := dk_42 (dk_at dksJ3_elementData_0 0 rfl rfl)
theorem dJ3_elementData_1 : decode cJ3_elementData 1 = .ok (.getfield 9, 3) := dk_180 0 9 (dk_at dksJ3_elementData_0 1 rfl rfl)
theorem dJ3_elementData_4 : decode cJ3_elementData 4 = .ok (.iload_n 1, 1) := dk_27 (dk_at dksJ3_elementData_0 4 rfl rfl)
theorem dJ3_elementData_5 : decode cJ3_elementData 5 = .ok (.aaload, 1) := dk_50 (dk_at dksJ3_elementData_0 5 rfl rfl)
theorem dJ3_elementData_6 : decode cJ3_elementData 6 = .ok (.areturn, 1) := dk_176 (dk_at dksJ3_elementData_0 6 rfl rfl)
theorem q100 : (Jvm.Cond.initialized "java/util/ArrayList") ∈ lw_all := lw_g (lw_at lw_m1 6 rfl) rfl
theorem q146 : (Jvm.Cond.instantiable "java/util/ArrayList" (3 : Nat)) ∈ lw_all := lw_g (lw_at lw_m1 52 rfl) rfl
theorem q148 : (Jvm.Cond.instanceMethod ({ cls := "java/util/ArrayList", name := "<init>", desc := "()V" } : Jvm.MethodName)) ∈ lw_all := lw_g (lw_at lw_m1 54 rfl) rfl
theorem q149 : (Jvm.Cond.code ({ cls := "java/util/ArrayList", name := "<init>", desc := "()V" } : Jvm.MethodName) prog_33_method_2_code (1 : Nat) (Option.none : Option Jvm.ClassFile.FieldType)) ∈ lw_all := lw_g (lw_at lw_m1 55 rfl) rfl
theorem q150 : (Jvm.Cond.methodLink "java/util/ArrayList" (1 : Nat) ({ cls := "java/util/AbstractList", name := "<init>", desc := "()V" } : Jvm.MethodName)) ∈ lw_all := lw_g (lw_at lw_m1 56 rfl) rfl
theorem q157 : (Jvm.Cond.fieldLink "java/util/ArrayList" (39 : Nat) "java/util/ArrayList" "DEFAULTCAPACITY_EMPTY_ELEMENTDATA" "[Ljava/lang/Object;") ∈ lw_all := lw_g (lw_at lw_m1 63 rfl) rfl
theorem q158 : (Jvm.Cond.laysStatic "java/util/ArrayList" "DEFAULTCAPACITY_EMPTY_ELEMENTDATA" "[Ljava/lang/Object;") ∈ lw_tbl := lw_at lw_m1 64 rfl
theorem q159 : (Jvm.Cond.fieldLink "java/util/ArrayList" (9 : Nat) "java/util/ArrayList" "elementData" "[Ljava/lang/Object;") ∈ lw_all := lw_g (lw_at lw_m1 65 rfl) rfl
theorem q160 : (Jvm.Cond.fieldLink "java/util/ArrayList" (48 : Nat) "java/util/ArrayList" "size" "I") ∈ lw_all := lw_g (lw_at lw_m1 66 rfl) rfl
theorem q162 : (Jvm.Cond.fieldLink "java/util/ArrayList" (63 : Nat) "java/util/ArrayList" "modCount" "I") ∈ lw_all := lw_g (lw_at lw_m1 68 rfl) rfl
theorem q163 : (Jvm.Cond.sameField "java/util/ArrayList" "java/util/AbstractList" "modCount" "I") ∈ lw_all := lw_g (lw_at lw_m1 69 rfl) rfl
theorem q164 : (Jvm.Cond.lays "java/util/ArrayList" "java/util/ArrayList" "elementData" "[Ljava/lang/Object;") ∈ lw_all := lw_g (lw_at lw_m1 70 rfl) rfl
theorem q165 : (Jvm.Cond.soleField "java/util/ArrayList" "elementData") ∈ lw_all := lw_g (lw_at lw_m1 71 rfl) rfl
theorem q166 : (Jvm.Cond.lays "java/util/ArrayList" "java/util/ArrayList" "size" "I") ∈ lw_all := lw_g (lw_at lw_m1 72 rfl) rfl
theorem q167 : (Jvm.Cond.soleField "java/util/ArrayList" "size") ∈ lw_all := lw_g (lw_at lw_m1 73 rfl) rfl
theorem q168 : (Jvm.Cond.lays "java/util/ArrayList" "java/util/AbstractList" "modCount" "I") ∈ lw_all := lw_g (lw_at lw_m1 74 rfl) rfl
theorem q170 : (Jvm.Cond.superclass "java/util/ArrayList" "java/util/AbstractList") ∈ lw_all := lw_g (lw_at lw_m1 76 rfl) rfl
theorem q287 : (Jvm.Cond.instanceMethod ({ cls := "java/util/ArrayList", name := "add", desc := "(Ljava/lang/Object;)Z" } : Jvm.MethodName)) ∈ lw_all := lw_g (lw_at lw_m1 193 rfl) rfl
theorem q288 : (Jvm.Cond.selects "java/util/ArrayList" ({ cls := "java/util/ArrayList", name := "add", desc := "(Ljava/lang/Object;)Z" } : Jvm.MethodName) ({ cls := "java/util/ArrayList", name := "add", desc := "(Ljava/lang/Object;)Z" } : Jvm.MethodName)) ∈ lw_all := lw_g (lw_at lw_m1 194 rfl) rfl
theorem q289 : (Jvm.Cond.code ({ cls := "java/util/ArrayList", name := "add", desc := "(Ljava/lang/Object;)Z" } : Jvm.MethodName) prog_33_method_25_code (2 : Nat) (Option.some Jvm.ClassFile.FieldType.boolean)) ∈ lw_all := lw_g (lw_at lw_m1 195 rfl) rfl
theorem q290 : (Jvm.Cond.methodLink "java/util/ArrayList" (131 : Nat) ({ cls := "java/util/ArrayList", name := "add", desc := "(Ljava/lang/Object;[Ljava/lang/Object;I)V" } : Jvm.MethodName)) ∈ lw_all := lw_g (lw_at lw_m1 196 rfl) rfl
theorem q291 : (Jvm.Cond.privateMethod ({ cls := "java/util/ArrayList", name := "add", desc := "(Ljava/lang/Object;[Ljava/lang/Object;I)V" } : Jvm.MethodName)) ∈ lw_tbl := lw_at lw_m1 197 rfl
theorem q292 : (Jvm.Cond.instanceMethod ({ cls := "java/util/ArrayList", name := "add", desc := "(Ljava/lang/Object;[Ljava/lang/Object;I)V" } : Jvm.MethodName)) ∈ lw_all := lw_g (lw_at lw_m1 198 rfl) rfl
theorem q293 : (Jvm.Cond.code ({ cls := "java/util/ArrayList", name := "add", desc := "(Ljava/lang/Object;[Ljava/lang/Object;I)V" } : Jvm.MethodName) prog_33_method_24_code (4 : Nat) (Option.none : Option Jvm.ClassFile.FieldType)) ∈ lw_all := lw_g (lw_at lw_m1 199 rfl) rfl
theorem q294 : (Jvm.Cond.methodLink "java/util/ArrayList" (129 : Nat) ({ cls := "java/util/ArrayList", name := "grow", desc := "()[Ljava/lang/Object;" } : Jvm.MethodName)) ∈ lw_all := lw_g (lw_at lw_m1 200 rfl) rfl
theorem q295 : (Jvm.Cond.privateMethod ({ cls := "java/util/ArrayList", name := "grow", desc := "()[Ljava/lang/Object;" } : Jvm.MethodName)) ∈ lw_tbl := lw_at lw_m1 201 rfl
theorem q296 : (Jvm.Cond.instanceMethod ({ cls := "java/util/ArrayList", name := "grow", desc := "()[Ljava/lang/Object;" } : Jvm.MethodName)) ∈ lw_all := lw_g (lw_at lw_m1 202 rfl) rfl
theorem q297 : (Jvm.Cond.code ({ cls := "java/util/ArrayList", name := "grow", desc := "()[Ljava/lang/Object;" } : Jvm.MethodName) prog_33_method_7_code (1 : Nat) (Option.some (Jvm.ClassFile.FieldType.array (Jvm.ClassFile.FieldType.object "java/lang/Object")))) ∈ lw_all := lw_g (lw_at lw_m1 203 rfl) rfl
theorem q298 : (Jvm.Cond.methodLink "java/util/ArrayList" (69 : Nat) ({ cls := "java/util/ArrayList", name := "grow", desc := "(I)[Ljava/lang/Object;" } : Jvm.MethodName)) ∈ lw_all := lw_g (lw_at lw_m1 204 rfl) rfl
theorem q299 : (Jvm.Cond.privateMethod ({ cls := "java/util/ArrayList", name := "grow", desc := "(I)[Ljava/lang/Object;" } : Jvm.MethodName)) ∈ lw_tbl := lw_at lw_m1 205 rfl
theorem q300 : (Jvm.Cond.instanceMethod ({ cls := "java/util/ArrayList", name := "grow", desc := "(I)[Ljava/lang/Object;" } : Jvm.MethodName)) ∈ lw_all := lw_g (lw_at lw_m1 206 rfl) rfl
theorem q301 : (Jvm.Cond.code ({ cls := "java/util/ArrayList", name := "grow", desc := "(I)[Ljava/lang/Object;" } : Jvm.MethodName) prog_33_method_6_code (4 : Nat) (Option.some (Jvm.ClassFile.FieldType.array (Jvm.ClassFile.FieldType.object "java/lang/Object")))) ∈ lw_all := lw_g (lw_at lw_m1 207 rfl) rfl
theorem q302 : (Jvm.Cond.methodLink "java/util/ArrayList" (73 : Nat) ({ cls := "jdk/internal/util/ArraysSupport", name := "newLength", desc := "(III)I" } : Jvm.MethodName)) ∈ lw_all := lw_g (lw_at lw_m1 208 rfl) rfl
theorem q312 : (Jvm.Cond.methodLink "java/util/ArrayList" (66 : Nat) ({ cls := "java/util/Arrays", name := "copyOf", desc := "([Ljava/lang/Object;I)[Ljava/lang/Object;" } : Jvm.MethodName)) ∈ lw_all := lw_g (lw_at lw_m1 218 rfl) rfl
theorem q330 : (Jvm.Cond.selects "java/util/ArrayList" ({ cls := "java/lang/Object", name := "getClass", desc := "()Ljava/lang/Class;" } : Jvm.MethodName) ({ cls := "java/lang/Object", name := "getClass", desc := "()Ljava/lang/Class;" } : Jvm.MethodName)) ∈ lw_all := lw_g (lw_at lw_m1 236 rfl) rfl
theorem q345 : (Jvm.Cond.methodLink "java/util/ArrayList" (79 : Nat) ({ cls := "java/lang/Math", name := "max", desc := "(II)I" } : Jvm.MethodName)) ∈ lw_all := lw_g (lw_at lw_m2 11 rfl) rfl
theorem q346 : (Jvm.Cond.classLink "java/util/ArrayList" (7 : Nat) "java/lang/Object") ∈ lw_all := lw_g (lw_at lw_m2 12 rfl) rfl
theorem q355 : (Jvm.Cond.instanceMethod ({ cls := "java/util/ArrayList", name := "size", desc := "()I" } : Jvm.MethodName)) ∈ lw_all := lw_g (lw_at lw_m2 21 rfl) rfl
theorem q356 : (Jvm.Cond.selects "java/util/ArrayList" ({ cls := "java/util/ArrayList", name := "size", desc := "()I" } : Jvm.MethodName) ({ cls := "java/util/ArrayList", name := "size", desc := "()I" } : Jvm.MethodName)) ∈ lw_all := lw_g (lw_at lw_m2 22 rfl) rfl
theorem q357 : (Jvm.Cond.code ({ cls := "java/util/ArrayList", name := "size", desc := "()I" } : Jvm.MethodName) prog_33_method_8_code (1 : Nat) (Option.some Jvm.ClassFile.FieldType.int)) ∈ lw_all := lw_g (lw_at lw_m2 23 rfl) rfl
theorem q359 : (Jvm.Cond.instanceMethod ({ cls := "java/util/ArrayList", name := "remove", desc := "(I)Ljava/lang/Object;" } : Jvm.MethodName)) ∈ lw_all := lw_g (lw_at lw_m2 25 rfl) rfl
theorem q360 : (Jvm.Cond.selects "java/util/ArrayList" ({ cls := "java/util/ArrayList", name := "remove", desc := "(I)Ljava/lang/Object;" } : Jvm.MethodName) ({ cls := "java/util/ArrayList", name := "remove", desc := "(I)Ljava/lang/Object;" } : Jvm.MethodName)) ∈ lw_all := lw_g (lw_at lw_m2 26 rfl) rfl
theorem q361 : (Jvm.Cond.code ({ cls := "java/util/ArrayList", name := "remove", desc := "(I)Ljava/lang/Object;" } : Jvm.MethodName) prog_33_method_29_code (4 : Nat) (Option.some (Jvm.ClassFile.FieldType.object "java/lang/Object"))) ∈ lw_all := lw_g (lw_at lw_m2 27 rfl) rfl
theorem q362 : (Jvm.Cond.methodLink "java/util/ArrayList" (118 : Nat) ({ cls := "java/util/Objects", name := "checkIndex", desc := "(II)I" } : Jvm.MethodName)) ∈ lw_all := lw_g (lw_at lw_m2 28 rfl) rfl
theorem q366 : (Jvm.Cond.methodLink "java/util/ArrayList" (144 : Nat) ({ cls := "java/util/ArrayList", name := "fastRemove", desc := "([Ljava/lang/Object;I)V" } : Jvm.MethodName)) ∈ lw_all := lw_g (lw_at lw_m2 32 rfl) rfl
theorem q367 : (Jvm.Cond.privateMethod ({ cls := "java/util/ArrayList", name := "fastRemove", desc := "([Ljava/lang/Object;I)V" } : Jvm.MethodName)) ∈ lw_tbl := lw_at lw_m2 33 rfl
theorem q368 : (Jvm.Cond.instanceMethod ({ cls := "java/util/ArrayList", name := "fastRemove", desc := "([Ljava/lang/Object;I)V" } : Jvm.MethodName)) ∈ lw_all := lw_g (lw_at lw_m2 34 rfl) rfl
theorem q369 : (Jvm.Cond.code ({ cls := "java/util/ArrayList", name := "fastRemove", desc := "([Ljava/lang/Object;I)V" } : Jvm.MethodName) prog_33_method_39_code (4 : Nat) (Option.none : Option Jvm.ClassFile.FieldType)) ∈ lw_all := lw_g (lw_at lw_m2 35 rfl) rfl
theorem q370 : (Jvm.Cond.methodLink "java/util/ArrayList" (112 : Nat) ({ cls := "java/lang/System", name := "arraycopy", desc := "(Ljava/lang/Object;ILjava/lang/Object;II)V" } : Jvm.MethodName)) ∈ lw_all := lw_g (lw_at lw_m2 36 rfl) rfl
theorem q372 : (Jvm.Cond.instanceMethod ({ cls := "java/util/ArrayList", name := "get", desc := "(I)Ljava/lang/Object;" } : Jvm.MethodName)) ∈ lw_all := lw_g (lw_at lw_m2 38 rfl) rfl
theorem q373 : (Jvm.Cond.selects "java/util/ArrayList" ({ cls := "java/util/ArrayList", name := "get", desc := "(I)Ljava/lang/Object;" } : Jvm.MethodName) ({ cls := "java/util/ArrayList", name := "get", desc := "(I)Ljava/lang/Object;" } : Jvm.MethodName)) ∈ lw_all := lw_g (lw_at lw_m2 39 rfl) rfl
theorem q374 : (Jvm.Cond.code ({ cls := "java/util/ArrayList", name := "get", desc := "(I)Ljava/lang/Object;" } : Jvm.MethodName) prog_33_method_20_code (2 : Nat) (Option.some (Jvm.ClassFile.FieldType.object "java/lang/Object"))) ∈ lw_all := lw_g (lw_at lw_m2 40 rfl) rfl
theorem q375 : (Jvm.Cond.methodLink "java/util/ArrayList" (123 : Nat) ({ cls := "java/util/ArrayList", name := "elementData", desc := "(I)Ljava/lang/Object;" } : Jvm.MethodName)) ∈ lw_all := lw_g (lw_at lw_m2 41 rfl) rfl
theorem q376 : (Jvm.Cond.instanceMethod ({ cls := "java/util/ArrayList", name := "elementData", desc := "(I)Ljava/lang/Object;" } : Jvm.MethodName)) ∈ lw_all := lw_g (lw_at lw_m2 42 rfl) rfl
theorem q377 : (Jvm.Cond.selects "java/util/ArrayList" ({ cls := "java/util/ArrayList", name := "elementData", desc := "(I)Ljava/lang/Object;" } : Jvm.MethodName) ({ cls := "java/util/ArrayList", name := "elementData", desc := "(I)Ljava/lang/Object;" } : Jvm.MethodName)) ∈ lw_all := lw_g (lw_at lw_m2 43 rfl) rfl
theorem q378 : (Jvm.Cond.code ({ cls := "java/util/ArrayList", name := "elementData", desc := "(I)Ljava/lang/Object;" } : Jvm.MethodName) prog_33_method_18_code (2 : Nat) (Option.some (Jvm.ClassFile.FieldType.object "java/lang/Object"))) ∈ lw_all := lw_g (lw_at lw_m2 44 rfl) rfl
theorem q1478 : (Jvm.Cond.castable "java/util/ArrayList" "java/lang/Object") ∈ lw_tbl := lw_at lw_m6 184 rfl
theorem in_J3 : ∀ w ∈ wsJ30, w ∈ lw_all := lw_in wsJ30 [168, 164, 166] (by decide +kernel) (by decide +kernel)
/-! java/lang/String -/
set_option maxRecDepth 100000
def RJ4 : String := "java/lang/String"
def TJ4 : u_T := fun k => match k with
  | 0 => ("java/lang/String", "value", "[B", true)
  | _ => ("java/lang/String", "coder", "B", true)
def tyJ4 : Nat → FieldType := fun k => match k with
  | 0 => .array .byte
  | _ => .byte
abbrev wsJ40 : List Cond := u_ws RJ4 TJ4 2
theorem nmJ4 : ∀ a, a < 2 → ∀ b, b < 2 → a ≠ b → (TJ4 a).2.1 ≠ (TJ4 b).2.1 := by decide +kernel
theorem tyJ4_ok : ∀ k, k < 2 → parseFieldDescriptor (TJ4 k).2.2.1 = some (tyJ4 k) := by decide +kernel
abbrev cJ4_length : ByteArray := prog_24_method_54_code
def yJ4_length : MethodName := ⟨RJ4, "length", "()I"⟩
def dkwJ4_length_0 : List UInt8 := [42, 180, 0, 9, 190, 42, 182, 1, 79, 122, 172]
abbrev dktJ4_length_0 : List UInt8 := dkwJ4_length_0 ++ []
theorem dksJ4_length_0 : cJ4_length.data.toList.drop 0 = dktJ4_length_0 := by decide +kernel
theorem dJ4_length_0 : decode cJ4_length 0 = .ok (.aload_n 0, 1) := dk_42 (dk_at dksJ4_length_0 0 rfl rfl)
theorem dJ4_length_1 : decode cJ4_length 1 = .ok (.getfield 9, 3) := dk_180 0 9 (dk_at dksJ4_length_0 1 rfl rfl)
theorem dJ4_length_4 : decode cJ4_length 4 = .ok (.arraylength, 1) := dk_190 (dk_at dksJ4_length_0 4 rfl rfl)
theorem dJ4_length_5 : decode cJ4_length 5 = .ok (.aload_n 0, 1) := dk_42 (dk_at dksJ4_length_0 5 rfl rfl)
theorem dJ4_length_6 : decode cJ4_length 6 = .ok (.invokevirtual 335, 3) := dk_182 1 79 (dk_at dksJ4_length_0 6 rfl rfl)
theorem dJ4_length_9 : decode cJ4_length 9 = .ok (.ishr, 1) := dk_122 (dk_at dksJ4_length_0 9 rfl rfl)
theorem dJ4_length_10 : decode cJ4_length 10 = .ok (.ireturn, 1) := dk_172 (dk_at dksJ4_length_0 10 rfl rfl)
abbrev cJ4_coder : ByteArray := prog_24_method_152_code
def yJ4_coder : MethodName := ⟨RJ4, "coder", "()B"⟩
def dkwJ4_coder_0 : List UInt8 := [178, 0, 38, 153, 0, 10, 42, 180, 0, 15, 167, 0, 4, 4, 172]
abbrev dktJ4_coder_0 : List UInt8 := dkwJ4_coder_0 ++ []
theorem dksJ4_coder_0 : cJ4_coder.data.toList.drop 0 = dktJ4_coder_0 := by decide +kernel
theorem dJ4_coder_0 : decode cJ4_coder 0 = .ok (.getstatic 38, 3) := dk_178 0 38 (dk_at dksJ4_coder_0 0 rfl rfl)
theorem dJ4_coder_3 : decode cJ4_coder 3 = .ok (.ifCond .eq 10, 3) := dk_153 0 10 (dk_at dksJ4_coder_0 3 rfl rfl)
theorem dJ4_coder_6 : decode cJ4_coder 6 = .ok (.aload_n 0, 1) := dk_42 (dk_at dksJ4_coder_0 6 rfl rfl)
theorem dJ4_coder_7 : decode cJ4_coder 7 = .ok (.getfield 15, 3) := dk_180 0 15 (dk_at dksJ4_coder_0 7 rfl rfl)
theorem dJ4_coder_10 : decode cJ4_coder 10 = .ok (.goto 4, 3) := dk_167 0 4 (dk_at dksJ4_coder_0 10 rfl rfl)
theorem dJ4_coder_13 : decode cJ4_coder 13 = .ok (.iconst 1, 1) := dk_4 (dk_at dksJ4_coder_0 13 rfl rfl)
theorem dJ4_coder_14 : decode cJ4_coder 14 = .ok (.ireturn, 1) := dk_172 (dk_at dksJ4_coder_0 14 rfl rfl)
abbrev cJ4_charAt : ByteArray := prog_24_method_56_code
def yJ4_charAt : MethodName := ⟨RJ4, "charAt", "(I)C"⟩
def dkwJ4_charAt_1 : List UInt8 := [172]
abbrev dktJ4_charAt_1 : List UInt8 := dkwJ4_charAt_1 ++ []
def dkwJ4_charAt_0 : List UInt8 := [42, 182, 1, 236, 153, 0, 12, 42, 180, 0, 9, 27, 184, 1, 239, 172, 42, 180, 0, 9, 27, 184, 1, 242]
abbrev dktJ4_charAt_0 : List UInt8 := dkwJ4_charAt_0 ++ dktJ4_charAt_1
theorem dksJ4_charAt_0 : cJ4_charAt.data.toList.drop 0 = dktJ4_charAt_0 := by decide +kernel
theorem dksJ4_charAt_1 : cJ4_charAt.data.toList.drop 24 = dktJ4_charAt_1 := dk_seg dksJ4_charAt_0 24 rfl rfl
theorem dJ4_charAt_0 : decode cJ4_charAt 0 = .ok (.aload_n 0, 1) := dk_42 (dk_at dksJ4_charAt_0 0 rfl rfl)
theorem dJ4_charAt_1 : decode cJ4_charAt 1 = .ok (.invokevirtual 492, 3) := dk_182 1 236 (dk_at dksJ4_charAt_0 1 rfl rfl)
theorem dJ4_charAt_4 : decode cJ4_charAt 4 = .ok (.ifCond .eq 12, 3) := dk_153 0 12 (dk_at dksJ4_charAt_0 4 rfl rfl)
theorem dJ4_charAt_7 : decode cJ4_charAt 7 = .ok (.aload_n 0, 1) := dk_42 (dk_at dksJ4_charAt_0 7 rfl rfl)
theorem dJ4_charAt_8 : decode cJ4_charAt 8 = .ok (.getfield 9, 3) := dk_180 0 9 (dk_at dksJ4_charAt_0 8 rfl rfl)
theorem dJ4_charAt_11 : decode cJ4_charAt 11 = .ok (.iload_n 1, 1) := dk_27 (dk_at dksJ4_charAt_0 11 rfl rfl)
theorem dJ4_charAt_12 : decode cJ4_charAt 12 = .ok (.invokestatic 495, 3) := dk_184 1 239 (dk_at dksJ4_charAt_0 12 rfl rfl)
theorem dJ4_charAt_15 : decode cJ4_charAt 15 = .ok (.ireturn, 1) := dk_172 (dk_at dksJ4_charAt_0 15 rfl rfl)
theorem dJ4_charAt_16 : decode cJ4_charAt 16 = .ok (.aload_n 0, 1) := dk_42 (dk_at dksJ4_charAt_0 16 rfl rfl)
theorem dJ4_charAt_17 : decode cJ4_charAt 17 = .ok (.getfield 9, 3) := dk_180 0 9 (dk_at dksJ4_charAt_0 17 rfl rfl)
theorem dJ4_charAt_20 : decode cJ4_charAt 20 = .ok (.iload_n 1, 1) := dk_27 (dk_at dksJ4_charAt_0 20 rfl rfl)
theorem dJ4_charAt_21 : decode cJ4_charAt 21 = .ok (.invokestatic 498, 3) := dk_184 1 242 (dk_at dksJ4_charAt_0 21 rfl rfl)
theorem dJ4_charAt_24 : decode cJ4_charAt 24 = .ok (.ireturn, 1) := dk_172 (dk_at dksJ4_charAt_1 0 rfl rfl)
abbrev cJ4_isLatin1 : ByteArray := prog_24_method_154_code
def yJ4_isLatin1 : MethodName := ⟨RJ4, "isLatin1", "()Z"⟩
def dkwJ4_isLatin1_0 : List UInt8 := [178, 0, 38, 153, 0, 14, 42, 180, 0, 15, 154, 0, 7, 4, 167, 0, 4, 3, 172]
abbrev dktJ4_isLatin1_0 : List UInt8 := dkwJ4_isLatin1_0 ++ []
theorem dksJ4_isLatin1_0 : cJ4_isLatin1.data.toList.drop 0 = dktJ4_isLatin1_0 := by decide +kernel
theorem dJ4_isLatin1_0 : decode cJ4_isLatin1 0 = .ok (.getstatic 38, 3) := dk_178 0 38 (dk_at dksJ4_isLatin1_0 0 rfl rfl)
theorem dJ4_isLatin1_3 : decode cJ4_isLatin1 3 = .ok (.ifCond .eq 14, 3) := dk_153 0 14 (dk_at dksJ4_isLatin1_0 3 rfl rfl)
theorem dJ4_isLatin1_6 : decode cJ4_isLatin1 6 = .ok (.aload_n 0, 1) := dk_42 (dk_at dksJ4_isLatin1_0 6 rfl rfl)
theorem dJ4_isLatin1_7 : decode cJ4_isLatin1 7 = .ok (.getfield 15, 3) := dk_180 0 15 (dk_at dksJ4_isLatin1_0 7 rfl rfl)
theorem dJ4_isLatin1_10 : decode cJ4_isLatin1 10 = .ok (.ifCond .ne 7, 3) := dk_154 0 7 (dk_at dksJ4_isLatin1_0 10 rfl rfl)
theorem dJ4_isLatin1_13 : decode cJ4_isLatin1 13 = .ok (.iconst 1, 1) := dk_4 (dk_at dksJ4_isLatin1_0 13 rfl rfl)
theorem dJ4_isLatin1_14 : decode cJ4_isLatin1 14 = .ok (.goto 4, 3) := dk_167 0 4 (dk_at dksJ4_isLatin1_0 14 rfl rfl)
theorem dJ4_isLatin1_17 : decode cJ4_isLatin1 17 = .ok (.iconst 0, 1) := dk_3 (dk_at dksJ4_isLatin1_0 17 rfl rfl)
theorem dJ4_isLatin1_18 : decode cJ4_isLatin1 18 = .ok (.ireturn, 1) := dk_172 (dk_at dksJ4_isLatin1_0 18 rfl rfl)
abbrev cJ4_checkIndex : ByteArray := prog_24_method_155_code
def yJ4_checkIndex : MethodName := ⟨RJ4, "checkIndex", "(II)V"⟩
def dkwJ4_checkIndex_0 : List UInt8 := [26, 27, 178, 4, 29, 184, 4, 35, 87, 177]
abbrev dktJ4_checkIndex_0 : List UInt8 := dkwJ4_checkIndex_0 ++ []
theorem dksJ4_checkIndex_0 : cJ4_checkIndex.data.toList.drop 0 = dktJ4_checkIndex_0 := by decide +kernel
theorem dJ4_checkIndex_0 : decode cJ4_checkIndex 0 = .ok (.iload_n 0, 1) := dk_26 (dk_at dksJ4_checkIndex_0 0 rfl rfl)
theorem dJ4_checkIndex_1 : decode cJ4_checkIndex 1 = .ok (.iload_n 1, 1) := dk_27 (dk_at dksJ4_checkIndex_0 1 rfl rfl)
theorem dJ4_checkIndex_2 : decode cJ4_checkIndex 2 = .ok (.getstatic 1053, 3) := dk_178 4 29 (dk_at dksJ4_checkIndex_0 2 rfl rfl)
theorem dJ4_checkIndex_5 : decode cJ4_checkIndex 5 = .ok (.invokestatic 1059, 3) := dk_184 4 35 (dk_at dksJ4_checkIndex_0 5 rfl rfl)
theorem dJ4_checkIndex_8 : decode cJ4_checkIndex 8 = .ok (.pop, 1) := dk_87 (dk_at dksJ4_checkIndex_0 8 rfl rfl)
theorem dJ4_checkIndex_9 : decode cJ4_checkIndex 9 = .ok (.return_, 1) := dk_177 (dk_at dksJ4_checkIndex_0 9 rfl rfl)
theorem q104 : (Jvm.Cond.initialized "java/lang/String") ∈ lw_all := lw_g (lw_at lw_m1 10 rfl) rfl
theorem q219 : (Jvm.Cond.instanceMethod ({ cls := "java/lang/String", name := "length", desc := "()I" } : Jvm.MethodName)) ∈ lw_all := lw_g (lw_at lw_m1 125 rfl) rfl
theorem q220 : (Jvm.Cond.selects "java/lang/String" ({ cls := "java/lang/String", name := "length", desc := "()I" } : Jvm.MethodName) ({ cls := "java/lang/String", name := "length", desc := "()I" } : Jvm.MethodName)) ∈ lw_all := lw_g (lw_at lw_m1 126 rfl) rfl
theorem q221 : (Jvm.Cond.code ({ cls := "java/lang/String", name := "length", desc := "()I" } : Jvm.MethodName) prog_24_method_54_code (1 : Nat) (Option.some Jvm.ClassFile.FieldType.int)) ∈ lw_all := lw_g (lw_at lw_m1 127 rfl) rfl
theorem q222 : (Jvm.Cond.methodLink "java/lang/String" (335 : Nat) ({ cls := "java/lang/String", name := "coder", desc := "()B" } : Jvm.MethodName)) ∈ lw_all := lw_g (lw_at lw_m1 128 rfl) rfl
theorem q223 : (Jvm.Cond.instanceMethod ({ cls := "java/lang/String", name := "coder", desc := "()B" } : Jvm.MethodName)) ∈ lw_all := lw_g (lw_at lw_m1 129 rfl) rfl
theorem q224 : (Jvm.Cond.selects "java/lang/String" ({ cls := "java/lang/String", name := "coder", desc := "()B" } : Jvm.MethodName) ({ cls := "java/lang/String", name := "coder", desc := "()B" } : Jvm.MethodName)) ∈ lw_all := lw_g (lw_at lw_m1 130 rfl) rfl
theorem q225 : (Jvm.Cond.code ({ cls := "java/lang/String", name := "coder", desc := "()B" } : Jvm.MethodName) prog_24_method_152_code (1 : Nat) (Option.some Jvm.ClassFile.FieldType.byte)) ∈ lw_all := lw_g (lw_at lw_m1 131 rfl) rfl
theorem q226 : (Jvm.Cond.fieldLink "java/lang/String" (38 : Nat) "java/lang/String" "COMPACT_STRINGS" "Z") ∈ lw_all := lw_g (lw_at lw_m1 132 rfl) rfl
theorem q227 : (Jvm.Cond.laysStatic "java/lang/String" "COMPACT_STRINGS" "Z") ∈ lw_tbl := lw_at lw_m1 133 rfl
theorem q229 : (Jvm.Cond.instanceMethod ({ cls := "java/lang/String", name := "charAt", desc := "(I)C" } : Jvm.MethodName)) ∈ lw_all := lw_g (lw_at lw_m1 135 rfl) rfl
theorem q230 : (Jvm.Cond.selects "java/lang/String" ({ cls := "java/lang/String", name := "charAt", desc := "(I)C" } : Jvm.MethodName) ({ cls := "java/lang/String", name := "charAt", desc := "(I)C" } : Jvm.MethodName)) ∈ lw_all := lw_g (lw_at lw_m1 136 rfl) rfl
theorem q231 : (Jvm.Cond.code ({ cls := "java/lang/String", name := "charAt", desc := "(I)C" } : Jvm.MethodName) prog_24_method_56_code (2 : Nat) (Option.some Jvm.ClassFile.FieldType.char)) ∈ lw_all := lw_g (lw_at lw_m1 137 rfl) rfl
theorem q232 : (Jvm.Cond.methodLink "java/lang/String" (492 : Nat) ({ cls := "java/lang/String", name := "isLatin1", desc := "()Z" } : Jvm.MethodName)) ∈ lw_all := lw_g (lw_at lw_m1 138 rfl) rfl
theorem q233 : (Jvm.Cond.instanceMethod ({ cls := "java/lang/String", name := "isLatin1", desc := "()Z" } : Jvm.MethodName)) ∈ lw_all := lw_g (lw_at lw_m1 139 rfl) rfl
theorem q234 : (Jvm.Cond.selects "java/lang/String" ({ cls := "java/lang/String", name := "isLatin1", desc := "()Z" } : Jvm.MethodName) ({ cls := "java/lang/String", name := "isLatin1", desc := "()Z" } : Jvm.MethodName)) ∈ lw_all := lw_g (lw_at lw_m1 140 rfl) rfl
theorem q235 : (Jvm.Cond.code ({ cls := "java/lang/String", name := "isLatin1", desc := "()Z" } : Jvm.MethodName) prog_24_method_154_code (1 : Nat) (Option.some Jvm.ClassFile.FieldType.boolean)) ∈ lw_all := lw_g (lw_at lw_m1 141 rfl) rfl
theorem q236 : (Jvm.Cond.methodLink "java/lang/String" (495 : Nat) ({ cls := "java/lang/StringLatin1", name := "charAt", desc := "([BI)C" } : Jvm.MethodName)) ∈ lw_all := lw_g (lw_at lw_m1 142 rfl) rfl
theorem q240 : (Jvm.Cond.static ({ cls := "java/lang/String", name := "checkIndex", desc := "(II)V" } : Jvm.MethodName)) ∈ lw_all := lw_g (lw_at lw_m1 146 rfl) rfl
theorem q241 : (Jvm.Cond.code ({ cls := "java/lang/String", name := "checkIndex", desc := "(II)V" } : Jvm.MethodName) prog_24_method_155_code (2 : Nat) (Option.none : Option Jvm.ClassFile.FieldType)) ∈ lw_all := lw_g (lw_at lw_m1 147 rfl) rfl
theorem q242 : (Jvm.Cond.fieldLink "java/lang/String" (1053 : Nat) "jdk/internal/util/Preconditions" "SIOOBE_FORMATTER" "Ljava/util/function/BiFunction;") ∈ lw_all := lw_g (lw_at lw_m1 148 rfl) rfl
theorem q244 : (Jvm.Cond.methodLink "java/lang/String" (1059 : Nat) ({ cls := "jdk/internal/util/Preconditions", name := "checkIndex", desc := "(IILjava/util/function/BiFunction;)I" } : Jvm.MethodName)) ∈ lw_all := lw_g (lw_at lw_m1 150 rfl) rfl
theorem q247 : (Jvm.Cond.methodLink "java/lang/String" (498 : Nat) ({ cls := "java/lang/StringUTF16", name := "charAt", desc := "([BI)C" } : Jvm.MethodName)) ∈ lw_all := lw_g (lw_at lw_m1 153 rfl) rfl
theorem q962 : (Jvm.Cond.instantiable "java/lang/String" (4 : Nat)) ∈ lw_all := lw_g (lw_at lw_m4 148 rfl) rfl
theorem q963 : (Jvm.Cond.laysFinal "java/lang/String" "java/lang/String" "value" "[B") ∈ lw_all := lw_g (lw_at lw_m4 149 rfl) rfl
theorem q964 : (Jvm.Cond.soleField "java/lang/String" "value") ∈ lw_all := lw_g (lw_at lw_m4 150 rfl) rfl
theorem q965 : (Jvm.Cond.laysFinal "java/lang/String" "java/lang/String" "coder" "B") ∈ lw_all := lw_g (lw_at lw_m4 151 rfl) rfl
theorem q966 : (Jvm.Cond.soleField "java/lang/String" "coder") ∈ lw_all := lw_g (lw_at lw_m4 152 rfl) rfl
theorem q1489 : (Jvm.Cond.castable "java/lang/String" "java/lang/Object") ∈ lw_tbl := lw_at lw_m6 195 rfl
theorem q1504 : (Jvm.Cond.fieldLink "java/lang/String" (9 : Nat) "java/lang/String" "value" "[B") ∈ lw_all := lw_g (lw_at lw_m6 210 rfl) rfl
theorem q1505 : (Jvm.Cond.fieldLink "java/lang/String" (15 : Nat) "java/lang/String" "coder" "B") ∈ lw_all := lw_g (lw_at lw_m6 211 rfl) rfl
theorem in_J4 : ∀ w ∈ wsJ40, w ∈ lw_all := lw_in wsJ40 [963, 965] (by decide +kernel) (by decide +kernel)
/-! java/lang/StringLatin1 -/
set_option maxRecDepth 100000
def RJ5 : String := "java/lang/StringLatin1"
abbrev cJ5_charAt : ByteArray := prog_25_method_2_code
def yJ5_charAt : MethodName := ⟨RJ5, "charAt", "([BI)C"⟩
def dkwJ5_charAt_0 : List UInt8 := [27, 42, 190, 184, 0, 9, 42, 27, 51, 17, 0, 255, 126, 146, 172]
abbrev dktJ5_charAt_0 : List UInt8 := dkwJ5_charAt_0 ++ []
theorem dksJ5_charAt_0 : cJ5_charAt.data.toList.drop 0 = dktJ5_charAt_0 := by decide +kernel
theorem dJ5_charAt_0 : decode cJ5_charAt 0 = .ok (.iload_n 1, 1) := dk_27 (dk_at dksJ5_charAt_0 0 rfl rfl)
theorem dJ5_charAt_1 : decode cJ5_charAt 1 = .ok (.aload_n 0, 1) := dk_42 (dk_at dksJ5_charAt_0 1 rfl rfl)
theorem dJ5_charAt_2 : decode cJ5_charAt 2 = .ok (.arraylength, 1) := dk_190 (dk_at dksJ5_charAt_0 2 rfl rfl)
theorem dJ5_charAt_3 : decode cJ5_charAt 3 = .ok (.invokestatic 9, 3) := dk_184 0 9 (dk_at dksJ5_charAt_0 3 rfl rfl)
theorem dJ5_charAt_6 : decode cJ5_charAt 6 = .ok (.aload_n 0, 1) := dk_42 (dk_at dksJ5_charAt_0 6 rfl rfl)
theorem dJ5_charAt_7 : decode cJ5_charAt 7 = .ok (.iload_n 1, 1) := dk_27 (dk_at dksJ5_charAt_0 7 rfl rfl)
theorem dJ5_charAt_8 : decode cJ5_charAt 8 = .ok (.baload, 1) := dk_51 (dk_at dksJ5_charAt_0 8 rfl rfl)
theorem dJ5_charAt_9 : decode cJ5_charAt 9 = .ok (.sipush 255, 3) := dk_17 0 255 (dk_at dksJ5_charAt_0 9 rfl rfl)
theorem dJ5_charAt_12 : decode cJ5_charAt 12 = .ok (.iand, 1) := dk_126 (dk_at dksJ5_charAt_0 12 rfl rfl)
theorem dJ5_charAt_13 : decode cJ5_charAt 13 = .ok (.i2c, 1) := dk_146 (dk_at dksJ5_charAt_0 13 rfl rfl)
theorem dJ5_charAt_14 : decode cJ5_charAt 14 = .ok (.ireturn, 1) := dk_172 (dk_at dksJ5_charAt_0 14 rfl rfl)
theorem q105 : (Jvm.Cond.initialized "java/lang/StringLatin1") ∈ lw_all := lw_g (lw_at lw_m1 11 rfl) rfl
theorem q237 : (Jvm.Cond.static ({ cls := "java/lang/StringLatin1", name := "charAt", desc := "([BI)C" } : Jvm.MethodName)) ∈ lw_all := lw_g (lw_at lw_m1 143 rfl) rfl
theorem q238 : (Jvm.Cond.code ({ cls := "java/lang/StringLatin1", name := "charAt", desc := "([BI)C" } : Jvm.MethodName) prog_25_method_2_code (2 : Nat) (Option.some Jvm.ClassFile.FieldType.char)) ∈ lw_all := lw_g (lw_at lw_m1 144 rfl) rfl
theorem q239 : (Jvm.Cond.methodLink "java/lang/StringLatin1" (9 : Nat) ({ cls := "java/lang/String", name := "checkIndex", desc := "(II)V" } : Jvm.MethodName)) ∈ lw_all := lw_g (lw_at lw_m1 145 rfl) rfl
/-! jdk/internal/util/Preconditions -/
set_option maxRecDepth 100000
def RJ6 : String := "jdk/internal/util/Preconditions"
abbrev cJ6_checkIndex : ByteArray := prog_42_method_11_code
def yJ6_checkIndex : MethodName := ⟨RJ6, "checkIndex", "(IILjava/util/function/BiFunction;)I"⟩
def dkwJ6_checkIndex_0 : List UInt8 := [26, 155, 0, 8, 26, 27, 161, 0, 10, 44, 26, 27, 184, 0, 95, 191, 26, 172]
abbrev dktJ6_checkIndex_0 : List UInt8 := dkwJ6_checkIndex_0 ++ []
theorem dksJ6_checkIndex_0 : cJ6_checkIndex.data.toList.drop 0 = dktJ6_checkIndex_0 := by decide +kernel
theorem dJ6_checkIndex_0 : decode cJ6_checkIndex 0 = .ok (.iload_n 0, 1) := dk_26 (dk_at dksJ6_checkIndex_0 0 rfl rfl)
theorem dJ6_checkIndex_1 : decode cJ6_checkIndex 1 = .ok (.ifCond .lt 8, 3) := dk_155 0 8 (dk_at dksJ6_checkIndex_0 1 rfl rfl)
theorem dJ6_checkIndex_4 : decode cJ6_checkIndex 4 = .ok (.iload_n 0, 1) := dk_26 (dk_at dksJ6_checkIndex_0 4 rfl rfl)
theorem dJ6_checkIndex_5 : decode cJ6_checkIndex 5 = .ok (.iload_n 1, 1) := dk_27 (dk_at dksJ6_checkIndex_0 5 rfl rfl)
theorem dJ6_checkIndex_6 : decode cJ6_checkIndex 6 = .ok (.if_icmp .lt 10, 3) := dk_161 0 10 (dk_at dksJ6_checkIndex_0 6 rfl rfl)
theorem dJ6_checkIndex_9 : decode cJ6_checkIndex 9 = .ok (.aload_n 2, 1) := dk_44 (dk_at dksJ6_checkIndex_0 9 rfl rfl)
theorem dJ6_checkIndex_10 : decode cJ6_checkIndex 10 = .ok (.iload_n 0, 1) := dk_26 (dk_at dksJ6_checkIndex_0 10 rfl rfl)
theorem dJ6_checkIndex_11 : decode cJ6_checkIndex 11 = .ok (.iload_n 1, 1) := dk_27 (dk_at dksJ6_checkIndex_0 11 rfl rfl)
theorem dJ6_checkIndex_12 : decode cJ6_checkIndex 12 = .ok (.invokestatic 95, 3) := dk_184 0 95 (dk_at dksJ6_checkIndex_0 12 rfl rfl)
theorem dJ6_checkIndex_15 : decode cJ6_checkIndex 15 = .ok (.athrow, 1) := dk_191 (dk_at dksJ6_checkIndex_0 15 rfl rfl)
theorem dJ6_checkIndex_16 : decode cJ6_checkIndex 16 = .ok (.iload_n 0, 1) := dk_26 (dk_at dksJ6_checkIndex_0 16 rfl rfl)
theorem dJ6_checkIndex_17 : decode cJ6_checkIndex 17 = .ok (.ireturn, 1) := dk_172 (dk_at dksJ6_checkIndex_0 17 rfl rfl)
theorem q106 : (Jvm.Cond.initialized "jdk/internal/util/Preconditions") ∈ lw_all := lw_g (lw_at lw_m1 12 rfl) rfl
theorem q243 : (Jvm.Cond.laysStatic "jdk/internal/util/Preconditions" "SIOOBE_FORMATTER" "Ljava/util/function/BiFunction;") ∈ lw_tbl := lw_at lw_m1 149 rfl
theorem q245 : (Jvm.Cond.static ({ cls := "jdk/internal/util/Preconditions", name := "checkIndex", desc := "(IILjava/util/function/BiFunction;)I" } : Jvm.MethodName)) ∈ lw_all := lw_g (lw_at lw_m1 151 rfl) rfl
theorem q246 : (Jvm.Cond.code ({ cls := "jdk/internal/util/Preconditions", name := "checkIndex", desc := "(IILjava/util/function/BiFunction;)I" } : Jvm.MethodName) prog_42_method_11_code (3 : Nat) (Option.some Jvm.ClassFile.FieldType.int)) ∈ lw_all := lw_g (lw_at lw_m1 152 rfl) rfl
/-! java/lang/StringUTF16 -/
set_option maxRecDepth 100000
def RJ7 : String := "java/lang/StringUTF16"
abbrev cJ7_charAt : ByteArray := prog_26_method_83_code
def yJ7_charAt : MethodName := ⟨RJ7, "charAt", "([BI)C"⟩
def dkwJ7_charAt_0 : List UInt8 := [27, 42, 184, 0, 67, 42, 27, 184, 0, 71, 172]
abbrev dktJ7_charAt_0 : List UInt8 := dkwJ7_charAt_0 ++ []
theorem dksJ7_charAt_0 : cJ7_charAt.data.toList.drop 0 = dktJ7_charAt_0 := by decide +kernel
theorem dJ7_charAt_0 : decode cJ7_charAt 0 = .ok (.iload_n 1, 1) := dk_27 (dk_at dksJ7_charAt_0 0 rfl rfl)
theorem dJ7_charAt_1 : decode cJ7_charAt 1 = .ok (.aload_n 0, 1) := dk_42 (dk_at dksJ7_charAt_0 1 rfl rfl)
theorem dJ7_charAt_2 : decode cJ7_charAt 2 = .ok (.invokestatic 67, 3) := dk_184 0 67 (dk_at dksJ7_charAt_0 2 rfl rfl)
theorem dJ7_charAt_5 : decode cJ7_charAt 5 = .ok (.aload_n 0, 1) := dk_42 (dk_at dksJ7_charAt_0 5 rfl rfl)
theorem dJ7_charAt_6 : decode cJ7_charAt 6 = .ok (.iload_n 1, 1) := dk_27 (dk_at dksJ7_charAt_0 6 rfl rfl)
theorem dJ7_charAt_7 : decode cJ7_charAt 7 = .ok (.invokestatic 71, 3) := dk_184 0 71 (dk_at dksJ7_charAt_0 7 rfl rfl)
theorem dJ7_charAt_10 : decode cJ7_charAt 10 = .ok (.ireturn, 1) := dk_172 (dk_at dksJ7_charAt_0 10 rfl rfl)
abbrev cJ7_checkIndex : ByteArray := prog_26_method_91_code
def yJ7_checkIndex : MethodName := ⟨RJ7, "checkIndex", "(I[B)V"⟩
def dkwJ7_checkIndex_0 : List UInt8 := [26, 43, 184, 0, 48, 184, 1, 158, 177]
abbrev dktJ7_checkIndex_0 : List UInt8 := dkwJ7_checkIndex_0 ++ []
theorem dksJ7_checkIndex_0 : cJ7_checkIndex.data.toList.drop 0 = dktJ7_checkIndex_0 := by decide +kernel
theorem dJ7_checkIndex_0 : decode cJ7_checkIndex 0 = .ok (.iload_n 0, 1) := dk_26 (dk_at dksJ7_checkIndex_0 0 rfl rfl)
theorem dJ7_checkIndex_1 : decode cJ7_checkIndex 1 = .ok (.aload_n 1, 1) := dk_43 (dk_at dksJ7_checkIndex_0 1 rfl rfl)
theorem dJ7_checkIndex_2 : decode cJ7_checkIndex 2 = .ok (.invokestatic 48, 3) := dk_184 0 48 (dk_at dksJ7_checkIndex_0 2 rfl rfl)
theorem dJ7_checkIndex_5 : decode cJ7_checkIndex 5 = .ok (.invokestatic 414, 3) := dk_184 1 158 (dk_at dksJ7_checkIndex_0 5 rfl rfl)
theorem dJ7_checkIndex_8 : decode cJ7_checkIndex 8 = .ok (.return_, 1) := dk_177 (dk_at dksJ7_checkIndex_0 8 rfl rfl)
abbrev cJ7_length : ByteArray := prog_26_method_6_code
def yJ7_length : MethodName := ⟨RJ7, "length", "([B)I"⟩
def dkwJ7_length_0 : List UInt8 := [42, 190, 4, 122, 172]
abbrev dktJ7_length_0 : List UInt8 := dkwJ7_length_0 ++ []
theorem dksJ7_length_0 : cJ7_length.data.toList.drop 0 = dktJ7_length_0 := by decide +kernel
theorem dJ7_length_0 : decode cJ7_length 0 = .ok (.aload_n 0, 1) := dk_42 (dk_at dksJ7_length_0 0 rfl rfl)
theorem dJ7_length_1 : decode cJ7_length 1 = .ok (.arraylength, 1) := dk_190 (dk_at dksJ7_length_0 1 rfl rfl)
theorem dJ7_length_2 : decode cJ7_length 2 = .ok (.iconst 1, 1) := dk_4 (dk_at dksJ7_length_0 2 rfl rfl)
theorem dJ7_length_3 : decode cJ7_length 3 = .ok (.ishr, 1) := dk_122 (dk_at dksJ7_length_0 3 rfl rfl)
theorem dJ7_length_4 : decode cJ7_length 4 = .ok (.ireturn, 1) := dk_172 (dk_at dksJ7_length_0 4 rfl rfl)
abbrev cJ7_getChar : ByteArray := prog_26_method_5_code
def yJ7_getChar : MethodName := ⟨RJ7, "getChar", "([BI)C"⟩
def dkwJ7_getChar_2 : List UInt8 := [51, 17, 0, 255, 126, 178, 0, 63, 120, 128, 146, 172]
abbrev dktJ7_getChar_2 : List UInt8 := dkwJ7_getChar_2 ++ []
def dkwJ7_getChar_1 : List UInt8 := [183, 0, 56, 191, 27, 4, 120, 60, 42, 27, 132, 1, 1, 51, 17, 0, 255, 126, 178, 0, 59, 120, 42, 27]
abbrev dktJ7_getChar_1 : List UInt8 := dkwJ7_getChar_1 ++ dktJ7_getChar_2
def dkwJ7_getChar_0 : List UInt8 := [178, 0, 44, 154, 0, 25, 27, 155, 0, 11, 27, 42, 184, 0, 48, 161, 0, 13, 187, 0, 52, 89, 18, 54]
abbrev dktJ7_getChar_0 : List UInt8 := dkwJ7_getChar_0 ++ dktJ7_getChar_1
theorem dksJ7_getChar_0 : cJ7_getChar.data.toList.drop 0 = dktJ7_getChar_0 := by decide +kernel
theorem dksJ7_getChar_1 : cJ7_getChar.data.toList.drop 24 = dktJ7_getChar_1 := dk_seg dksJ7_getChar_0 24 rfl rfl
theorem dksJ7_getChar_2 : cJ7_getChar.data.toList.drop 48 = dktJ7_getChar_2 := dk_seg dksJ7_getChar_1 24 rfl rfl
theorem dJ7_getChar_0 : decode cJ7_getChar 0 = .ok (.getstatic 44, 3) := dk_178 0 44 (dk_at dksJ7_getChar_0 0 rfl rfl)
theorem dJ7_getChar_3 : decode cJ7_getChar 3 = .ok (.ifCond .ne 25, 3) := dk_154 0 25 (dk_at dksJ7_getChar_0 3 rfl rfl)
theorem dJ7_getChar_6 : decode cJ7_getChar 6 = .ok (.iload_n 1, 1) := dk_27 (dk_at dksJ7_getChar_0 6 rfl rfl)
theorem dJ7_getChar_7 : decode cJ7_getChar 7 = .ok (.ifCond .lt 11, 3) := dk_155 0 11 (dk_at dksJ7_getChar_0 7 rfl rfl)
theorem dJ7_getChar_10 : decode cJ7_getChar 10 = .ok (.iload_n 1, 1) := dk_27 (dk_at dksJ7_getChar_0 10 rfl rfl)
theorem dJ7_getChar_11 : decode cJ7_getChar 11 = .ok (.aload_n 0, 1) := dk_42 (dk_at dksJ7_getChar_0 11 rfl rfl)
theorem dJ7_getChar_12 : decode cJ7_getChar 12 = .ok (.invokestatic 48, 3) := dk_184 0 48 (dk_at dksJ7_getChar_0 12 rfl rfl)
theorem dJ7_getChar_15 : decode cJ7_getChar 15 = .ok (.if_icmp .lt 13, 3) := dk_161 0 13 (dk_at dksJ7_getChar_0 15 rfl rfl)
theorem dJ7_getChar_18 : decode cJ7_getChar 18 = .ok (.new 52, 3) := dk_187 0 52 (dk_at dksJ7_getChar_0 18 rfl rfl)
theorem dJ7_getChar_21 : decode cJ7_getChar 21 = .ok (.dup, 1) := dk_89 (dk_at dksJ7_getChar_0 21 rfl rfl)
theorem dJ7_getChar_22 : decode cJ7_getChar 22 = .ok (.ldc 54, 2) := dk_18 54 (dk_at dksJ7_getChar_0 22 rfl rfl)
theorem dJ7_getChar_24 : decode cJ7_getChar 24 = .ok (.invokespecial 56, 3) := dk_183 0 56 (dk_at dksJ7_getChar_1 0 rfl rfl)
theorem dJ7_getChar_27 : decode cJ7_getChar 27 = .ok (.athrow, 1) := dk_191 (dk_at dksJ7_getChar_1 3 rfl rfl)
theorem dJ7_getChar_28 : decode cJ7_getChar 28 = .ok (.iload_n 1, 1) := dk_27 (dk_at dksJ7_getChar_1 4 rfl rfl)
theorem dJ7_getChar_29 : decode cJ7_getChar 29 = .ok (.iconst 1, 1) := dk_4 (dk_at dksJ7_getChar_1 5 rfl rfl)
theorem dJ7_getChar_30 : decode cJ7_getChar 30 = .ok (.ishl, 1) := dk_120 (dk_at dksJ7_getChar_1 6 rfl rfl)
theorem dJ7_getChar_31 : decode cJ7_getChar 31 = .ok (.istore_n 1, 1) := dk_60 (dk_at dksJ7_getChar_1 7 rfl rfl)
theorem dJ7_getChar_32 : decode cJ7_getChar 32 = .ok (.aload_n 0, 1) := dk_42 (dk_at dksJ7_getChar_1 8 rfl rfl)
theorem dJ7_getChar_33 : decode cJ7_getChar 33 = .ok (.iload_n 1, 1) := dk_27 (dk_at dksJ7_getChar_1 9 rfl rfl)
theorem dJ7_getChar_34 : decode cJ7_getChar 34 = .ok (.iinc 1 1, 3) := dk_132 1 1 (dk_at dksJ7_getChar_1 10 rfl rfl)
theorem dJ7_getChar_37 : decode cJ7_getChar 37 = .ok (.baload, 1) := dk_51 (dk_at dksJ7_getChar_1 13 rfl rfl)
theorem dJ7_getChar_38 : decode cJ7_getChar 38 = .ok (.sipush 255, 3) := dk_17 0 255 (dk_at dksJ7_getChar_1 14 rfl rfl)
theorem dJ7_getChar_41 : decode cJ7_getChar 41 = .ok (.iand, 1) := dk_126 (dk_at dksJ7_getChar_1 17 rfl rfl)
theorem dJ7_getChar_42 : decode cJ7_getChar 42 = .ok (.getstatic 59, 3) := dk_178 0 59 (dk_at dksJ7_getChar_1 18 rfl rfl)
theorem dJ7_getChar_45 : decode cJ7_getChar 45 = .ok (.ishl, 1) := dk_120 (dk_at dksJ7_getChar_1 21 rfl rfl)
theorem dJ7_getChar_46 : decode cJ7_getChar 46 = .ok (.aload_n 0, 1) := dk_42 (dk_at dksJ7_getChar_1 22 rfl rfl)
theorem dJ7_getChar_47 : decode cJ7_getChar 47 = .ok (.iload_n 1, 1) := dk_27 (dk_at dksJ7_getChar_1 23 rfl rfl)
theorem dJ7_getChar_48 : decode cJ7_getChar 48 = .ok (.baload, 1) := dk_51 (dk_at dksJ7_getChar_2 0 rfl rfl)
theorem dJ7_getChar_49 : decode cJ7_getChar 49 = .ok (.sipush 255, 3) := dk_17 0 255 (dk_at dksJ7_getChar_2 1 rfl rfl)
theorem dJ7_getChar_52 : decode cJ7_getChar 52 = .ok (.iand, 1) := dk_126 (dk_at dksJ7_getChar_2 4 rfl rfl)
theorem dJ7_getChar_53 : decode cJ7_getChar 53 = .ok (.getstatic 63, 3) := dk_178 0 63 (dk_at dksJ7_getChar_2 5 rfl rfl)
theorem dJ7_getChar_56 : decode cJ7_getChar 56 = .ok (.ishl, 1) := dk_120 (dk_at dksJ7_getChar_2 8 rfl rfl)
theorem dJ7_getChar_57 : decode cJ7_getChar 57 = .ok (.ior, 1) := dk_128 (dk_at dksJ7_getChar_2 9 rfl rfl)
theorem dJ7_getChar_58 : decode cJ7_getChar 58 = .ok (.i2c, 1) := dk_146 (dk_at dksJ7_getChar_2 10 rfl rfl)
theorem dJ7_getChar_59 : decode cJ7_getChar 59 = .ok (.ireturn, 1) := dk_172 (dk_at dksJ7_getChar_2 11 rfl rfl)
theorem q107 : (Jvm.Cond.initialized "java/lang/StringUTF16") ∈ lw_all := lw_g (lw_at lw_m1 13 rfl) rfl
theorem q248 : (Jvm.Cond.static ({ cls := "java/lang/StringUTF16", name := "charAt", desc := "([BI)C" } : Jvm.MethodName)) ∈ lw_all := lw_g (lw_at lw_m1 154 rfl) rfl
theorem q249 : (Jvm.Cond.code ({ cls := "java/lang/StringUTF16", name := "charAt", desc := "([BI)C" } : Jvm.MethodName) prog_26_method_83_code (2 : Nat) (Option.some Jvm.ClassFile.FieldType.char)) ∈ lw_all := lw_g (lw_at lw_m1 155 rfl) rfl
theorem q250 : (Jvm.Cond.methodLink "java/lang/StringUTF16" (67 : Nat) ({ cls := "java/lang/StringUTF16", name := "checkIndex", desc := "(I[B)V" } : Jvm.MethodName)) ∈ lw_all := lw_g (lw_at lw_m1 156 rfl) rfl
theorem q251 : (Jvm.Cond.static ({ cls := "java/lang/StringUTF16", name := "checkIndex", desc := "(I[B)V" } : Jvm.MethodName)) ∈ lw_all := lw_g (lw_at lw_m1 157 rfl) rfl
theorem q252 : (Jvm.Cond.code ({ cls := "java/lang/StringUTF16", name := "checkIndex", desc := "(I[B)V" } : Jvm.MethodName) prog_26_method_91_code (2 : Nat) (Option.none : Option Jvm.ClassFile.FieldType)) ∈ lw_all := lw_g (lw_at lw_m1 158 rfl) rfl
theorem q253 : (Jvm.Cond.methodLink "java/lang/StringUTF16" (48 : Nat) ({ cls := "java/lang/StringUTF16", name := "length", desc := "([B)I" } : Jvm.MethodName)) ∈ lw_all := lw_g (lw_at lw_m1 159 rfl) rfl
theorem q254 : (Jvm.Cond.static ({ cls := "java/lang/StringUTF16", name := "length", desc := "([B)I" } : Jvm.MethodName)) ∈ lw_all := lw_g (lw_at lw_m1 160 rfl) rfl
theorem q255 : (Jvm.Cond.code ({ cls := "java/lang/StringUTF16", name := "length", desc := "([B)I" } : Jvm.MethodName) prog_26_method_6_code (1 : Nat) (Option.some Jvm.ClassFile.FieldType.int)) ∈ lw_all := lw_g (lw_at lw_m1 161 rfl) rfl
theorem q256 : (Jvm.Cond.methodLink "java/lang/StringUTF16" (414 : Nat) ({ cls := "java/lang/String", name := "checkIndex", desc := "(II)V" } : Jvm.MethodName)) ∈ lw_all := lw_g (lw_at lw_m1 162 rfl) rfl
theorem q257 : (Jvm.Cond.methodLink "java/lang/StringUTF16" (71 : Nat) ({ cls := "java/lang/StringUTF16", name := "getChar", desc := "([BI)C" } : Jvm.MethodName)) ∈ lw_all := lw_g (lw_at lw_m1 163 rfl) rfl
theorem q258 : (Jvm.Cond.static ({ cls := "java/lang/StringUTF16", name := "getChar", desc := "([BI)C" } : Jvm.MethodName)) ∈ lw_all := lw_g (lw_at lw_m1 164 rfl) rfl
theorem q259 : (Jvm.Cond.code ({ cls := "java/lang/StringUTF16", name := "getChar", desc := "([BI)C" } : Jvm.MethodName) prog_26_method_5_code (2 : Nat) (Option.some Jvm.ClassFile.FieldType.char)) ∈ lw_all := lw_g (lw_at lw_m1 165 rfl) rfl
theorem q260 : (Jvm.Cond.fieldLink "java/lang/StringUTF16" (44 : Nat) "java/lang/StringUTF16" "$assertionsDisabled" "Z") ∈ lw_all := lw_g (lw_at lw_m1 166 rfl) rfl
theorem q261 : (Jvm.Cond.laysStatic "java/lang/StringUTF16" "$assertionsDisabled" "Z") ∈ lw_tbl := lw_at lw_m1 167 rfl
theorem q262 : (Jvm.Cond.fieldLink "java/lang/StringUTF16" (59 : Nat) "java/lang/StringUTF16" "HI_BYTE_SHIFT" "I") ∈ lw_all := lw_g (lw_at lw_m1 168 rfl) rfl
theorem q263 : (Jvm.Cond.laysStatic "java/lang/StringUTF16" "HI_BYTE_SHIFT" "I") ∈ lw_tbl := lw_at lw_m1 169 rfl
theorem q264 : (Jvm.Cond.fieldLink "java/lang/StringUTF16" (63 : Nat) "java/lang/StringUTF16" "LO_BYTE_SHIFT" "I") ∈ lw_all := lw_g (lw_at lw_m1 170 rfl) rfl
theorem q265 : (Jvm.Cond.laysStatic "java/lang/StringUTF16" "LO_BYTE_SHIFT" "I") ∈ lw_tbl := lw_at lw_m1 171 rfl
/-! jdk/internal/util/ArraysSupport -/
set_option maxRecDepth 100000
def RJ8 : String := "jdk/internal/util/ArraysSupport"
abbrev cJ8_newLength : ByteArray := prog_41_method_27_code
def yJ8_newLength : MethodName := ⟨RJ8, "newLength", "(III)I"⟩
def dkwJ8_newLength_1 : List UInt8 := [184, 0, 201, 172]
abbrev dktJ8_newLength_1 : List UInt8 := dkwJ8_newLength_1 ++ []
def dkwJ8_newLength_0 : List UInt8 := [26, 27, 28, 184, 0, 194, 96, 62, 3, 29, 162, 0, 11, 29, 18, 200, 163, 0, 5, 29, 172, 26, 27]
abbrev dktJ8_newLength_0 : List UInt8 := dkwJ8_newLength_0 ++ dktJ8_newLength_1
theorem dksJ8_newLength_0 : cJ8_newLength.data.toList.drop 0 = dktJ8_newLength_0 := by decide +kernel
theorem dksJ8_newLength_1 : cJ8_newLength.data.toList.drop 23 = dktJ8_newLength_1 := dk_seg dksJ8_newLength_0 23 rfl rfl
theorem dJ8_newLength_0 : decode cJ8_newLength 0 = .ok (.iload_n 0, 1) := dk_26 (dk_at dksJ8_newLength_0 0 rfl rfl)
theorem dJ8_newLength_1 : decode cJ8_newLength 1 = .ok (.iload_n 1, 1) := dk_27 (dk_at dksJ8_newLength_0 1 rfl rfl)
theorem dJ8_newLength_2 : decode cJ8_newLength 2 = .ok (.iload_n 2, 1) := dk_28 (dk_at dksJ8_newLength_0 2 rfl rfl)
theorem dJ8_newLength_3 : decode cJ8_newLength 3 = .ok (.invokestatic 194, 3) := dk_184 0 194 (dk_at dksJ8_newLength_0 3 rfl rfl)
theorem dJ8_newLength_6 : decode cJ8_newLength 6 = .ok (.iadd, 1) := dk_96 (dk_at dksJ8_newLength_0 6 rfl rfl)
theorem dJ8_newLength_7 : decode cJ8_newLength 7 = .ok (.istore_n 3, 1) := dk_62 (dk_at dksJ8_newLength_0 7 rfl rfl)
theorem dJ8_newLength_8 : decode cJ8_newLength 8 = .ok (.iconst 0, 1) := dk_3 (dk_at dksJ8_newLength_0 8 rfl rfl)
theorem dJ8_newLength_9 : decode cJ8_newLength 9 = .ok (.iload_n 3, 1) := dk_29 (dk_at dksJ8_newLength_0 9 rfl rfl)
theorem dJ8_newLength_10 : decode cJ8_newLength 10 = .ok (.if_icmp .ge 11, 3) := dk_162 0 11 (dk_at dksJ8_newLength_0 10 rfl rfl)
theorem dJ8_newLength_13 : decode cJ8_newLength 13 = .ok (.iload_n 3, 1) := dk_29 (dk_at dksJ8_newLength_0 13 rfl rfl)
theorem dJ8_newLength_14 : decode cJ8_newLength 14 = .ok (.ldc 200, 2) := dk_18 200 (dk_at dksJ8_newLength_0 14 rfl rfl)
theorem dJ8_newLength_16 : decode cJ8_newLength 16 = .ok (.if_icmp .gt 5, 3) := dk_163 0 5 (dk_at dksJ8_newLength_0 16 rfl rfl)
theorem dJ8_newLength_19 : decode cJ8_newLength 19 = .ok (.iload_n 3, 1) := dk_29 (dk_at dksJ8_newLength_0 19 rfl rfl)
theorem dJ8_newLength_20 : decode cJ8_newLength 20 = .ok (.ireturn, 1) := dk_172 (dk_at dksJ8_newLength_0 20 rfl rfl)
theorem dJ8_newLength_21 : decode cJ8_newLength 21 = .ok (.iload_n 0, 1) := dk_26 (dk_at dksJ8_newLength_0 21 rfl rfl)
theorem dJ8_newLength_22 : decode cJ8_newLength 22 = .ok (.iload_n 1, 1) := dk_27 (dk_at dksJ8_newLength_0 22 rfl rfl)
theorem dJ8_newLength_23 : decode cJ8_newLength 23 = .ok (.invokestatic 201, 3) := dk_184 0 201 (dk_at dksJ8_newLength_1 0 rfl rfl)
theorem dJ8_newLength_26 : decode cJ8_newLength 26 = .ok (.ireturn, 1) := dk_172 (dk_at dksJ8_newLength_1 3 rfl rfl)
abbrev cJ8_hugeLength : ByteArray := prog_41_method_28_code
def yJ8_hugeLength : MethodName := ⟨RJ8, "hugeLength", "(II)I"⟩
def dkwJ8_hugeLength_2 : List UInt8 := [191, 28, 18, 200, 163, 0, 6, 18, 200, 172, 28, 172]
abbrev dktJ8_hugeLength_2 : List UInt8 := dkwJ8_hugeLength_2 ++ []
def dkwJ8_hugeLength_1 : List UInt8 := [26, 182, 0, 98, 18, 208, 182, 0, 94, 27, 182, 0, 98, 18, 210, 182, 0, 94, 182, 0, 101, 183, 0, 212]
abbrev dktJ8_hugeLength_1 : List UInt8 := dkwJ8_hugeLength_1 ++ dktJ8_hugeLength_2
def dkwJ8_hugeLength_0 : List UInt8 := [26, 27, 96, 61, 28, 156, 0, 44, 187, 0, 204, 89, 187, 0, 89, 89, 183, 0, 91, 18, 206, 182, 0, 94]
abbrev dktJ8_hugeLength_0 : List UInt8 := dkwJ8_hugeLength_0 ++ dktJ8_hugeLength_1
theorem dksJ8_hugeLength_0 : cJ8_hugeLength.data.toList.drop 0 = dktJ8_hugeLength_0 := by decide +kernel
theorem dksJ8_hugeLength_1 : cJ8_hugeLength.data.toList.drop 24 = dktJ8_hugeLength_1 := dk_seg dksJ8_hugeLength_0 24 rfl rfl
theorem dksJ8_hugeLength_2 : cJ8_hugeLength.data.toList.drop 48 = dktJ8_hugeLength_2 := dk_seg dksJ8_hugeLength_1 24 rfl rfl
theorem dJ8_hugeLength_0 : decode cJ8_hugeLength 0 = .ok (.iload_n 0, 1) := dk_26 (dk_at dksJ8_hugeLength_0 0 rfl rfl)
theorem dJ8_hugeLength_1 : decode cJ8_hugeLength 1 = .ok (.iload_n 1, 1) := dk_27 (dk_at dksJ8_hugeLength_0 1 rfl rfl)
theorem dJ8_hugeLength_2 : decode cJ8_hugeLength 2 = .ok (.iadd, 1) := dk_96 (dk_at dksJ8_hugeLength_0 2 rfl rfl)
theorem dJ8_hugeLength_3 : decode cJ8_hugeLength 3 = .ok (.istore_n 2, 1) := dk_61 (dk_at dksJ8_hugeLength_0 3 rfl rfl)
theorem dJ8_hugeLength_4 : decode cJ8_hugeLength 4 = .ok (.iload_n 2, 1) := dk_28 (dk_at dksJ8_hugeLength_0 4 rfl rfl)
theorem dJ8_hugeLength_5 : decode cJ8_hugeLength 5 = .ok (.ifCond .ge 44, 3) := dk_156 0 44 (dk_at dksJ8_hugeLength_0 5 rfl rfl)
theorem dJ8_hugeLength_8 : decode cJ8_hugeLength 8 = .ok (.new 204, 3) := dk_187 0 204 (dk_at dksJ8_hugeLength_0 8 rfl rfl)
theorem dJ8_hugeLength_11 : decode cJ8_hugeLength 11 = .ok (.dup, 1) := dk_89 (dk_at dksJ8_hugeLength_0 11 rfl rfl)
theorem dJ8_hugeLength_12 : decode cJ8_hugeLength 12 = .ok (.new 89, 3) := dk_187 0 89 (dk_at dksJ8_hugeLength_0 12 rfl rfl)
theorem dJ8_hugeLength_15 : decode cJ8_hugeLength 15 = .ok (.dup, 1) := dk_89 (dk_at dksJ8_hugeLength_0 15 rfl rfl)
theorem dJ8_hugeLength_16 : decode cJ8_hugeLength 16 = .ok (.invokespecial 91, 3) := dk_183 0 91 (dk_at dksJ8_hugeLength_0 16 rfl rfl)
theorem dJ8_hugeLength_19 : decode cJ8_hugeLength 19 = .ok (.ldc 206, 2) := dk_18 206 (dk_at dksJ8_hugeLength_0 19 rfl rfl)
theorem dJ8_hugeLength_21 : decode cJ8_hugeLength 21 = .ok (.invokevirtual 94, 3) := dk_182 0 94 (dk_at dksJ8_hugeLength_0 21 rfl rfl)
theorem dJ8_hugeLength_24 : decode cJ8_hugeLength 24 = .ok (.iload_n 0, 1) := dk_26 (dk_at dksJ8_hugeLength_1 0 rfl rfl)
theorem dJ8_hugeLength_25 : decode cJ8_hugeLength 25 = .ok (.invokevirtual 98, 3) := dk_182 0 98 (dk_at dksJ8_hugeLength_1 1 rfl rfl)
theorem dJ8_hugeLength_28 : decode cJ8_hugeLength 28 = .ok (.ldc 208, 2) := dk_18 208 (dk_at dksJ8_hugeLength_1 4 rfl rfl)
theorem dJ8_hugeLength_30 : decode cJ8_hugeLength 30 = .ok (.invokevirtual 94, 3) := dk_182 0 94 (dk_at dksJ8_hugeLength_1 6 rfl rfl)
theorem dJ8_hugeLength_33 : decode cJ8_hugeLength 33 = .ok (.iload_n 1, 1) := dk_27 (dk_at dksJ8_hugeLength_1 9 rfl rfl)
theorem dJ8_hugeLength_34 : decode cJ8_hugeLength 34 = .ok (.invokevirtual 98, 3) := dk_182 0 98 (dk_at dksJ8_hugeLength_1 10 rfl rfl)
theorem dJ8_hugeLength_37 : decode cJ8_hugeLength 37 = .ok (.ldc 210, 2) := dk_18 210 (dk_at dksJ8_hugeLength_1 13 rfl rfl)
theorem dJ8_hugeLength_39 : decode cJ8_hugeLength 39 = .ok (.invokevirtual 94, 3) := dk_182 0 94 (dk_at dksJ8_hugeLength_1 15 rfl rfl)
theorem dJ8_hugeLength_42 : decode cJ8_hugeLength 42 = .ok (.invokevirtual 101, 3) := dk_182 0 101 (dk_at dksJ8_hugeLength_1 18 rfl rfl)
theorem dJ8_hugeLength_45 : decode cJ8_hugeLength 45 = .ok (.invokespecial 212, 3) := dk_183 0 212 (dk_at dksJ8_hugeLength_1 21 rfl rfl)
theorem dJ8_hugeLength_48 : decode cJ8_hugeLength 48 = .ok (.athrow, 1) := dk_191 (dk_at dksJ8_hugeLength_2 0 rfl rfl)
theorem dJ8_hugeLength_49 : decode cJ8_hugeLength 49 = .ok (.iload_n 2, 1) := dk_28 (dk_at dksJ8_hugeLength_2 1 rfl rfl)
theorem dJ8_hugeLength_50 : decode cJ8_hugeLength 50 = .ok (.ldc 200, 2) := dk_18 200 (dk_at dksJ8_hugeLength_2 2 rfl rfl)
theorem dJ8_hugeLength_52 : decode cJ8_hugeLength 52 = .ok (.if_icmp .gt 6, 3) := dk_163 0 6 (dk_at dksJ8_hugeLength_2 4 rfl rfl)
theorem dJ8_hugeLength_55 : decode cJ8_hugeLength 55 = .ok (.ldc 200, 2) := dk_18 200 (dk_at dksJ8_hugeLength_2 7 rfl rfl)
theorem dJ8_hugeLength_57 : decode cJ8_hugeLength 57 = .ok (.ireturn, 1) := dk_172 (dk_at dksJ8_hugeLength_2 9 rfl rfl)
theorem dJ8_hugeLength_58 : decode cJ8_hugeLength 58 = .ok (.iload_n 2, 1) := dk_28 (dk_at dksJ8_hugeLength_2 10 rfl rfl)
theorem dJ8_hugeLength_59 : decode cJ8_hugeLength 59 = .ok (.ireturn, 1) := dk_172 (dk_at dksJ8_hugeLength_2 11 rfl rfl)
theorem q108 : (Jvm.Cond.initialized "jdk/internal/util/ArraysSupport") ∈ lw_all := lw_g (lw_at lw_m1 14 rfl) rfl
theorem q303 : (Jvm.Cond.static ({ cls := "jdk/internal/util/ArraysSupport", name := "newLength", desc := "(III)I" } : Jvm.MethodName)) ∈ lw_all := lw_g (lw_at lw_m1 209 rfl) rfl
theorem q304 : (Jvm.Cond.code ({ cls := "jdk/internal/util/ArraysSupport", name := "newLength", desc := "(III)I" } : Jvm.MethodName) prog_41_method_27_code (4 : Nat) (Option.some Jvm.ClassFile.FieldType.int)) ∈ lw_all := lw_g (lw_at lw_m1 210 rfl) rfl
theorem q305 : (Jvm.Cond.methodLink "jdk/internal/util/ArraysSupport" (194 : Nat) ({ cls := "java/lang/Math", name := "max", desc := "(II)I" } : Jvm.MethodName)) ∈ lw_all := lw_g (lw_at lw_m1 211 rfl) rfl
theorem q308 : (Jvm.Cond.constant "jdk/internal/util/ArraysSupport" (200 : Nat) (2147483639 : Int32)) ∈ lw_all := lw_g (lw_at lw_m1 214 rfl) rfl
theorem q309 : (Jvm.Cond.methodLink "jdk/internal/util/ArraysSupport" (201 : Nat) ({ cls := "jdk/internal/util/ArraysSupport", name := "hugeLength", desc := "(II)I" } : Jvm.MethodName)) ∈ lw_all := lw_g (lw_at lw_m1 215 rfl) rfl
theorem q310 : (Jvm.Cond.static ({ cls := "jdk/internal/util/ArraysSupport", name := "hugeLength", desc := "(II)I" } : Jvm.MethodName)) ∈ lw_all := lw_g (lw_at lw_m1 216 rfl) rfl
theorem q311 : (Jvm.Cond.code ({ cls := "jdk/internal/util/ArraysSupport", name := "hugeLength", desc := "(II)I" } : Jvm.MethodName) prog_41_method_28_code (3 : Nat) (Option.some Jvm.ClassFile.FieldType.int)) ∈ lw_all := lw_g (lw_at lw_m1 217 rfl) rfl
/-! java/lang/Math -/
set_option maxRecDepth 100000
def RJ9 : String := "java/lang/Math"
abbrev cJ9_max : ByteArray := prog_22_method_65_code
def yJ9_max : MethodName := ⟨RJ9, "max", "(II)I"⟩
def dkwJ9_max_0 : List UInt8 := [26, 27, 161, 0, 7, 26, 167, 0, 4, 27, 172]
abbrev dktJ9_max_0 : List UInt8 := dkwJ9_max_0 ++ []
theorem dksJ9_max_0 : cJ9_max.data.toList.drop 0 = dktJ9_max_0 := by decide +kernel
theorem dJ9_max_0 : decode cJ9_max 0 = .ok (.iload_n 0, 1) := dk_26 (dk_at dksJ9_max_0 0 rfl rfl)
theorem dJ9_max_1 : decode cJ9_max 1 = .ok (.iload_n 1, 1) := dk_27 (dk_at dksJ9_max_0 1 rfl rfl)
theorem dJ9_max_2 : decode cJ9_max 2 = .ok (.if_icmp .lt 7, 3) := dk_161 0 7 (dk_at dksJ9_max_0 2 rfl rfl)
theorem dJ9_max_5 : decode cJ9_max 5 = .ok (.iload_n 0, 1) := dk_26 (dk_at dksJ9_max_0 5 rfl rfl)
theorem dJ9_max_6 : decode cJ9_max 6 = .ok (.goto 4, 3) := dk_167 0 4 (dk_at dksJ9_max_0 6 rfl rfl)
theorem dJ9_max_9 : decode cJ9_max 9 = .ok (.iload_n 1, 1) := dk_27 (dk_at dksJ9_max_0 9 rfl rfl)
theorem dJ9_max_10 : decode cJ9_max 10 = .ok (.ireturn, 1) := dk_172 (dk_at dksJ9_max_0 10 rfl rfl)
abbrev cJ9_min : ByteArray := prog_22_method_69_code
def yJ9_min : MethodName := ⟨RJ9, "min", "(II)I"⟩
def dkwJ9_min_0 : List UInt8 := [26, 27, 163, 0, 7, 26, 167, 0, 4, 27, 172]
abbrev dktJ9_min_0 : List UInt8 := dkwJ9_min_0 ++ []
theorem dksJ9_min_0 : cJ9_min.data.toList.drop 0 = dktJ9_min_0 := by decide +kernel
theorem dJ9_min_0 : decode cJ9_min 0 = .ok (.iload_n 0, 1) := dk_26 (dk_at dksJ9_min_0 0 rfl rfl)
theorem dJ9_min_1 : decode cJ9_min 1 = .ok (.iload_n 1, 1) := dk_27 (dk_at dksJ9_min_0 1 rfl rfl)
theorem dJ9_min_2 : decode cJ9_min 2 = .ok (.if_icmp .gt 7, 3) := dk_163 0 7 (dk_at dksJ9_min_0 2 rfl rfl)
theorem dJ9_min_5 : decode cJ9_min 5 = .ok (.iload_n 0, 1) := dk_26 (dk_at dksJ9_min_0 5 rfl rfl)
theorem dJ9_min_6 : decode cJ9_min 6 = .ok (.goto 4, 3) := dk_167 0 4 (dk_at dksJ9_min_0 6 rfl rfl)
theorem dJ9_min_9 : decode cJ9_min 9 = .ok (.iload_n 1, 1) := dk_27 (dk_at dksJ9_min_0 9 rfl rfl)
theorem dJ9_min_10 : decode cJ9_min 10 = .ok (.ireturn, 1) := dk_172 (dk_at dksJ9_min_0 10 rfl rfl)
theorem q109 : (Jvm.Cond.initialized "java/lang/Math") ∈ lw_all := lw_g (lw_at lw_m1 15 rfl) rfl
theorem q306 : (Jvm.Cond.static ({ cls := "java/lang/Math", name := "max", desc := "(II)I" } : Jvm.MethodName)) ∈ lw_all := lw_g (lw_at lw_m1 212 rfl) rfl
theorem q307 : (Jvm.Cond.code ({ cls := "java/lang/Math", name := "max", desc := "(II)I" } : Jvm.MethodName) prog_22_method_65_code (2 : Nat) (Option.some Jvm.ClassFile.FieldType.int)) ∈ lw_all := lw_g (lw_at lw_m1 213 rfl) rfl
theorem q340 : (Jvm.Cond.static ({ cls := "java/lang/Math", name := "min", desc := "(II)I" } : Jvm.MethodName)) ∈ lw_all := lw_g (lw_at lw_m2 6 rfl) rfl
theorem q341 : (Jvm.Cond.code ({ cls := "java/lang/Math", name := "min", desc := "(II)I" } : Jvm.MethodName) prog_22_method_69_code (2 : Nat) (Option.some Jvm.ClassFile.FieldType.int)) ∈ lw_all := lw_g (lw_at lw_m2 7 rfl) rfl
theorem q619 : (Jvm.Cond.interfaceMethod "TokenMouth$Meaning" "TokenMouth$Meaning" "isExpandable" "()Z") ∈ lw_tbl := lw_at lw_m3 45 rfl
set_option maxRecDepth 100000
theorem q620 : (Jvm.Cond.declares ({ cls := "TokenMouth$Meaning", name := "isExpandable", desc := "()Z" } : Jvm.MethodName)) ∈ lw_tbl := lw_at lw_m3 46 rfl
theorem q669 : (Jvm.Cond.interfaceMethod "TokenMouth$Meaning" "TokenMouth$Meaning" "expand" "(LTokenMouth;)V") ∈ lw_tbl := lw_at lw_m3 95 rfl
theorem q670 : (Jvm.Cond.declares ({ cls := "TokenMouth$Meaning", name := "expand", desc := "(LTokenMouth;)V" } : Jvm.MethodName)) ∈ lw_tbl := lw_at lw_m3 96 rfl
theorem q764 : (Jvm.Cond.interfaceMethod "TokenMouth$Meaning" "TokenMouth$Meaning" "isLike" "(LTokenMouth$Meaning;)Z") ∈ lw_tbl := lw_at lw_m3 190 rfl
theorem q765 : (Jvm.Cond.declares ({ cls := "TokenMouth$Meaning", name := "isLike", desc := "(LTokenMouth$Meaning;)Z" } : Jvm.MethodName)) ∈ lw_tbl := lw_at lw_m3 191 rfl
theorem q1039 : (Jvm.Cond.interfaceMethod "TokenMouth$Meaning" "TokenMouth$Meaning" "kind" "()I") ∈ lw_tbl := lw_at lw_m4 225 rfl
theorem q1040 : (Jvm.Cond.declares ({ cls := "TokenMouth$Meaning", name := "kind", desc := "()I" } : Jvm.MethodName)) ∈ lw_tbl := lw_at lw_m4 226 rfl
theorem q1494 : (Jvm.Cond.castable "[B" "java/lang/Object") ∈ lw_tbl := lw_at lw_m6 200 rfl
set_option maxRecDepth 100000
theorem q1498 : (Jvm.Cond.castable "[S" "java/lang/Object") ∈ lw_tbl := lw_at lw_m6 204 rfl
set_option maxRecDepth 100000
theorem q1496 : (Jvm.Cond.castable "[LTokenMouth$Change;" "java/lang/Object") ∈ lw_tbl := lw_at lw_m6 202 rfl
set_option maxRecDepth 100000
theorem q138 : (Jvm.Cond.sameMethod "[LTokenMouth$Command;" "java/lang/Object" "clone" "()Ljava/lang/Object;") ∈ lw_all := lw_g (lw_at lw_m1 44 rfl) rfl
set_option maxRecDepth 100000
theorem q141 : (Jvm.Cond.selects "[LTokenMouth$Command;" ({ cls := "[LTokenMouth$Command;", name := "clone", desc := "()Ljava/lang/Object;" } : Jvm.MethodName) ({ cls := "java/lang/Object", name := "clone", desc := "()Ljava/lang/Object;" } : Jvm.MethodName)) ∈ lw_all := lw_g (lw_at lw_m1 47 rfl) rfl
theorem q142 : (Jvm.Cond.castable "[LTokenMouth$Command;" "java/lang/Cloneable") ∈ lw_tbl := lw_at lw_m1 48 rfl
theorem q1493 : (Jvm.Cond.castable "[LTokenMouth$Command;" "java/lang/Object") ∈ lw_tbl := lw_at lw_m6 199 rfl
theorem q1497 : (Jvm.Cond.castable "[LTokenMouth$Row;" "java/lang/Object") ∈ lw_tbl := lw_at lw_m6 203 rfl
set_option maxRecDepth 100000
theorem q1490 : (Jvm.Cond.sameMethod "[Ljava/lang/Object;" "java/lang/Object" "getClass" "()Ljava/lang/Class;") ∈ lw_all := lw_g (lw_at lw_m6 196 rfl) rfl
set_option maxRecDepth 100000
theorem q1491 : (Jvm.Cond.selects "[Ljava/lang/Object;" ({ cls := "java/lang/Object", name := "getClass", desc := "()Ljava/lang/Class;" } : Jvm.MethodName) ({ cls := "java/lang/Object", name := "getClass", desc := "()Ljava/lang/Class;" } : Jvm.MethodName)) ∈ lw_all := lw_g (lw_at lw_m6 197 rfl) rfl
theorem q1499 : (Jvm.Cond.castable "[Ljava/lang/Object;" "java/lang/Object") ∈ lw_tbl := lw_at lw_m6 205 rfl
theorem q1495 : (Jvm.Cond.castable "[[B" "java/lang/Object") ∈ lw_tbl := lw_at lw_m6 201 rfl
set_option maxRecDepth 100000
theorem q111 : (Jvm.Cond.initialized "java/lang/System") ∈ lw_all := lw_g (lw_at lw_m1 17 rfl) rfl
set_option maxRecDepth 100000
theorem q343 : (Jvm.Cond.static ({ cls := "java/lang/System", name := "arraycopy", desc := "(Ljava/lang/Object;ILjava/lang/Object;II)V" } : Jvm.MethodName)) ∈ lw_all := lw_g (lw_at lw_m2 9 rfl) rfl
theorem q344 : (Jvm.Cond.native ({ cls := "java/lang/System", name := "arraycopy", desc := "(Ljava/lang/Object;ILjava/lang/Object;II)V" } : Jvm.MethodName)) ∈ lw_all := lw_g (lw_at lw_m2 10 rfl) rfl
theorem q143 : (Jvm.Cond.arrayOver (Jvm.ClassFile.FieldType.object "TokenMouth$Command")) ∈ lw_tbl := lw_at lw_m1 49 rfl
set_option maxRecDepth 100000
theorem q171 : (Jvm.Cond.arrayClass Jvm.ClassFile.FieldType.byte) ∈ lw_all := lw_g (lw_at lw_m1 77 rfl) rfl
theorem q173 : (Jvm.Cond.arrayOver (Jvm.ClassFile.FieldType.array Jvm.ClassFile.FieldType.byte)) ∈ lw_tbl := lw_at lw_m1 79 rfl
theorem q175 : (Jvm.Cond.arrayOver (Jvm.ClassFile.FieldType.object "TokenMouth$Change")) ∈ lw_tbl := lw_at lw_m1 81 rfl
theorem q177 : (Jvm.Cond.arrayOver (Jvm.ClassFile.FieldType.object "TokenMouth$Row")) ∈ lw_tbl := lw_at lw_m1 83 rfl
theorem q191 : (Jvm.Cond.arrayClass Jvm.ClassFile.FieldType.short) ∈ lw_all := lw_g (lw_at lw_m1 97 rfl) rfl
theorem q337 : (Jvm.Cond.arrayOver (Jvm.ClassFile.FieldType.object "java/lang/Object")) ∈ lw_tbl := lw_at lw_m2 3 rfl
theorem q1229 : (Jvm.Cond.arrayClass Jvm.ClassFile.FieldType.int) ∈ lw_all := lw_g (lw_at lw_m5 175 rfl) rfl
theorem q1230 : (Jvm.Cond.arrayClass Jvm.ClassFile.FieldType.boolean) ∈ lw_all := lw_g (lw_at lw_m5 176 rfl) rfl
theorem q1470 : (Jvm.Cond.arrayClass Jvm.ClassFile.FieldType.long) ∈ lw_all := lw_g (lw_at lw_m6 176 rfl) rfl
/-! the law's own entry -/
set_option maxRecDepth 100000
abbrev cL_law : ByteArray := code
def dkwL_law_29 : List UInt8 := [4, 172]
abbrev dktL_law_29 : List UInt8 := dkwL_law_29 ++ []
def dkwL_law_28 : List UInt8 := [154, 0, 15, 45, 3, 47, 21, 6, 133, 148, 153, 0, 5, 3, 172, 167, 0, 3, 132, 4, 5, 167, 253, 93]
abbrev dktL_law_28 : List UInt8 := dkwL_law_28 ++ dktL_law_29
def dkwL_law_27 : List UInt8 := [21, 4, 7, 96, 46, 182, 0, 89, 54, 6, 44, 182, 0, 66, 21, 5, 159, 0, 5, 3, 172, 21, 5]
abbrev dktL_law_27 : List UInt8 := dkwL_law_27 ++ dktL_law_28
def dkwL_law_26 : List UInt8 := [96, 46, 133, 20, 0, 45, 127, 129, 42, 21, 4, 6, 96, 46, 153, 0, 7, 4, 167, 0, 4, 3, 42]
abbrev dktL_law_26 : List UInt8 := dkwL_law_26 ++ dktL_law_27
def dkwL_law_25 : List UInt8 := [7, 96, 46, 45, 184, 0, 86, 54, 5, 44, 42, 21, 4, 4, 96, 46, 133, 16, 32, 121, 42, 21, 4, 5]
abbrev dktL_law_25 : List UInt8 := dkwL_law_25 ++ dktL_law_26
def dkwL_law_24 : List UInt8 := [46, 133, 20, 0, 45, 127, 129, 42, 21, 4, 6, 96, 46, 153, 0, 7, 4, 167, 0, 4, 3, 42, 21, 4]
abbrev dktL_law_24 : List UInt8 := dkwL_law_24 ++ dktL_law_25
def dkwL_law_23 : List UInt8 := [153, 0, 5, 3, 172, 167, 0, 131, 43, 42, 21, 4, 4, 96, 46, 133, 16, 32, 121, 42, 21, 4, 5, 96]
abbrev dktL_law_23 : List UInt8 := dkwL_law_23 ++ dktL_law_24
def dkwL_law_22 : List UInt8 := [44, 182, 0, 66, 21, 5, 159, 0, 5, 3, 172, 21, 5, 154, 0, 15, 45, 3, 47, 21, 6, 133, 148]
abbrev dktL_law_22 : List UInt8 := dkwL_law_22 ++ dktL_law_23
def dkwL_law_21 : List UInt8 := [20, 0, 45, 127, 129, 42, 21, 4, 6, 96, 46, 153, 0, 7, 4, 167, 0, 4, 3, 182, 0, 85, 54, 6]
abbrev dktL_law_21 : List UInt8 := dkwL_law_21 ++ dktL_law_22
def dkwL_law_20 : List UInt8 := [184, 0, 82, 54, 5, 44, 42, 21, 4, 4, 96, 46, 133, 16, 32, 121, 42, 21, 4, 5, 96, 46, 133]
abbrev dktL_law_20 : List UInt8 := dkwL_law_20 ++ dktL_law_21
def dkwL_law_19 : List UInt8 := [46, 133, 20, 0, 45, 127, 129, 42, 21, 4, 6, 96, 46, 153, 0, 7, 4, 167, 0, 4, 3, 45]
abbrev dktL_law_19 : List UInt8 := dkwL_law_19 ++ dktL_law_20
def dkwL_law_18 : List UInt8 := [153, 0, 5, 3, 172, 167, 0, 247, 43, 42, 21, 4, 4, 96, 46, 133, 16, 32, 121, 42, 21, 4, 5, 96]
abbrev dktL_law_18 : List UInt8 := dkwL_law_18 ++ dktL_law_19
def dkwL_law_17 : List UInt8 := [182, 0, 66, 21, 5, 159, 0, 5, 3, 172, 21, 5, 154, 0, 15, 45, 3, 47, 21, 6, 133, 148]
abbrev dktL_law_17 : List UInt8 := dkwL_law_17 ++ dktL_law_18
def dkwL_law_16 : List UInt8 := [21, 4, 4, 96, 46, 45, 184, 0, 79, 54, 5, 44, 42, 21, 4, 4, 96, 46, 182, 0, 81, 54, 6, 44]
abbrev dktL_law_16 : List UInt8 := dkwL_law_16 ++ dktL_law_17
def dkwL_law_15 : List UInt8 := [172, 21, 5, 154, 0, 15, 45, 3, 47, 21, 6, 133, 148, 153, 0, 5, 3, 172, 167, 1, 47, 43, 42]
abbrev dktL_law_15 : List UInt8 := dkwL_law_15 ++ dktL_law_16
def dkwL_law_14 : List UInt8 := [54, 5, 44, 42, 21, 4, 4, 96, 46, 182, 0, 78, 54, 6, 44, 182, 0, 66, 21, 5, 159, 0, 5, 3]
abbrev dktL_law_14 : List UInt8 := dkwL_law_14 ++ dktL_law_15
def dkwL_law_13 : List UInt8 := [21, 6, 133, 148, 153, 0, 5, 3, 172, 167, 1, 103, 43, 42, 21, 4, 4, 96, 46, 45, 184, 0, 76]
abbrev dktL_law_13 : List UInt8 := dkwL_law_13 ++ dktL_law_14
def dkwL_law_12 : List UInt8 := [182, 0, 75, 54, 6, 44, 182, 0, 66, 21, 5, 159, 0, 5, 3, 172, 21, 5, 154, 0, 15, 45, 3, 47]
abbrev dktL_law_12 : List UInt8 := dkwL_law_12 ++ dktL_law_13
def dkwL_law_11 : List UInt8 := [167, 1, 159, 43, 42, 21, 4, 4, 96, 46, 45, 184, 0, 73, 54, 5, 44, 42, 21, 4, 4, 96, 46]
abbrev dktL_law_11 : List UInt8 := dkwL_law_11 ++ dktL_law_12
def dkwL_law_10 : List UInt8 := [21, 5, 159, 0, 5, 3, 172, 21, 5, 154, 0, 15, 45, 3, 47, 21, 6, 133, 148, 153, 0, 5, 3, 172]
abbrev dktL_law_10 : List UInt8 := dkwL_law_10 ++ dktL_law_11
def dkwL_law_9 : List UInt8 := [46, 45, 184, 0, 70, 54, 5, 44, 42, 21, 4, 4, 96, 46, 182, 0, 72, 54, 6, 44, 182, 0, 66]
abbrev dktL_law_9 : List UInt8 := dkwL_law_9 ++ dktL_law_10
def dkwL_law_8 : List UInt8 := [154, 0, 15, 45, 3, 47, 21, 6, 133, 148, 153, 0, 5, 3, 172, 167, 1, 215, 43, 42, 21, 4, 4, 96]
abbrev dktL_law_8 : List UInt8 := dkwL_law_8 ++ dktL_law_9
def dkwL_law_7 : List UInt8 := [42, 21, 4, 4, 96, 46, 182, 0, 65, 54, 6, 44, 182, 0, 66, 21, 5, 159, 0, 5, 3, 172, 21, 5]
abbrev dktL_law_7 : List UInt8 := dkwL_law_7 ++ dktL_law_8
def dkwL_law_6 : List UInt8 := [182, 0, 56, 44, 182, 0, 59, 167, 2, 15, 43, 42, 21, 4, 4, 96, 46, 45, 184, 0, 60, 54, 5, 44]
abbrev dktL_law_6 : List UInt8 := dkwL_law_6 ++ dktL_law_7
def dkwL_law_5 : List UInt8 := [127, 129, 182, 0, 51, 159, 2, 39, 3, 172, 43, 182, 0, 52, 44, 182, 0, 55, 167, 2, 26, 43]
abbrev dktL_law_5 : List UInt8 := dkwL_law_5 ++ dktL_law_6
def dkwL_law_4 : List UInt8 := [182, 0, 47, 44, 42, 21, 4, 4, 96, 46, 133, 16, 32, 121, 42, 21, 4, 5, 96, 46, 133, 20, 0, 45]
abbrev dktL_law_4 : List UInt8 := dkwL_law_4 ++ dktL_law_5
def dkwL_law_3 : List UInt8 := [43, 42, 21, 4, 4, 96, 46, 133, 16, 32, 121, 42, 21, 4, 5, 96, 46, 133, 20, 0, 45, 127, 129]
abbrev dktL_law_3 : List UInt8 := dkwL_law_3 ++ dktL_law_4
def dkwL_law_2 : List UInt8 := [170, 0, 0, 2, 144, 0, 0, 0, 0, 0, 0, 0, 9, 0, 0, 0, 53, 0, 0, 0, 110, 0, 0, 0, 121, 0, 0, 0, 132, 0, 0, 0, 188, 0, 0, 0, 244, 0, 0, 1, 44, 0, 0, 1, 100, 0, 0, 1, 156, 0, 0, 2, 16]
abbrev dktL_law_2 : List UInt8 := dkwL_law_2 ++ dktL_law_3
def dkwL_law_1 : List UInt8 := [21, 4, 42, 190, 8, 100, 163, 2, 160, 42, 21, 4, 46, 16, 15, 126]
abbrev dktL_law_1 : List UInt8 := dkwL_law_1 ++ dktL_law_2
def dkwL_law_0 : List UInt8 := [187, 0, 8, 89, 183, 0, 41, 76, 187, 0, 42, 89, 183, 0, 44, 77, 4, 188, 11, 78, 3, 54, 4]
abbrev dktL_law_0 : List UInt8 := dkwL_law_0 ++ dktL_law_1
theorem dksL_law_0 : cL_law.data.toList.drop 0 = dktL_law_0 := by decide +kernel
theorem dksL_law_1 : cL_law.data.toList.drop 23 = dktL_law_1 := dk_seg dksL_law_0 23 rfl rfl
theorem dksL_law_2 : cL_law.data.toList.drop 39 = dktL_law_2 := dk_seg dksL_law_1 16 rfl rfl
theorem dksL_law_3 : cL_law.data.toList.drop 92 = dktL_law_3 := dk_seg dksL_law_2 53 rfl rfl
theorem dksL_law_4 : cL_law.data.toList.drop 115 = dktL_law_4 := dk_seg dksL_law_3 23 rfl rfl
theorem dksL_law_5 : cL_law.data.toList.drop 139 = dktL_law_5 := dk_seg dksL_law_4 24 rfl rfl
theorem dksL_law_6 : cL_law.data.toList.drop 161 = dktL_law_6 := dk_seg dksL_law_5 22 rfl rfl
theorem dksL_law_7 : cL_law.data.toList.drop 185 = dktL_law_7 := dk_seg dksL_law_6 24 rfl rfl
theorem dksL_law_8 : cL_law.data.toList.drop 209 = dktL_law_8 := dk_seg dksL_law_7 24 rfl rfl
theorem dksL_law_9 : cL_law.data.toList.drop 233 = dktL_law_9 := dk_seg dksL_law_8 24 rfl rfl
theorem dksL_law_10 : cL_law.data.toList.drop 256 = dktL_law_10 := dk_seg dksL_law_9 23 rfl rfl
theorem dksL_law_11 : cL_law.data.toList.drop 280 = dktL_law_11 := dk_seg dksL_law_10 24 rfl rfl
theorem dksL_law_12 : cL_law.data.toList.drop 303 = dktL_law_12 := dk_seg dksL_law_11 23 rfl rfl
theorem dksL_law_13 : cL_law.data.toList.drop 327 = dktL_law_13 := dk_seg dksL_law_12 24 rfl rfl
theorem dksL_law_14 : cL_law.data.toList.drop 350 = dktL_law_14 := dk_seg dksL_law_13 23 rfl rfl
theorem dksL_law_15 : cL_law.data.toList.drop 374 = dktL_law_15 := dk_seg dksL_law_14 24 rfl rfl
theorem dksL_law_16 : cL_law.data.toList.drop 397 = dktL_law_16 := dk_seg dksL_law_15 23 rfl rfl
theorem dksL_law_17 : cL_law.data.toList.drop 421 = dktL_law_17 := dk_seg dksL_law_16 24 rfl rfl
theorem dksL_law_18 : cL_law.data.toList.drop 443 = dktL_law_18 := dk_seg dksL_law_17 22 rfl rfl
theorem dksL_law_19 : cL_law.data.toList.drop 467 = dktL_law_19 := dk_seg dksL_law_18 24 rfl rfl
theorem dksL_law_20 : cL_law.data.toList.drop 489 = dktL_law_20 := dk_seg dksL_law_19 22 rfl rfl
theorem dksL_law_21 : cL_law.data.toList.drop 512 = dktL_law_21 := dk_seg dksL_law_20 23 rfl rfl
theorem dksL_law_22 : cL_law.data.toList.drop 536 = dktL_law_22 := dk_seg dksL_law_21 24 rfl rfl
theorem dksL_law_23 : cL_law.data.toList.drop 559 = dktL_law_23 := dk_seg dksL_law_22 23 rfl rfl
theorem dksL_law_24 : cL_law.data.toList.drop 583 = dktL_law_24 := dk_seg dksL_law_23 24 rfl rfl
theorem dksL_law_25 : cL_law.data.toList.drop 607 = dktL_law_25 := dk_seg dksL_law_24 24 rfl rfl
theorem dksL_law_26 : cL_law.data.toList.drop 631 = dktL_law_26 := dk_seg dksL_law_25 24 rfl rfl
theorem dksL_law_27 : cL_law.data.toList.drop 654 = dktL_law_27 := dk_seg dksL_law_26 23 rfl rfl
theorem dksL_law_28 : cL_law.data.toList.drop 677 = dktL_law_28 := dk_seg dksL_law_27 23 rfl rfl
theorem dksL_law_29 : cL_law.data.toList.drop 701 = dktL_law_29 := dk_seg dksL_law_28 24 rfl rfl
theorem dL_law_0 : decode cL_law 0 = .ok (.new 8, 3) := dk_187 0 8 (dk_at dksL_law_0 0 rfl rfl)
theorem dL_law_3 : decode cL_law 3 = .ok (.dup, 1) := dk_89 (dk_at dksL_law_0 3 rfl rfl)
theorem dL_law_4 : decode cL_law 4 = .ok (.invokespecial 41, 3) := dk_183 0 41 (dk_at dksL_law_0 4 rfl rfl)
theorem dL_law_7 : decode cL_law 7 = .ok (.astore_n 1, 1) := dk_76 (dk_at dksL_law_0 7 rfl rfl)
theorem dL_law_8 : decode cL_law 8 = .ok (.new 42, 3) := dk_187 0 42 (dk_at dksL_law_0 8 rfl rfl)
theorem dL_law_11 : decode cL_law 11 = .ok (.dup, 1) := dk_89 (dk_at dksL_law_0 11 rfl rfl)
theorem dL_law_12 : decode cL_law 12 = .ok (.invokespecial 44, 3) := dk_183 0 44 (dk_at dksL_law_0 12 rfl rfl)
theorem dL_law_15 : decode cL_law 15 = .ok (.astore_n 2, 1) := dk_77 (dk_at dksL_law_0 15 rfl rfl)
theorem dL_law_16 : decode cL_law 16 = .ok (.iconst 1, 1) := dk_4 (dk_at dksL_law_0 16 rfl rfl)
theorem dL_law_17 : decode cL_law 17 = .ok (.newarray .long, 2) := dk_188_11 (dk_at dksL_law_0 17 rfl rfl)
theorem dL_law_19 : decode cL_law 19 = .ok (.astore_n 3, 1) := dk_78 (dk_at dksL_law_0 19 rfl rfl)
theorem dL_law_20 : decode cL_law 20 = .ok (.iconst 0, 1) := dk_3 (dk_at dksL_law_0 20 rfl rfl)
theorem dL_law_21 : decode cL_law 21 = .ok (.istore 4, 2) := dk_54 4 (dk_at dksL_law_0 21 rfl rfl)
theorem dL_law_23 : decode cL_law 23 = .ok (.iload 4, 2) := dk_21 4 (dk_at dksL_law_1 0 rfl rfl)
theorem dL_law_25 : decode cL_law 25 = .ok (.aload_n 0, 1) := dk_42 (dk_at dksL_law_1 2 rfl rfl)
theorem dL_law_26 : decode cL_law 26 = .ok (.arraylength, 1) := dk_190 (dk_at dksL_law_1 3 rfl rfl)
theorem dL_law_27 : decode cL_law 27 = .ok (.iconst 5, 1) := dk_8 (dk_at dksL_law_1 4 rfl rfl)
theorem dL_law_28 : decode cL_law 28 = .ok (.isub, 1) := dk_100 (dk_at dksL_law_1 5 rfl rfl)
theorem dL_law_29 : decode cL_law 29 = .ok (.if_icmp .gt 672, 3) := dk_163 2 160 (dk_at dksL_law_1 6 rfl rfl)
theorem dL_law_32 : decode cL_law 32 = .ok (.aload_n 0, 1) := dk_42 (dk_at dksL_law_1 9 rfl rfl)
theorem dL_law_33 : decode cL_law 33 = .ok (.iload 4, 2) := dk_21 4 (dk_at dksL_law_1 10 rfl rfl)
theorem dL_law_35 : decode cL_law 35 = .ok (.iaload, 1) := dk_46 (dk_at dksL_law_1 12 rfl rfl)
theorem dL_law_36 : decode cL_law 36 = .ok (.bipush 15, 2) := dk_16 15 (dk_at dksL_law_1 13 rfl rfl)
theorem dL_law_38 : decode cL_law 38 = .ok (.iand, 1) := dk_126 (dk_at dksL_law_1 15 rfl rfl)
theorem dL_law_39 : decode cL_law 39 = .ok (.tableswitch 656 0 9 #[53, 110, 121, 132, 188, 244, 300, 356, 412, 528], 53) := by decide +kernel
theorem dL_law_92 : decode cL_law 92 = .ok (.aload_n 1, 1) := dk_43 (dk_at dksL_law_3 0 rfl rfl)
theorem dL_law_93 : decode cL_law 93 = .ok (.aload_n 0, 1) := dk_42 (dk_at dksL_law_3 1 rfl rfl)
theorem dL_law_94 : decode cL_law 94 = .ok (.iload 4, 2) := dk_21 4 (dk_at dksL_law_3 2 rfl rfl)
theorem dL_law_96 : decode cL_law 96 = .ok (.iconst 1, 1) := dk_4 (dk_at dksL_law_3 4 rfl rfl)
theorem dL_law_97 : decode cL_law 97 = .ok (.iadd, 1) := dk_96 (dk_at dksL_law_3 5 rfl rfl)
theorem dL_law_98 : decode cL_law 98 = .ok (.iaload, 1) := dk_46 (dk_at dksL_law_3 6 rfl rfl)
theorem dL_law_99 : decode cL_law 99 = .ok (.i2l, 1) := dk_133 (dk_at dksL_law_3 7 rfl rfl)
theorem dL_law_100 : decode cL_law 100 = .ok (.bipush 32, 2) := dk_16 32 (dk_at dksL_law_3 8 rfl rfl)
theorem dL_law_102 : decode cL_law 102 = .ok (.lshl, 1) := dk_121 (dk_at dksL_law_3 10 rfl rfl)
theorem dL_law_103 : decode cL_law 103 = .ok (.aload_n 0, 1) := dk_42 (dk_at dksL_law_3 11 rfl rfl)
theorem dL_law_104 : decode cL_law 104 = .ok (.iload 4, 2) := dk_21 4 (dk_at dksL_law_3 12 rfl rfl)
theorem dL_law_106 : decode cL_law 106 = .ok (.iconst 2, 1) := dk_5 (dk_at dksL_law_3 14 rfl rfl)
theorem dL_law_107 : decode cL_law 107 = .ok (.iadd, 1) := dk_96 (dk_at dksL_law_3 15 rfl rfl)
theorem dL_law_108 : decode cL_law 108 = .ok (.iaload, 1) := dk_46 (dk_at dksL_law_3 16 rfl rfl)
theorem dL_law_109 : decode cL_law 109 = .ok (.i2l, 1) := dk_133 (dk_at dksL_law_3 17 rfl rfl)
theorem dL_law_110 : decode cL_law 110 = .ok (.ldc2_w 45, 3) := dk_20 0 45 (dk_at dksL_law_3 18 rfl rfl)
theorem dL_law_113 : decode cL_law 113 = .ok (.land, 1) := dk_127 (dk_at dksL_law_3 21 rfl rfl)
theorem dL_law_114 : decode cL_law 114 = .ok (.lor, 1) := dk_129 (dk_at dksL_law_3 22 rfl rfl)
theorem dL_law_115 : decode cL_law 115 = .ok (.invokevirtual 47, 3) := dk_182 0 47 (dk_at dksL_law_4 0 rfl rfl)
theorem dL_law_118 : decode cL_law 118 = .ok (.aload_n 2, 1) := dk_44 (dk_at dksL_law_4 3 rfl rfl)
theorem dL_law_119 : decode cL_law 119 = .ok (.aload_n 0, 1) := dk_42 (dk_at dksL_law_4 4 rfl rfl)
theorem dL_law_120 : decode cL_law 120 = .ok (.iload 4, 2) := dk_21 4 (dk_at dksL_law_4 5 rfl rfl)
theorem dL_law_122 : decode cL_law 122 = .ok (.iconst 1, 1) := dk_4 (dk_at dksL_law_4 7 rfl rfl)
theorem dL_law_123 : decode cL_law 123 = .ok (.iadd, 1) := dk_96 (dk_at dksL_law_4 8 rfl rfl)
theorem dL_law_124 : decode cL_law 124 = .ok (.iaload, 1) := dk_46 (dk_at dksL_law_4 9 rfl rfl)
theorem dL_law_125 : decode cL_law 125 = .ok (.i2l, 1) := dk_133 (dk_at dksL_law_4 10 rfl rfl)
theorem dL_law_126 : decode cL_law 126 = .ok (.bipush 32, 2) := dk_16 32 (dk_at dksL_law_4 11 rfl rfl)
theorem dL_law_128 : decode cL_law 128 = .ok (.lshl, 1) := dk_121 (dk_at dksL_law_4 13 rfl rfl)
theorem dL_law_129 : decode cL_law 129 = .ok (.aload_n 0, 1) := dk_42 (dk_at dksL_law_4 14 rfl rfl)
theorem dL_law_130 : decode cL_law 130 = .ok (.iload 4, 2) := dk_21 4 (dk_at dksL_law_4 15 rfl rfl)
theorem dL_law_132 : decode cL_law 132 = .ok (.iconst 2, 1) := dk_5 (dk_at dksL_law_4 17 rfl rfl)
theorem dL_law_133 : decode cL_law 133 = .ok (.iadd, 1) := dk_96 (dk_at dksL_law_4 18 rfl rfl)
theorem dL_law_134 : decode cL_law 134 = .ok (.iaload, 1) := dk_46 (dk_at dksL_law_4 19 rfl rfl)
theorem dL_law_135 : decode cL_law 135 = .ok (.i2l, 1) := dk_133 (dk_at dksL_law_4 20 rfl rfl)
theorem dL_law_136 : decode cL_law 136 = .ok (.ldc2_w 45, 3) := dk_20 0 45 (dk_at dksL_law_4 21 rfl rfl)
theorem dL_law_139 : decode cL_law 139 = .ok (.land, 1) := dk_127 (dk_at dksL_law_5 0 rfl rfl)
theorem dL_law_140 : decode cL_law 140 = .ok (.lor, 1) := dk_129 (dk_at dksL_law_5 1 rfl rfl)
theorem dL_law_141 : decode cL_law 141 = .ok (.invokevirtual 51, 3) := dk_182 0 51 (dk_at dksL_law_5 2 rfl rfl)
theorem dL_law_144 : decode cL_law 144 = .ok (.if_icmp .eq 551, 3) := dk_159 2 39 (dk_at dksL_law_5 5 rfl rfl)
theorem dL_law_147 : decode cL_law 147 = .ok (.iconst 0, 1) := dk_3 (dk_at dksL_law_5 8 rfl rfl)
theorem dL_law_148 : decode cL_law 148 = .ok (.ireturn, 1) := dk_172 (dk_at dksL_law_5 9 rfl rfl)
theorem dL_law_149 : decode cL_law 149 = .ok (.aload_n 1, 1) := dk_43 (dk_at dksL_law_5 10 rfl rfl)
theorem dL_law_150 : decode cL_law 150 = .ok (.invokevirtual 52, 3) := dk_182 0 52 (dk_at dksL_law_5 11 rfl rfl)
theorem dL_law_153 : decode cL_law 153 = .ok (.aload_n 2, 1) := dk_44 (dk_at dksL_law_5 14 rfl rfl)
theorem dL_law_154 : decode cL_law 154 = .ok (.invokevirtual 55, 3) := dk_182 0 55 (dk_at dksL_law_5 15 rfl rfl)
theorem dL_law_157 : decode cL_law 157 = .ok (.goto 538, 3) := dk_167 2 26 (dk_at dksL_law_5 18 rfl rfl)
theorem dL_law_160 : decode cL_law 160 = .ok (.aload_n 1, 1) := dk_43 (dk_at dksL_law_5 21 rfl rfl)
theorem dL_law_161 : decode cL_law 161 = .ok (.invokevirtual 56, 3) := dk_182 0 56 (dk_at dksL_law_6 0 rfl rfl)
theorem dL_law_164 : decode cL_law 164 = .ok (.aload_n 2, 1) := dk_44 (dk_at dksL_law_6 3 rfl rfl)
theorem dL_law_165 : decode cL_law 165 = .ok (.invokevirtual 59, 3) := dk_182 0 59 (dk_at dksL_law_6 4 rfl rfl)
theorem dL_law_168 : decode cL_law 168 = .ok (.goto 527, 3) := dk_167 2 15 (dk_at dksL_law_6 7 rfl rfl)
theorem dL_law_171 : decode cL_law 171 = .ok (.aload_n 1, 1) := dk_43 (dk_at dksL_law_6 10 rfl rfl)
theorem dL_law_172 : decode cL_law 172 = .ok (.aload_n 0, 1) := dk_42 (dk_at dksL_law_6 11 rfl rfl)
theorem dL_law_173 : decode cL_law 173 = .ok (.iload 4, 2) := dk_21 4 (dk_at dksL_law_6 12 rfl rfl)
theorem dL_law_175 : decode cL_law 175 = .ok (.iconst 1, 1) := dk_4 (dk_at dksL_law_6 14 rfl rfl)
theorem dL_law_176 : decode cL_law 176 = .ok (.iadd, 1) := dk_96 (dk_at dksL_law_6 15 rfl rfl)
theorem dL_law_177 : decode cL_law 177 = .ok (.iaload, 1) := dk_46 (dk_at dksL_law_6 16 rfl rfl)
theorem dL_law_178 : decode cL_law 178 = .ok (.aload_n 3, 1) := dk_45 (dk_at dksL_law_6 17 rfl rfl)
theorem dL_law_179 : decode cL_law 179 = .ok (.invokestatic 60, 3) := dk_184 0 60 (dk_at dksL_law_6 18 rfl rfl)
theorem dL_law_182 : decode cL_law 182 = .ok (.istore 5, 2) := dk_54 5 (dk_at dksL_law_6 21 rfl rfl)
theorem dL_law_184 : decode cL_law 184 = .ok (.aload_n 2, 1) := dk_44 (dk_at dksL_law_6 23 rfl rfl)
theorem dL_law_185 : decode cL_law 185 = .ok (.aload_n 0, 1) := dk_42 (dk_at dksL_law_7 0 rfl rfl)
theorem dL_law_186 : decode cL_law 186 = .ok (.iload 4, 2) := dk_21 4 (dk_at dksL_law_7 1 rfl rfl)
theorem dL_law_188 : decode cL_law 188 = .ok (.iconst 1, 1) := dk_4 (dk_at dksL_law_7 3 rfl rfl)
theorem dL_law_189 : decode cL_law 189 = .ok (.iadd, 1) := dk_96 (dk_at dksL_law_7 4 rfl rfl)
theorem dL_law_190 : decode cL_law 190 = .ok (.iaload, 1) := dk_46 (dk_at dksL_law_7 5 rfl rfl)
theorem dL_law_191 : decode cL_law 191 = .ok (.invokevirtual 65, 3) := dk_182 0 65 (dk_at dksL_law_7 6 rfl rfl)
theorem dL_law_194 : decode cL_law 194 = .ok (.istore 6, 2) := dk_54 6 (dk_at dksL_law_7 9 rfl rfl)
theorem dL_law_196 : decode cL_law 196 = .ok (.aload_n 2, 1) := dk_44 (dk_at dksL_law_7 11 rfl rfl)
theorem dL_law_197 : decode cL_law 197 = .ok (.invokevirtual 66, 3) := dk_182 0 66 (dk_at dksL_law_7 12 rfl rfl)
theorem dL_law_200 : decode cL_law 200 = .ok (.iload 5, 2) := dk_21 5 (dk_at dksL_law_7 15 rfl rfl)
theorem dL_law_202 : decode cL_law 202 = .ok (.if_icmp .eq 5, 3) := dk_159 0 5 (dk_at dksL_law_7 17 rfl rfl)
theorem dL_law_205 : decode cL_law 205 = .ok (.iconst 0, 1) := dk_3 (dk_at dksL_law_7 20 rfl rfl)
theorem dL_law_206 : decode cL_law 206 = .ok (.ireturn, 1) := dk_172 (dk_at dksL_law_7 21 rfl rfl)
theorem dL_law_207 : decode cL_law 207 = .ok (.iload 5, 2) := dk_21 5 (dk_at dksL_law_7 22 rfl rfl)
theorem dL_law_209 : decode cL_law 209 = .ok (.ifCond .ne 15, 3) := dk_154 0 15 (dk_at dksL_law_8 0 rfl rfl)
theorem dL_law_212 : decode cL_law 212 = .ok (.aload_n 3, 1) := dk_45 (dk_at dksL_law_8 3 rfl rfl)
theorem dL_law_213 : decode cL_law 213 = .ok (.iconst 0, 1) := dk_3 (dk_at dksL_law_8 4 rfl rfl)
theorem dL_law_214 : decode cL_law 214 = .ok (.laload, 1) := dk_47 (dk_at dksL_law_8 5 rfl rfl)
theorem dL_law_215 : decode cL_law 215 = .ok (.iload 6, 2) := dk_21 6 (dk_at dksL_law_8 6 rfl rfl)
theorem dL_law_217 : decode cL_law 217 = .ok (.i2l, 1) := dk_133 (dk_at dksL_law_8 8 rfl rfl)
theorem dL_law_218 : decode cL_law 218 = .ok (.lcmp, 1) := dk_148 (dk_at dksL_law_8 9 rfl rfl)
theorem dL_law_219 : decode cL_law 219 = .ok (.ifCond .eq 5, 3) := dk_153 0 5 (dk_at dksL_law_8 10 rfl rfl)
theorem dL_law_222 : decode cL_law 222 = .ok (.iconst 0, 1) := dk_3 (dk_at dksL_law_8 13 rfl rfl)
theorem dL_law_223 : decode cL_law 223 = .ok (.ireturn, 1) := dk_172 (dk_at dksL_law_8 14 rfl rfl)
theorem dL_law_224 : decode cL_law 224 = .ok (.goto 471, 3) := dk_167 1 215 (dk_at dksL_law_8 15 rfl rfl)
theorem dL_law_227 : decode cL_law 227 = .ok (.aload_n 1, 1) := dk_43 (dk_at dksL_law_8 18 rfl rfl)
theorem dL_law_228 : decode cL_law 228 = .ok (.aload_n 0, 1) := dk_42 (dk_at dksL_law_8 19 rfl rfl)
theorem dL_law_229 : decode cL_law 229 = .ok (.iload 4, 2) := dk_21 4 (dk_at dksL_law_8 20 rfl rfl)
theorem dL_law_231 : decode cL_law 231 = .ok (.iconst 1, 1) := dk_4 (dk_at dksL_law_8 22 rfl rfl)
theorem dL_law_232 : decode cL_law 232 = .ok (.iadd, 1) := dk_96 (dk_at dksL_law_8 23 rfl rfl)
theorem dL_law_233 : decode cL_law 233 = .ok (.iaload, 1) := dk_46 (dk_at dksL_law_9 0 rfl rfl)
theorem dL_law_234 : decode cL_law 234 = .ok (.aload_n 3, 1) := dk_45 (dk_at dksL_law_9 1 rfl rfl)
theorem dL_law_235 : decode cL_law 235 = .ok (.invokestatic 70, 3) := dk_184 0 70 (dk_at dksL_law_9 2 rfl rfl)
theorem dL_law_238 : decode cL_law 238 = .ok (.istore 5, 2) := dk_54 5 (dk_at dksL_law_9 5 rfl rfl)
theorem dL_law_240 : decode cL_law 240 = .ok (.aload_n 2, 1) := dk_44 (dk_at dksL_law_9 7 rfl rfl)
theorem dL_law_241 : decode cL_law 241 = .ok (.aload_n 0, 1) := dk_42 (dk_at dksL_law_9 8 rfl rfl)
theorem dL_law_242 : decode cL_law 242 = .ok (.iload 4, 2) := dk_21 4 (dk_at dksL_law_9 9 rfl rfl)
theorem dL_law_244 : decode cL_law 244 = .ok (.iconst 1, 1) := dk_4 (dk_at dksL_law_9 11 rfl rfl)
theorem dL_law_245 : decode cL_law 245 = .ok (.iadd, 1) := dk_96 (dk_at dksL_law_9 12 rfl rfl)
theorem dL_law_246 : decode cL_law 246 = .ok (.iaload, 1) := dk_46 (dk_at dksL_law_9 13 rfl rfl)
theorem dL_law_247 : decode cL_law 247 = .ok (.invokevirtual 72, 3) := dk_182 0 72 (dk_at dksL_law_9 14 rfl rfl)
theorem dL_law_250 : decode cL_law 250 = .ok (.istore 6, 2) := dk_54 6 (dk_at dksL_law_9 17 rfl rfl)
theorem dL_law_252 : decode cL_law 252 = .ok (.aload_n 2, 1) := dk_44 (dk_at dksL_law_9 19 rfl rfl)
theorem dL_law_253 : decode cL_law 253 = .ok (.invokevirtual 66, 3) := dk_182 0 66 (dk_at dksL_law_9 20 rfl rfl)
theorem dL_law_256 : decode cL_law 256 = .ok (.iload 5, 2) := dk_21 5 (dk_at dksL_law_10 0 rfl rfl)
theorem dL_law_258 : decode cL_law 258 = .ok (.if_icmp .eq 5, 3) := dk_159 0 5 (dk_at dksL_law_10 2 rfl rfl)
theorem dL_law_261 : decode cL_law 261 = .ok (.iconst 0, 1) := dk_3 (dk_at dksL_law_10 5 rfl rfl)
theorem dL_law_262 : decode cL_law 262 = .ok (.ireturn, 1) := dk_172 (dk_at dksL_law_10 6 rfl rfl)
theorem dL_law_263 : decode cL_law 263 = .ok (.iload 5, 2) := dk_21 5 (dk_at dksL_law_10 7 rfl rfl)
theorem dL_law_265 : decode cL_law 265 = .ok (.ifCond .ne 15, 3) := dk_154 0 15 (dk_at dksL_law_10 9 rfl rfl)
theorem dL_law_268 : decode cL_law 268 = .ok (.aload_n 3, 1) := dk_45 (dk_at dksL_law_10 12 rfl rfl)
theorem dL_law_269 : decode cL_law 269 = .ok (.iconst 0, 1) := dk_3 (dk_at dksL_law_10 13 rfl rfl)
theorem dL_law_270 : decode cL_law 270 = .ok (.laload, 1) := dk_47 (dk_at dksL_law_10 14 rfl rfl)
theorem dL_law_271 : decode cL_law 271 = .ok (.iload 6, 2) := dk_21 6 (dk_at dksL_law_10 15 rfl rfl)
theorem dL_law_273 : decode cL_law 273 = .ok (.i2l, 1) := dk_133 (dk_at dksL_law_10 17 rfl rfl)
theorem dL_law_274 : decode cL_law 274 = .ok (.lcmp, 1) := dk_148 (dk_at dksL_law_10 18 rfl rfl)
theorem dL_law_275 : decode cL_law 275 = .ok (.ifCond .eq 5, 3) := dk_153 0 5 (dk_at dksL_law_10 19 rfl rfl)
theorem dL_law_278 : decode cL_law 278 = .ok (.iconst 0, 1) := dk_3 (dk_at dksL_law_10 22 rfl rfl)
theorem dL_law_279 : decode cL_law 279 = .ok (.ireturn, 1) := dk_172 (dk_at dksL_law_10 23 rfl rfl)
theorem dL_law_280 : decode cL_law 280 = .ok (.goto 415, 3) := dk_167 1 159 (dk_at dksL_law_11 0 rfl rfl)
theorem dL_law_283 : decode cL_law 283 = .ok (.aload_n 1, 1) := dk_43 (dk_at dksL_law_11 3 rfl rfl)
theorem dL_law_284 : decode cL_law 284 = .ok (.aload_n 0, 1) := dk_42 (dk_at dksL_law_11 4 rfl rfl)
theorem dL_law_285 : decode cL_law 285 = .ok (.iload 4, 2) := dk_21 4 (dk_at dksL_law_11 5 rfl rfl)
theorem dL_law_287 : decode cL_law 287 = .ok (.iconst 1, 1) := dk_4 (dk_at dksL_law_11 7 rfl rfl)
theorem dL_law_288 : decode cL_law 288 = .ok (.iadd, 1) := dk_96 (dk_at dksL_law_11 8 rfl rfl)
theorem dL_law_289 : decode cL_law 289 = .ok (.iaload, 1) := dk_46 (dk_at dksL_law_11 9 rfl rfl)
theorem dL_law_290 : decode cL_law 290 = .ok (.aload_n 3, 1) := dk_45 (dk_at dksL_law_11 10 rfl rfl)
theorem dL_law_291 : decode cL_law 291 = .ok (.invokestatic 73, 3) := dk_184 0 73 (dk_at dksL_law_11 11 rfl rfl)
theorem dL_law_294 : decode cL_law 294 = .ok (.istore 5, 2) := dk_54 5 (dk_at dksL_law_11 14 rfl rfl)
theorem dL_law_296 : decode cL_law 296 = .ok (.aload_n 2, 1) := dk_44 (dk_at dksL_law_11 16 rfl rfl)
theorem dL_law_297 : decode cL_law 297 = .ok (.aload_n 0, 1) := dk_42 (dk_at dksL_law_11 17 rfl rfl)
theorem dL_law_298 : decode cL_law 298 = .ok (.iload 4, 2) := dk_21 4 (dk_at dksL_law_11 18 rfl rfl)
theorem dL_law_300 : decode cL_law 300 = .ok (.iconst 1, 1) := dk_4 (dk_at dksL_law_11 20 rfl rfl)
theorem dL_law_301 : decode cL_law 301 = .ok (.iadd, 1) := dk_96 (dk_at dksL_law_11 21 rfl rfl)
theorem dL_law_302 : decode cL_law 302 = .ok (.iaload, 1) := dk_46 (dk_at dksL_law_11 22 rfl rfl)
theorem dL_law_303 : decode cL_law 303 = .ok (.invokevirtual 75, 3) := dk_182 0 75 (dk_at dksL_law_12 0 rfl rfl)
theorem dL_law_306 : decode cL_law 306 = .ok (.istore 6, 2) := dk_54 6 (dk_at dksL_law_12 3 rfl rfl)
theorem dL_law_308 : decode cL_law 308 = .ok (.aload_n 2, 1) := dk_44 (dk_at dksL_law_12 5 rfl rfl)
theorem dL_law_309 : decode cL_law 309 = .ok (.invokevirtual 66, 3) := dk_182 0 66 (dk_at dksL_law_12 6 rfl rfl)
theorem dL_law_312 : decode cL_law 312 = .ok (.iload 5, 2) := dk_21 5 (dk_at dksL_law_12 9 rfl rfl)
theorem dL_law_314 : decode cL_law 314 = .ok (.if_icmp .eq 5, 3) := dk_159 0 5 (dk_at dksL_law_12 11 rfl rfl)
theorem dL_law_317 : decode cL_law 317 = .ok (.iconst 0, 1) := dk_3 (dk_at dksL_law_12 14 rfl rfl)
theorem dL_law_318 : decode cL_law 318 = .ok (.ireturn, 1) := dk_172 (dk_at dksL_law_12 15 rfl rfl)
theorem dL_law_319 : decode cL_law 319 = .ok (.iload 5, 2) := dk_21 5 (dk_at dksL_law_12 16 rfl rfl)
theorem dL_law_321 : decode cL_law 321 = .ok (.ifCond .ne 15, 3) := dk_154 0 15 (dk_at dksL_law_12 18 rfl rfl)
theorem dL_law_324 : decode cL_law 324 = .ok (.aload_n 3, 1) := dk_45 (dk_at dksL_law_12 21 rfl rfl)
theorem dL_law_325 : decode cL_law 325 = .ok (.iconst 0, 1) := dk_3 (dk_at dksL_law_12 22 rfl rfl)
theorem dL_law_326 : decode cL_law 326 = .ok (.laload, 1) := dk_47 (dk_at dksL_law_12 23 rfl rfl)
theorem dL_law_327 : decode cL_law 327 = .ok (.iload 6, 2) := dk_21 6 (dk_at dksL_law_13 0 rfl rfl)
theorem dL_law_329 : decode cL_law 329 = .ok (.i2l, 1) := dk_133 (dk_at dksL_law_13 2 rfl rfl)
theorem dL_law_330 : decode cL_law 330 = .ok (.lcmp, 1) := dk_148 (dk_at dksL_law_13 3 rfl rfl)
theorem dL_law_331 : decode cL_law 331 = .ok (.ifCond .eq 5, 3) := dk_153 0 5 (dk_at dksL_law_13 4 rfl rfl)
theorem dL_law_334 : decode cL_law 334 = .ok (.iconst 0, 1) := dk_3 (dk_at dksL_law_13 7 rfl rfl)
theorem dL_law_335 : decode cL_law 335 = .ok (.ireturn, 1) := dk_172 (dk_at dksL_law_13 8 rfl rfl)
theorem dL_law_336 : decode cL_law 336 = .ok (.goto 359, 3) := dk_167 1 103 (dk_at dksL_law_13 9 rfl rfl)
theorem dL_law_339 : decode cL_law 339 = .ok (.aload_n 1, 1) := dk_43 (dk_at dksL_law_13 12 rfl rfl)
theorem dL_law_340 : decode cL_law 340 = .ok (.aload_n 0, 1) := dk_42 (dk_at dksL_law_13 13 rfl rfl)
theorem dL_law_341 : decode cL_law 341 = .ok (.iload 4, 2) := dk_21 4 (dk_at dksL_law_13 14 rfl rfl)
theorem dL_law_343 : decode cL_law 343 = .ok (.iconst 1, 1) := dk_4 (dk_at dksL_law_13 16 rfl rfl)
theorem dL_law_344 : decode cL_law 344 = .ok (.iadd, 1) := dk_96 (dk_at dksL_law_13 17 rfl rfl)
theorem dL_law_345 : decode cL_law 345 = .ok (.iaload, 1) := dk_46 (dk_at dksL_law_13 18 rfl rfl)
theorem dL_law_346 : decode cL_law 346 = .ok (.aload_n 3, 1) := dk_45 (dk_at dksL_law_13 19 rfl rfl)
theorem dL_law_347 : decode cL_law 347 = .ok (.invokestatic 76, 3) := dk_184 0 76 (dk_at dksL_law_13 20 rfl rfl)
theorem dL_law_350 : decode cL_law 350 = .ok (.istore 5, 2) := dk_54 5 (dk_at dksL_law_14 0 rfl rfl)
theorem dL_law_352 : decode cL_law 352 = .ok (.aload_n 2, 1) := dk_44 (dk_at dksL_law_14 2 rfl rfl)
theorem dL_law_353 : decode cL_law 353 = .ok (.aload_n 0, 1) := dk_42 (dk_at dksL_law_14 3 rfl rfl)
theorem dL_law_354 : decode cL_law 354 = .ok (.iload 4, 2) := dk_21 4 (dk_at dksL_law_14 4 rfl rfl)
theorem dL_law_356 : decode cL_law 356 = .ok (.iconst 1, 1) := dk_4 (dk_at dksL_law_14 6 rfl rfl)
theorem dL_law_357 : decode cL_law 357 = .ok (.iadd, 1) := dk_96 (dk_at dksL_law_14 7 rfl rfl)
theorem dL_law_358 : decode cL_law 358 = .ok (.iaload, 1) := dk_46 (dk_at dksL_law_14 8 rfl rfl)
theorem dL_law_359 : decode cL_law 359 = .ok (.invokevirtual 78, 3) := dk_182 0 78 (dk_at dksL_law_14 9 rfl rfl)
theorem dL_law_362 : decode cL_law 362 = .ok (.istore 6, 2) := dk_54 6 (dk_at dksL_law_14 12 rfl rfl)
theorem dL_law_364 : decode cL_law 364 = .ok (.aload_n 2, 1) := dk_44 (dk_at dksL_law_14 14 rfl rfl)
theorem dL_law_365 : decode cL_law 365 = .ok (.invokevirtual 66, 3) := dk_182 0 66 (dk_at dksL_law_14 15 rfl rfl)
theorem dL_law_368 : decode cL_law 368 = .ok (.iload 5, 2) := dk_21 5 (dk_at dksL_law_14 18 rfl rfl)
theorem dL_law_370 : decode cL_law 370 = .ok (.if_icmp .eq 5, 3) := dk_159 0 5 (dk_at dksL_law_14 20 rfl rfl)
theorem dL_law_373 : decode cL_law 373 = .ok (.iconst 0, 1) := dk_3 (dk_at dksL_law_14 23 rfl rfl)
theorem dL_law_374 : decode cL_law 374 = .ok (.ireturn, 1) := dk_172 (dk_at dksL_law_15 0 rfl rfl)
theorem dL_law_375 : decode cL_law 375 = .ok (.iload 5, 2) := dk_21 5 (dk_at dksL_law_15 1 rfl rfl)
theorem dL_law_377 : decode cL_law 377 = .ok (.ifCond .ne 15, 3) := dk_154 0 15 (dk_at dksL_law_15 3 rfl rfl)
theorem dL_law_380 : decode cL_law 380 = .ok (.aload_n 3, 1) := dk_45 (dk_at dksL_law_15 6 rfl rfl)
theorem dL_law_381 : decode cL_law 381 = .ok (.iconst 0, 1) := dk_3 (dk_at dksL_law_15 7 rfl rfl)
theorem dL_law_382 : decode cL_law 382 = .ok (.laload, 1) := dk_47 (dk_at dksL_law_15 8 rfl rfl)
theorem dL_law_383 : decode cL_law 383 = .ok (.iload 6, 2) := dk_21 6 (dk_at dksL_law_15 9 rfl rfl)
theorem dL_law_385 : decode cL_law 385 = .ok (.i2l, 1) := dk_133 (dk_at dksL_law_15 11 rfl rfl)
theorem dL_law_386 : decode cL_law 386 = .ok (.lcmp, 1) := dk_148 (dk_at dksL_law_15 12 rfl rfl)
theorem dL_law_387 : decode cL_law 387 = .ok (.ifCond .eq 5, 3) := dk_153 0 5 (dk_at dksL_law_15 13 rfl rfl)
theorem dL_law_390 : decode cL_law 390 = .ok (.iconst 0, 1) := dk_3 (dk_at dksL_law_15 16 rfl rfl)
theorem dL_law_391 : decode cL_law 391 = .ok (.ireturn, 1) := dk_172 (dk_at dksL_law_15 17 rfl rfl)
theorem dL_law_392 : decode cL_law 392 = .ok (.goto 303, 3) := dk_167 1 47 (dk_at dksL_law_15 18 rfl rfl)
theorem dL_law_395 : decode cL_law 395 = .ok (.aload_n 1, 1) := dk_43 (dk_at dksL_law_15 21 rfl rfl)
theorem dL_law_396 : decode cL_law 396 = .ok (.aload_n 0, 1) := dk_42 (dk_at dksL_law_15 22 rfl rfl)
theorem dL_law_397 : decode cL_law 397 = .ok (.iload 4, 2) := dk_21 4 (dk_at dksL_law_16 0 rfl rfl)
theorem dL_law_399 : decode cL_law 399 = .ok (.iconst 1, 1) := dk_4 (dk_at dksL_law_16 2 rfl rfl)
theorem dL_law_400 : decode cL_law 400 = .ok (.iadd, 1) := dk_96 (dk_at dksL_law_16 3 rfl rfl)
theorem dL_law_401 : decode cL_law 401 = .ok (.iaload, 1) := dk_46 (dk_at dksL_law_16 4 rfl rfl)
theorem dL_law_402 : decode cL_law 402 = .ok (.aload_n 3, 1) := dk_45 (dk_at dksL_law_16 5 rfl rfl)
theorem dL_law_403 : decode cL_law 403 = .ok (.invokestatic 79, 3) := dk_184 0 79 (dk_at dksL_law_16 6 rfl rfl)
theorem dL_law_406 : decode cL_law 406 = .ok (.istore 5, 2) := dk_54 5 (dk_at dksL_law_16 9 rfl rfl)
theorem dL_law_408 : decode cL_law 408 = .ok (.aload_n 2, 1) := dk_44 (dk_at dksL_law_16 11 rfl rfl)
theorem dL_law_409 : decode cL_law 409 = .ok (.aload_n 0, 1) := dk_42 (dk_at dksL_law_16 12 rfl rfl)
theorem dL_law_410 : decode cL_law 410 = .ok (.iload 4, 2) := dk_21 4 (dk_at dksL_law_16 13 rfl rfl)
theorem dL_law_412 : decode cL_law 412 = .ok (.iconst 1, 1) := dk_4 (dk_at dksL_law_16 15 rfl rfl)
theorem dL_law_413 : decode cL_law 413 = .ok (.iadd, 1) := dk_96 (dk_at dksL_law_16 16 rfl rfl)
theorem dL_law_414 : decode cL_law 414 = .ok (.iaload, 1) := dk_46 (dk_at dksL_law_16 17 rfl rfl)
theorem dL_law_415 : decode cL_law 415 = .ok (.invokevirtual 81, 3) := dk_182 0 81 (dk_at dksL_law_16 18 rfl rfl)
theorem dL_law_418 : decode cL_law 418 = .ok (.istore 6, 2) := dk_54 6 (dk_at dksL_law_16 21 rfl rfl)
theorem dL_law_420 : decode cL_law 420 = .ok (.aload_n 2, 1) := dk_44 (dk_at dksL_law_16 23 rfl rfl)
theorem dL_law_421 : decode cL_law 421 = .ok (.invokevirtual 66, 3) := dk_182 0 66 (dk_at dksL_law_17 0 rfl rfl)
theorem dL_law_424 : decode cL_law 424 = .ok (.iload 5, 2) := dk_21 5 (dk_at dksL_law_17 3 rfl rfl)
theorem dL_law_426 : decode cL_law 426 = .ok (.if_icmp .eq 5, 3) := dk_159 0 5 (dk_at dksL_law_17 5 rfl rfl)
theorem dL_law_429 : decode cL_law 429 = .ok (.iconst 0, 1) := dk_3 (dk_at dksL_law_17 8 rfl rfl)
theorem dL_law_430 : decode cL_law 430 = .ok (.ireturn, 1) := dk_172 (dk_at dksL_law_17 9 rfl rfl)
theorem dL_law_431 : decode cL_law 431 = .ok (.iload 5, 2) := dk_21 5 (dk_at dksL_law_17 10 rfl rfl)
theorem dL_law_433 : decode cL_law 433 = .ok (.ifCond .ne 15, 3) := dk_154 0 15 (dk_at dksL_law_17 12 rfl rfl)
theorem dL_law_436 : decode cL_law 436 = .ok (.aload_n 3, 1) := dk_45 (dk_at dksL_law_17 15 rfl rfl)
theorem dL_law_437 : decode cL_law 437 = .ok (.iconst 0, 1) := dk_3 (dk_at dksL_law_17 16 rfl rfl)
theorem dL_law_438 : decode cL_law 438 = .ok (.laload, 1) := dk_47 (dk_at dksL_law_17 17 rfl rfl)
theorem dL_law_439 : decode cL_law 439 = .ok (.iload 6, 2) := dk_21 6 (dk_at dksL_law_17 18 rfl rfl)
theorem dL_law_441 : decode cL_law 441 = .ok (.i2l, 1) := dk_133 (dk_at dksL_law_17 20 rfl rfl)
theorem dL_law_442 : decode cL_law 442 = .ok (.lcmp, 1) := dk_148 (dk_at dksL_law_17 21 rfl rfl)
theorem dL_law_443 : decode cL_law 443 = .ok (.ifCond .eq 5, 3) := dk_153 0 5 (dk_at dksL_law_18 0 rfl rfl)
theorem dL_law_446 : decode cL_law 446 = .ok (.iconst 0, 1) := dk_3 (dk_at dksL_law_18 3 rfl rfl)
theorem dL_law_447 : decode cL_law 447 = .ok (.ireturn, 1) := dk_172 (dk_at dksL_law_18 4 rfl rfl)
theorem dL_law_448 : decode cL_law 448 = .ok (.goto 247, 3) := dk_167 0 247 (dk_at dksL_law_18 5 rfl rfl)
theorem dL_law_451 : decode cL_law 451 = .ok (.aload_n 1, 1) := dk_43 (dk_at dksL_law_18 8 rfl rfl)
theorem dL_law_452 : decode cL_law 452 = .ok (.aload_n 0, 1) := dk_42 (dk_at dksL_law_18 9 rfl rfl)
theorem dL_law_453 : decode cL_law 453 = .ok (.iload 4, 2) := dk_21 4 (dk_at dksL_law_18 10 rfl rfl)
theorem dL_law_455 : decode cL_law 455 = .ok (.iconst 1, 1) := dk_4 (dk_at dksL_law_18 12 rfl rfl)
theorem dL_law_456 : decode cL_law 456 = .ok (.iadd, 1) := dk_96 (dk_at dksL_law_18 13 rfl rfl)
theorem dL_law_457 : decode cL_law 457 = .ok (.iaload, 1) := dk_46 (dk_at dksL_law_18 14 rfl rfl)
theorem dL_law_458 : decode cL_law 458 = .ok (.i2l, 1) := dk_133 (dk_at dksL_law_18 15 rfl rfl)
theorem dL_law_459 : decode cL_law 459 = .ok (.bipush 32, 2) := dk_16 32 (dk_at dksL_law_18 16 rfl rfl)
theorem dL_law_461 : decode cL_law 461 = .ok (.lshl, 1) := dk_121 (dk_at dksL_law_18 18 rfl rfl)
theorem dL_law_462 : decode cL_law 462 = .ok (.aload_n 0, 1) := dk_42 (dk_at dksL_law_18 19 rfl rfl)
theorem dL_law_463 : decode cL_law 463 = .ok (.iload 4, 2) := dk_21 4 (dk_at dksL_law_18 20 rfl rfl)
theorem dL_law_465 : decode cL_law 465 = .ok (.iconst 2, 1) := dk_5 (dk_at dksL_law_18 22 rfl rfl)
theorem dL_law_466 : decode cL_law 466 = .ok (.iadd, 1) := dk_96 (dk_at dksL_law_18 23 rfl rfl)
theorem dL_law_467 : decode cL_law 467 = .ok (.iaload, 1) := dk_46 (dk_at dksL_law_19 0 rfl rfl)
theorem dL_law_468 : decode cL_law 468 = .ok (.i2l, 1) := dk_133 (dk_at dksL_law_19 1 rfl rfl)
theorem dL_law_469 : decode cL_law 469 = .ok (.ldc2_w 45, 3) := dk_20 0 45 (dk_at dksL_law_19 2 rfl rfl)
theorem dL_law_472 : decode cL_law 472 = .ok (.land, 1) := dk_127 (dk_at dksL_law_19 5 rfl rfl)
theorem dL_law_473 : decode cL_law 473 = .ok (.lor, 1) := dk_129 (dk_at dksL_law_19 6 rfl rfl)
theorem dL_law_474 : decode cL_law 474 = .ok (.aload_n 0, 1) := dk_42 (dk_at dksL_law_19 7 rfl rfl)
theorem dL_law_475 : decode cL_law 475 = .ok (.iload 4, 2) := dk_21 4 (dk_at dksL_law_19 8 rfl rfl)
theorem dL_law_477 : decode cL_law 477 = .ok (.iconst 3, 1) := dk_6 (dk_at dksL_law_19 10 rfl rfl)
theorem dL_law_478 : decode cL_law 478 = .ok (.iadd, 1) := dk_96 (dk_at dksL_law_19 11 rfl rfl)
theorem dL_law_479 : decode cL_law 479 = .ok (.iaload, 1) := dk_46 (dk_at dksL_law_19 12 rfl rfl)
theorem dL_law_480 : decode cL_law 480 = .ok (.ifCond .eq 7, 3) := dk_153 0 7 (dk_at dksL_law_19 13 rfl rfl)
theorem dL_law_483 : decode cL_law 483 = .ok (.iconst 1, 1) := dk_4 (dk_at dksL_law_19 16 rfl rfl)
theorem dL_law_484 : decode cL_law 484 = .ok (.goto 4, 3) := dk_167 0 4 (dk_at dksL_law_19 17 rfl rfl)
theorem dL_law_487 : decode cL_law 487 = .ok (.iconst 0, 1) := dk_3 (dk_at dksL_law_19 20 rfl rfl)
theorem dL_law_488 : decode cL_law 488 = .ok (.aload_n 3, 1) := dk_45 (dk_at dksL_law_19 21 rfl rfl)
theorem dL_law_489 : decode cL_law 489 = .ok (.invokestatic 82, 3) := dk_184 0 82 (dk_at dksL_law_20 0 rfl rfl)
theorem dL_law_492 : decode cL_law 492 = .ok (.istore 5, 2) := dk_54 5 (dk_at dksL_law_20 3 rfl rfl)
theorem dL_law_494 : decode cL_law 494 = .ok (.aload_n 2, 1) := dk_44 (dk_at dksL_law_20 5 rfl rfl)
theorem dL_law_495 : decode cL_law 495 = .ok (.aload_n 0, 1) := dk_42 (dk_at dksL_law_20 6 rfl rfl)
theorem dL_law_496 : decode cL_law 496 = .ok (.iload 4, 2) := dk_21 4 (dk_at dksL_law_20 7 rfl rfl)
theorem dL_law_498 : decode cL_law 498 = .ok (.iconst 1, 1) := dk_4 (dk_at dksL_law_20 9 rfl rfl)
theorem dL_law_499 : decode cL_law 499 = .ok (.iadd, 1) := dk_96 (dk_at dksL_law_20 10 rfl rfl)
theorem dL_law_500 : decode cL_law 500 = .ok (.iaload, 1) := dk_46 (dk_at dksL_law_20 11 rfl rfl)
theorem dL_law_501 : decode cL_law 501 = .ok (.i2l, 1) := dk_133 (dk_at dksL_law_20 12 rfl rfl)
theorem dL_law_502 : decode cL_law 502 = .ok (.bipush 32, 2) := dk_16 32 (dk_at dksL_law_20 13 rfl rfl)
theorem dL_law_504 : decode cL_law 504 = .ok (.lshl, 1) := dk_121 (dk_at dksL_law_20 15 rfl rfl)
theorem dL_law_505 : decode cL_law 505 = .ok (.aload_n 0, 1) := dk_42 (dk_at dksL_law_20 16 rfl rfl)
theorem dL_law_506 : decode cL_law 506 = .ok (.iload 4, 2) := dk_21 4 (dk_at dksL_law_20 17 rfl rfl)
theorem dL_law_508 : decode cL_law 508 = .ok (.iconst 2, 1) := dk_5 (dk_at dksL_law_20 19 rfl rfl)
theorem dL_law_509 : decode cL_law 509 = .ok (.iadd, 1) := dk_96 (dk_at dksL_law_20 20 rfl rfl)
theorem dL_law_510 : decode cL_law 510 = .ok (.iaload, 1) := dk_46 (dk_at dksL_law_20 21 rfl rfl)
theorem dL_law_511 : decode cL_law 511 = .ok (.i2l, 1) := dk_133 (dk_at dksL_law_20 22 rfl rfl)
theorem dL_law_512 : decode cL_law 512 = .ok (.ldc2_w 45, 3) := dk_20 0 45 (dk_at dksL_law_21 0 rfl rfl)
theorem dL_law_515 : decode cL_law 515 = .ok (.land, 1) := dk_127 (dk_at dksL_law_21 3 rfl rfl)
theorem dL_law_516 : decode cL_law 516 = .ok (.lor, 1) := dk_129 (dk_at dksL_law_21 4 rfl rfl)
theorem dL_law_517 : decode cL_law 517 = .ok (.aload_n 0, 1) := dk_42 (dk_at dksL_law_21 5 rfl rfl)
theorem dL_law_518 : decode cL_law 518 = .ok (.iload 4, 2) := dk_21 4 (dk_at dksL_law_21 6 rfl rfl)
theorem dL_law_520 : decode cL_law 520 = .ok (.iconst 3, 1) := dk_6 (dk_at dksL_law_21 8 rfl rfl)
theorem dL_law_521 : decode cL_law 521 = .ok (.iadd, 1) := dk_96 (dk_at dksL_law_21 9 rfl rfl)
theorem dL_law_522 : decode cL_law 522 = .ok (.iaload, 1) := dk_46 (dk_at dksL_law_21 10 rfl rfl)
theorem dL_law_523 : decode cL_law 523 = .ok (.ifCond .eq 7, 3) := dk_153 0 7 (dk_at dksL_law_21 11 rfl rfl)
theorem dL_law_526 : decode cL_law 526 = .ok (.iconst 1, 1) := dk_4 (dk_at dksL_law_21 14 rfl rfl)
theorem dL_law_527 : decode cL_law 527 = .ok (.goto 4, 3) := dk_167 0 4 (dk_at dksL_law_21 15 rfl rfl)
theorem dL_law_530 : decode cL_law 530 = .ok (.iconst 0, 1) := dk_3 (dk_at dksL_law_21 18 rfl rfl)
theorem dL_law_531 : decode cL_law 531 = .ok (.invokevirtual 85, 3) := dk_182 0 85 (dk_at dksL_law_21 19 rfl rfl)
theorem dL_law_534 : decode cL_law 534 = .ok (.istore 6, 2) := dk_54 6 (dk_at dksL_law_21 22 rfl rfl)
theorem dL_law_536 : decode cL_law 536 = .ok (.aload_n 2, 1) := dk_44 (dk_at dksL_law_22 0 rfl rfl)
theorem dL_law_537 : decode cL_law 537 = .ok (.invokevirtual 66, 3) := dk_182 0 66 (dk_at dksL_law_22 1 rfl rfl)
theorem dL_law_540 : decode cL_law 540 = .ok (.iload 5, 2) := dk_21 5 (dk_at dksL_law_22 4 rfl rfl)
theorem dL_law_542 : decode cL_law 542 = .ok (.if_icmp .eq 5, 3) := dk_159 0 5 (dk_at dksL_law_22 6 rfl rfl)
theorem dL_law_545 : decode cL_law 545 = .ok (.iconst 0, 1) := dk_3 (dk_at dksL_law_22 9 rfl rfl)
theorem dL_law_546 : decode cL_law 546 = .ok (.ireturn, 1) := dk_172 (dk_at dksL_law_22 10 rfl rfl)
theorem dL_law_547 : decode cL_law 547 = .ok (.iload 5, 2) := dk_21 5 (dk_at dksL_law_22 11 rfl rfl)
theorem dL_law_549 : decode cL_law 549 = .ok (.ifCond .ne 15, 3) := dk_154 0 15 (dk_at dksL_law_22 13 rfl rfl)
theorem dL_law_552 : decode cL_law 552 = .ok (.aload_n 3, 1) := dk_45 (dk_at dksL_law_22 16 rfl rfl)
theorem dL_law_553 : decode cL_law 553 = .ok (.iconst 0, 1) := dk_3 (dk_at dksL_law_22 17 rfl rfl)
theorem dL_law_554 : decode cL_law 554 = .ok (.laload, 1) := dk_47 (dk_at dksL_law_22 18 rfl rfl)
theorem dL_law_555 : decode cL_law 555 = .ok (.iload 6, 2) := dk_21 6 (dk_at dksL_law_22 19 rfl rfl)
theorem dL_law_557 : decode cL_law 557 = .ok (.i2l, 1) := dk_133 (dk_at dksL_law_22 21 rfl rfl)
theorem dL_law_558 : decode cL_law 558 = .ok (.lcmp, 1) := dk_148 (dk_at dksL_law_22 22 rfl rfl)
theorem dL_law_559 : decode cL_law 559 = .ok (.ifCond .eq 5, 3) := dk_153 0 5 (dk_at dksL_law_23 0 rfl rfl)
theorem dL_law_562 : decode cL_law 562 = .ok (.iconst 0, 1) := dk_3 (dk_at dksL_law_23 3 rfl rfl)
theorem dL_law_563 : decode cL_law 563 = .ok (.ireturn, 1) := dk_172 (dk_at dksL_law_23 4 rfl rfl)
theorem dL_law_564 : decode cL_law 564 = .ok (.goto 131, 3) := dk_167 0 131 (dk_at dksL_law_23 5 rfl rfl)
theorem dL_law_567 : decode cL_law 567 = .ok (.aload_n 1, 1) := dk_43 (dk_at dksL_law_23 8 rfl rfl)
theorem dL_law_568 : decode cL_law 568 = .ok (.aload_n 0, 1) := dk_42 (dk_at dksL_law_23 9 rfl rfl)
theorem dL_law_569 : decode cL_law 569 = .ok (.iload 4, 2) := dk_21 4 (dk_at dksL_law_23 10 rfl rfl)
theorem dL_law_571 : decode cL_law 571 = .ok (.iconst 1, 1) := dk_4 (dk_at dksL_law_23 12 rfl rfl)
theorem dL_law_572 : decode cL_law 572 = .ok (.iadd, 1) := dk_96 (dk_at dksL_law_23 13 rfl rfl)
theorem dL_law_573 : decode cL_law 573 = .ok (.iaload, 1) := dk_46 (dk_at dksL_law_23 14 rfl rfl)
theorem dL_law_574 : decode cL_law 574 = .ok (.i2l, 1) := dk_133 (dk_at dksL_law_23 15 rfl rfl)
theorem dL_law_575 : decode cL_law 575 = .ok (.bipush 32, 2) := dk_16 32 (dk_at dksL_law_23 16 rfl rfl)
theorem dL_law_577 : decode cL_law 577 = .ok (.lshl, 1) := dk_121 (dk_at dksL_law_23 18 rfl rfl)
theorem dL_law_578 : decode cL_law 578 = .ok (.aload_n 0, 1) := dk_42 (dk_at dksL_law_23 19 rfl rfl)
theorem dL_law_579 : decode cL_law 579 = .ok (.iload 4, 2) := dk_21 4 (dk_at dksL_law_23 20 rfl rfl)
theorem dL_law_581 : decode cL_law 581 = .ok (.iconst 2, 1) := dk_5 (dk_at dksL_law_23 22 rfl rfl)
theorem dL_law_582 : decode cL_law 582 = .ok (.iadd, 1) := dk_96 (dk_at dksL_law_23 23 rfl rfl)
theorem dL_law_583 : decode cL_law 583 = .ok (.iaload, 1) := dk_46 (dk_at dksL_law_24 0 rfl rfl)
theorem dL_law_584 : decode cL_law 584 = .ok (.i2l, 1) := dk_133 (dk_at dksL_law_24 1 rfl rfl)
theorem dL_law_585 : decode cL_law 585 = .ok (.ldc2_w 45, 3) := dk_20 0 45 (dk_at dksL_law_24 2 rfl rfl)
theorem dL_law_588 : decode cL_law 588 = .ok (.land, 1) := dk_127 (dk_at dksL_law_24 5 rfl rfl)
theorem dL_law_589 : decode cL_law 589 = .ok (.lor, 1) := dk_129 (dk_at dksL_law_24 6 rfl rfl)
theorem dL_law_590 : decode cL_law 590 = .ok (.aload_n 0, 1) := dk_42 (dk_at dksL_law_24 7 rfl rfl)
theorem dL_law_591 : decode cL_law 591 = .ok (.iload 4, 2) := dk_21 4 (dk_at dksL_law_24 8 rfl rfl)
theorem dL_law_593 : decode cL_law 593 = .ok (.iconst 3, 1) := dk_6 (dk_at dksL_law_24 10 rfl rfl)
theorem dL_law_594 : decode cL_law 594 = .ok (.iadd, 1) := dk_96 (dk_at dksL_law_24 11 rfl rfl)
theorem dL_law_595 : decode cL_law 595 = .ok (.iaload, 1) := dk_46 (dk_at dksL_law_24 12 rfl rfl)
theorem dL_law_596 : decode cL_law 596 = .ok (.ifCond .eq 7, 3) := dk_153 0 7 (dk_at dksL_law_24 13 rfl rfl)
theorem dL_law_599 : decode cL_law 599 = .ok (.iconst 1, 1) := dk_4 (dk_at dksL_law_24 16 rfl rfl)
theorem dL_law_600 : decode cL_law 600 = .ok (.goto 4, 3) := dk_167 0 4 (dk_at dksL_law_24 17 rfl rfl)
theorem dL_law_603 : decode cL_law 603 = .ok (.iconst 0, 1) := dk_3 (dk_at dksL_law_24 20 rfl rfl)
theorem dL_law_604 : decode cL_law 604 = .ok (.aload_n 0, 1) := dk_42 (dk_at dksL_law_24 21 rfl rfl)
theorem dL_law_605 : decode cL_law 605 = .ok (.iload 4, 2) := dk_21 4 (dk_at dksL_law_24 22 rfl rfl)
theorem dL_law_607 : decode cL_law 607 = .ok (.iconst 4, 1) := dk_7 (dk_at dksL_law_25 0 rfl rfl)
theorem dL_law_608 : decode cL_law 608 = .ok (.iadd, 1) := dk_96 (dk_at dksL_law_25 1 rfl rfl)
theorem dL_law_609 : decode cL_law 609 = .ok (.iaload, 1) := dk_46 (dk_at dksL_law_25 2 rfl rfl)
theorem dL_law_610 : decode cL_law 610 = .ok (.aload_n 3, 1) := dk_45 (dk_at dksL_law_25 3 rfl rfl)
theorem dL_law_611 : decode cL_law 611 = .ok (.invokestatic 86, 3) := dk_184 0 86 (dk_at dksL_law_25 4 rfl rfl)
theorem dL_law_614 : decode cL_law 614 = .ok (.istore 5, 2) := dk_54 5 (dk_at dksL_law_25 7 rfl rfl)
theorem dL_law_616 : decode cL_law 616 = .ok (.aload_n 2, 1) := dk_44 (dk_at dksL_law_25 9 rfl rfl)
theorem dL_law_617 : decode cL_law 617 = .ok (.aload_n 0, 1) := dk_42 (dk_at dksL_law_25 10 rfl rfl)
theorem dL_law_618 : decode cL_law 618 = .ok (.iload 4, 2) := dk_21 4 (dk_at dksL_law_25 11 rfl rfl)
theorem dL_law_620 : decode cL_law 620 = .ok (.iconst 1, 1) := dk_4 (dk_at dksL_law_25 13 rfl rfl)
theorem dL_law_621 : decode cL_law 621 = .ok (.iadd, 1) := dk_96 (dk_at dksL_law_25 14 rfl rfl)
theorem dL_law_622 : decode cL_law 622 = .ok (.iaload, 1) := dk_46 (dk_at dksL_law_25 15 rfl rfl)
theorem dL_law_623 : decode cL_law 623 = .ok (.i2l, 1) := dk_133 (dk_at dksL_law_25 16 rfl rfl)
theorem dL_law_624 : decode cL_law 624 = .ok (.bipush 32, 2) := dk_16 32 (dk_at dksL_law_25 17 rfl rfl)
theorem dL_law_626 : decode cL_law 626 = .ok (.lshl, 1) := dk_121 (dk_at dksL_law_25 19 rfl rfl)
theorem dL_law_627 : decode cL_law 627 = .ok (.aload_n 0, 1) := dk_42 (dk_at dksL_law_25 20 rfl rfl)
theorem dL_law_628 : decode cL_law 628 = .ok (.iload 4, 2) := dk_21 4 (dk_at dksL_law_25 21 rfl rfl)
theorem dL_law_630 : decode cL_law 630 = .ok (.iconst 2, 1) := dk_5 (dk_at dksL_law_25 23 rfl rfl)
theorem dL_law_631 : decode cL_law 631 = .ok (.iadd, 1) := dk_96 (dk_at dksL_law_26 0 rfl rfl)
theorem dL_law_632 : decode cL_law 632 = .ok (.iaload, 1) := dk_46 (dk_at dksL_law_26 1 rfl rfl)
theorem dL_law_633 : decode cL_law 633 = .ok (.i2l, 1) := dk_133 (dk_at dksL_law_26 2 rfl rfl)
theorem dL_law_634 : decode cL_law 634 = .ok (.ldc2_w 45, 3) := dk_20 0 45 (dk_at dksL_law_26 3 rfl rfl)
theorem dL_law_637 : decode cL_law 637 = .ok (.land, 1) := dk_127 (dk_at dksL_law_26 6 rfl rfl)
theorem dL_law_638 : decode cL_law 638 = .ok (.lor, 1) := dk_129 (dk_at dksL_law_26 7 rfl rfl)
theorem dL_law_639 : decode cL_law 639 = .ok (.aload_n 0, 1) := dk_42 (dk_at dksL_law_26 8 rfl rfl)
theorem dL_law_640 : decode cL_law 640 = .ok (.iload 4, 2) := dk_21 4 (dk_at dksL_law_26 9 rfl rfl)
theorem dL_law_642 : decode cL_law 642 = .ok (.iconst 3, 1) := dk_6 (dk_at dksL_law_26 11 rfl rfl)
theorem dL_law_643 : decode cL_law 643 = .ok (.iadd, 1) := dk_96 (dk_at dksL_law_26 12 rfl rfl)
theorem dL_law_644 : decode cL_law 644 = .ok (.iaload, 1) := dk_46 (dk_at dksL_law_26 13 rfl rfl)
theorem dL_law_645 : decode cL_law 645 = .ok (.ifCond .eq 7, 3) := dk_153 0 7 (dk_at dksL_law_26 14 rfl rfl)
theorem dL_law_648 : decode cL_law 648 = .ok (.iconst 1, 1) := dk_4 (dk_at dksL_law_26 17 rfl rfl)
theorem dL_law_649 : decode cL_law 649 = .ok (.goto 4, 3) := dk_167 0 4 (dk_at dksL_law_26 18 rfl rfl)
theorem dL_law_652 : decode cL_law 652 = .ok (.iconst 0, 1) := dk_3 (dk_at dksL_law_26 21 rfl rfl)
theorem dL_law_653 : decode cL_law 653 = .ok (.aload_n 0, 1) := dk_42 (dk_at dksL_law_26 22 rfl rfl)
theorem dL_law_654 : decode cL_law 654 = .ok (.iload 4, 2) := dk_21 4 (dk_at dksL_law_27 0 rfl rfl)
theorem dL_law_656 : decode cL_law 656 = .ok (.iconst 4, 1) := dk_7 (dk_at dksL_law_27 2 rfl rfl)
theorem dL_law_657 : decode cL_law 657 = .ok (.iadd, 1) := dk_96 (dk_at dksL_law_27 3 rfl rfl)
theorem dL_law_658 : decode cL_law 658 = .ok (.iaload, 1) := dk_46 (dk_at dksL_law_27 4 rfl rfl)
theorem dL_law_659 : decode cL_law 659 = .ok (.invokevirtual 89, 3) := dk_182 0 89 (dk_at dksL_law_27 5 rfl rfl)
theorem dL_law_662 : decode cL_law 662 = .ok (.istore 6, 2) := dk_54 6 (dk_at dksL_law_27 8 rfl rfl)
theorem dL_law_664 : decode cL_law 664 = .ok (.aload_n 2, 1) := dk_44 (dk_at dksL_law_27 10 rfl rfl)
theorem dL_law_665 : decode cL_law 665 = .ok (.invokevirtual 66, 3) := dk_182 0 66 (dk_at dksL_law_27 11 rfl rfl)
theorem dL_law_668 : decode cL_law 668 = .ok (.iload 5, 2) := dk_21 5 (dk_at dksL_law_27 14 rfl rfl)
theorem dL_law_670 : decode cL_law 670 = .ok (.if_icmp .eq 5, 3) := dk_159 0 5 (dk_at dksL_law_27 16 rfl rfl)
theorem dL_law_673 : decode cL_law 673 = .ok (.iconst 0, 1) := dk_3 (dk_at dksL_law_27 19 rfl rfl)
theorem dL_law_674 : decode cL_law 674 = .ok (.ireturn, 1) := dk_172 (dk_at dksL_law_27 20 rfl rfl)
theorem dL_law_675 : decode cL_law 675 = .ok (.iload 5, 2) := dk_21 5 (dk_at dksL_law_27 21 rfl rfl)
theorem dL_law_677 : decode cL_law 677 = .ok (.ifCond .ne 15, 3) := dk_154 0 15 (dk_at dksL_law_28 0 rfl rfl)
theorem dL_law_680 : decode cL_law 680 = .ok (.aload_n 3, 1) := dk_45 (dk_at dksL_law_28 3 rfl rfl)
theorem dL_law_681 : decode cL_law 681 = .ok (.iconst 0, 1) := dk_3 (dk_at dksL_law_28 4 rfl rfl)
theorem dL_law_682 : decode cL_law 682 = .ok (.laload, 1) := dk_47 (dk_at dksL_law_28 5 rfl rfl)
theorem dL_law_683 : decode cL_law 683 = .ok (.iload 6, 2) := dk_21 6 (dk_at dksL_law_28 6 rfl rfl)
theorem dL_law_685 : decode cL_law 685 = .ok (.i2l, 1) := dk_133 (dk_at dksL_law_28 8 rfl rfl)
theorem dL_law_686 : decode cL_law 686 = .ok (.lcmp, 1) := dk_148 (dk_at dksL_law_28 9 rfl rfl)
theorem dL_law_687 : decode cL_law 687 = .ok (.ifCond .eq 5, 3) := dk_153 0 5 (dk_at dksL_law_28 10 rfl rfl)
theorem dL_law_690 : decode cL_law 690 = .ok (.iconst 0, 1) := dk_3 (dk_at dksL_law_28 13 rfl rfl)
theorem dL_law_691 : decode cL_law 691 = .ok (.ireturn, 1) := dk_172 (dk_at dksL_law_28 14 rfl rfl)
theorem dL_law_692 : decode cL_law 692 = .ok (.goto 3, 3) := dk_167 0 3 (dk_at dksL_law_28 15 rfl rfl)
theorem dL_law_695 : decode cL_law 695 = .ok (.iinc 4 5, 3) := dk_132 4 5 (dk_at dksL_law_28 18 rfl rfl)
theorem dL_law_698 : decode cL_law 698 = .ok (.goto (-675), 3) := dk_167 253 93 (dk_at dksL_law_28 21 rfl rfl)
theorem dL_law_701 : decode cL_law 701 = .ok (.iconst 1, 1) := dk_4 (dk_at dksL_law_29 0 rfl rfl)
theorem dL_law_702 : decode cL_law 702 = .ok (.ireturn, 1) := dk_172 (dk_at dksL_law_29 1 rfl rfl)
